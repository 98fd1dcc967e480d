/-! StrawMenModel -/
set_option maxRecDepth 100000
def RX6 : String := "StrawMenModel"
def TX6 : u_T := fun k => match k with
  | 0 => ("StrawMenModel", "text", "[I", true)
  | 1 => ("StrawMenModel", "length", "I", false)
  | 2 => ("StrawMenModel", "read", "[I", true)
  | 3 => ("StrawMenModel", "readMany", "I", false)
  | 4 => ("StrawMenModel", "fields", "I", false)
  | 5 => ("StrawMenModel", "seeds", "[I", true)
  | 6 => ("StrawMenModel", "ways", "[I", true)
  | 7 => ("StrawMenModel", "owners", "[I", true)
  | 8 => ("StrawMenModel", "flocks", "I", false)
  | 9 => ("StrawMenModel", "birds", "[I", true)
  | 10 => ("StrawMenModel", "coats", "I", false)
  | 11 => ("StrawMenModel", "frights", "[I", true)
  | 12 => ("StrawMenModel", "wanes", "[I", true)
  | 13 => ("StrawMenModel", "tell", "I", false)
  | 14 => ("StrawMenModel", "wage", "I", false)
  | 15 => ("StrawMenModel", "price", "I", false)
  | 16 => ("StrawMenModel", "days", "I", false)
  | 17 => ("StrawMenModel", "plan", "[I", true)
  | 18 => ("StrawMenModel", "reals", "[I", true)
  | 19 => ("StrawMenModel", "rows", "[I", true)
  | 20 => ("StrawMenModel", "rowMany", "I", false)
  | 21 => ("StrawMenModel", "at", "I", false)
  | 22 => ("StrawMenModel", "where", "I", false)
  | 23 => ("StrawMenModel", "end", "I", false)
  | 24 => ("StrawMenModel", "havers", "I", false)
  | 25 => ("StrawMenModel", "without", "I", false)
  | 26 => ("StrawMenModel", "fixed", "I", false)
  | 27 => ("StrawMenModel", "fixedAt", "I", false)
  | 28 => ("StrawMenModel", "every", "I", false)
  | 29 => ("StrawMenModel", "lawWane", "I", false)
  | 30 => ("StrawMenModel", "lawTell", "I", false)
  | 31 => ("StrawMenModel", "triedFrom", "I", false)
  | 32 => ("StrawMenModel", "tried", "[I", true)
  | 33 => ("StrawMenModel", "left", "[I", true)
  | 34 => ("StrawMenModel", "fears", "[I", true)
  | 35 => ("StrawMenModel", "flew", "[I", true)
  | 36 => ("StrawMenModel", "eaten", "[I", true)
  | 37 => ("StrawMenModel", "keptLeft", "[I", true)
  | 38 => ("StrawMenModel", "keptFears", "[I", true)
  | _ => ("StrawMenModel", "losses", "[I", true)
def tyX6 : Nat → FieldType := fun k => match k with
  | 0 => .array .int
  | 1 => .int
  | 2 => .array .int
  | 3 => .int
  | 4 => .int
  | 5 => .array .int
  | 6 => .array .int
  | 7 => .array .int
  | 8 => .int
  | 9 => .array .int
  | 10 => .int
  | 11 => .array .int
  | 12 => .array .int
  | 13 => .int
  | 14 => .int
  | 15 => .int
  | 16 => .int
  | 17 => .array .int
  | 18 => .array .int
  | 19 => .array .int
  | 20 => .int
  | 21 => .int
  | 22 => .int
  | 23 => .int
  | 24 => .int
  | 25 => .int
  | 26 => .int
  | 27 => .int
  | 28 => .int
  | 29 => .int
  | 30 => .int
  | 31 => .int
  | 32 => .array .int
  | 33 => .array .int
  | 34 => .array .int
  | 35 => .array .int
  | 36 => .array .int
  | 37 => .array .int
  | 38 => .array .int
  | _ => .array .int
abbrev wsX60 : List Cond := u_ws RX6 TX6 40
set_option maxRecDepth 100000 in
theorem nmX6 : ∀ a, a < 40 → ∀ b, b < 40 → a ≠ b → (TX6 a).2.1 ≠ (TX6 b).2.1 := by decide +kernel
set_option maxRecDepth 100000 in
theorem tyX6_ok : ∀ k, k < 40 → parseFieldDescriptor (TX6 k).2.2.1 = some (tyX6 k) := by decide +kernel
abbrev cX6_init : ByteArray := prog_12_method_1_code
def yX6_init : MethodName := ⟨RX6, "<init>", "()V"⟩
def dkwX6_init_7 : List UInt8 := [16, 8, 188, 10, 181, 0, 81, 42, 16, 32, 188, 10, 181, 0, 84, 42, 16, 16, 188, 10, 181, 0, 87, 177]
abbrev dktX6_init_7 : List UInt8 := dkwX6_init_7 ++ []
def dkwX6_init_6 : List UInt8 := [42, 16, 16, 188, 10, 181, 0, 72, 42, 7, 188, 10, 181, 0, 75, 42, 7, 188, 10, 181, 0, 78, 42]
abbrev dktX6_init_6 : List UInt8 := dkwX6_init_6 ++ dktX6_init_7
def dkwX6_init_5 : List UInt8 := [181, 0, 59, 42, 18, 62, 181, 0, 63, 42, 16, 8, 188, 10, 181, 0, 66, 42, 7, 188, 10, 181, 0, 69]
abbrev dktX6_init_5 : List UInt8 := dkwX6_init_5 ++ dktX6_init_6
def dkwX6_init_4 : List UInt8 := [188, 10, 181, 0, 47, 42, 16, 15, 181, 0, 50, 42, 2, 181, 0, 53, 42, 2, 181, 0, 56, 42, 2]
abbrev dktX6_init_4 : List UInt8 := dkwX6_init_4 ++ dktX6_init_5
def dkwX6_init_3 : List UInt8 := [16, 21, 181, 0, 38, 42, 16, 84, 188, 10, 181, 0, 41, 42, 16, 21, 188, 10, 181, 0, 44, 42, 16, 36]
abbrev dktX6_init_3 : List UInt8 := dkwX6_init_3 ++ dktX6_init_4
def dkwX6_init_2 : List UInt8 := [181, 0, 25, 42, 7, 188, 10, 181, 0, 28, 42, 7, 188, 10, 181, 0, 31, 42, 4, 181, 0, 34, 42]
abbrev dktX6_init_2 : List UInt8 := dkwX6_init_2 ++ dktX6_init_3
def dkwX6_init_1 : List UInt8 := [188, 10, 181, 0, 16, 42, 7, 188, 10, 181, 0, 19, 42, 7, 188, 10, 181, 0, 22, 42, 7, 188, 10]
abbrev dktX6_init_1 : List UInt8 := dkwX6_init_1 ++ dktX6_init_2
def dkwX6_init_0 : List UInt8 := [42, 183, 0, 1, 42, 17, 0, 200, 188, 10, 181, 0, 7, 42, 16, 50, 188, 10, 181, 0, 13, 42, 7]
abbrev dktX6_init_0 : List UInt8 := dkwX6_init_0 ++ dktX6_init_1
theorem dksX6_init_0 : cX6_init.data.toList.drop 0 = dktX6_init_0 := by decide +kernel
theorem dksX6_init_1 : cX6_init.data.toList.drop 23 = dktX6_init_1 := dk_seg dksX6_init_0 23 rfl rfl
theorem dksX6_init_2 : cX6_init.data.toList.drop 46 = dktX6_init_2 := dk_seg dksX6_init_1 23 rfl rfl
theorem dksX6_init_3 : cX6_init.data.toList.drop 69 = dktX6_init_3 := dk_seg dksX6_init_2 23 rfl rfl
theorem dksX6_init_4 : cX6_init.data.toList.drop 93 = dktX6_init_4 := dk_seg dksX6_init_3 24 rfl rfl
theorem dksX6_init_5 : cX6_init.data.toList.drop 116 = dktX6_init_5 := dk_seg dksX6_init_4 23 rfl rfl
theorem dksX6_init_6 : cX6_init.data.toList.drop 140 = dktX6_init_6 := dk_seg dksX6_init_5 24 rfl rfl
theorem dksX6_init_7 : cX6_init.data.toList.drop 163 = dktX6_init_7 := dk_seg dksX6_init_6 23 rfl rfl
theorem dX6_init_0 : decode cX6_init 0 = .ok (.aload_n 0, 1) := dk_42 (dk_at dksX6_init_0 0 rfl rfl)
theorem dX6_init_1 : decode cX6_init 1 = .ok (.invokespecial 1, 3) := dk_183 0 1 (dk_at dksX6_init_0 1 rfl rfl)
theorem dX6_init_4 : decode cX6_init 4 = .ok (.aload_n 0, 1) := dk_42 (dk_at dksX6_init_0 4 rfl rfl)
theorem dX6_init_5 : decode cX6_init 5 = .ok (.sipush 200, 3) := dk_17 0 200 (dk_at dksX6_init_0 5 rfl rfl)
theorem dX6_init_8 : decode cX6_init 8 = .ok (.newarray .int, 2) := dk_188_10 (dk_at dksX6_init_0 8 rfl rfl)
theorem dX6_init_10 : decode cX6_init 10 = .ok (.putfield 7, 3) := dk_181 0 7 (dk_at dksX6_init_0 10 rfl rfl)
theorem dX6_init_13 : decode cX6_init 13 = .ok (.aload_n 0, 1) := dk_42 (dk_at dksX6_init_0 13 rfl rfl)
theorem dX6_init_14 : decode cX6_init 14 = .ok (.bipush 50, 2) := dk_16 50 (dk_at dksX6_init_0 14 rfl rfl)
theorem dX6_init_16 : decode cX6_init 16 = .ok (.newarray .int, 2) := dk_188_10 (dk_at dksX6_init_0 16 rfl rfl)
theorem dX6_init_18 : decode cX6_init 18 = .ok (.putfield 13, 3) := dk_181 0 13 (dk_at dksX6_init_0 18 rfl rfl)
theorem dX6_init_21 : decode cX6_init 21 = .ok (.aload_n 0, 1) := dk_42 (dk_at dksX6_init_0 21 rfl rfl)
theorem dX6_init_22 : decode cX6_init 22 = .ok (.iconst 4, 1) := dk_7 (dk_at dksX6_init_0 22 rfl rfl)
theorem dX6_init_23 : decode cX6_init 23 = .ok (.newarray .int, 2) := dk_188_10 (dk_at dksX6_init_1 0 rfl rfl)
theorem dX6_init_25 : decode cX6_init 25 = .ok (.putfield 16, 3) := dk_181 0 16 (dk_at dksX6_init_1 2 rfl rfl)
theorem dX6_init_28 : decode cX6_init 28 = .ok (.aload_n 0, 1) := dk_42 (dk_at dksX6_init_1 5 rfl rfl)
theorem dX6_init_29 : decode cX6_init 29 = .ok (.iconst 4, 1) := dk_7 (dk_at dksX6_init_1 6 rfl rfl)
theorem dX6_init_30 : decode cX6_init 30 = .ok (.newarray .int, 2) := dk_188_10 (dk_at dksX6_init_1 7 rfl rfl)
theorem dX6_init_32 : decode cX6_init 32 = .ok (.putfield 19, 3) := dk_181 0 19 (dk_at dksX6_init_1 9 rfl rfl)
theorem dX6_init_35 : decode cX6_init 35 = .ok (.aload_n 0, 1) := dk_42 (dk_at dksX6_init_1 12 rfl rfl)
theorem dX6_init_36 : decode cX6_init 36 = .ok (.iconst 4, 1) := dk_7 (dk_at dksX6_init_1 13 rfl rfl)
theorem dX6_init_37 : decode cX6_init 37 = .ok (.newarray .int, 2) := dk_188_10 (dk_at dksX6_init_1 14 rfl rfl)
theorem dX6_init_39 : decode cX6_init 39 = .ok (.putfield 22, 3) := dk_181 0 22 (dk_at dksX6_init_1 16 rfl rfl)
theorem dX6_init_42 : decode cX6_init 42 = .ok (.aload_n 0, 1) := dk_42 (dk_at dksX6_init_1 19 rfl rfl)
theorem dX6_init_43 : decode cX6_init 43 = .ok (.iconst 4, 1) := dk_7 (dk_at dksX6_init_1 20 rfl rfl)
theorem dX6_init_44 : decode cX6_init 44 = .ok (.newarray .int, 2) := dk_188_10 (dk_at dksX6_init_1 21 rfl rfl)
theorem dX6_init_46 : decode cX6_init 46 = .ok (.putfield 25, 3) := dk_181 0 25 (dk_at dksX6_init_2 0 rfl rfl)
theorem dX6_init_49 : decode cX6_init 49 = .ok (.aload_n 0, 1) := dk_42 (dk_at dksX6_init_2 3 rfl rfl)
theorem dX6_init_50 : decode cX6_init 50 = .ok (.iconst 4, 1) := dk_7 (dk_at dksX6_init_2 4 rfl rfl)
theorem dX6_init_51 : decode cX6_init 51 = .ok (.newarray .int, 2) := dk_188_10 (dk_at dksX6_init_2 5 rfl rfl)
theorem dX6_init_53 : decode cX6_init 53 = .ok (.putfield 28, 3) := dk_181 0 28 (dk_at dksX6_init_2 7 rfl rfl)
theorem dX6_init_56 : decode cX6_init 56 = .ok (.aload_n 0, 1) := dk_42 (dk_at dksX6_init_2 10 rfl rfl)
theorem dX6_init_57 : decode cX6_init 57 = .ok (.iconst 4, 1) := dk_7 (dk_at dksX6_init_2 11 rfl rfl)
theorem dX6_init_58 : decode cX6_init 58 = .ok (.newarray .int, 2) := dk_188_10 (dk_at dksX6_init_2 12 rfl rfl)
theorem dX6_init_60 : decode cX6_init 60 = .ok (.putfield 31, 3) := dk_181 0 31 (dk_at dksX6_init_2 14 rfl rfl)
theorem dX6_init_63 : decode cX6_init 63 = .ok (.aload_n 0, 1) := dk_42 (dk_at dksX6_init_2 17 rfl rfl)
theorem dX6_init_64 : decode cX6_init 64 = .ok (.iconst 1, 1) := dk_4 (dk_at dksX6_init_2 18 rfl rfl)
theorem dX6_init_65 : decode cX6_init 65 = .ok (.putfield 34, 3) := dk_181 0 34 (dk_at dksX6_init_2 19 rfl rfl)
theorem dX6_init_68 : decode cX6_init 68 = .ok (.aload_n 0, 1) := dk_42 (dk_at dksX6_init_2 22 rfl rfl)
theorem dX6_init_69 : decode cX6_init 69 = .ok (.bipush 21, 2) := dk_16 21 (dk_at dksX6_init_3 0 rfl rfl)
theorem dX6_init_71 : decode cX6_init 71 = .ok (.putfield 38, 3) := dk_181 0 38 (dk_at dksX6_init_3 2 rfl rfl)
theorem dX6_init_74 : decode cX6_init 74 = .ok (.aload_n 0, 1) := dk_42 (dk_at dksX6_init_3 5 rfl rfl)
theorem dX6_init_75 : decode cX6_init 75 = .ok (.bipush 84, 2) := dk_16 84 (dk_at dksX6_init_3 6 rfl rfl)
theorem dX6_init_77 : decode cX6_init 77 = .ok (.newarray .int, 2) := dk_188_10 (dk_at dksX6_init_3 8 rfl rfl)
theorem dX6_init_79 : decode cX6_init 79 = .ok (.putfield 41, 3) := dk_181 0 41 (dk_at dksX6_init_3 10 rfl rfl)
theorem dX6_init_82 : decode cX6_init 82 = .ok (.aload_n 0, 1) := dk_42 (dk_at dksX6_init_3 13 rfl rfl)
theorem dX6_init_83 : decode cX6_init 83 = .ok (.bipush 21, 2) := dk_16 21 (dk_at dksX6_init_3 14 rfl rfl)
theorem dX6_init_85 : decode cX6_init 85 = .ok (.newarray .int, 2) := dk_188_10 (dk_at dksX6_init_3 16 rfl rfl)
theorem dX6_init_87 : decode cX6_init 87 = .ok (.putfield 44, 3) := dk_181 0 44 (dk_at dksX6_init_3 18 rfl rfl)
theorem dX6_init_90 : decode cX6_init 90 = .ok (.aload_n 0, 1) := dk_42 (dk_at dksX6_init_3 21 rfl rfl)
theorem dX6_init_91 : decode cX6_init 91 = .ok (.bipush 36, 2) := dk_16 36 (dk_at dksX6_init_3 22 rfl rfl)
theorem dX6_init_93 : decode cX6_init 93 = .ok (.newarray .int, 2) := dk_188_10 (dk_at dksX6_init_4 0 rfl rfl)
theorem dX6_init_95 : decode cX6_init 95 = .ok (.putfield 47, 3) := dk_181 0 47 (dk_at dksX6_init_4 2 rfl rfl)
theorem dX6_init_98 : decode cX6_init 98 = .ok (.aload_n 0, 1) := dk_42 (dk_at dksX6_init_4 5 rfl rfl)
theorem dX6_init_99 : decode cX6_init 99 = .ok (.bipush 15, 2) := dk_16 15 (dk_at dksX6_init_4 6 rfl rfl)
theorem dX6_init_101 : decode cX6_init 101 = .ok (.putfield 50, 3) := dk_181 0 50 (dk_at dksX6_init_4 8 rfl rfl)
theorem dX6_init_104 : decode cX6_init 104 = .ok (.aload_n 0, 1) := dk_42 (dk_at dksX6_init_4 11 rfl rfl)
theorem dX6_init_105 : decode cX6_init 105 = .ok (.iconst (-1), 1) := dk_2 (dk_at dksX6_init_4 12 rfl rfl)
theorem dX6_init_106 : decode cX6_init 106 = .ok (.putfield 53, 3) := dk_181 0 53 (dk_at dksX6_init_4 13 rfl rfl)
theorem dX6_init_109 : decode cX6_init 109 = .ok (.aload_n 0, 1) := dk_42 (dk_at dksX6_init_4 16 rfl rfl)
theorem dX6_init_110 : decode cX6_init 110 = .ok (.iconst (-1), 1) := dk_2 (dk_at dksX6_init_4 17 rfl rfl)
theorem dX6_init_111 : decode cX6_init 111 = .ok (.putfield 56, 3) := dk_181 0 56 (dk_at dksX6_init_4 18 rfl rfl)
theorem dX6_init_114 : decode cX6_init 114 = .ok (.aload_n 0, 1) := dk_42 (dk_at dksX6_init_4 21 rfl rfl)
theorem dX6_init_115 : decode cX6_init 115 = .ok (.iconst (-1), 1) := dk_2 (dk_at dksX6_init_4 22 rfl rfl)
theorem dX6_init_116 : decode cX6_init 116 = .ok (.putfield 59, 3) := dk_181 0 59 (dk_at dksX6_init_5 0 rfl rfl)
theorem dX6_init_119 : decode cX6_init 119 = .ok (.aload_n 0, 1) := dk_42 (dk_at dksX6_init_5 3 rfl rfl)
theorem dX6_init_120 : decode cX6_init 120 = .ok (.ldc 62, 2) := dk_18 62 (dk_at dksX6_init_5 4 rfl rfl)
theorem dX6_init_122 : decode cX6_init 122 = .ok (.putfield 63, 3) := dk_181 0 63 (dk_at dksX6_init_5 6 rfl rfl)
theorem dX6_init_125 : decode cX6_init 125 = .ok (.aload_n 0, 1) := dk_42 (dk_at dksX6_init_5 9 rfl rfl)
theorem dX6_init_126 : decode cX6_init 126 = .ok (.bipush 8, 2) := dk_16 8 (dk_at dksX6_init_5 10 rfl rfl)
theorem dX6_init_128 : decode cX6_init 128 = .ok (.newarray .int, 2) := dk_188_10 (dk_at dksX6_init_5 12 rfl rfl)
theorem dX6_init_130 : decode cX6_init 130 = .ok (.putfield 66, 3) := dk_181 0 66 (dk_at dksX6_init_5 14 rfl rfl)
theorem dX6_init_133 : decode cX6_init 133 = .ok (.aload_n 0, 1) := dk_42 (dk_at dksX6_init_5 17 rfl rfl)
theorem dX6_init_134 : decode cX6_init 134 = .ok (.iconst 4, 1) := dk_7 (dk_at dksX6_init_5 18 rfl rfl)
theorem dX6_init_135 : decode cX6_init 135 = .ok (.newarray .int, 2) := dk_188_10 (dk_at dksX6_init_5 19 rfl rfl)
theorem dX6_init_137 : decode cX6_init 137 = .ok (.putfield 69, 3) := dk_181 0 69 (dk_at dksX6_init_5 21 rfl rfl)
theorem dX6_init_140 : decode cX6_init 140 = .ok (.aload_n 0, 1) := dk_42 (dk_at dksX6_init_6 0 rfl rfl)
theorem dX6_init_141 : decode cX6_init 141 = .ok (.bipush 16, 2) := dk_16 16 (dk_at dksX6_init_6 1 rfl rfl)
theorem dX6_init_143 : decode cX6_init 143 = .ok (.newarray .int, 2) := dk_188_10 (dk_at dksX6_init_6 3 rfl rfl)
theorem dX6_init_145 : decode cX6_init 145 = .ok (.putfield 72, 3) := dk_181 0 72 (dk_at dksX6_init_6 5 rfl rfl)
theorem dX6_init_148 : decode cX6_init 148 = .ok (.aload_n 0, 1) := dk_42 (dk_at dksX6_init_6 8 rfl rfl)
theorem dX6_init_149 : decode cX6_init 149 = .ok (.iconst 4, 1) := dk_7 (dk_at dksX6_init_6 9 rfl rfl)
theorem dX6_init_150 : decode cX6_init 150 = .ok (.newarray .int, 2) := dk_188_10 (dk_at dksX6_init_6 10 rfl rfl)
theorem dX6_init_152 : decode cX6_init 152 = .ok (.putfield 75, 3) := dk_181 0 75 (dk_at dksX6_init_6 12 rfl rfl)
theorem dX6_init_155 : decode cX6_init 155 = .ok (.aload_n 0, 1) := dk_42 (dk_at dksX6_init_6 15 rfl rfl)
theorem dX6_init_156 : decode cX6_init 156 = .ok (.iconst 4, 1) := dk_7 (dk_at dksX6_init_6 16 rfl rfl)
theorem dX6_init_157 : decode cX6_init 157 = .ok (.newarray .int, 2) := dk_188_10 (dk_at dksX6_init_6 17 rfl rfl)
theorem dX6_init_159 : decode cX6_init 159 = .ok (.putfield 78, 3) := dk_181 0 78 (dk_at dksX6_init_6 19 rfl rfl)
theorem dX6_init_162 : decode cX6_init 162 = .ok (.aload_n 0, 1) := dk_42 (dk_at dksX6_init_6 22 rfl rfl)
theorem dX6_init_163 : decode cX6_init 163 = .ok (.bipush 8, 2) := dk_16 8 (dk_at dksX6_init_7 0 rfl rfl)
theorem dX6_init_165 : decode cX6_init 165 = .ok (.newarray .int, 2) := dk_188_10 (dk_at dksX6_init_7 2 rfl rfl)
theorem dX6_init_167 : decode cX6_init 167 = .ok (.putfield 81, 3) := dk_181 0 81 (dk_at dksX6_init_7 4 rfl rfl)
theorem dX6_init_170 : decode cX6_init 170 = .ok (.aload_n 0, 1) := dk_42 (dk_at dksX6_init_7 7 rfl rfl)
theorem dX6_init_171 : decode cX6_init 171 = .ok (.bipush 32, 2) := dk_16 32 (dk_at dksX6_init_7 8 rfl rfl)
theorem dX6_init_173 : decode cX6_init 173 = .ok (.newarray .int, 2) := dk_188_10 (dk_at dksX6_init_7 10 rfl rfl)
theorem dX6_init_175 : decode cX6_init 175 = .ok (.putfield 84, 3) := dk_181 0 84 (dk_at dksX6_init_7 12 rfl rfl)
theorem dX6_init_178 : decode cX6_init 178 = .ok (.aload_n 0, 1) := dk_42 (dk_at dksX6_init_7 15 rfl rfl)
theorem dX6_init_179 : decode cX6_init 179 = .ok (.bipush 16, 2) := dk_16 16 (dk_at dksX6_init_7 16 rfl rfl)
theorem dX6_init_181 : decode cX6_init 181 = .ok (.newarray .int, 2) := dk_188_10 (dk_at dksX6_init_7 18 rfl rfl)
theorem dX6_init_183 : decode cX6_init 183 = .ok (.putfield 87, 3) := dk_181 0 87 (dk_at dksX6_init_7 20 rfl rfl)
theorem dX6_init_186 : decode cX6_init 186 = .ok (.return_, 1) := dk_177 (dk_at dksX6_init_7 23 rfl rfl)
abbrev cX6_write : ByteArray := prog_12_method_4_code
def yX6_write : MethodName := ⟨RX6, "write", "(JI)I"⟩
def dkwX6_write_3 : List UInt8 := [132, 4, 1, 167, 255, 216, 42, 180, 0, 96, 172]
abbrev dktX6_write_3 : List UInt8 := dkwX6_write_3 ++ []
def dkwX6_write_2 : List UInt8 := [16, 8, 21, 4, 104, 123, 20, 0, 99, 127, 136, 79, 42, 89, 180, 0, 96, 4, 96, 181, 0, 96]
abbrev dktX6_write_2 : List UInt8 := dkwX6_write_2 ++ dktX6_write_3
def dkwX6_write_1 : List UInt8 := [164, 0, 6, 16, 251, 172, 3, 54, 4, 21, 4, 29, 162, 0, 40, 42, 180, 0, 7, 42, 180, 0, 96, 31]
abbrev dktX6_write_1 : List UInt8 := dkwX6_write_1 ++ dktX6_write_2
def dkwX6_write_0 : List UInt8 := [29, 133, 10, 20, 0, 90, 184, 0, 92, 154, 0, 6, 16, 253, 172, 42, 180, 0, 96, 29, 96, 17, 0, 200]
abbrev dktX6_write_0 : List UInt8 := dkwX6_write_0 ++ dktX6_write_1
theorem dksX6_write_0 : cX6_write.data.toList.drop 0 = dktX6_write_0 := by decide +kernel
theorem dksX6_write_1 : cX6_write.data.toList.drop 24 = dktX6_write_1 := dk_seg dksX6_write_0 24 rfl rfl
theorem dksX6_write_2 : cX6_write.data.toList.drop 48 = dktX6_write_2 := dk_seg dksX6_write_1 24 rfl rfl
theorem dksX6_write_3 : cX6_write.data.toList.drop 70 = dktX6_write_3 := dk_seg dksX6_write_2 22 rfl rfl
theorem dX6_write_0 : decode cX6_write 0 = .ok (.iload_n 3, 1) := dk_29 (dk_at dksX6_write_0 0 rfl rfl)
theorem dX6_write_1 : decode cX6_write 1 = .ok (.i2l, 1) := dk_133 (dk_at dksX6_write_0 1 rfl rfl)
theorem dX6_write_2 : decode cX6_write 2 = .ok (.lconst 1, 1) := dk_10 (dk_at dksX6_write_0 2 rfl rfl)
theorem dX6_write_3 : decode cX6_write 3 = .ok (.ldc2_w 90, 3) := dk_20 0 90 (dk_at dksX6_write_0 3 rfl rfl)
theorem dX6_write_6 : decode cX6_write 6 = .ok (.invokestatic 92, 3) := dk_184 0 92 (dk_at dksX6_write_0 6 rfl rfl)
theorem dX6_write_9 : decode cX6_write 9 = .ok (.ifCond .ne 6, 3) := dk_154 0 6 (dk_at dksX6_write_0 9 rfl rfl)
theorem dX6_write_12 : decode cX6_write 12 = .ok (.bipush (-3), 2) := dk_16 253 (dk_at dksX6_write_0 12 rfl rfl)
theorem dX6_write_14 : decode cX6_write 14 = .ok (.ireturn, 1) := dk_172 (dk_at dksX6_write_0 14 rfl rfl)
theorem dX6_write_15 : decode cX6_write 15 = .ok (.aload_n 0, 1) := dk_42 (dk_at dksX6_write_0 15 rfl rfl)
theorem dX6_write_16 : decode cX6_write 16 = .ok (.getfield 96, 3) := dk_180 0 96 (dk_at dksX6_write_0 16 rfl rfl)
theorem dX6_write_19 : decode cX6_write 19 = .ok (.iload_n 3, 1) := dk_29 (dk_at dksX6_write_0 19 rfl rfl)
theorem dX6_write_20 : decode cX6_write 20 = .ok (.iadd, 1) := dk_96 (dk_at dksX6_write_0 20 rfl rfl)
theorem dX6_write_21 : decode cX6_write 21 = .ok (.sipush 200, 3) := dk_17 0 200 (dk_at dksX6_write_0 21 rfl rfl)
theorem dX6_write_24 : decode cX6_write 24 = .ok (.if_icmp .le 6, 3) := dk_164 0 6 (dk_at dksX6_write_1 0 rfl rfl)
theorem dX6_write_27 : decode cX6_write 27 = .ok (.bipush (-5), 2) := dk_16 251 (dk_at dksX6_write_1 3 rfl rfl)
theorem dX6_write_29 : decode cX6_write 29 = .ok (.ireturn, 1) := dk_172 (dk_at dksX6_write_1 5 rfl rfl)
theorem dX6_write_30 : decode cX6_write 30 = .ok (.iconst 0, 1) := dk_3 (dk_at dksX6_write_1 6 rfl rfl)
theorem dX6_write_31 : decode cX6_write 31 = .ok (.istore 4, 2) := dk_54 4 (dk_at dksX6_write_1 7 rfl rfl)
theorem dX6_write_33 : decode cX6_write 33 = .ok (.iload 4, 2) := dk_21 4 (dk_at dksX6_write_1 9 rfl rfl)
theorem dX6_write_35 : decode cX6_write 35 = .ok (.iload_n 3, 1) := dk_29 (dk_at dksX6_write_1 11 rfl rfl)
theorem dX6_write_36 : decode cX6_write 36 = .ok (.if_icmp .ge 40, 3) := dk_162 0 40 (dk_at dksX6_write_1 12 rfl rfl)
theorem dX6_write_39 : decode cX6_write 39 = .ok (.aload_n 0, 1) := dk_42 (dk_at dksX6_write_1 15 rfl rfl)
theorem dX6_write_40 : decode cX6_write 40 = .ok (.getfield 7, 3) := dk_180 0 7 (dk_at dksX6_write_1 16 rfl rfl)
theorem dX6_write_43 : decode cX6_write 43 = .ok (.aload_n 0, 1) := dk_42 (dk_at dksX6_write_1 19 rfl rfl)
theorem dX6_write_44 : decode cX6_write 44 = .ok (.getfield 96, 3) := dk_180 0 96 (dk_at dksX6_write_1 20 rfl rfl)
theorem dX6_write_47 : decode cX6_write 47 = .ok (.lload_n 1, 1) := dk_31 (dk_at dksX6_write_1 23 rfl rfl)
theorem dX6_write_48 : decode cX6_write 48 = .ok (.bipush 8, 2) := dk_16 8 (dk_at dksX6_write_2 0 rfl rfl)
theorem dX6_write_50 : decode cX6_write 50 = .ok (.iload 4, 2) := dk_21 4 (dk_at dksX6_write_2 2 rfl rfl)
theorem dX6_write_52 : decode cX6_write 52 = .ok (.imul, 1) := dk_104 (dk_at dksX6_write_2 4 rfl rfl)
theorem dX6_write_53 : decode cX6_write 53 = .ok (.lshr, 1) := dk_123 (dk_at dksX6_write_2 5 rfl rfl)
theorem dX6_write_54 : decode cX6_write 54 = .ok (.ldc2_w 99, 3) := dk_20 0 99 (dk_at dksX6_write_2 6 rfl rfl)
theorem dX6_write_57 : decode cX6_write 57 = .ok (.land, 1) := dk_127 (dk_at dksX6_write_2 9 rfl rfl)
theorem dX6_write_58 : decode cX6_write 58 = .ok (.l2i, 1) := dk_136 (dk_at dksX6_write_2 10 rfl rfl)
theorem dX6_write_59 : decode cX6_write 59 = .ok (.iastore, 1) := dk_79 (dk_at dksX6_write_2 11 rfl rfl)
theorem dX6_write_60 : decode cX6_write 60 = .ok (.aload_n 0, 1) := dk_42 (dk_at dksX6_write_2 12 rfl rfl)
theorem dX6_write_61 : decode cX6_write 61 = .ok (.dup, 1) := dk_89 (dk_at dksX6_write_2 13 rfl rfl)
theorem dX6_write_62 : decode cX6_write 62 = .ok (.getfield 96, 3) := dk_180 0 96 (dk_at dksX6_write_2 14 rfl rfl)
theorem dX6_write_65 : decode cX6_write 65 = .ok (.iconst 1, 1) := dk_4 (dk_at dksX6_write_2 17 rfl rfl)
theorem dX6_write_66 : decode cX6_write 66 = .ok (.iadd, 1) := dk_96 (dk_at dksX6_write_2 18 rfl rfl)
theorem dX6_write_67 : decode cX6_write 67 = .ok (.putfield 96, 3) := dk_181 0 96 (dk_at dksX6_write_2 19 rfl rfl)
theorem dX6_write_70 : decode cX6_write 70 = .ok (.iinc 4 1, 3) := dk_132 4 1 (dk_at dksX6_write_3 0 rfl rfl)
theorem dX6_write_73 : decode cX6_write 73 = .ok (.goto (-40), 3) := dk_167 255 216 (dk_at dksX6_write_3 3 rfl rfl)
theorem dX6_write_76 : decode cX6_write 76 = .ok (.aload_n 0, 1) := dk_42 (dk_at dksX6_write_3 6 rfl rfl)
theorem dX6_write_77 : decode cX6_write 77 = .ok (.getfield 96, 3) := dk_180 0 96 (dk_at dksX6_write_3 7 rfl rfl)
theorem dX6_write_80 : decode cX6_write 80 = .ok (.ireturn, 1) := dk_172 (dk_at dksX6_write_3 10 rfl rfl)
abbrev cX6_in : ByteArray := prog_12_method_2_code
def yX6_in : MethodName := ⟨RX6, "in", "(JJJ)Z"⟩
def dkwX6_in_0 : List UInt8 := [30, 32, 148, 155, 0, 14, 30, 22, 4, 148, 157, 0, 7, 4, 167, 0, 4, 3, 172]
abbrev dktX6_in_0 : List UInt8 := dkwX6_in_0 ++ []
theorem dksX6_in_0 : cX6_in.data.toList.drop 0 = dktX6_in_0 := by decide +kernel
theorem dX6_in_0 : decode cX6_in 0 = .ok (.lload_n 0, 1) := dk_30 (dk_at dksX6_in_0 0 rfl rfl)
theorem dX6_in_1 : decode cX6_in 1 = .ok (.lload_n 2, 1) := dk_32 (dk_at dksX6_in_0 1 rfl rfl)
theorem dX6_in_2 : decode cX6_in 2 = .ok (.lcmp, 1) := dk_148 (dk_at dksX6_in_0 2 rfl rfl)
theorem dX6_in_3 : decode cX6_in 3 = .ok (.ifCond .lt 14, 3) := dk_155 0 14 (dk_at dksX6_in_0 3 rfl rfl)
theorem dX6_in_6 : decode cX6_in 6 = .ok (.lload_n 0, 1) := dk_30 (dk_at dksX6_in_0 6 rfl rfl)
theorem dX6_in_7 : decode cX6_in 7 = .ok (.lload 4, 2) := dk_22 4 (dk_at dksX6_in_0 7 rfl rfl)
theorem dX6_in_9 : decode cX6_in 9 = .ok (.lcmp, 1) := dk_148 (dk_at dksX6_in_0 9 rfl rfl)
theorem dX6_in_10 : decode cX6_in 10 = .ok (.ifCond .gt 7, 3) := dk_157 0 7 (dk_at dksX6_in_0 10 rfl rfl)
theorem dX6_in_13 : decode cX6_in 13 = .ok (.iconst 1, 1) := dk_4 (dk_at dksX6_in_0 13 rfl rfl)
theorem dX6_in_14 : decode cX6_in 14 = .ok (.goto 4, 3) := dk_167 0 4 (dk_at dksX6_in_0 14 rfl rfl)
theorem dX6_in_17 : decode cX6_in 17 = .ok (.iconst 0, 1) := dk_3 (dk_at dksX6_in_0 17 rfl rfl)
theorem dX6_in_18 : decode cX6_in 18 = .ok (.ireturn, 1) := dk_172 (dk_at dksX6_in_0 18 rfl rfl)
abbrev cX6_erase : ByteArray := prog_12_method_5_code
def yX6_erase : MethodName := ⟨RX6, "erase", "()I"⟩
def dkwX6_erase_0 : List UInt8 := [42, 180, 0, 96, 60, 42, 3, 181, 0, 96, 27, 172]
abbrev dktX6_erase_0 : List UInt8 := dkwX6_erase_0 ++ []
theorem dksX6_erase_0 : cX6_erase.data.toList.drop 0 = dktX6_erase_0 := by decide +kernel
theorem dX6_erase_0 : decode cX6_erase 0 = .ok (.aload_n 0, 1) := dk_42 (dk_at dksX6_erase_0 0 rfl rfl)
theorem dX6_erase_1 : decode cX6_erase 1 = .ok (.getfield 96, 3) := dk_180 0 96 (dk_at dksX6_erase_0 1 rfl rfl)
theorem dX6_erase_4 : decode cX6_erase 4 = .ok (.istore_n 1, 1) := dk_60 (dk_at dksX6_erase_0 4 rfl rfl)
theorem dX6_erase_5 : decode cX6_erase 5 = .ok (.aload_n 0, 1) := dk_42 (dk_at dksX6_erase_0 5 rfl rfl)
theorem dX6_erase_6 : decode cX6_erase 6 = .ok (.iconst 0, 1) := dk_3 (dk_at dksX6_erase_0 6 rfl rfl)
theorem dX6_erase_7 : decode cX6_erase 7 = .ok (.putfield 96, 3) := dk_181 0 96 (dk_at dksX6_erase_0 7 rfl rfl)
theorem dX6_erase_10 : decode cX6_erase 10 = .ok (.iload_n 1, 1) := dk_27 (dk_at dksX6_erase_0 10 rfl rfl)
theorem dX6_erase_11 : decode cX6_erase 11 = .ok (.ireturn, 1) := dk_172 (dk_at dksX6_erase_0 11 rfl rfl)
abbrev cX6_fault : ByteArray := prog_12_method_12_code
def yX6_fault : MethodName := ⟨RX6, "fault", "()I"⟩
def dkwX6_fault_4 : List UInt8 := [154, 0, 8, 42, 180, 0, 104, 172, 167, 255, 181, 2, 172]
abbrev dktX6_fault_4 : List UInt8 := dkwX6_fault_4 ++ []
def dkwX6_fault_3 : List UInt8 := [162, 0, 7, 4, 167, 0, 4, 3, 60, 27, 153, 0, 12, 42, 182, 0, 117, 42, 182, 0, 140, 60, 27]
abbrev dktX6_fault_3 : List UInt8 := dkwX6_fault_3 ++ dktX6_fault_4
def dkwX6_fault_2 : List UInt8 := [4, 160, 0, 30, 42, 180, 0, 7, 42, 180, 0, 104, 46, 16, 59, 160, 0, 16, 42, 180, 0, 114, 16, 10]
abbrev dktX6_fault_2 : List UInt8 := dkwX6_fault_2 ++ dktX6_fault_3
def dkwX6_fault_1 : List UInt8 := [180, 0, 104, 172, 42, 180, 0, 104, 42, 180, 0, 96, 162, 0, 70, 42, 180, 0, 111, 42, 180, 0, 104, 100]
abbrev dktX6_fault_1 : List UInt8 := dkwX6_fault_1 ++ dktX6_fault_2
def dkwX6_fault_0 : List UInt8 := [42, 3, 181, 0, 101, 42, 3, 181, 0, 114, 42, 182, 0, 117, 42, 182, 0, 140, 154, 0, 8, 42]
abbrev dktX6_fault_0 : List UInt8 := dkwX6_fault_0 ++ dktX6_fault_1
theorem dksX6_fault_0 : cX6_fault.data.toList.drop 0 = dktX6_fault_0 := by decide +kernel
theorem dksX6_fault_1 : cX6_fault.data.toList.drop 22 = dktX6_fault_1 := dk_seg dksX6_fault_0 22 rfl rfl
theorem dksX6_fault_2 : cX6_fault.data.toList.drop 46 = dktX6_fault_2 := dk_seg dksX6_fault_1 24 rfl rfl
theorem dksX6_fault_3 : cX6_fault.data.toList.drop 70 = dktX6_fault_3 := dk_seg dksX6_fault_2 24 rfl rfl
theorem dksX6_fault_4 : cX6_fault.data.toList.drop 93 = dktX6_fault_4 := dk_seg dksX6_fault_3 23 rfl rfl
theorem dX6_fault_0 : decode cX6_fault 0 = .ok (.aload_n 0, 1) := dk_42 (dk_at dksX6_fault_0 0 rfl rfl)
theorem dX6_fault_1 : decode cX6_fault 1 = .ok (.iconst 0, 1) := dk_3 (dk_at dksX6_fault_0 1 rfl rfl)
theorem dX6_fault_2 : decode cX6_fault 2 = .ok (.putfield 101, 3) := dk_181 0 101 (dk_at dksX6_fault_0 2 rfl rfl)
theorem dX6_fault_5 : decode cX6_fault 5 = .ok (.aload_n 0, 1) := dk_42 (dk_at dksX6_fault_0 5 rfl rfl)
theorem dX6_fault_6 : decode cX6_fault 6 = .ok (.iconst 0, 1) := dk_3 (dk_at dksX6_fault_0 6 rfl rfl)
theorem dX6_fault_7 : decode cX6_fault 7 = .ok (.putfield 114, 3) := dk_181 0 114 (dk_at dksX6_fault_0 7 rfl rfl)
theorem dX6_fault_10 : decode cX6_fault 10 = .ok (.aload_n 0, 1) := dk_42 (dk_at dksX6_fault_0 10 rfl rfl)
theorem dX6_fault_11 : decode cX6_fault 11 = .ok (.invokevirtual 117, 3) := dk_182 0 117 (dk_at dksX6_fault_0 11 rfl rfl)
theorem dX6_fault_14 : decode cX6_fault 14 = .ok (.aload_n 0, 1) := dk_42 (dk_at dksX6_fault_0 14 rfl rfl)
theorem dX6_fault_15 : decode cX6_fault 15 = .ok (.invokevirtual 140, 3) := dk_182 0 140 (dk_at dksX6_fault_0 15 rfl rfl)
theorem dX6_fault_18 : decode cX6_fault 18 = .ok (.ifCond .ne 8, 3) := dk_154 0 8 (dk_at dksX6_fault_0 18 rfl rfl)
theorem dX6_fault_21 : decode cX6_fault 21 = .ok (.aload_n 0, 1) := dk_42 (dk_at dksX6_fault_0 21 rfl rfl)
theorem dX6_fault_22 : decode cX6_fault 22 = .ok (.getfield 104, 3) := dk_180 0 104 (dk_at dksX6_fault_1 0 rfl rfl)
theorem dX6_fault_25 : decode cX6_fault 25 = .ok (.ireturn, 1) := dk_172 (dk_at dksX6_fault_1 3 rfl rfl)
theorem dX6_fault_26 : decode cX6_fault 26 = .ok (.aload_n 0, 1) := dk_42 (dk_at dksX6_fault_1 4 rfl rfl)
theorem dX6_fault_27 : decode cX6_fault 27 = .ok (.getfield 104, 3) := dk_180 0 104 (dk_at dksX6_fault_1 5 rfl rfl)
theorem dX6_fault_30 : decode cX6_fault 30 = .ok (.aload_n 0, 1) := dk_42 (dk_at dksX6_fault_1 8 rfl rfl)
theorem dX6_fault_31 : decode cX6_fault 31 = .ok (.getfield 96, 3) := dk_180 0 96 (dk_at dksX6_fault_1 9 rfl rfl)
theorem dX6_fault_34 : decode cX6_fault 34 = .ok (.if_icmp .ge 70, 3) := dk_162 0 70 (dk_at dksX6_fault_1 12 rfl rfl)
theorem dX6_fault_37 : decode cX6_fault 37 = .ok (.aload_n 0, 1) := dk_42 (dk_at dksX6_fault_1 15 rfl rfl)
theorem dX6_fault_38 : decode cX6_fault 38 = .ok (.getfield 111, 3) := dk_180 0 111 (dk_at dksX6_fault_1 16 rfl rfl)
theorem dX6_fault_41 : decode cX6_fault 41 = .ok (.aload_n 0, 1) := dk_42 (dk_at dksX6_fault_1 19 rfl rfl)
theorem dX6_fault_42 : decode cX6_fault 42 = .ok (.getfield 104, 3) := dk_180 0 104 (dk_at dksX6_fault_1 20 rfl rfl)
theorem dX6_fault_45 : decode cX6_fault 45 = .ok (.isub, 1) := dk_100 (dk_at dksX6_fault_1 23 rfl rfl)
theorem dX6_fault_46 : decode cX6_fault 46 = .ok (.iconst 1, 1) := dk_4 (dk_at dksX6_fault_2 0 rfl rfl)
theorem dX6_fault_47 : decode cX6_fault 47 = .ok (.if_icmp .ne 30, 3) := dk_160 0 30 (dk_at dksX6_fault_2 1 rfl rfl)
theorem dX6_fault_50 : decode cX6_fault 50 = .ok (.aload_n 0, 1) := dk_42 (dk_at dksX6_fault_2 4 rfl rfl)
theorem dX6_fault_51 : decode cX6_fault 51 = .ok (.getfield 7, 3) := dk_180 0 7 (dk_at dksX6_fault_2 5 rfl rfl)
theorem dX6_fault_54 : decode cX6_fault 54 = .ok (.aload_n 0, 1) := dk_42 (dk_at dksX6_fault_2 8 rfl rfl)
theorem dX6_fault_55 : decode cX6_fault 55 = .ok (.getfield 104, 3) := dk_180 0 104 (dk_at dksX6_fault_2 9 rfl rfl)
theorem dX6_fault_58 : decode cX6_fault 58 = .ok (.iaload, 1) := dk_46 (dk_at dksX6_fault_2 12 rfl rfl)
theorem dX6_fault_59 : decode cX6_fault 59 = .ok (.bipush 59, 2) := dk_16 59 (dk_at dksX6_fault_2 13 rfl rfl)
theorem dX6_fault_61 : decode cX6_fault 61 = .ok (.if_icmp .ne 16, 3) := dk_160 0 16 (dk_at dksX6_fault_2 15 rfl rfl)
theorem dX6_fault_64 : decode cX6_fault 64 = .ok (.aload_n 0, 1) := dk_42 (dk_at dksX6_fault_2 18 rfl rfl)
theorem dX6_fault_65 : decode cX6_fault 65 = .ok (.getfield 114, 3) := dk_180 0 114 (dk_at dksX6_fault_2 19 rfl rfl)
theorem dX6_fault_68 : decode cX6_fault 68 = .ok (.bipush 10, 2) := dk_16 10 (dk_at dksX6_fault_2 22 rfl rfl)
theorem dX6_fault_70 : decode cX6_fault 70 = .ok (.if_icmp .ge 7, 3) := dk_162 0 7 (dk_at dksX6_fault_3 0 rfl rfl)
theorem dX6_fault_73 : decode cX6_fault 73 = .ok (.iconst 1, 1) := dk_4 (dk_at dksX6_fault_3 3 rfl rfl)
theorem dX6_fault_74 : decode cX6_fault 74 = .ok (.goto 4, 3) := dk_167 0 4 (dk_at dksX6_fault_3 4 rfl rfl)
theorem dX6_fault_77 : decode cX6_fault 77 = .ok (.iconst 0, 1) := dk_3 (dk_at dksX6_fault_3 7 rfl rfl)
theorem dX6_fault_78 : decode cX6_fault 78 = .ok (.istore_n 1, 1) := dk_60 (dk_at dksX6_fault_3 8 rfl rfl)
theorem dX6_fault_79 : decode cX6_fault 79 = .ok (.iload_n 1, 1) := dk_27 (dk_at dksX6_fault_3 9 rfl rfl)
theorem dX6_fault_80 : decode cX6_fault 80 = .ok (.ifCond .eq 12, 3) := dk_153 0 12 (dk_at dksX6_fault_3 10 rfl rfl)
theorem dX6_fault_83 : decode cX6_fault 83 = .ok (.aload_n 0, 1) := dk_42 (dk_at dksX6_fault_3 13 rfl rfl)
theorem dX6_fault_84 : decode cX6_fault 84 = .ok (.invokevirtual 117, 3) := dk_182 0 117 (dk_at dksX6_fault_3 14 rfl rfl)
theorem dX6_fault_87 : decode cX6_fault 87 = .ok (.aload_n 0, 1) := dk_42 (dk_at dksX6_fault_3 17 rfl rfl)
theorem dX6_fault_88 : decode cX6_fault 88 = .ok (.invokevirtual 140, 3) := dk_182 0 140 (dk_at dksX6_fault_3 18 rfl rfl)
theorem dX6_fault_91 : decode cX6_fault 91 = .ok (.istore_n 1, 1) := dk_60 (dk_at dksX6_fault_3 21 rfl rfl)
theorem dX6_fault_92 : decode cX6_fault 92 = .ok (.iload_n 1, 1) := dk_27 (dk_at dksX6_fault_3 22 rfl rfl)
theorem dX6_fault_93 : decode cX6_fault 93 = .ok (.ifCond .ne 8, 3) := dk_154 0 8 (dk_at dksX6_fault_4 0 rfl rfl)
theorem dX6_fault_96 : decode cX6_fault 96 = .ok (.aload_n 0, 1) := dk_42 (dk_at dksX6_fault_4 3 rfl rfl)
theorem dX6_fault_97 : decode cX6_fault 97 = .ok (.getfield 104, 3) := dk_180 0 104 (dk_at dksX6_fault_4 4 rfl rfl)
theorem dX6_fault_100 : decode cX6_fault 100 = .ok (.ireturn, 1) := dk_172 (dk_at dksX6_fault_4 7 rfl rfl)
theorem dX6_fault_101 : decode cX6_fault 101 = .ok (.goto (-75), 3) := dk_167 255 181 (dk_at dksX6_fault_4 8 rfl rfl)
theorem dX6_fault_104 : decode cX6_fault 104 = .ok (.iconst (-1), 1) := dk_2 (dk_at dksX6_fault_4 11 rfl rfl)
theorem dX6_fault_105 : decode cX6_fault 105 = .ok (.ireturn, 1) := dk_172 (dk_at dksX6_fault_4 12 rfl rfl)
abbrev cX6_token : ByteArray := prog_12_method_7_code
def yX6_token : MethodName := ⟨RX6, "token", "()V"⟩
def dkwX6_token_6 : List UInt8 := [42, 180, 0, 101, 181, 0, 111, 177]
abbrev dktX6_token_6 : List UInt8 := dkwX6_token_6 ++ []
def dkwX6_token_5 : List UInt8 := [180, 0, 104, 46, 184, 0, 107, 160, 0, 16, 42, 89, 180, 0, 101, 4, 96, 181, 0, 101, 167, 255, 193, 42]
abbrev dktX6_token_5 : List UInt8 := dkwX6_token_5 ++ dktX6_token_6
def dkwX6_token_4 : List UInt8 := [184, 0, 107, 158, 0, 43, 42, 180, 0, 7, 42, 180, 0, 101, 46, 184, 0, 107, 42, 180, 0, 7, 42]
abbrev dktX6_token_4 : List UInt8 := dkwX6_token_4 ++ dktX6_token_5
def dkwX6_token_3 : List UInt8 := [181, 0, 101, 42, 180, 0, 101, 42, 180, 0, 96, 162, 0, 58, 42, 180, 0, 7, 42, 180, 0, 104, 46]
abbrev dktX6_token_3 : List UInt8 := dkwX6_token_3 ++ dktX6_token_4
def dkwX6_token_2 : List UInt8 := [42, 89, 180, 0, 101, 42, 180, 0, 101, 42, 180, 0, 96, 162, 0, 7, 4, 167, 0, 4, 3, 96]
abbrev dktX6_token_2 : List UInt8 := dkwX6_token_2 ++ dktX6_token_3
def dkwX6_token_1 : List UInt8 := [160, 0, 16, 42, 89, 180, 0, 101, 4, 96, 181, 0, 101, 167, 255, 221, 42, 42, 180, 0, 101, 181, 0, 104]
abbrev dktX6_token_1 : List UInt8 := dkwX6_token_1 ++ dktX6_token_2
def dkwX6_token_0 : List UInt8 := [42, 180, 0, 101, 42, 180, 0, 96, 162, 0, 30, 42, 180, 0, 7, 42, 180, 0, 101, 46, 16, 32]
abbrev dktX6_token_0 : List UInt8 := dkwX6_token_0 ++ dktX6_token_1
theorem dksX6_token_0 : cX6_token.data.toList.drop 0 = dktX6_token_0 := by decide +kernel
theorem dksX6_token_1 : cX6_token.data.toList.drop 22 = dktX6_token_1 := dk_seg dksX6_token_0 22 rfl rfl
theorem dksX6_token_2 : cX6_token.data.toList.drop 46 = dktX6_token_2 := dk_seg dksX6_token_1 24 rfl rfl
theorem dksX6_token_3 : cX6_token.data.toList.drop 68 = dktX6_token_3 := dk_seg dksX6_token_2 22 rfl rfl
theorem dksX6_token_4 : cX6_token.data.toList.drop 91 = dktX6_token_4 := dk_seg dksX6_token_3 23 rfl rfl
theorem dksX6_token_5 : cX6_token.data.toList.drop 114 = dktX6_token_5 := dk_seg dksX6_token_4 23 rfl rfl
theorem dksX6_token_6 : cX6_token.data.toList.drop 138 = dktX6_token_6 := dk_seg dksX6_token_5 24 rfl rfl
theorem dX6_token_0 : decode cX6_token 0 = .ok (.aload_n 0, 1) := dk_42 (dk_at dksX6_token_0 0 rfl rfl)
theorem dX6_token_1 : decode cX6_token 1 = .ok (.getfield 101, 3) := dk_180 0 101 (dk_at dksX6_token_0 1 rfl rfl)
theorem dX6_token_4 : decode cX6_token 4 = .ok (.aload_n 0, 1) := dk_42 (dk_at dksX6_token_0 4 rfl rfl)
theorem dX6_token_5 : decode cX6_token 5 = .ok (.getfield 96, 3) := dk_180 0 96 (dk_at dksX6_token_0 5 rfl rfl)
theorem dX6_token_8 : decode cX6_token 8 = .ok (.if_icmp .ge 30, 3) := dk_162 0 30 (dk_at dksX6_token_0 8 rfl rfl)
theorem dX6_token_11 : decode cX6_token 11 = .ok (.aload_n 0, 1) := dk_42 (dk_at dksX6_token_0 11 rfl rfl)
theorem dX6_token_12 : decode cX6_token 12 = .ok (.getfield 7, 3) := dk_180 0 7 (dk_at dksX6_token_0 12 rfl rfl)
theorem dX6_token_15 : decode cX6_token 15 = .ok (.aload_n 0, 1) := dk_42 (dk_at dksX6_token_0 15 rfl rfl)
theorem dX6_token_16 : decode cX6_token 16 = .ok (.getfield 101, 3) := dk_180 0 101 (dk_at dksX6_token_0 16 rfl rfl)
theorem dX6_token_19 : decode cX6_token 19 = .ok (.iaload, 1) := dk_46 (dk_at dksX6_token_0 19 rfl rfl)
theorem dX6_token_20 : decode cX6_token 20 = .ok (.bipush 32, 2) := dk_16 32 (dk_at dksX6_token_0 20 rfl rfl)
theorem dX6_token_22 : decode cX6_token 22 = .ok (.if_icmp .ne 16, 3) := dk_160 0 16 (dk_at dksX6_token_1 0 rfl rfl)
theorem dX6_token_25 : decode cX6_token 25 = .ok (.aload_n 0, 1) := dk_42 (dk_at dksX6_token_1 3 rfl rfl)
theorem dX6_token_26 : decode cX6_token 26 = .ok (.dup, 1) := dk_89 (dk_at dksX6_token_1 4 rfl rfl)
theorem dX6_token_27 : decode cX6_token 27 = .ok (.getfield 101, 3) := dk_180 0 101 (dk_at dksX6_token_1 5 rfl rfl)
theorem dX6_token_30 : decode cX6_token 30 = .ok (.iconst 1, 1) := dk_4 (dk_at dksX6_token_1 8 rfl rfl)
theorem dX6_token_31 : decode cX6_token 31 = .ok (.iadd, 1) := dk_96 (dk_at dksX6_token_1 9 rfl rfl)
theorem dX6_token_32 : decode cX6_token 32 = .ok (.putfield 101, 3) := dk_181 0 101 (dk_at dksX6_token_1 10 rfl rfl)
theorem dX6_token_35 : decode cX6_token 35 = .ok (.goto (-35), 3) := dk_167 255 221 (dk_at dksX6_token_1 13 rfl rfl)
theorem dX6_token_38 : decode cX6_token 38 = .ok (.aload_n 0, 1) := dk_42 (dk_at dksX6_token_1 16 rfl rfl)
theorem dX6_token_39 : decode cX6_token 39 = .ok (.aload_n 0, 1) := dk_42 (dk_at dksX6_token_1 17 rfl rfl)
theorem dX6_token_40 : decode cX6_token 40 = .ok (.getfield 101, 3) := dk_180 0 101 (dk_at dksX6_token_1 18 rfl rfl)
theorem dX6_token_43 : decode cX6_token 43 = .ok (.putfield 104, 3) := dk_181 0 104 (dk_at dksX6_token_1 21 rfl rfl)
theorem dX6_token_46 : decode cX6_token 46 = .ok (.aload_n 0, 1) := dk_42 (dk_at dksX6_token_2 0 rfl rfl)
theorem dX6_token_47 : decode cX6_token 47 = .ok (.dup, 1) := dk_89 (dk_at dksX6_token_2 1 rfl rfl)
theorem dX6_token_48 : decode cX6_token 48 = .ok (.getfield 101, 3) := dk_180 0 101 (dk_at dksX6_token_2 2 rfl rfl)
theorem dX6_token_51 : decode cX6_token 51 = .ok (.aload_n 0, 1) := dk_42 (dk_at dksX6_token_2 5 rfl rfl)
theorem dX6_token_52 : decode cX6_token 52 = .ok (.getfield 101, 3) := dk_180 0 101 (dk_at dksX6_token_2 6 rfl rfl)
theorem dX6_token_55 : decode cX6_token 55 = .ok (.aload_n 0, 1) := dk_42 (dk_at dksX6_token_2 9 rfl rfl)
theorem dX6_token_56 : decode cX6_token 56 = .ok (.getfield 96, 3) := dk_180 0 96 (dk_at dksX6_token_2 10 rfl rfl)
theorem dX6_token_59 : decode cX6_token 59 = .ok (.if_icmp .ge 7, 3) := dk_162 0 7 (dk_at dksX6_token_2 13 rfl rfl)
theorem dX6_token_62 : decode cX6_token 62 = .ok (.iconst 1, 1) := dk_4 (dk_at dksX6_token_2 16 rfl rfl)
theorem dX6_token_63 : decode cX6_token 63 = .ok (.goto 4, 3) := dk_167 0 4 (dk_at dksX6_token_2 17 rfl rfl)
theorem dX6_token_66 : decode cX6_token 66 = .ok (.iconst 0, 1) := dk_3 (dk_at dksX6_token_2 20 rfl rfl)
theorem dX6_token_67 : decode cX6_token 67 = .ok (.iadd, 1) := dk_96 (dk_at dksX6_token_2 21 rfl rfl)
theorem dX6_token_68 : decode cX6_token 68 = .ok (.putfield 101, 3) := dk_181 0 101 (dk_at dksX6_token_3 0 rfl rfl)
theorem dX6_token_71 : decode cX6_token 71 = .ok (.aload_n 0, 1) := dk_42 (dk_at dksX6_token_3 3 rfl rfl)
theorem dX6_token_72 : decode cX6_token 72 = .ok (.getfield 101, 3) := dk_180 0 101 (dk_at dksX6_token_3 4 rfl rfl)
theorem dX6_token_75 : decode cX6_token 75 = .ok (.aload_n 0, 1) := dk_42 (dk_at dksX6_token_3 7 rfl rfl)
theorem dX6_token_76 : decode cX6_token 76 = .ok (.getfield 96, 3) := dk_180 0 96 (dk_at dksX6_token_3 8 rfl rfl)
theorem dX6_token_79 : decode cX6_token 79 = .ok (.if_icmp .ge 58, 3) := dk_162 0 58 (dk_at dksX6_token_3 11 rfl rfl)
theorem dX6_token_82 : decode cX6_token 82 = .ok (.aload_n 0, 1) := dk_42 (dk_at dksX6_token_3 14 rfl rfl)
theorem dX6_token_83 : decode cX6_token 83 = .ok (.getfield 7, 3) := dk_180 0 7 (dk_at dksX6_token_3 15 rfl rfl)
theorem dX6_token_86 : decode cX6_token 86 = .ok (.aload_n 0, 1) := dk_42 (dk_at dksX6_token_3 18 rfl rfl)
theorem dX6_token_87 : decode cX6_token 87 = .ok (.getfield 104, 3) := dk_180 0 104 (dk_at dksX6_token_3 19 rfl rfl)
theorem dX6_token_90 : decode cX6_token 90 = .ok (.iaload, 1) := dk_46 (dk_at dksX6_token_3 22 rfl rfl)
theorem dX6_token_91 : decode cX6_token 91 = .ok (.invokestatic 107, 3) := dk_184 0 107 (dk_at dksX6_token_4 0 rfl rfl)
theorem dX6_token_94 : decode cX6_token 94 = .ok (.ifCond .le 43, 3) := dk_158 0 43 (dk_at dksX6_token_4 3 rfl rfl)
theorem dX6_token_97 : decode cX6_token 97 = .ok (.aload_n 0, 1) := dk_42 (dk_at dksX6_token_4 6 rfl rfl)
theorem dX6_token_98 : decode cX6_token 98 = .ok (.getfield 7, 3) := dk_180 0 7 (dk_at dksX6_token_4 7 rfl rfl)
theorem dX6_token_101 : decode cX6_token 101 = .ok (.aload_n 0, 1) := dk_42 (dk_at dksX6_token_4 10 rfl rfl)
theorem dX6_token_102 : decode cX6_token 102 = .ok (.getfield 101, 3) := dk_180 0 101 (dk_at dksX6_token_4 11 rfl rfl)
theorem dX6_token_105 : decode cX6_token 105 = .ok (.iaload, 1) := dk_46 (dk_at dksX6_token_4 14 rfl rfl)
theorem dX6_token_106 : decode cX6_token 106 = .ok (.invokestatic 107, 3) := dk_184 0 107 (dk_at dksX6_token_4 15 rfl rfl)
theorem dX6_token_109 : decode cX6_token 109 = .ok (.aload_n 0, 1) := dk_42 (dk_at dksX6_token_4 18 rfl rfl)
theorem dX6_token_110 : decode cX6_token 110 = .ok (.getfield 7, 3) := dk_180 0 7 (dk_at dksX6_token_4 19 rfl rfl)
theorem dX6_token_113 : decode cX6_token 113 = .ok (.aload_n 0, 1) := dk_42 (dk_at dksX6_token_4 22 rfl rfl)
theorem dX6_token_114 : decode cX6_token 114 = .ok (.getfield 104, 3) := dk_180 0 104 (dk_at dksX6_token_5 0 rfl rfl)
theorem dX6_token_117 : decode cX6_token 117 = .ok (.iaload, 1) := dk_46 (dk_at dksX6_token_5 3 rfl rfl)
theorem dX6_token_118 : decode cX6_token 118 = .ok (.invokestatic 107, 3) := dk_184 0 107 (dk_at dksX6_token_5 4 rfl rfl)
theorem dX6_token_121 : decode cX6_token 121 = .ok (.if_icmp .ne 16, 3) := dk_160 0 16 (dk_at dksX6_token_5 7 rfl rfl)
theorem dX6_token_124 : decode cX6_token 124 = .ok (.aload_n 0, 1) := dk_42 (dk_at dksX6_token_5 10 rfl rfl)
theorem dX6_token_125 : decode cX6_token 125 = .ok (.dup, 1) := dk_89 (dk_at dksX6_token_5 11 rfl rfl)
theorem dX6_token_126 : decode cX6_token 126 = .ok (.getfield 101, 3) := dk_180 0 101 (dk_at dksX6_token_5 12 rfl rfl)
theorem dX6_token_129 : decode cX6_token 129 = .ok (.iconst 1, 1) := dk_4 (dk_at dksX6_token_5 15 rfl rfl)
theorem dX6_token_130 : decode cX6_token 130 = .ok (.iadd, 1) := dk_96 (dk_at dksX6_token_5 16 rfl rfl)
theorem dX6_token_131 : decode cX6_token 131 = .ok (.putfield 101, 3) := dk_181 0 101 (dk_at dksX6_token_5 17 rfl rfl)
theorem dX6_token_134 : decode cX6_token 134 = .ok (.goto (-63), 3) := dk_167 255 193 (dk_at dksX6_token_5 20 rfl rfl)
theorem dX6_token_137 : decode cX6_token 137 = .ok (.aload_n 0, 1) := dk_42 (dk_at dksX6_token_5 23 rfl rfl)
theorem dX6_token_138 : decode cX6_token 138 = .ok (.aload_n 0, 1) := dk_42 (dk_at dksX6_token_6 0 rfl rfl)
theorem dX6_token_139 : decode cX6_token 139 = .ok (.getfield 101, 3) := dk_180 0 101 (dk_at dksX6_token_6 1 rfl rfl)
theorem dX6_token_142 : decode cX6_token 142 = .ok (.putfield 111, 3) := dk_181 0 111 (dk_at dksX6_token_6 4 rfl rfl)
theorem dX6_token_145 : decode cX6_token 145 = .ok (.return_, 1) := dk_177 (dk_at dksX6_token_6 7 rfl rfl)
abbrev cX6_sort : ByteArray := prog_12_method_6_code
def yX6_sort : MethodName := ⟨RX6, "sort", "(I)I"⟩
def dkwX6_sort_1 : List UInt8 := [16, 57, 163, 0, 7, 5, 167, 0, 4, 3, 172]
abbrev dktX6_sort_1 : List UInt8 := dkwX6_sort_1 ++ []
def dkwX6_sort_0 : List UInt8 := [26, 16, 97, 161, 0, 13, 26, 16, 122, 163, 0, 7, 4, 167, 0, 20, 26, 16, 48, 161, 0, 13, 26]
abbrev dktX6_sort_0 : List UInt8 := dkwX6_sort_0 ++ dktX6_sort_1
theorem dksX6_sort_0 : cX6_sort.data.toList.drop 0 = dktX6_sort_0 := by decide +kernel
theorem dksX6_sort_1 : cX6_sort.data.toList.drop 23 = dktX6_sort_1 := dk_seg dksX6_sort_0 23 rfl rfl
theorem dX6_sort_0 : decode cX6_sort 0 = .ok (.iload_n 0, 1) := dk_26 (dk_at dksX6_sort_0 0 rfl rfl)
theorem dX6_sort_1 : decode cX6_sort 1 = .ok (.bipush 97, 2) := dk_16 97 (dk_at dksX6_sort_0 1 rfl rfl)
theorem dX6_sort_3 : decode cX6_sort 3 = .ok (.if_icmp .lt 13, 3) := dk_161 0 13 (dk_at dksX6_sort_0 3 rfl rfl)
theorem dX6_sort_6 : decode cX6_sort 6 = .ok (.iload_n 0, 1) := dk_26 (dk_at dksX6_sort_0 6 rfl rfl)
theorem dX6_sort_7 : decode cX6_sort 7 = .ok (.bipush 122, 2) := dk_16 122 (dk_at dksX6_sort_0 7 rfl rfl)
theorem dX6_sort_9 : decode cX6_sort 9 = .ok (.if_icmp .gt 7, 3) := dk_163 0 7 (dk_at dksX6_sort_0 9 rfl rfl)
theorem dX6_sort_12 : decode cX6_sort 12 = .ok (.iconst 1, 1) := dk_4 (dk_at dksX6_sort_0 12 rfl rfl)
theorem dX6_sort_13 : decode cX6_sort 13 = .ok (.goto 20, 3) := dk_167 0 20 (dk_at dksX6_sort_0 13 rfl rfl)
theorem dX6_sort_16 : decode cX6_sort 16 = .ok (.iload_n 0, 1) := dk_26 (dk_at dksX6_sort_0 16 rfl rfl)
theorem dX6_sort_17 : decode cX6_sort 17 = .ok (.bipush 48, 2) := dk_16 48 (dk_at dksX6_sort_0 17 rfl rfl)
theorem dX6_sort_19 : decode cX6_sort 19 = .ok (.if_icmp .lt 13, 3) := dk_161 0 13 (dk_at dksX6_sort_0 19 rfl rfl)
theorem dX6_sort_22 : decode cX6_sort 22 = .ok (.iload_n 0, 1) := dk_26 (dk_at dksX6_sort_0 22 rfl rfl)
theorem dX6_sort_23 : decode cX6_sort 23 = .ok (.bipush 57, 2) := dk_16 57 (dk_at dksX6_sort_1 0 rfl rfl)
theorem dX6_sort_25 : decode cX6_sort 25 = .ok (.if_icmp .gt 7, 3) := dk_163 0 7 (dk_at dksX6_sort_1 2 rfl rfl)
theorem dX6_sort_28 : decode cX6_sort 28 = .ok (.iconst 2, 1) := dk_5 (dk_at dksX6_sort_1 5 rfl rfl)
theorem dX6_sort_29 : decode cX6_sort 29 = .ok (.goto 4, 3) := dk_167 0 4 (dk_at dksX6_sort_1 6 rfl rfl)
theorem dX6_sort_32 : decode cX6_sort 32 = .ok (.iconst 0, 1) := dk_3 (dk_at dksX6_sort_1 9 rfl rfl)
theorem dX6_sort_33 : decode cX6_sort 33 = .ok (.ireturn, 1) := dk_172 (dk_at dksX6_sort_1 10 rfl rfl)
abbrev cX6_readsLine : ByteArray := prog_12_method_11_code
def yX6_readsLine : MethodName := ⟨RX6, "readsLine", "()Z"⟩
def dkwX6_readsLine_6 : List UInt8 := [182, 0, 136, 154, 0, 5, 3, 172, 42, 89, 180, 0, 114, 4, 96, 181, 0, 114, 4, 172]
abbrev dktX6_readsLine_6 : List UInt8 := dkwX6_readsLine_6 ++ []
def dkwX6_readsLine_5 : List UInt8 := [160, 0, 5, 3, 172, 42, 182, 0, 117, 42, 180, 0, 13, 8, 42, 180, 0, 114, 104, 27, 79, 42, 27]
abbrev dktX6_readsLine_5 : List UInt8 := dkwX6_readsLine_5 ++ dktX6_readsLine_6
def dkwX6_readsLine_4 : List UInt8 := [16, 6, 167, 0, 19, 42, 18, 135, 7, 182, 0, 125, 153, 0, 8, 16, 7, 167, 0, 4, 2, 60, 27, 2]
abbrev dktX6_readsLine_4 : List UInt8 := dkwX6_readsLine_4 ++ dktX6_readsLine_5
def dkwX6_readsLine_3 : List UInt8 := [42, 18, 133, 8, 182, 0, 125, 153, 0, 7, 8, 167, 0, 34, 42, 18, 134, 7, 182, 0, 125, 153, 0, 8]
abbrev dktX6_readsLine_3 : List UInt8 := dkwX6_readsLine_3 ++ dktX6_readsLine_4
def dkwX6_readsLine_2 : List UInt8 := [182, 0, 125, 153, 0, 7, 6, 167, 0, 62, 42, 18, 132, 7, 182, 0, 125, 153, 0, 7, 7, 167, 0, 48]
abbrev dktX6_readsLine_2 : List UInt8 := dkwX6_readsLine_2 ++ dktX6_readsLine_3
def dkwX6_readsLine_1 : List UInt8 := [4, 167, 0, 90, 42, 18, 130, 7, 182, 0, 125, 153, 0, 7, 5, 167, 0, 76, 42, 18, 131, 7]
abbrev dktX6_readsLine_1 : List UInt8 := dkwX6_readsLine_1 ++ dktX6_readsLine_2
def dkwX6_readsLine_0 : List UInt8 := [42, 18, 124, 8, 182, 0, 125, 153, 0, 7, 3, 167, 0, 104, 42, 18, 129, 8, 182, 0, 125, 153, 0, 7]
abbrev dktX6_readsLine_0 : List UInt8 := dkwX6_readsLine_0 ++ dktX6_readsLine_1
theorem dksX6_readsLine_0 : cX6_readsLine.data.toList.drop 0 = dktX6_readsLine_0 := by decide +kernel
theorem dksX6_readsLine_1 : cX6_readsLine.data.toList.drop 24 = dktX6_readsLine_1 := dk_seg dksX6_readsLine_0 24 rfl rfl
theorem dksX6_readsLine_2 : cX6_readsLine.data.toList.drop 46 = dktX6_readsLine_2 := dk_seg dksX6_readsLine_1 22 rfl rfl
theorem dksX6_readsLine_3 : cX6_readsLine.data.toList.drop 70 = dktX6_readsLine_3 := dk_seg dksX6_readsLine_2 24 rfl rfl
theorem dksX6_readsLine_4 : cX6_readsLine.data.toList.drop 94 = dktX6_readsLine_4 := dk_seg dksX6_readsLine_3 24 rfl rfl
theorem dksX6_readsLine_5 : cX6_readsLine.data.toList.drop 118 = dktX6_readsLine_5 := dk_seg dksX6_readsLine_4 24 rfl rfl
theorem dksX6_readsLine_6 : cX6_readsLine.data.toList.drop 141 = dktX6_readsLine_6 := dk_seg dksX6_readsLine_5 23 rfl rfl
theorem dX6_readsLine_0 : decode cX6_readsLine 0 = .ok (.aload_n 0, 1) := dk_42 (dk_at dksX6_readsLine_0 0 rfl rfl)
theorem dX6_readsLine_1 : decode cX6_readsLine 1 = .ok (.ldc 124, 2) := dk_18 124 (dk_at dksX6_readsLine_0 1 rfl rfl)
theorem dX6_readsLine_3 : decode cX6_readsLine 3 = .ok (.iconst 5, 1) := dk_8 (dk_at dksX6_readsLine_0 3 rfl rfl)
theorem dX6_readsLine_4 : decode cX6_readsLine 4 = .ok (.invokevirtual 125, 3) := dk_182 0 125 (dk_at dksX6_readsLine_0 4 rfl rfl)
theorem dX6_readsLine_7 : decode cX6_readsLine 7 = .ok (.ifCond .eq 7, 3) := dk_153 0 7 (dk_at dksX6_readsLine_0 7 rfl rfl)
theorem dX6_readsLine_10 : decode cX6_readsLine 10 = .ok (.iconst 0, 1) := dk_3 (dk_at dksX6_readsLine_0 10 rfl rfl)
theorem dX6_readsLine_11 : decode cX6_readsLine 11 = .ok (.goto 104, 3) := dk_167 0 104 (dk_at dksX6_readsLine_0 11 rfl rfl)
theorem dX6_readsLine_14 : decode cX6_readsLine 14 = .ok (.aload_n 0, 1) := dk_42 (dk_at dksX6_readsLine_0 14 rfl rfl)
theorem dX6_readsLine_15 : decode cX6_readsLine 15 = .ok (.ldc 129, 2) := dk_18 129 (dk_at dksX6_readsLine_0 15 rfl rfl)
theorem dX6_readsLine_17 : decode cX6_readsLine 17 = .ok (.iconst 5, 1) := dk_8 (dk_at dksX6_readsLine_0 17 rfl rfl)
theorem dX6_readsLine_18 : decode cX6_readsLine 18 = .ok (.invokevirtual 125, 3) := dk_182 0 125 (dk_at dksX6_readsLine_0 18 rfl rfl)
theorem dX6_readsLine_21 : decode cX6_readsLine 21 = .ok (.ifCond .eq 7, 3) := dk_153 0 7 (dk_at dksX6_readsLine_0 21 rfl rfl)
theorem dX6_readsLine_24 : decode cX6_readsLine 24 = .ok (.iconst 1, 1) := dk_4 (dk_at dksX6_readsLine_1 0 rfl rfl)
theorem dX6_readsLine_25 : decode cX6_readsLine 25 = .ok (.goto 90, 3) := dk_167 0 90 (dk_at dksX6_readsLine_1 1 rfl rfl)
theorem dX6_readsLine_28 : decode cX6_readsLine 28 = .ok (.aload_n 0, 1) := dk_42 (dk_at dksX6_readsLine_1 4 rfl rfl)
theorem dX6_readsLine_29 : decode cX6_readsLine 29 = .ok (.ldc 130, 2) := dk_18 130 (dk_at dksX6_readsLine_1 5 rfl rfl)
theorem dX6_readsLine_31 : decode cX6_readsLine 31 = .ok (.iconst 4, 1) := dk_7 (dk_at dksX6_readsLine_1 7 rfl rfl)
theorem dX6_readsLine_32 : decode cX6_readsLine 32 = .ok (.invokevirtual 125, 3) := dk_182 0 125 (dk_at dksX6_readsLine_1 8 rfl rfl)
theorem dX6_readsLine_35 : decode cX6_readsLine 35 = .ok (.ifCond .eq 7, 3) := dk_153 0 7 (dk_at dksX6_readsLine_1 11 rfl rfl)
theorem dX6_readsLine_38 : decode cX6_readsLine 38 = .ok (.iconst 2, 1) := dk_5 (dk_at dksX6_readsLine_1 14 rfl rfl)
theorem dX6_readsLine_39 : decode cX6_readsLine 39 = .ok (.goto 76, 3) := dk_167 0 76 (dk_at dksX6_readsLine_1 15 rfl rfl)
theorem dX6_readsLine_42 : decode cX6_readsLine 42 = .ok (.aload_n 0, 1) := dk_42 (dk_at dksX6_readsLine_1 18 rfl rfl)
theorem dX6_readsLine_43 : decode cX6_readsLine 43 = .ok (.ldc 131, 2) := dk_18 131 (dk_at dksX6_readsLine_1 19 rfl rfl)
theorem dX6_readsLine_45 : decode cX6_readsLine 45 = .ok (.iconst 4, 1) := dk_7 (dk_at dksX6_readsLine_1 21 rfl rfl)
theorem dX6_readsLine_46 : decode cX6_readsLine 46 = .ok (.invokevirtual 125, 3) := dk_182 0 125 (dk_at dksX6_readsLine_2 0 rfl rfl)
theorem dX6_readsLine_49 : decode cX6_readsLine 49 = .ok (.ifCond .eq 7, 3) := dk_153 0 7 (dk_at dksX6_readsLine_2 3 rfl rfl)
theorem dX6_readsLine_52 : decode cX6_readsLine 52 = .ok (.iconst 3, 1) := dk_6 (dk_at dksX6_readsLine_2 6 rfl rfl)
theorem dX6_readsLine_53 : decode cX6_readsLine 53 = .ok (.goto 62, 3) := dk_167 0 62 (dk_at dksX6_readsLine_2 7 rfl rfl)
theorem dX6_readsLine_56 : decode cX6_readsLine 56 = .ok (.aload_n 0, 1) := dk_42 (dk_at dksX6_readsLine_2 10 rfl rfl)
theorem dX6_readsLine_57 : decode cX6_readsLine 57 = .ok (.ldc 132, 2) := dk_18 132 (dk_at dksX6_readsLine_2 11 rfl rfl)
theorem dX6_readsLine_59 : decode cX6_readsLine 59 = .ok (.iconst 4, 1) := dk_7 (dk_at dksX6_readsLine_2 13 rfl rfl)
theorem dX6_readsLine_60 : decode cX6_readsLine 60 = .ok (.invokevirtual 125, 3) := dk_182 0 125 (dk_at dksX6_readsLine_2 14 rfl rfl)
theorem dX6_readsLine_63 : decode cX6_readsLine 63 = .ok (.ifCond .eq 7, 3) := dk_153 0 7 (dk_at dksX6_readsLine_2 17 rfl rfl)
theorem dX6_readsLine_66 : decode cX6_readsLine 66 = .ok (.iconst 4, 1) := dk_7 (dk_at dksX6_readsLine_2 20 rfl rfl)
theorem dX6_readsLine_67 : decode cX6_readsLine 67 = .ok (.goto 48, 3) := dk_167 0 48 (dk_at dksX6_readsLine_2 21 rfl rfl)
theorem dX6_readsLine_70 : decode cX6_readsLine 70 = .ok (.aload_n 0, 1) := dk_42 (dk_at dksX6_readsLine_3 0 rfl rfl)
theorem dX6_readsLine_71 : decode cX6_readsLine 71 = .ok (.ldc 133, 2) := dk_18 133 (dk_at dksX6_readsLine_3 1 rfl rfl)
theorem dX6_readsLine_73 : decode cX6_readsLine 73 = .ok (.iconst 5, 1) := dk_8 (dk_at dksX6_readsLine_3 3 rfl rfl)
theorem dX6_readsLine_74 : decode cX6_readsLine 74 = .ok (.invokevirtual 125, 3) := dk_182 0 125 (dk_at dksX6_readsLine_3 4 rfl rfl)
theorem dX6_readsLine_77 : decode cX6_readsLine 77 = .ok (.ifCond .eq 7, 3) := dk_153 0 7 (dk_at dksX6_readsLine_3 7 rfl rfl)
theorem dX6_readsLine_80 : decode cX6_readsLine 80 = .ok (.iconst 5, 1) := dk_8 (dk_at dksX6_readsLine_3 10 rfl rfl)
theorem dX6_readsLine_81 : decode cX6_readsLine 81 = .ok (.goto 34, 3) := dk_167 0 34 (dk_at dksX6_readsLine_3 11 rfl rfl)
theorem dX6_readsLine_84 : decode cX6_readsLine 84 = .ok (.aload_n 0, 1) := dk_42 (dk_at dksX6_readsLine_3 14 rfl rfl)
theorem dX6_readsLine_85 : decode cX6_readsLine 85 = .ok (.ldc 134, 2) := dk_18 134 (dk_at dksX6_readsLine_3 15 rfl rfl)
theorem dX6_readsLine_87 : decode cX6_readsLine 87 = .ok (.iconst 4, 1) := dk_7 (dk_at dksX6_readsLine_3 17 rfl rfl)
theorem dX6_readsLine_88 : decode cX6_readsLine 88 = .ok (.invokevirtual 125, 3) := dk_182 0 125 (dk_at dksX6_readsLine_3 18 rfl rfl)
theorem dX6_readsLine_91 : decode cX6_readsLine 91 = .ok (.ifCond .eq 8, 3) := dk_153 0 8 (dk_at dksX6_readsLine_3 21 rfl rfl)
theorem dX6_readsLine_94 : decode cX6_readsLine 94 = .ok (.bipush 6, 2) := dk_16 6 (dk_at dksX6_readsLine_4 0 rfl rfl)
theorem dX6_readsLine_96 : decode cX6_readsLine 96 = .ok (.goto 19, 3) := dk_167 0 19 (dk_at dksX6_readsLine_4 2 rfl rfl)
theorem dX6_readsLine_99 : decode cX6_readsLine 99 = .ok (.aload_n 0, 1) := dk_42 (dk_at dksX6_readsLine_4 5 rfl rfl)
theorem dX6_readsLine_100 : decode cX6_readsLine 100 = .ok (.ldc 135, 2) := dk_18 135 (dk_at dksX6_readsLine_4 6 rfl rfl)
theorem dX6_readsLine_102 : decode cX6_readsLine 102 = .ok (.iconst 4, 1) := dk_7 (dk_at dksX6_readsLine_4 8 rfl rfl)
theorem dX6_readsLine_103 : decode cX6_readsLine 103 = .ok (.invokevirtual 125, 3) := dk_182 0 125 (dk_at dksX6_readsLine_4 9 rfl rfl)
theorem dX6_readsLine_106 : decode cX6_readsLine 106 = .ok (.ifCond .eq 8, 3) := dk_153 0 8 (dk_at dksX6_readsLine_4 12 rfl rfl)
theorem dX6_readsLine_109 : decode cX6_readsLine 109 = .ok (.bipush 7, 2) := dk_16 7 (dk_at dksX6_readsLine_4 15 rfl rfl)
theorem dX6_readsLine_111 : decode cX6_readsLine 111 = .ok (.goto 4, 3) := dk_167 0 4 (dk_at dksX6_readsLine_4 17 rfl rfl)
theorem dX6_readsLine_114 : decode cX6_readsLine 114 = .ok (.iconst (-1), 1) := dk_2 (dk_at dksX6_readsLine_4 20 rfl rfl)
theorem dX6_readsLine_115 : decode cX6_readsLine 115 = .ok (.istore_n 1, 1) := dk_60 (dk_at dksX6_readsLine_4 21 rfl rfl)
theorem dX6_readsLine_116 : decode cX6_readsLine 116 = .ok (.iload_n 1, 1) := dk_27 (dk_at dksX6_readsLine_4 22 rfl rfl)
theorem dX6_readsLine_117 : decode cX6_readsLine 117 = .ok (.iconst (-1), 1) := dk_2 (dk_at dksX6_readsLine_4 23 rfl rfl)
theorem dX6_readsLine_118 : decode cX6_readsLine 118 = .ok (.if_icmp .ne 5, 3) := dk_160 0 5 (dk_at dksX6_readsLine_5 0 rfl rfl)
theorem dX6_readsLine_121 : decode cX6_readsLine 121 = .ok (.iconst 0, 1) := dk_3 (dk_at dksX6_readsLine_5 3 rfl rfl)
theorem dX6_readsLine_122 : decode cX6_readsLine 122 = .ok (.ireturn, 1) := dk_172 (dk_at dksX6_readsLine_5 4 rfl rfl)
theorem dX6_readsLine_123 : decode cX6_readsLine 123 = .ok (.aload_n 0, 1) := dk_42 (dk_at dksX6_readsLine_5 5 rfl rfl)
theorem dX6_readsLine_124 : decode cX6_readsLine 124 = .ok (.invokevirtual 117, 3) := dk_182 0 117 (dk_at dksX6_readsLine_5 6 rfl rfl)
theorem dX6_readsLine_127 : decode cX6_readsLine 127 = .ok (.aload_n 0, 1) := dk_42 (dk_at dksX6_readsLine_5 9 rfl rfl)
theorem dX6_readsLine_128 : decode cX6_readsLine 128 = .ok (.getfield 13, 3) := dk_180 0 13 (dk_at dksX6_readsLine_5 10 rfl rfl)
theorem dX6_readsLine_131 : decode cX6_readsLine 131 = .ok (.iconst 5, 1) := dk_8 (dk_at dksX6_readsLine_5 13 rfl rfl)
theorem dX6_readsLine_132 : decode cX6_readsLine 132 = .ok (.aload_n 0, 1) := dk_42 (dk_at dksX6_readsLine_5 14 rfl rfl)
theorem dX6_readsLine_133 : decode cX6_readsLine 133 = .ok (.getfield 114, 3) := dk_180 0 114 (dk_at dksX6_readsLine_5 15 rfl rfl)
theorem dX6_readsLine_136 : decode cX6_readsLine 136 = .ok (.imul, 1) := dk_104 (dk_at dksX6_readsLine_5 18 rfl rfl)
theorem dX6_readsLine_137 : decode cX6_readsLine 137 = .ok (.iload_n 1, 1) := dk_27 (dk_at dksX6_readsLine_5 19 rfl rfl)
theorem dX6_readsLine_138 : decode cX6_readsLine 138 = .ok (.iastore, 1) := dk_79 (dk_at dksX6_readsLine_5 20 rfl rfl)
theorem dX6_readsLine_139 : decode cX6_readsLine 139 = .ok (.aload_n 0, 1) := dk_42 (dk_at dksX6_readsLine_5 21 rfl rfl)
theorem dX6_readsLine_140 : decode cX6_readsLine 140 = .ok (.iload_n 1, 1) := dk_27 (dk_at dksX6_readsLine_5 22 rfl rfl)
theorem dX6_readsLine_141 : decode cX6_readsLine 141 = .ok (.invokevirtual 136, 3) := dk_182 0 136 (dk_at dksX6_readsLine_6 0 rfl rfl)
theorem dX6_readsLine_144 : decode cX6_readsLine 144 = .ok (.ifCond .ne 5, 3) := dk_154 0 5 (dk_at dksX6_readsLine_6 3 rfl rfl)
theorem dX6_readsLine_147 : decode cX6_readsLine 147 = .ok (.iconst 0, 1) := dk_3 (dk_at dksX6_readsLine_6 6 rfl rfl)
theorem dX6_readsLine_148 : decode cX6_readsLine 148 = .ok (.ireturn, 1) := dk_172 (dk_at dksX6_readsLine_6 7 rfl rfl)
theorem dX6_readsLine_149 : decode cX6_readsLine 149 = .ok (.aload_n 0, 1) := dk_42 (dk_at dksX6_readsLine_6 8 rfl rfl)
theorem dX6_readsLine_150 : decode cX6_readsLine 150 = .ok (.dup, 1) := dk_89 (dk_at dksX6_readsLine_6 9 rfl rfl)
theorem dX6_readsLine_151 : decode cX6_readsLine 151 = .ok (.getfield 114, 3) := dk_180 0 114 (dk_at dksX6_readsLine_6 10 rfl rfl)
theorem dX6_readsLine_154 : decode cX6_readsLine 154 = .ok (.iconst 1, 1) := dk_4 (dk_at dksX6_readsLine_6 13 rfl rfl)
theorem dX6_readsLine_155 : decode cX6_readsLine 155 = .ok (.iadd, 1) := dk_96 (dk_at dksX6_readsLine_6 14 rfl rfl)
theorem dX6_readsLine_156 : decode cX6_readsLine 156 = .ok (.putfield 114, 3) := dk_181 0 114 (dk_at dksX6_readsLine_6 15 rfl rfl)
theorem dX6_readsLine_159 : decode cX6_readsLine 159 = .ok (.iconst 1, 1) := dk_4 (dk_at dksX6_readsLine_6 18 rfl rfl)
theorem dX6_readsLine_160 : decode cX6_readsLine 160 = .ok (.ireturn, 1) := dk_172 (dk_at dksX6_readsLine_6 19 rfl rfl)
abbrev cX6_isWord : ByteArray := prog_12_method_8_code
def yX6_isWord : MethodName := ⟨RX6, "isWord", "(II)Z"⟩
def dkwX6_isWord_3 : List UInt8 := [29, 172]
abbrev dktX6_isWord_3 : List UInt8 := dkwX6_isWord_3 ++ []
def dkwX6_isWord_2 : List UInt8 := [8, 21, 4, 104, 122, 16, 31, 126, 96, 160, 0, 7, 4, 167, 0, 4, 3, 62, 132, 4, 1, 167, 255, 210]
abbrev dktX6_isWord_2 : List UInt8 := dkwX6_isWord_2 ++ dktX6_isWord_3
def dkwX6_isWord_1 : List UInt8 := [153, 0, 48, 21, 4, 28, 162, 0, 42, 42, 180, 0, 7, 42, 180, 0, 104, 21, 4, 96, 46, 16, 96, 27]
abbrev dktX6_isWord_1 : List UInt8 := dkwX6_isWord_1 ++ dktX6_isWord_2
def dkwX6_isWord_0 : List UInt8 := [42, 180, 0, 111, 42, 180, 0, 104, 100, 28, 160, 0, 7, 4, 167, 0, 4, 3, 62, 3, 54, 4, 29]
abbrev dktX6_isWord_0 : List UInt8 := dkwX6_isWord_0 ++ dktX6_isWord_1
theorem dksX6_isWord_0 : cX6_isWord.data.toList.drop 0 = dktX6_isWord_0 := by decide +kernel
theorem dksX6_isWord_1 : cX6_isWord.data.toList.drop 23 = dktX6_isWord_1 := dk_seg dksX6_isWord_0 23 rfl rfl
theorem dksX6_isWord_2 : cX6_isWord.data.toList.drop 47 = dktX6_isWord_2 := dk_seg dksX6_isWord_1 24 rfl rfl
theorem dksX6_isWord_3 : cX6_isWord.data.toList.drop 71 = dktX6_isWord_3 := dk_seg dksX6_isWord_2 24 rfl rfl
theorem dX6_isWord_0 : decode cX6_isWord 0 = .ok (.aload_n 0, 1) := dk_42 (dk_at dksX6_isWord_0 0 rfl rfl)
theorem dX6_isWord_1 : decode cX6_isWord 1 = .ok (.getfield 111, 3) := dk_180 0 111 (dk_at dksX6_isWord_0 1 rfl rfl)
theorem dX6_isWord_4 : decode cX6_isWord 4 = .ok (.aload_n 0, 1) := dk_42 (dk_at dksX6_isWord_0 4 rfl rfl)
theorem dX6_isWord_5 : decode cX6_isWord 5 = .ok (.getfield 104, 3) := dk_180 0 104 (dk_at dksX6_isWord_0 5 rfl rfl)
theorem dX6_isWord_8 : decode cX6_isWord 8 = .ok (.isub, 1) := dk_100 (dk_at dksX6_isWord_0 8 rfl rfl)
theorem dX6_isWord_9 : decode cX6_isWord 9 = .ok (.iload_n 2, 1) := dk_28 (dk_at dksX6_isWord_0 9 rfl rfl)
theorem dX6_isWord_10 : decode cX6_isWord 10 = .ok (.if_icmp .ne 7, 3) := dk_160 0 7 (dk_at dksX6_isWord_0 10 rfl rfl)
theorem dX6_isWord_13 : decode cX6_isWord 13 = .ok (.iconst 1, 1) := dk_4 (dk_at dksX6_isWord_0 13 rfl rfl)
theorem dX6_isWord_14 : decode cX6_isWord 14 = .ok (.goto 4, 3) := dk_167 0 4 (dk_at dksX6_isWord_0 14 rfl rfl)
theorem dX6_isWord_17 : decode cX6_isWord 17 = .ok (.iconst 0, 1) := dk_3 (dk_at dksX6_isWord_0 17 rfl rfl)
theorem dX6_isWord_18 : decode cX6_isWord 18 = .ok (.istore_n 3, 1) := dk_62 (dk_at dksX6_isWord_0 18 rfl rfl)
theorem dX6_isWord_19 : decode cX6_isWord 19 = .ok (.iconst 0, 1) := dk_3 (dk_at dksX6_isWord_0 19 rfl rfl)
theorem dX6_isWord_20 : decode cX6_isWord 20 = .ok (.istore 4, 2) := dk_54 4 (dk_at dksX6_isWord_0 20 rfl rfl)
theorem dX6_isWord_22 : decode cX6_isWord 22 = .ok (.iload_n 3, 1) := dk_29 (dk_at dksX6_isWord_0 22 rfl rfl)
theorem dX6_isWord_23 : decode cX6_isWord 23 = .ok (.ifCond .eq 48, 3) := dk_153 0 48 (dk_at dksX6_isWord_1 0 rfl rfl)
theorem dX6_isWord_26 : decode cX6_isWord 26 = .ok (.iload 4, 2) := dk_21 4 (dk_at dksX6_isWord_1 3 rfl rfl)
theorem dX6_isWord_28 : decode cX6_isWord 28 = .ok (.iload_n 2, 1) := dk_28 (dk_at dksX6_isWord_1 5 rfl rfl)
theorem dX6_isWord_29 : decode cX6_isWord 29 = .ok (.if_icmp .ge 42, 3) := dk_162 0 42 (dk_at dksX6_isWord_1 6 rfl rfl)
theorem dX6_isWord_32 : decode cX6_isWord 32 = .ok (.aload_n 0, 1) := dk_42 (dk_at dksX6_isWord_1 9 rfl rfl)
theorem dX6_isWord_33 : decode cX6_isWord 33 = .ok (.getfield 7, 3) := dk_180 0 7 (dk_at dksX6_isWord_1 10 rfl rfl)
theorem dX6_isWord_36 : decode cX6_isWord 36 = .ok (.aload_n 0, 1) := dk_42 (dk_at dksX6_isWord_1 13 rfl rfl)
theorem dX6_isWord_37 : decode cX6_isWord 37 = .ok (.getfield 104, 3) := dk_180 0 104 (dk_at dksX6_isWord_1 14 rfl rfl)
theorem dX6_isWord_40 : decode cX6_isWord 40 = .ok (.iload 4, 2) := dk_21 4 (dk_at dksX6_isWord_1 17 rfl rfl)
theorem dX6_isWord_42 : decode cX6_isWord 42 = .ok (.iadd, 1) := dk_96 (dk_at dksX6_isWord_1 19 rfl rfl)
theorem dX6_isWord_43 : decode cX6_isWord 43 = .ok (.iaload, 1) := dk_46 (dk_at dksX6_isWord_1 20 rfl rfl)
theorem dX6_isWord_44 : decode cX6_isWord 44 = .ok (.bipush 96, 2) := dk_16 96 (dk_at dksX6_isWord_1 21 rfl rfl)
theorem dX6_isWord_46 : decode cX6_isWord 46 = .ok (.iload_n 1, 1) := dk_27 (dk_at dksX6_isWord_1 23 rfl rfl)
theorem dX6_isWord_47 : decode cX6_isWord 47 = .ok (.iconst 5, 1) := dk_8 (dk_at dksX6_isWord_2 0 rfl rfl)
theorem dX6_isWord_48 : decode cX6_isWord 48 = .ok (.iload 4, 2) := dk_21 4 (dk_at dksX6_isWord_2 1 rfl rfl)
theorem dX6_isWord_50 : decode cX6_isWord 50 = .ok (.imul, 1) := dk_104 (dk_at dksX6_isWord_2 3 rfl rfl)
theorem dX6_isWord_51 : decode cX6_isWord 51 = .ok (.ishr, 1) := dk_122 (dk_at dksX6_isWord_2 4 rfl rfl)
theorem dX6_isWord_52 : decode cX6_isWord 52 = .ok (.bipush 31, 2) := dk_16 31 (dk_at dksX6_isWord_2 5 rfl rfl)
theorem dX6_isWord_54 : decode cX6_isWord 54 = .ok (.iand, 1) := dk_126 (dk_at dksX6_isWord_2 7 rfl rfl)
theorem dX6_isWord_55 : decode cX6_isWord 55 = .ok (.iadd, 1) := dk_96 (dk_at dksX6_isWord_2 8 rfl rfl)
theorem dX6_isWord_56 : decode cX6_isWord 56 = .ok (.if_icmp .ne 7, 3) := dk_160 0 7 (dk_at dksX6_isWord_2 9 rfl rfl)
theorem dX6_isWord_59 : decode cX6_isWord 59 = .ok (.iconst 1, 1) := dk_4 (dk_at dksX6_isWord_2 12 rfl rfl)
theorem dX6_isWord_60 : decode cX6_isWord 60 = .ok (.goto 4, 3) := dk_167 0 4 (dk_at dksX6_isWord_2 13 rfl rfl)
theorem dX6_isWord_63 : decode cX6_isWord 63 = .ok (.iconst 0, 1) := dk_3 (dk_at dksX6_isWord_2 16 rfl rfl)
theorem dX6_isWord_64 : decode cX6_isWord 64 = .ok (.istore_n 3, 1) := dk_62 (dk_at dksX6_isWord_2 17 rfl rfl)
theorem dX6_isWord_65 : decode cX6_isWord 65 = .ok (.iinc 4 1, 3) := dk_132 4 1 (dk_at dksX6_isWord_2 18 rfl rfl)
theorem dX6_isWord_68 : decode cX6_isWord 68 = .ok (.goto (-46), 3) := dk_167 255 210 (dk_at dksX6_isWord_2 21 rfl rfl)
theorem dX6_isWord_71 : decode cX6_isWord 71 = .ok (.iload_n 3, 1) := dk_29 (dk_at dksX6_isWord_3 0 rfl rfl)
theorem dX6_isWord_72 : decode cX6_isWord 72 = .ok (.ireturn, 1) := dk_172 (dk_at dksX6_isWord_3 1 rfl rfl)
abbrev cX6_readsRest : ByteArray := prog_12_method_10_code
def yX6_readsRest : MethodName := ⟨RX6, "readsRest", "(I)Z"⟩
def dkwX6_readsRest_8 : List UInt8 := [172, 42, 3, 4, 16, 21, 182, 0, 120, 172, 42, 3, 3, 6, 182, 0, 120, 172]
abbrev dktX6_readsRest_8 : List UInt8 := dkwX6_readsRest_8 ++ []
def dkwX6_readsRest_7 : List UInt8 := [16, 100, 182, 0, 120, 172, 42, 3, 3, 17, 3, 231, 182, 0, 120, 172, 42, 3, 4, 16, 9, 182, 0, 120]
abbrev dktX6_readsRest_7 : List UInt8 := dkwX6_readsRest_7 ++ dktX6_readsRest_8
def dkwX6_readsRest_6 : List UInt8 := [153, 0, 18, 42, 5, 3, 16, 99, 182, 0, 120, 153, 0, 7, 4, 167, 0, 4, 3, 172, 42, 3, 3]
abbrev dktX6_readsRest_6 : List UInt8 := dkwX6_readsRest_6 ++ dktX6_readsRest_7
def dkwX6_readsRest_5 : List UInt8 := [167, 0, 4, 3, 172, 42, 3, 3, 6, 182, 0, 120, 153, 0, 30, 42, 4, 3, 17, 3, 231, 182, 0, 120]
abbrev dktX6_readsRest_5 : List UInt8 := dkwX6_readsRest_5 ++ dktX6_readsRest_6
def dkwX6_readsRest_4 : List UInt8 := [3, 172, 42, 3, 3, 6, 182, 0, 120, 153, 0, 18, 42, 4, 4, 16, 99, 182, 0, 120, 153, 0, 7, 4]
abbrev dktX6_readsRest_4 : List UInt8 := dkwX6_readsRest_4 ++ dktX6_readsRest_5
def dkwX6_readsRest_3 : List UInt8 := [3, 17, 3, 231, 182, 0, 120, 153, 0, 17, 42, 6, 3, 6, 182, 0, 120, 153, 0, 7, 4, 167, 0, 4]
abbrev dktX6_readsRest_3 : List UInt8 := dkwX6_readsRest_3 ++ dktX6_readsRest_4
def dkwX6_readsRest_2 : List UInt8 := [42, 3, 3, 6, 182, 0, 120, 153, 0, 41, 42, 4, 3, 17, 3, 231, 182, 0, 120, 153, 0, 29, 42, 5]
abbrev dktX6_readsRest_2 : List UInt8 := dkwX6_readsRest_2 ++ dktX6_readsRest_3
def dkwX6_readsRest_1 : List UInt8 := [170, 0, 0, 0, 0, 0, 196, 0, 0, 0, 0, 0, 0, 0, 6, 0, 0, 0, 43, 0, 0, 0, 93, 0, 0, 0, 120, 0, 0, 0, 159, 0, 0, 0, 168, 0, 0, 0, 178, 0, 0, 0, 187]
abbrev dktX6_readsRest_1 : List UInt8 := dkwX6_readsRest_1 ++ dktX6_readsRest_2
def dkwX6_readsRest_0 : List UInt8 := [27]
abbrev dktX6_readsRest_0 : List UInt8 := dkwX6_readsRest_0 ++ dktX6_readsRest_1
theorem dksX6_readsRest_0 : cX6_readsRest.data.toList.drop 0 = dktX6_readsRest_0 := by decide +kernel
theorem dksX6_readsRest_1 : cX6_readsRest.data.toList.drop 1 = dktX6_readsRest_1 := dk_seg dksX6_readsRest_0 1 rfl rfl
theorem dksX6_readsRest_2 : cX6_readsRest.data.toList.drop 44 = dktX6_readsRest_2 := dk_seg dksX6_readsRest_1 43 rfl rfl
theorem dksX6_readsRest_3 : cX6_readsRest.data.toList.drop 68 = dktX6_readsRest_3 := dk_seg dksX6_readsRest_2 24 rfl rfl
theorem dksX6_readsRest_4 : cX6_readsRest.data.toList.drop 92 = dktX6_readsRest_4 := dk_seg dksX6_readsRest_3 24 rfl rfl
theorem dksX6_readsRest_5 : cX6_readsRest.data.toList.drop 116 = dktX6_readsRest_5 := dk_seg dksX6_readsRest_4 24 rfl rfl
theorem dksX6_readsRest_6 : cX6_readsRest.data.toList.drop 140 = dktX6_readsRest_6 := dk_seg dksX6_readsRest_5 24 rfl rfl
theorem dksX6_readsRest_7 : cX6_readsRest.data.toList.drop 163 = dktX6_readsRest_7 := dk_seg dksX6_readsRest_6 23 rfl rfl
theorem dksX6_readsRest_8 : cX6_readsRest.data.toList.drop 187 = dktX6_readsRest_8 := dk_seg dksX6_readsRest_7 24 rfl rfl
theorem dX6_readsRest_0 : decode cX6_readsRest 0 = .ok (.iload_n 1, 1) := dk_27 (dk_at dksX6_readsRest_0 0 rfl rfl)
theorem dX6_readsRest_1 : decode cX6_readsRest 1 = .ok (.tableswitch 196 0 6 #[43, 93, 120, 159, 168, 178, 187], 43) := by decide +kernel
theorem dX6_readsRest_44 : decode cX6_readsRest 44 = .ok (.aload_n 0, 1) := dk_42 (dk_at dksX6_readsRest_2 0 rfl rfl)
theorem dX6_readsRest_45 : decode cX6_readsRest 45 = .ok (.iconst 0, 1) := dk_3 (dk_at dksX6_readsRest_2 1 rfl rfl)
theorem dX6_readsRest_46 : decode cX6_readsRest 46 = .ok (.iconst 0, 1) := dk_3 (dk_at dksX6_readsRest_2 2 rfl rfl)
theorem dX6_readsRest_47 : decode cX6_readsRest 47 = .ok (.iconst 3, 1) := dk_6 (dk_at dksX6_readsRest_2 3 rfl rfl)
theorem dX6_readsRest_48 : decode cX6_readsRest 48 = .ok (.invokevirtual 120, 3) := dk_182 0 120 (dk_at dksX6_readsRest_2 4 rfl rfl)
theorem dX6_readsRest_51 : decode cX6_readsRest 51 = .ok (.ifCond .eq 41, 3) := dk_153 0 41 (dk_at dksX6_readsRest_2 7 rfl rfl)
theorem dX6_readsRest_54 : decode cX6_readsRest 54 = .ok (.aload_n 0, 1) := dk_42 (dk_at dksX6_readsRest_2 10 rfl rfl)
theorem dX6_readsRest_55 : decode cX6_readsRest 55 = .ok (.iconst 1, 1) := dk_4 (dk_at dksX6_readsRest_2 11 rfl rfl)
theorem dX6_readsRest_56 : decode cX6_readsRest 56 = .ok (.iconst 0, 1) := dk_3 (dk_at dksX6_readsRest_2 12 rfl rfl)
theorem dX6_readsRest_57 : decode cX6_readsRest 57 = .ok (.sipush 999, 3) := dk_17 3 231 (dk_at dksX6_readsRest_2 13 rfl rfl)
theorem dX6_readsRest_60 : decode cX6_readsRest 60 = .ok (.invokevirtual 120, 3) := dk_182 0 120 (dk_at dksX6_readsRest_2 16 rfl rfl)
theorem dX6_readsRest_63 : decode cX6_readsRest 63 = .ok (.ifCond .eq 29, 3) := dk_153 0 29 (dk_at dksX6_readsRest_2 19 rfl rfl)
theorem dX6_readsRest_66 : decode cX6_readsRest 66 = .ok (.aload_n 0, 1) := dk_42 (dk_at dksX6_readsRest_2 22 rfl rfl)
theorem dX6_readsRest_67 : decode cX6_readsRest 67 = .ok (.iconst 2, 1) := dk_5 (dk_at dksX6_readsRest_2 23 rfl rfl)
theorem dX6_readsRest_68 : decode cX6_readsRest 68 = .ok (.iconst 0, 1) := dk_3 (dk_at dksX6_readsRest_3 0 rfl rfl)
theorem dX6_readsRest_69 : decode cX6_readsRest 69 = .ok (.sipush 999, 3) := dk_17 3 231 (dk_at dksX6_readsRest_3 1 rfl rfl)
theorem dX6_readsRest_72 : decode cX6_readsRest 72 = .ok (.invokevirtual 120, 3) := dk_182 0 120 (dk_at dksX6_readsRest_3 4 rfl rfl)
theorem dX6_readsRest_75 : decode cX6_readsRest 75 = .ok (.ifCond .eq 17, 3) := dk_153 0 17 (dk_at dksX6_readsRest_3 7 rfl rfl)
theorem dX6_readsRest_78 : decode cX6_readsRest 78 = .ok (.aload_n 0, 1) := dk_42 (dk_at dksX6_readsRest_3 10 rfl rfl)
theorem dX6_readsRest_79 : decode cX6_readsRest 79 = .ok (.iconst 3, 1) := dk_6 (dk_at dksX6_readsRest_3 11 rfl rfl)
theorem dX6_readsRest_80 : decode cX6_readsRest 80 = .ok (.iconst 0, 1) := dk_3 (dk_at dksX6_readsRest_3 12 rfl rfl)
theorem dX6_readsRest_81 : decode cX6_readsRest 81 = .ok (.iconst 3, 1) := dk_6 (dk_at dksX6_readsRest_3 13 rfl rfl)
theorem dX6_readsRest_82 : decode cX6_readsRest 82 = .ok (.invokevirtual 120, 3) := dk_182 0 120 (dk_at dksX6_readsRest_3 14 rfl rfl)
theorem dX6_readsRest_85 : decode cX6_readsRest 85 = .ok (.ifCond .eq 7, 3) := dk_153 0 7 (dk_at dksX6_readsRest_3 17 rfl rfl)
theorem dX6_readsRest_88 : decode cX6_readsRest 88 = .ok (.iconst 1, 1) := dk_4 (dk_at dksX6_readsRest_3 20 rfl rfl)
theorem dX6_readsRest_89 : decode cX6_readsRest 89 = .ok (.goto 4, 3) := dk_167 0 4 (dk_at dksX6_readsRest_3 21 rfl rfl)
theorem dX6_readsRest_92 : decode cX6_readsRest 92 = .ok (.iconst 0, 1) := dk_3 (dk_at dksX6_readsRest_4 0 rfl rfl)
theorem dX6_readsRest_93 : decode cX6_readsRest 93 = .ok (.ireturn, 1) := dk_172 (dk_at dksX6_readsRest_4 1 rfl rfl)
theorem dX6_readsRest_94 : decode cX6_readsRest 94 = .ok (.aload_n 0, 1) := dk_42 (dk_at dksX6_readsRest_4 2 rfl rfl)
theorem dX6_readsRest_95 : decode cX6_readsRest 95 = .ok (.iconst 0, 1) := dk_3 (dk_at dksX6_readsRest_4 3 rfl rfl)
theorem dX6_readsRest_96 : decode cX6_readsRest 96 = .ok (.iconst 0, 1) := dk_3 (dk_at dksX6_readsRest_4 4 rfl rfl)
theorem dX6_readsRest_97 : decode cX6_readsRest 97 = .ok (.iconst 3, 1) := dk_6 (dk_at dksX6_readsRest_4 5 rfl rfl)
theorem dX6_readsRest_98 : decode cX6_readsRest 98 = .ok (.invokevirtual 120, 3) := dk_182 0 120 (dk_at dksX6_readsRest_4 6 rfl rfl)
theorem dX6_readsRest_101 : decode cX6_readsRest 101 = .ok (.ifCond .eq 18, 3) := dk_153 0 18 (dk_at dksX6_readsRest_4 9 rfl rfl)
theorem dX6_readsRest_104 : decode cX6_readsRest 104 = .ok (.aload_n 0, 1) := dk_42 (dk_at dksX6_readsRest_4 12 rfl rfl)
theorem dX6_readsRest_105 : decode cX6_readsRest 105 = .ok (.iconst 1, 1) := dk_4 (dk_at dksX6_readsRest_4 13 rfl rfl)
theorem dX6_readsRest_106 : decode cX6_readsRest 106 = .ok (.iconst 1, 1) := dk_4 (dk_at dksX6_readsRest_4 14 rfl rfl)
theorem dX6_readsRest_107 : decode cX6_readsRest 107 = .ok (.bipush 99, 2) := dk_16 99 (dk_at dksX6_readsRest_4 15 rfl rfl)
theorem dX6_readsRest_109 : decode cX6_readsRest 109 = .ok (.invokevirtual 120, 3) := dk_182 0 120 (dk_at dksX6_readsRest_4 17 rfl rfl)
theorem dX6_readsRest_112 : decode cX6_readsRest 112 = .ok (.ifCond .eq 7, 3) := dk_153 0 7 (dk_at dksX6_readsRest_4 20 rfl rfl)
theorem dX6_readsRest_115 : decode cX6_readsRest 115 = .ok (.iconst 1, 1) := dk_4 (dk_at dksX6_readsRest_4 23 rfl rfl)
theorem dX6_readsRest_116 : decode cX6_readsRest 116 = .ok (.goto 4, 3) := dk_167 0 4 (dk_at dksX6_readsRest_5 0 rfl rfl)
theorem dX6_readsRest_119 : decode cX6_readsRest 119 = .ok (.iconst 0, 1) := dk_3 (dk_at dksX6_readsRest_5 3 rfl rfl)
theorem dX6_readsRest_120 : decode cX6_readsRest 120 = .ok (.ireturn, 1) := dk_172 (dk_at dksX6_readsRest_5 4 rfl rfl)
theorem dX6_readsRest_121 : decode cX6_readsRest 121 = .ok (.aload_n 0, 1) := dk_42 (dk_at dksX6_readsRest_5 5 rfl rfl)
theorem dX6_readsRest_122 : decode cX6_readsRest 122 = .ok (.iconst 0, 1) := dk_3 (dk_at dksX6_readsRest_5 6 rfl rfl)
theorem dX6_readsRest_123 : decode cX6_readsRest 123 = .ok (.iconst 0, 1) := dk_3 (dk_at dksX6_readsRest_5 7 rfl rfl)
theorem dX6_readsRest_124 : decode cX6_readsRest 124 = .ok (.iconst 3, 1) := dk_6 (dk_at dksX6_readsRest_5 8 rfl rfl)
theorem dX6_readsRest_125 : decode cX6_readsRest 125 = .ok (.invokevirtual 120, 3) := dk_182 0 120 (dk_at dksX6_readsRest_5 9 rfl rfl)
theorem dX6_readsRest_128 : decode cX6_readsRest 128 = .ok (.ifCond .eq 30, 3) := dk_153 0 30 (dk_at dksX6_readsRest_5 12 rfl rfl)
theorem dX6_readsRest_131 : decode cX6_readsRest 131 = .ok (.aload_n 0, 1) := dk_42 (dk_at dksX6_readsRest_5 15 rfl rfl)
theorem dX6_readsRest_132 : decode cX6_readsRest 132 = .ok (.iconst 1, 1) := dk_4 (dk_at dksX6_readsRest_5 16 rfl rfl)
theorem dX6_readsRest_133 : decode cX6_readsRest 133 = .ok (.iconst 0, 1) := dk_3 (dk_at dksX6_readsRest_5 17 rfl rfl)
theorem dX6_readsRest_134 : decode cX6_readsRest 134 = .ok (.sipush 999, 3) := dk_17 3 231 (dk_at dksX6_readsRest_5 18 rfl rfl)
theorem dX6_readsRest_137 : decode cX6_readsRest 137 = .ok (.invokevirtual 120, 3) := dk_182 0 120 (dk_at dksX6_readsRest_5 21 rfl rfl)
theorem dX6_readsRest_140 : decode cX6_readsRest 140 = .ok (.ifCond .eq 18, 3) := dk_153 0 18 (dk_at dksX6_readsRest_6 0 rfl rfl)
theorem dX6_readsRest_143 : decode cX6_readsRest 143 = .ok (.aload_n 0, 1) := dk_42 (dk_at dksX6_readsRest_6 3 rfl rfl)
theorem dX6_readsRest_144 : decode cX6_readsRest 144 = .ok (.iconst 2, 1) := dk_5 (dk_at dksX6_readsRest_6 4 rfl rfl)
theorem dX6_readsRest_145 : decode cX6_readsRest 145 = .ok (.iconst 0, 1) := dk_3 (dk_at dksX6_readsRest_6 5 rfl rfl)
theorem dX6_readsRest_146 : decode cX6_readsRest 146 = .ok (.bipush 99, 2) := dk_16 99 (dk_at dksX6_readsRest_6 6 rfl rfl)
theorem dX6_readsRest_148 : decode cX6_readsRest 148 = .ok (.invokevirtual 120, 3) := dk_182 0 120 (dk_at dksX6_readsRest_6 8 rfl rfl)
theorem dX6_readsRest_151 : decode cX6_readsRest 151 = .ok (.ifCond .eq 7, 3) := dk_153 0 7 (dk_at dksX6_readsRest_6 11 rfl rfl)
theorem dX6_readsRest_154 : decode cX6_readsRest 154 = .ok (.iconst 1, 1) := dk_4 (dk_at dksX6_readsRest_6 14 rfl rfl)
theorem dX6_readsRest_155 : decode cX6_readsRest 155 = .ok (.goto 4, 3) := dk_167 0 4 (dk_at dksX6_readsRest_6 15 rfl rfl)
theorem dX6_readsRest_158 : decode cX6_readsRest 158 = .ok (.iconst 0, 1) := dk_3 (dk_at dksX6_readsRest_6 18 rfl rfl)
theorem dX6_readsRest_159 : decode cX6_readsRest 159 = .ok (.ireturn, 1) := dk_172 (dk_at dksX6_readsRest_6 19 rfl rfl)
theorem dX6_readsRest_160 : decode cX6_readsRest 160 = .ok (.aload_n 0, 1) := dk_42 (dk_at dksX6_readsRest_6 20 rfl rfl)
theorem dX6_readsRest_161 : decode cX6_readsRest 161 = .ok (.iconst 0, 1) := dk_3 (dk_at dksX6_readsRest_6 21 rfl rfl)
theorem dX6_readsRest_162 : decode cX6_readsRest 162 = .ok (.iconst 0, 1) := dk_3 (dk_at dksX6_readsRest_6 22 rfl rfl)
theorem dX6_readsRest_163 : decode cX6_readsRest 163 = .ok (.bipush 100, 2) := dk_16 100 (dk_at dksX6_readsRest_7 0 rfl rfl)
theorem dX6_readsRest_165 : decode cX6_readsRest 165 = .ok (.invokevirtual 120, 3) := dk_182 0 120 (dk_at dksX6_readsRest_7 2 rfl rfl)
theorem dX6_readsRest_168 : decode cX6_readsRest 168 = .ok (.ireturn, 1) := dk_172 (dk_at dksX6_readsRest_7 5 rfl rfl)
theorem dX6_readsRest_169 : decode cX6_readsRest 169 = .ok (.aload_n 0, 1) := dk_42 (dk_at dksX6_readsRest_7 6 rfl rfl)
theorem dX6_readsRest_170 : decode cX6_readsRest 170 = .ok (.iconst 0, 1) := dk_3 (dk_at dksX6_readsRest_7 7 rfl rfl)
theorem dX6_readsRest_171 : decode cX6_readsRest 171 = .ok (.iconst 0, 1) := dk_3 (dk_at dksX6_readsRest_7 8 rfl rfl)
theorem dX6_readsRest_172 : decode cX6_readsRest 172 = .ok (.sipush 999, 3) := dk_17 3 231 (dk_at dksX6_readsRest_7 9 rfl rfl)
theorem dX6_readsRest_175 : decode cX6_readsRest 175 = .ok (.invokevirtual 120, 3) := dk_182 0 120 (dk_at dksX6_readsRest_7 12 rfl rfl)
theorem dX6_readsRest_178 : decode cX6_readsRest 178 = .ok (.ireturn, 1) := dk_172 (dk_at dksX6_readsRest_7 15 rfl rfl)
theorem dX6_readsRest_179 : decode cX6_readsRest 179 = .ok (.aload_n 0, 1) := dk_42 (dk_at dksX6_readsRest_7 16 rfl rfl)
theorem dX6_readsRest_180 : decode cX6_readsRest 180 = .ok (.iconst 0, 1) := dk_3 (dk_at dksX6_readsRest_7 17 rfl rfl)
theorem dX6_readsRest_181 : decode cX6_readsRest 181 = .ok (.iconst 1, 1) := dk_4 (dk_at dksX6_readsRest_7 18 rfl rfl)
theorem dX6_readsRest_182 : decode cX6_readsRest 182 = .ok (.bipush 9, 2) := dk_16 9 (dk_at dksX6_readsRest_7 19 rfl rfl)
theorem dX6_readsRest_184 : decode cX6_readsRest 184 = .ok (.invokevirtual 120, 3) := dk_182 0 120 (dk_at dksX6_readsRest_7 21 rfl rfl)
theorem dX6_readsRest_187 : decode cX6_readsRest 187 = .ok (.ireturn, 1) := dk_172 (dk_at dksX6_readsRest_8 0 rfl rfl)
theorem dX6_readsRest_188 : decode cX6_readsRest 188 = .ok (.aload_n 0, 1) := dk_42 (dk_at dksX6_readsRest_8 1 rfl rfl)
theorem dX6_readsRest_189 : decode cX6_readsRest 189 = .ok (.iconst 0, 1) := dk_3 (dk_at dksX6_readsRest_8 2 rfl rfl)
theorem dX6_readsRest_190 : decode cX6_readsRest 190 = .ok (.iconst 1, 1) := dk_4 (dk_at dksX6_readsRest_8 3 rfl rfl)
theorem dX6_readsRest_191 : decode cX6_readsRest 191 = .ok (.bipush 21, 2) := dk_16 21 (dk_at dksX6_readsRest_8 4 rfl rfl)
theorem dX6_readsRest_193 : decode cX6_readsRest 193 = .ok (.invokevirtual 120, 3) := dk_182 0 120 (dk_at dksX6_readsRest_8 6 rfl rfl)
theorem dX6_readsRest_196 : decode cX6_readsRest 196 = .ok (.ireturn, 1) := dk_172 (dk_at dksX6_readsRest_8 9 rfl rfl)
theorem dX6_readsRest_197 : decode cX6_readsRest 197 = .ok (.aload_n 0, 1) := dk_42 (dk_at dksX6_readsRest_8 10 rfl rfl)
theorem dX6_readsRest_198 : decode cX6_readsRest 198 = .ok (.iconst 0, 1) := dk_3 (dk_at dksX6_readsRest_8 11 rfl rfl)
theorem dX6_readsRest_199 : decode cX6_readsRest 199 = .ok (.iconst 0, 1) := dk_3 (dk_at dksX6_readsRest_8 12 rfl rfl)
theorem dX6_readsRest_200 : decode cX6_readsRest 200 = .ok (.iconst 3, 1) := dk_6 (dk_at dksX6_readsRest_8 13 rfl rfl)
theorem dX6_readsRest_201 : decode cX6_readsRest 201 = .ok (.invokevirtual 120, 3) := dk_182 0 120 (dk_at dksX6_readsRest_8 14 rfl rfl)
theorem dX6_readsRest_204 : decode cX6_readsRest 204 = .ok (.ireturn, 1) := dk_172 (dk_at dksX6_readsRest_8 17 rfl rfl)
abbrev cX6_reads : ByteArray := prog_12_method_9_code
def yX6_reads : MethodName := ⟨RX6, "reads", "(III)Z"⟩
def dkwX6_reads_5 : List UInt8 := [79, 42, 182, 0, 117, 4, 172]
abbrev dktX6_reads_5 : List UInt8 := dkwX6_reads_5 ++ []
def dkwX6_reads_4 : List UInt8 := [184, 0, 92, 154, 0, 5, 3, 172, 42, 180, 0, 13, 8, 42, 180, 0, 114, 104, 4, 96, 27, 96, 21, 4]
abbrev dktX6_reads_4 : List UInt8 := dkwX6_reads_4 ++ dktX6_reads_5
def dkwX6_reads_3 : List UInt8 := [21, 5, 46, 96, 16, 48, 100, 54, 4, 132, 5, 1, 167, 255, 226, 21, 4, 133, 28, 133, 29, 133]
abbrev dktX6_reads_3 : List UInt8 := dkwX6_reads_3 ++ dktX6_reads_4
def dkwX6_reads_2 : List UInt8 := [180, 0, 104, 54, 5, 21, 5, 42, 180, 0, 111, 162, 0, 27, 16, 10, 21, 4, 104, 42, 180, 0, 7]
abbrev dktX6_reads_2 : List UInt8 := dkwX6_reads_2 ++ dktX6_reads_3
def dkwX6_reads_1 : List UInt8 := [160, 0, 16, 42, 180, 0, 111, 42, 180, 0, 104, 100, 6, 164, 0, 5, 3, 172, 3, 54, 4, 42]
abbrev dktX6_reads_1 : List UInt8 := dkwX6_reads_1 ++ dktX6_reads_2
def dkwX6_reads_0 : List UInt8 := [42, 180, 0, 104, 42, 180, 0, 96, 159, 0, 32, 42, 180, 0, 7, 42, 180, 0, 104, 46, 184, 0, 107, 5]
abbrev dktX6_reads_0 : List UInt8 := dkwX6_reads_0 ++ dktX6_reads_1
theorem dksX6_reads_0 : cX6_reads.data.toList.drop 0 = dktX6_reads_0 := by decide +kernel
theorem dksX6_reads_1 : cX6_reads.data.toList.drop 24 = dktX6_reads_1 := dk_seg dksX6_reads_0 24 rfl rfl
theorem dksX6_reads_2 : cX6_reads.data.toList.drop 46 = dktX6_reads_2 := dk_seg dksX6_reads_1 22 rfl rfl
theorem dksX6_reads_3 : cX6_reads.data.toList.drop 69 = dktX6_reads_3 := dk_seg dksX6_reads_2 23 rfl rfl
theorem dksX6_reads_4 : cX6_reads.data.toList.drop 91 = dktX6_reads_4 := dk_seg dksX6_reads_3 22 rfl rfl
theorem dksX6_reads_5 : cX6_reads.data.toList.drop 115 = dktX6_reads_5 := dk_seg dksX6_reads_4 24 rfl rfl
theorem dX6_reads_0 : decode cX6_reads 0 = .ok (.aload_n 0, 1) := dk_42 (dk_at dksX6_reads_0 0 rfl rfl)
theorem dX6_reads_1 : decode cX6_reads 1 = .ok (.getfield 104, 3) := dk_180 0 104 (dk_at dksX6_reads_0 1 rfl rfl)
theorem dX6_reads_4 : decode cX6_reads 4 = .ok (.aload_n 0, 1) := dk_42 (dk_at dksX6_reads_0 4 rfl rfl)
theorem dX6_reads_5 : decode cX6_reads 5 = .ok (.getfield 96, 3) := dk_180 0 96 (dk_at dksX6_reads_0 5 rfl rfl)
theorem dX6_reads_8 : decode cX6_reads 8 = .ok (.if_icmp .eq 32, 3) := dk_159 0 32 (dk_at dksX6_reads_0 8 rfl rfl)
theorem dX6_reads_11 : decode cX6_reads 11 = .ok (.aload_n 0, 1) := dk_42 (dk_at dksX6_reads_0 11 rfl rfl)
theorem dX6_reads_12 : decode cX6_reads 12 = .ok (.getfield 7, 3) := dk_180 0 7 (dk_at dksX6_reads_0 12 rfl rfl)
theorem dX6_reads_15 : decode cX6_reads 15 = .ok (.aload_n 0, 1) := dk_42 (dk_at dksX6_reads_0 15 rfl rfl)
theorem dX6_reads_16 : decode cX6_reads 16 = .ok (.getfield 104, 3) := dk_180 0 104 (dk_at dksX6_reads_0 16 rfl rfl)
theorem dX6_reads_19 : decode cX6_reads 19 = .ok (.iaload, 1) := dk_46 (dk_at dksX6_reads_0 19 rfl rfl)
theorem dX6_reads_20 : decode cX6_reads 20 = .ok (.invokestatic 107, 3) := dk_184 0 107 (dk_at dksX6_reads_0 20 rfl rfl)
theorem dX6_reads_23 : decode cX6_reads 23 = .ok (.iconst 2, 1) := dk_5 (dk_at dksX6_reads_0 23 rfl rfl)
theorem dX6_reads_24 : decode cX6_reads 24 = .ok (.if_icmp .ne 16, 3) := dk_160 0 16 (dk_at dksX6_reads_1 0 rfl rfl)
theorem dX6_reads_27 : decode cX6_reads 27 = .ok (.aload_n 0, 1) := dk_42 (dk_at dksX6_reads_1 3 rfl rfl)
theorem dX6_reads_28 : decode cX6_reads 28 = .ok (.getfield 111, 3) := dk_180 0 111 (dk_at dksX6_reads_1 4 rfl rfl)
theorem dX6_reads_31 : decode cX6_reads 31 = .ok (.aload_n 0, 1) := dk_42 (dk_at dksX6_reads_1 7 rfl rfl)
theorem dX6_reads_32 : decode cX6_reads 32 = .ok (.getfield 104, 3) := dk_180 0 104 (dk_at dksX6_reads_1 8 rfl rfl)
theorem dX6_reads_35 : decode cX6_reads 35 = .ok (.isub, 1) := dk_100 (dk_at dksX6_reads_1 11 rfl rfl)
theorem dX6_reads_36 : decode cX6_reads 36 = .ok (.iconst 3, 1) := dk_6 (dk_at dksX6_reads_1 12 rfl rfl)
theorem dX6_reads_37 : decode cX6_reads 37 = .ok (.if_icmp .le 5, 3) := dk_164 0 5 (dk_at dksX6_reads_1 13 rfl rfl)
theorem dX6_reads_40 : decode cX6_reads 40 = .ok (.iconst 0, 1) := dk_3 (dk_at dksX6_reads_1 16 rfl rfl)
theorem dX6_reads_41 : decode cX6_reads 41 = .ok (.ireturn, 1) := dk_172 (dk_at dksX6_reads_1 17 rfl rfl)
theorem dX6_reads_42 : decode cX6_reads 42 = .ok (.iconst 0, 1) := dk_3 (dk_at dksX6_reads_1 18 rfl rfl)
theorem dX6_reads_43 : decode cX6_reads 43 = .ok (.istore 4, 2) := dk_54 4 (dk_at dksX6_reads_1 19 rfl rfl)
theorem dX6_reads_45 : decode cX6_reads 45 = .ok (.aload_n 0, 1) := dk_42 (dk_at dksX6_reads_1 21 rfl rfl)
theorem dX6_reads_46 : decode cX6_reads 46 = .ok (.getfield 104, 3) := dk_180 0 104 (dk_at dksX6_reads_2 0 rfl rfl)
theorem dX6_reads_49 : decode cX6_reads 49 = .ok (.istore 5, 2) := dk_54 5 (dk_at dksX6_reads_2 3 rfl rfl)
theorem dX6_reads_51 : decode cX6_reads 51 = .ok (.iload 5, 2) := dk_21 5 (dk_at dksX6_reads_2 5 rfl rfl)
theorem dX6_reads_53 : decode cX6_reads 53 = .ok (.aload_n 0, 1) := dk_42 (dk_at dksX6_reads_2 7 rfl rfl)
theorem dX6_reads_54 : decode cX6_reads 54 = .ok (.getfield 111, 3) := dk_180 0 111 (dk_at dksX6_reads_2 8 rfl rfl)
theorem dX6_reads_57 : decode cX6_reads 57 = .ok (.if_icmp .ge 27, 3) := dk_162 0 27 (dk_at dksX6_reads_2 11 rfl rfl)
theorem dX6_reads_60 : decode cX6_reads 60 = .ok (.bipush 10, 2) := dk_16 10 (dk_at dksX6_reads_2 14 rfl rfl)
theorem dX6_reads_62 : decode cX6_reads 62 = .ok (.iload 4, 2) := dk_21 4 (dk_at dksX6_reads_2 16 rfl rfl)
theorem dX6_reads_64 : decode cX6_reads 64 = .ok (.imul, 1) := dk_104 (dk_at dksX6_reads_2 18 rfl rfl)
theorem dX6_reads_65 : decode cX6_reads 65 = .ok (.aload_n 0, 1) := dk_42 (dk_at dksX6_reads_2 19 rfl rfl)
theorem dX6_reads_66 : decode cX6_reads 66 = .ok (.getfield 7, 3) := dk_180 0 7 (dk_at dksX6_reads_2 20 rfl rfl)
theorem dX6_reads_69 : decode cX6_reads 69 = .ok (.iload 5, 2) := dk_21 5 (dk_at dksX6_reads_3 0 rfl rfl)
theorem dX6_reads_71 : decode cX6_reads 71 = .ok (.iaload, 1) := dk_46 (dk_at dksX6_reads_3 2 rfl rfl)
theorem dX6_reads_72 : decode cX6_reads 72 = .ok (.iadd, 1) := dk_96 (dk_at dksX6_reads_3 3 rfl rfl)
theorem dX6_reads_73 : decode cX6_reads 73 = .ok (.bipush 48, 2) := dk_16 48 (dk_at dksX6_reads_3 4 rfl rfl)
theorem dX6_reads_75 : decode cX6_reads 75 = .ok (.isub, 1) := dk_100 (dk_at dksX6_reads_3 6 rfl rfl)
theorem dX6_reads_76 : decode cX6_reads 76 = .ok (.istore 4, 2) := dk_54 4 (dk_at dksX6_reads_3 7 rfl rfl)
theorem dX6_reads_78 : decode cX6_reads 78 = .ok (.iinc 5 1, 3) := dk_132 5 1 (dk_at dksX6_reads_3 9 rfl rfl)
theorem dX6_reads_81 : decode cX6_reads 81 = .ok (.goto (-30), 3) := dk_167 255 226 (dk_at dksX6_reads_3 12 rfl rfl)
theorem dX6_reads_84 : decode cX6_reads 84 = .ok (.iload 4, 2) := dk_21 4 (dk_at dksX6_reads_3 15 rfl rfl)
theorem dX6_reads_86 : decode cX6_reads 86 = .ok (.i2l, 1) := dk_133 (dk_at dksX6_reads_3 17 rfl rfl)
theorem dX6_reads_87 : decode cX6_reads 87 = .ok (.iload_n 2, 1) := dk_28 (dk_at dksX6_reads_3 18 rfl rfl)
theorem dX6_reads_88 : decode cX6_reads 88 = .ok (.i2l, 1) := dk_133 (dk_at dksX6_reads_3 19 rfl rfl)
theorem dX6_reads_89 : decode cX6_reads 89 = .ok (.iload_n 3, 1) := dk_29 (dk_at dksX6_reads_3 20 rfl rfl)
theorem dX6_reads_90 : decode cX6_reads 90 = .ok (.i2l, 1) := dk_133 (dk_at dksX6_reads_3 21 rfl rfl)
theorem dX6_reads_91 : decode cX6_reads 91 = .ok (.invokestatic 92, 3) := dk_184 0 92 (dk_at dksX6_reads_4 0 rfl rfl)
theorem dX6_reads_94 : decode cX6_reads 94 = .ok (.ifCond .ne 5, 3) := dk_154 0 5 (dk_at dksX6_reads_4 3 rfl rfl)
theorem dX6_reads_97 : decode cX6_reads 97 = .ok (.iconst 0, 1) := dk_3 (dk_at dksX6_reads_4 6 rfl rfl)
theorem dX6_reads_98 : decode cX6_reads 98 = .ok (.ireturn, 1) := dk_172 (dk_at dksX6_reads_4 7 rfl rfl)
theorem dX6_reads_99 : decode cX6_reads 99 = .ok (.aload_n 0, 1) := dk_42 (dk_at dksX6_reads_4 8 rfl rfl)
theorem dX6_reads_100 : decode cX6_reads 100 = .ok (.getfield 13, 3) := dk_180 0 13 (dk_at dksX6_reads_4 9 rfl rfl)
theorem dX6_reads_103 : decode cX6_reads 103 = .ok (.iconst 5, 1) := dk_8 (dk_at dksX6_reads_4 12 rfl rfl)
theorem dX6_reads_104 : decode cX6_reads 104 = .ok (.aload_n 0, 1) := dk_42 (dk_at dksX6_reads_4 13 rfl rfl)
theorem dX6_reads_105 : decode cX6_reads 105 = .ok (.getfield 114, 3) := dk_180 0 114 (dk_at dksX6_reads_4 14 rfl rfl)
theorem dX6_reads_108 : decode cX6_reads 108 = .ok (.imul, 1) := dk_104 (dk_at dksX6_reads_4 17 rfl rfl)
theorem dX6_reads_109 : decode cX6_reads 109 = .ok (.iconst 1, 1) := dk_4 (dk_at dksX6_reads_4 18 rfl rfl)
theorem dX6_reads_110 : decode cX6_reads 110 = .ok (.iadd, 1) := dk_96 (dk_at dksX6_reads_4 19 rfl rfl)
theorem dX6_reads_111 : decode cX6_reads 111 = .ok (.iload_n 1, 1) := dk_27 (dk_at dksX6_reads_4 20 rfl rfl)
theorem dX6_reads_112 : decode cX6_reads 112 = .ok (.iadd, 1) := dk_96 (dk_at dksX6_reads_4 21 rfl rfl)
theorem dX6_reads_113 : decode cX6_reads 113 = .ok (.iload 4, 2) := dk_21 4 (dk_at dksX6_reads_4 22 rfl rfl)
theorem dX6_reads_115 : decode cX6_reads 115 = .ok (.iastore, 1) := dk_79 (dk_at dksX6_reads_5 0 rfl rfl)
theorem dX6_reads_116 : decode cX6_reads 116 = .ok (.aload_n 0, 1) := dk_42 (dk_at dksX6_reads_5 1 rfl rfl)
theorem dX6_reads_117 : decode cX6_reads 117 = .ok (.invokevirtual 117, 3) := dk_182 0 117 (dk_at dksX6_reads_5 2 rfl rfl)
theorem dX6_reads_120 : decode cX6_reads 120 = .ok (.iconst 1, 1) := dk_4 (dk_at dksX6_reads_5 5 rfl rfl)
theorem dX6_reads_121 : decode cX6_reads 121 = .ok (.ireturn, 1) := dk_172 (dk_at dksX6_reads_5 6 rfl rfl)
abbrev cX6_farm : ByteArray := prog_12_method_14_code
def yX6_farm : MethodName := ⟨RX6, "farm", "()I"⟩
def dkwX6_farm_1 : List UInt8 := [104, 182, 0, 163, 132, 1, 1, 167, 255, 238, 42, 3, 181, 0, 96, 42, 180, 0, 114, 172]
abbrev dktX6_farm_1 : List UInt8 := dkwX6_farm_1 ++ []
def dkwX6_farm_0 : List UInt8 := [42, 182, 0, 159, 2, 159, 0, 6, 16, 252, 172, 3, 60, 27, 42, 180, 0, 114, 162, 0, 16, 42, 8, 27]
abbrev dktX6_farm_0 : List UInt8 := dkwX6_farm_0 ++ dktX6_farm_1
theorem dksX6_farm_0 : cX6_farm.data.toList.drop 0 = dktX6_farm_0 := by decide +kernel
theorem dksX6_farm_1 : cX6_farm.data.toList.drop 24 = dktX6_farm_1 := dk_seg dksX6_farm_0 24 rfl rfl
theorem dX6_farm_0 : decode cX6_farm 0 = .ok (.aload_n 0, 1) := dk_42 (dk_at dksX6_farm_0 0 rfl rfl)
theorem dX6_farm_1 : decode cX6_farm 1 = .ok (.invokevirtual 159, 3) := dk_182 0 159 (dk_at dksX6_farm_0 1 rfl rfl)
theorem dX6_farm_4 : decode cX6_farm 4 = .ok (.iconst (-1), 1) := dk_2 (dk_at dksX6_farm_0 4 rfl rfl)
theorem dX6_farm_5 : decode cX6_farm 5 = .ok (.if_icmp .eq 6, 3) := dk_159 0 6 (dk_at dksX6_farm_0 5 rfl rfl)
theorem dX6_farm_8 : decode cX6_farm 8 = .ok (.bipush (-4), 2) := dk_16 252 (dk_at dksX6_farm_0 8 rfl rfl)
theorem dX6_farm_10 : decode cX6_farm 10 = .ok (.ireturn, 1) := dk_172 (dk_at dksX6_farm_0 10 rfl rfl)
theorem dX6_farm_11 : decode cX6_farm 11 = .ok (.iconst 0, 1) := dk_3 (dk_at dksX6_farm_0 11 rfl rfl)
theorem dX6_farm_12 : decode cX6_farm 12 = .ok (.istore_n 1, 1) := dk_60 (dk_at dksX6_farm_0 12 rfl rfl)
theorem dX6_farm_13 : decode cX6_farm 13 = .ok (.iload_n 1, 1) := dk_27 (dk_at dksX6_farm_0 13 rfl rfl)
theorem dX6_farm_14 : decode cX6_farm 14 = .ok (.aload_n 0, 1) := dk_42 (dk_at dksX6_farm_0 14 rfl rfl)
theorem dX6_farm_15 : decode cX6_farm 15 = .ok (.getfield 114, 3) := dk_180 0 114 (dk_at dksX6_farm_0 15 rfl rfl)
theorem dX6_farm_18 : decode cX6_farm 18 = .ok (.if_icmp .ge 16, 3) := dk_162 0 16 (dk_at dksX6_farm_0 18 rfl rfl)
theorem dX6_farm_21 : decode cX6_farm 21 = .ok (.aload_n 0, 1) := dk_42 (dk_at dksX6_farm_0 21 rfl rfl)
theorem dX6_farm_22 : decode cX6_farm 22 = .ok (.iconst 5, 1) := dk_8 (dk_at dksX6_farm_0 22 rfl rfl)
theorem dX6_farm_23 : decode cX6_farm 23 = .ok (.iload_n 1, 1) := dk_27 (dk_at dksX6_farm_0 23 rfl rfl)
theorem dX6_farm_24 : decode cX6_farm 24 = .ok (.imul, 1) := dk_104 (dk_at dksX6_farm_1 0 rfl rfl)
theorem dX6_farm_25 : decode cX6_farm 25 = .ok (.invokevirtual 163, 3) := dk_182 0 163 (dk_at dksX6_farm_1 1 rfl rfl)
theorem dX6_farm_28 : decode cX6_farm 28 = .ok (.iinc 1 1, 3) := dk_132 1 1 (dk_at dksX6_farm_1 4 rfl rfl)
theorem dX6_farm_31 : decode cX6_farm 31 = .ok (.goto (-18), 3) := dk_167 255 238 (dk_at dksX6_farm_1 7 rfl rfl)
theorem dX6_farm_34 : decode cX6_farm 34 = .ok (.aload_n 0, 1) := dk_42 (dk_at dksX6_farm_1 10 rfl rfl)
theorem dX6_farm_35 : decode cX6_farm 35 = .ok (.iconst 0, 1) := dk_3 (dk_at dksX6_farm_1 11 rfl rfl)
theorem dX6_farm_36 : decode cX6_farm 36 = .ok (.putfield 96, 3) := dk_181 0 96 (dk_at dksX6_farm_1 12 rfl rfl)
theorem dX6_farm_39 : decode cX6_farm 39 = .ok (.aload_n 0, 1) := dk_42 (dk_at dksX6_farm_1 15 rfl rfl)
theorem dX6_farm_40 : decode cX6_farm 40 = .ok (.getfield 114, 3) := dk_180 0 114 (dk_at dksX6_farm_1 16 rfl rfl)
theorem dX6_farm_43 : decode cX6_farm 43 = .ok (.ireturn, 1) := dk_172 (dk_at dksX6_farm_1 19 rfl rfl)
abbrev cX6_lay : ByteArray := prog_12_method_13_code
def yX6_lay : MethodName := ⟨RX6, "lay", "(I)V"⟩
def dkwX6_lay_8 : List UInt8 := [4, 28, 120, 2, 130, 126, 181, 0, 144, 177]
abbrev dktX6_lay_8 : List UInt8 := dkwX6_lay_8 ++ []
def dkwX6_lay_7 : List UInt8 := [177, 42, 28, 181, 0, 156, 177, 42, 28, 181, 0, 34, 177, 42, 28, 181, 0, 38, 177, 42, 89, 180, 0, 144]
abbrev dktX6_lay_7 : List UInt8 := dkwX6_lay_7 ++ dktX6_lay_8
def dkwX6_lay_6 : List UInt8 := [181, 0, 150, 42, 180, 0, 28, 28, 29, 79, 42, 180, 0, 31, 28, 21, 4, 79, 177, 42, 28, 181, 0, 153]
abbrev dktX6_lay_6 : List UInt8 := dkwX6_lay_6 ++ dktX6_lay_7
def dkwX6_lay_5 : List UInt8 := [28, 120, 128, 181, 0, 147, 42, 180, 0, 25, 28, 29, 79, 177, 42, 89, 180, 0, 150, 4, 28, 120, 128]
abbrev dktX6_lay_5 : List UInt8 := dkwX6_lay_5 ++ dktX6_lay_6
def dkwX6_lay_4 : List UInt8 := [21, 4, 79, 42, 180, 0, 22, 28, 42, 180, 0, 13, 27, 7, 96, 46, 79, 177, 42, 89, 180, 0, 147, 4]
abbrev dktX6_lay_4 : List UInt8 := dkwX6_lay_4 ++ dktX6_lay_5
def dkwX6_lay_3 : List UInt8 := [42, 89, 180, 0, 144, 4, 28, 120, 128, 181, 0, 144, 42, 180, 0, 16, 28, 29, 79, 42, 180, 0, 19, 28]
abbrev dktX6_lay_3 : List UInt8 := dkwX6_lay_3 ++ dktX6_lay_4
def dkwX6_lay_2 : List UInt8 := [170, 0, 0, 0, 0, 156, 0, 0, 0, 0, 0, 0, 0, 6, 0, 0, 0, 42, 0, 0, 0, 84, 0, 0, 0, 104, 0, 0, 0, 132, 0, 0, 0, 138, 0, 0, 0, 144, 0, 0, 0, 150]
abbrev dktX6_lay_2 : List UInt8 := dkwX6_lay_2 ++ dktX6_lay_3
def dkwX6_lay_1 : List UInt8 := [96, 46, 54, 4, 42, 180, 0, 13, 27, 46]
abbrev dktX6_lay_1 : List UInt8 := dkwX6_lay_1 ++ dktX6_lay_2
def dkwX6_lay_0 : List UInt8 := [42, 180, 0, 13, 27, 4, 96, 46, 61, 42, 180, 0, 13, 27, 5, 96, 46, 62, 42, 180, 0, 13, 27, 6]
abbrev dktX6_lay_0 : List UInt8 := dkwX6_lay_0 ++ dktX6_lay_1
theorem dksX6_lay_0 : cX6_lay.data.toList.drop 0 = dktX6_lay_0 := by decide +kernel
theorem dksX6_lay_1 : cX6_lay.data.toList.drop 24 = dktX6_lay_1 := dk_seg dksX6_lay_0 24 rfl rfl
theorem dksX6_lay_2 : cX6_lay.data.toList.drop 34 = dktX6_lay_2 := dk_seg dksX6_lay_1 10 rfl rfl
theorem dksX6_lay_3 : cX6_lay.data.toList.drop 76 = dktX6_lay_3 := dk_seg dksX6_lay_2 42 rfl rfl
theorem dksX6_lay_4 : cX6_lay.data.toList.drop 100 = dktX6_lay_4 := dk_seg dksX6_lay_3 24 rfl rfl
theorem dksX6_lay_5 : cX6_lay.data.toList.drop 124 = dktX6_lay_5 := dk_seg dksX6_lay_4 24 rfl rfl
theorem dksX6_lay_6 : cX6_lay.data.toList.drop 147 = dktX6_lay_6 := dk_seg dksX6_lay_5 23 rfl rfl
theorem dksX6_lay_7 : cX6_lay.data.toList.drop 171 = dktX6_lay_7 := dk_seg dksX6_lay_6 24 rfl rfl
theorem dksX6_lay_8 : cX6_lay.data.toList.drop 195 = dktX6_lay_8 := dk_seg dksX6_lay_7 24 rfl rfl
theorem dX6_lay_0 : decode cX6_lay 0 = .ok (.aload_n 0, 1) := dk_42 (dk_at dksX6_lay_0 0 rfl rfl)
theorem dX6_lay_1 : decode cX6_lay 1 = .ok (.getfield 13, 3) := dk_180 0 13 (dk_at dksX6_lay_0 1 rfl rfl)
theorem dX6_lay_4 : decode cX6_lay 4 = .ok (.iload_n 1, 1) := dk_27 (dk_at dksX6_lay_0 4 rfl rfl)
theorem dX6_lay_5 : decode cX6_lay 5 = .ok (.iconst 1, 1) := dk_4 (dk_at dksX6_lay_0 5 rfl rfl)
theorem dX6_lay_6 : decode cX6_lay 6 = .ok (.iadd, 1) := dk_96 (dk_at dksX6_lay_0 6 rfl rfl)
theorem dX6_lay_7 : decode cX6_lay 7 = .ok (.iaload, 1) := dk_46 (dk_at dksX6_lay_0 7 rfl rfl)
theorem dX6_lay_8 : decode cX6_lay 8 = .ok (.istore_n 2, 1) := dk_61 (dk_at dksX6_lay_0 8 rfl rfl)
theorem dX6_lay_9 : decode cX6_lay 9 = .ok (.aload_n 0, 1) := dk_42 (dk_at dksX6_lay_0 9 rfl rfl)
theorem dX6_lay_10 : decode cX6_lay 10 = .ok (.getfield 13, 3) := dk_180 0 13 (dk_at dksX6_lay_0 10 rfl rfl)
theorem dX6_lay_13 : decode cX6_lay 13 = .ok (.iload_n 1, 1) := dk_27 (dk_at dksX6_lay_0 13 rfl rfl)
theorem dX6_lay_14 : decode cX6_lay 14 = .ok (.iconst 2, 1) := dk_5 (dk_at dksX6_lay_0 14 rfl rfl)
theorem dX6_lay_15 : decode cX6_lay 15 = .ok (.iadd, 1) := dk_96 (dk_at dksX6_lay_0 15 rfl rfl)
theorem dX6_lay_16 : decode cX6_lay 16 = .ok (.iaload, 1) := dk_46 (dk_at dksX6_lay_0 16 rfl rfl)
theorem dX6_lay_17 : decode cX6_lay 17 = .ok (.istore_n 3, 1) := dk_62 (dk_at dksX6_lay_0 17 rfl rfl)
theorem dX6_lay_18 : decode cX6_lay 18 = .ok (.aload_n 0, 1) := dk_42 (dk_at dksX6_lay_0 18 rfl rfl)
theorem dX6_lay_19 : decode cX6_lay 19 = .ok (.getfield 13, 3) := dk_180 0 13 (dk_at dksX6_lay_0 19 rfl rfl)
theorem dX6_lay_22 : decode cX6_lay 22 = .ok (.iload_n 1, 1) := dk_27 (dk_at dksX6_lay_0 22 rfl rfl)
theorem dX6_lay_23 : decode cX6_lay 23 = .ok (.iconst 3, 1) := dk_6 (dk_at dksX6_lay_0 23 rfl rfl)
theorem dX6_lay_24 : decode cX6_lay 24 = .ok (.iadd, 1) := dk_96 (dk_at dksX6_lay_1 0 rfl rfl)
theorem dX6_lay_25 : decode cX6_lay 25 = .ok (.iaload, 1) := dk_46 (dk_at dksX6_lay_1 1 rfl rfl)
theorem dX6_lay_26 : decode cX6_lay 26 = .ok (.istore 4, 2) := dk_54 4 (dk_at dksX6_lay_1 2 rfl rfl)
theorem dX6_lay_28 : decode cX6_lay 28 = .ok (.aload_n 0, 1) := dk_42 (dk_at dksX6_lay_1 4 rfl rfl)
theorem dX6_lay_29 : decode cX6_lay 29 = .ok (.getfield 13, 3) := dk_180 0 13 (dk_at dksX6_lay_1 5 rfl rfl)
theorem dX6_lay_32 : decode cX6_lay 32 = .ok (.iload_n 1, 1) := dk_27 (dk_at dksX6_lay_1 8 rfl rfl)
theorem dX6_lay_33 : decode cX6_lay 33 = .ok (.iaload, 1) := dk_46 (dk_at dksX6_lay_1 9 rfl rfl)
theorem dX6_lay_34 : decode cX6_lay 34 = .ok (.tableswitch 156 0 6 #[42, 84, 104, 132, 138, 144, 150], 42) := by decide +kernel
theorem dX6_lay_76 : decode cX6_lay 76 = .ok (.aload_n 0, 1) := dk_42 (dk_at dksX6_lay_3 0 rfl rfl)
theorem dX6_lay_77 : decode cX6_lay 77 = .ok (.dup, 1) := dk_89 (dk_at dksX6_lay_3 1 rfl rfl)
theorem dX6_lay_78 : decode cX6_lay 78 = .ok (.getfield 144, 3) := dk_180 0 144 (dk_at dksX6_lay_3 2 rfl rfl)
theorem dX6_lay_81 : decode cX6_lay 81 = .ok (.iconst 1, 1) := dk_4 (dk_at dksX6_lay_3 5 rfl rfl)
theorem dX6_lay_82 : decode cX6_lay 82 = .ok (.iload_n 2, 1) := dk_28 (dk_at dksX6_lay_3 6 rfl rfl)
theorem dX6_lay_83 : decode cX6_lay 83 = .ok (.ishl, 1) := dk_120 (dk_at dksX6_lay_3 7 rfl rfl)
theorem dX6_lay_84 : decode cX6_lay 84 = .ok (.ior, 1) := dk_128 (dk_at dksX6_lay_3 8 rfl rfl)
theorem dX6_lay_85 : decode cX6_lay 85 = .ok (.putfield 144, 3) := dk_181 0 144 (dk_at dksX6_lay_3 9 rfl rfl)
theorem dX6_lay_88 : decode cX6_lay 88 = .ok (.aload_n 0, 1) := dk_42 (dk_at dksX6_lay_3 12 rfl rfl)
theorem dX6_lay_89 : decode cX6_lay 89 = .ok (.getfield 16, 3) := dk_180 0 16 (dk_at dksX6_lay_3 13 rfl rfl)
theorem dX6_lay_92 : decode cX6_lay 92 = .ok (.iload_n 2, 1) := dk_28 (dk_at dksX6_lay_3 16 rfl rfl)
theorem dX6_lay_93 : decode cX6_lay 93 = .ok (.iload_n 3, 1) := dk_29 (dk_at dksX6_lay_3 17 rfl rfl)
theorem dX6_lay_94 : decode cX6_lay 94 = .ok (.iastore, 1) := dk_79 (dk_at dksX6_lay_3 18 rfl rfl)
theorem dX6_lay_95 : decode cX6_lay 95 = .ok (.aload_n 0, 1) := dk_42 (dk_at dksX6_lay_3 19 rfl rfl)
theorem dX6_lay_96 : decode cX6_lay 96 = .ok (.getfield 19, 3) := dk_180 0 19 (dk_at dksX6_lay_3 20 rfl rfl)
theorem dX6_lay_99 : decode cX6_lay 99 = .ok (.iload_n 2, 1) := dk_28 (dk_at dksX6_lay_3 23 rfl rfl)
theorem dX6_lay_100 : decode cX6_lay 100 = .ok (.iload 4, 2) := dk_21 4 (dk_at dksX6_lay_4 0 rfl rfl)
theorem dX6_lay_102 : decode cX6_lay 102 = .ok (.iastore, 1) := dk_79 (dk_at dksX6_lay_4 2 rfl rfl)
theorem dX6_lay_103 : decode cX6_lay 103 = .ok (.aload_n 0, 1) := dk_42 (dk_at dksX6_lay_4 3 rfl rfl)
theorem dX6_lay_104 : decode cX6_lay 104 = .ok (.getfield 22, 3) := dk_180 0 22 (dk_at dksX6_lay_4 4 rfl rfl)
theorem dX6_lay_107 : decode cX6_lay 107 = .ok (.iload_n 2, 1) := dk_28 (dk_at dksX6_lay_4 7 rfl rfl)
theorem dX6_lay_108 : decode cX6_lay 108 = .ok (.aload_n 0, 1) := dk_42 (dk_at dksX6_lay_4 8 rfl rfl)
theorem dX6_lay_109 : decode cX6_lay 109 = .ok (.getfield 13, 3) := dk_180 0 13 (dk_at dksX6_lay_4 9 rfl rfl)
theorem dX6_lay_112 : decode cX6_lay 112 = .ok (.iload_n 1, 1) := dk_27 (dk_at dksX6_lay_4 12 rfl rfl)
theorem dX6_lay_113 : decode cX6_lay 113 = .ok (.iconst 4, 1) := dk_7 (dk_at dksX6_lay_4 13 rfl rfl)
theorem dX6_lay_114 : decode cX6_lay 114 = .ok (.iadd, 1) := dk_96 (dk_at dksX6_lay_4 14 rfl rfl)
theorem dX6_lay_115 : decode cX6_lay 115 = .ok (.iaload, 1) := dk_46 (dk_at dksX6_lay_4 15 rfl rfl)
theorem dX6_lay_116 : decode cX6_lay 116 = .ok (.iastore, 1) := dk_79 (dk_at dksX6_lay_4 16 rfl rfl)
theorem dX6_lay_117 : decode cX6_lay 117 = .ok (.return_, 1) := dk_177 (dk_at dksX6_lay_4 17 rfl rfl)
theorem dX6_lay_118 : decode cX6_lay 118 = .ok (.aload_n 0, 1) := dk_42 (dk_at dksX6_lay_4 18 rfl rfl)
theorem dX6_lay_119 : decode cX6_lay 119 = .ok (.dup, 1) := dk_89 (dk_at dksX6_lay_4 19 rfl rfl)
theorem dX6_lay_120 : decode cX6_lay 120 = .ok (.getfield 147, 3) := dk_180 0 147 (dk_at dksX6_lay_4 20 rfl rfl)
theorem dX6_lay_123 : decode cX6_lay 123 = .ok (.iconst 1, 1) := dk_4 (dk_at dksX6_lay_4 23 rfl rfl)
theorem dX6_lay_124 : decode cX6_lay 124 = .ok (.iload_n 2, 1) := dk_28 (dk_at dksX6_lay_5 0 rfl rfl)
theorem dX6_lay_125 : decode cX6_lay 125 = .ok (.ishl, 1) := dk_120 (dk_at dksX6_lay_5 1 rfl rfl)
theorem dX6_lay_126 : decode cX6_lay 126 = .ok (.ior, 1) := dk_128 (dk_at dksX6_lay_5 2 rfl rfl)
theorem dX6_lay_127 : decode cX6_lay 127 = .ok (.putfield 147, 3) := dk_181 0 147 (dk_at dksX6_lay_5 3 rfl rfl)
theorem dX6_lay_130 : decode cX6_lay 130 = .ok (.aload_n 0, 1) := dk_42 (dk_at dksX6_lay_5 6 rfl rfl)
theorem dX6_lay_131 : decode cX6_lay 131 = .ok (.getfield 25, 3) := dk_180 0 25 (dk_at dksX6_lay_5 7 rfl rfl)
theorem dX6_lay_134 : decode cX6_lay 134 = .ok (.iload_n 2, 1) := dk_28 (dk_at dksX6_lay_5 10 rfl rfl)
theorem dX6_lay_135 : decode cX6_lay 135 = .ok (.iload_n 3, 1) := dk_29 (dk_at dksX6_lay_5 11 rfl rfl)
theorem dX6_lay_136 : decode cX6_lay 136 = .ok (.iastore, 1) := dk_79 (dk_at dksX6_lay_5 12 rfl rfl)
theorem dX6_lay_137 : decode cX6_lay 137 = .ok (.return_, 1) := dk_177 (dk_at dksX6_lay_5 13 rfl rfl)
theorem dX6_lay_138 : decode cX6_lay 138 = .ok (.aload_n 0, 1) := dk_42 (dk_at dksX6_lay_5 14 rfl rfl)
theorem dX6_lay_139 : decode cX6_lay 139 = .ok (.dup, 1) := dk_89 (dk_at dksX6_lay_5 15 rfl rfl)
theorem dX6_lay_140 : decode cX6_lay 140 = .ok (.getfield 150, 3) := dk_180 0 150 (dk_at dksX6_lay_5 16 rfl rfl)
theorem dX6_lay_143 : decode cX6_lay 143 = .ok (.iconst 1, 1) := dk_4 (dk_at dksX6_lay_5 19 rfl rfl)
theorem dX6_lay_144 : decode cX6_lay 144 = .ok (.iload_n 2, 1) := dk_28 (dk_at dksX6_lay_5 20 rfl rfl)
theorem dX6_lay_145 : decode cX6_lay 145 = .ok (.ishl, 1) := dk_120 (dk_at dksX6_lay_5 21 rfl rfl)
theorem dX6_lay_146 : decode cX6_lay 146 = .ok (.ior, 1) := dk_128 (dk_at dksX6_lay_5 22 rfl rfl)
theorem dX6_lay_147 : decode cX6_lay 147 = .ok (.putfield 150, 3) := dk_181 0 150 (dk_at dksX6_lay_6 0 rfl rfl)
theorem dX6_lay_150 : decode cX6_lay 150 = .ok (.aload_n 0, 1) := dk_42 (dk_at dksX6_lay_6 3 rfl rfl)
theorem dX6_lay_151 : decode cX6_lay 151 = .ok (.getfield 28, 3) := dk_180 0 28 (dk_at dksX6_lay_6 4 rfl rfl)
theorem dX6_lay_154 : decode cX6_lay 154 = .ok (.iload_n 2, 1) := dk_28 (dk_at dksX6_lay_6 7 rfl rfl)
theorem dX6_lay_155 : decode cX6_lay 155 = .ok (.iload_n 3, 1) := dk_29 (dk_at dksX6_lay_6 8 rfl rfl)
theorem dX6_lay_156 : decode cX6_lay 156 = .ok (.iastore, 1) := dk_79 (dk_at dksX6_lay_6 9 rfl rfl)
theorem dX6_lay_157 : decode cX6_lay 157 = .ok (.aload_n 0, 1) := dk_42 (dk_at dksX6_lay_6 10 rfl rfl)
theorem dX6_lay_158 : decode cX6_lay 158 = .ok (.getfield 31, 3) := dk_180 0 31 (dk_at dksX6_lay_6 11 rfl rfl)
theorem dX6_lay_161 : decode cX6_lay 161 = .ok (.iload_n 2, 1) := dk_28 (dk_at dksX6_lay_6 14 rfl rfl)
theorem dX6_lay_162 : decode cX6_lay 162 = .ok (.iload 4, 2) := dk_21 4 (dk_at dksX6_lay_6 15 rfl rfl)
theorem dX6_lay_164 : decode cX6_lay 164 = .ok (.iastore, 1) := dk_79 (dk_at dksX6_lay_6 17 rfl rfl)
theorem dX6_lay_165 : decode cX6_lay 165 = .ok (.return_, 1) := dk_177 (dk_at dksX6_lay_6 18 rfl rfl)
theorem dX6_lay_166 : decode cX6_lay 166 = .ok (.aload_n 0, 1) := dk_42 (dk_at dksX6_lay_6 19 rfl rfl)
theorem dX6_lay_167 : decode cX6_lay 167 = .ok (.iload_n 2, 1) := dk_28 (dk_at dksX6_lay_6 20 rfl rfl)
theorem dX6_lay_168 : decode cX6_lay 168 = .ok (.putfield 153, 3) := dk_181 0 153 (dk_at dksX6_lay_6 21 rfl rfl)
theorem dX6_lay_171 : decode cX6_lay 171 = .ok (.return_, 1) := dk_177 (dk_at dksX6_lay_7 0 rfl rfl)
theorem dX6_lay_172 : decode cX6_lay 172 = .ok (.aload_n 0, 1) := dk_42 (dk_at dksX6_lay_7 1 rfl rfl)
theorem dX6_lay_173 : decode cX6_lay 173 = .ok (.iload_n 2, 1) := dk_28 (dk_at dksX6_lay_7 2 rfl rfl)
theorem dX6_lay_174 : decode cX6_lay 174 = .ok (.putfield 156, 3) := dk_181 0 156 (dk_at dksX6_lay_7 3 rfl rfl)
theorem dX6_lay_177 : decode cX6_lay 177 = .ok (.return_, 1) := dk_177 (dk_at dksX6_lay_7 6 rfl rfl)
theorem dX6_lay_178 : decode cX6_lay 178 = .ok (.aload_n 0, 1) := dk_42 (dk_at dksX6_lay_7 7 rfl rfl)
theorem dX6_lay_179 : decode cX6_lay 179 = .ok (.iload_n 2, 1) := dk_28 (dk_at dksX6_lay_7 8 rfl rfl)
theorem dX6_lay_180 : decode cX6_lay 180 = .ok (.putfield 34, 3) := dk_181 0 34 (dk_at dksX6_lay_7 9 rfl rfl)
theorem dX6_lay_183 : decode cX6_lay 183 = .ok (.return_, 1) := dk_177 (dk_at dksX6_lay_7 12 rfl rfl)
theorem dX6_lay_184 : decode cX6_lay 184 = .ok (.aload_n 0, 1) := dk_42 (dk_at dksX6_lay_7 13 rfl rfl)
theorem dX6_lay_185 : decode cX6_lay 185 = .ok (.iload_n 2, 1) := dk_28 (dk_at dksX6_lay_7 14 rfl rfl)
theorem dX6_lay_186 : decode cX6_lay 186 = .ok (.putfield 38, 3) := dk_181 0 38 (dk_at dksX6_lay_7 15 rfl rfl)
theorem dX6_lay_189 : decode cX6_lay 189 = .ok (.return_, 1) := dk_177 (dk_at dksX6_lay_7 18 rfl rfl)
theorem dX6_lay_190 : decode cX6_lay 190 = .ok (.aload_n 0, 1) := dk_42 (dk_at dksX6_lay_7 19 rfl rfl)
theorem dX6_lay_191 : decode cX6_lay 191 = .ok (.dup, 1) := dk_89 (dk_at dksX6_lay_7 20 rfl rfl)
theorem dX6_lay_192 : decode cX6_lay 192 = .ok (.getfield 144, 3) := dk_180 0 144 (dk_at dksX6_lay_7 21 rfl rfl)
theorem dX6_lay_195 : decode cX6_lay 195 = .ok (.iconst 1, 1) := dk_4 (dk_at dksX6_lay_8 0 rfl rfl)
theorem dX6_lay_196 : decode cX6_lay 196 = .ok (.iload_n 2, 1) := dk_28 (dk_at dksX6_lay_8 1 rfl rfl)
theorem dX6_lay_197 : decode cX6_lay 197 = .ok (.ishl, 1) := dk_120 (dk_at dksX6_lay_8 2 rfl rfl)
theorem dX6_lay_198 : decode cX6_lay 198 = .ok (.iconst (-1), 1) := dk_2 (dk_at dksX6_lay_8 3 rfl rfl)
theorem dX6_lay_199 : decode cX6_lay 199 = .ok (.ixor, 1) := dk_130 (dk_at dksX6_lay_8 4 rfl rfl)
theorem dX6_lay_200 : decode cX6_lay 200 = .ok (.iand, 1) := dk_126 (dk_at dksX6_lay_8 5 rfl rfl)
theorem dX6_lay_201 : decode cX6_lay 201 = .ok (.putfield 144, 3) := dk_181 0 144 (dk_at dksX6_lay_8 6 rfl rfl)
theorem dX6_lay_204 : decode cX6_lay 204 = .ok (.return_, 1) := dk_177 (dk_at dksX6_lay_8 9 rfl rfl)
abbrev cX6_field : ByteArray := prog_12_method_18_code
def yX6_field : MethodName := ⟨RX6, "field", "(II)I"⟩
def dkwX6_field_2 : List UInt8 := [46, 167, 0, 5, 16, 253, 172]
abbrev dktX6_field_2 : List UInt8 := dkwX6_field_2 ++ []
def dkwX6_field_1 : List UInt8 := [28, 4, 160, 0, 12, 42, 180, 0, 19, 27, 46, 167, 0, 19, 28, 5, 160, 0, 12, 42, 180, 0, 22, 27]
abbrev dktX6_field_1 : List UInt8 := dkwX6_field_1 ++ dktX6_field_2
def dkwX6_field_0 : List UInt8 := [42, 27, 182, 0, 172, 154, 0, 6, 16, 254, 172, 28, 154, 0, 12, 42, 180, 0, 16, 27, 46, 167, 0, 33]
abbrev dktX6_field_0 : List UInt8 := dkwX6_field_0 ++ dktX6_field_1
theorem dksX6_field_0 : cX6_field.data.toList.drop 0 = dktX6_field_0 := by decide +kernel
theorem dksX6_field_1 : cX6_field.data.toList.drop 24 = dktX6_field_1 := dk_seg dksX6_field_0 24 rfl rfl
theorem dksX6_field_2 : cX6_field.data.toList.drop 48 = dktX6_field_2 := dk_seg dksX6_field_1 24 rfl rfl
theorem dX6_field_0 : decode cX6_field 0 = .ok (.aload_n 0, 1) := dk_42 (dk_at dksX6_field_0 0 rfl rfl)
theorem dX6_field_1 : decode cX6_field 1 = .ok (.iload_n 1, 1) := dk_27 (dk_at dksX6_field_0 1 rfl rfl)
theorem dX6_field_2 : decode cX6_field 2 = .ok (.invokevirtual 172, 3) := dk_182 0 172 (dk_at dksX6_field_0 2 rfl rfl)
theorem dX6_field_5 : decode cX6_field 5 = .ok (.ifCond .ne 6, 3) := dk_154 0 6 (dk_at dksX6_field_0 5 rfl rfl)
theorem dX6_field_8 : decode cX6_field 8 = .ok (.bipush (-2), 2) := dk_16 254 (dk_at dksX6_field_0 8 rfl rfl)
theorem dX6_field_10 : decode cX6_field 10 = .ok (.ireturn, 1) := dk_172 (dk_at dksX6_field_0 10 rfl rfl)
theorem dX6_field_11 : decode cX6_field 11 = .ok (.iload_n 2, 1) := dk_28 (dk_at dksX6_field_0 11 rfl rfl)
theorem dX6_field_12 : decode cX6_field 12 = .ok (.ifCond .ne 12, 3) := dk_154 0 12 (dk_at dksX6_field_0 12 rfl rfl)
theorem dX6_field_15 : decode cX6_field 15 = .ok (.aload_n 0, 1) := dk_42 (dk_at dksX6_field_0 15 rfl rfl)
theorem dX6_field_16 : decode cX6_field 16 = .ok (.getfield 16, 3) := dk_180 0 16 (dk_at dksX6_field_0 16 rfl rfl)
theorem dX6_field_19 : decode cX6_field 19 = .ok (.iload_n 1, 1) := dk_27 (dk_at dksX6_field_0 19 rfl rfl)
theorem dX6_field_20 : decode cX6_field 20 = .ok (.iaload, 1) := dk_46 (dk_at dksX6_field_0 20 rfl rfl)
theorem dX6_field_21 : decode cX6_field 21 = .ok (.goto 33, 3) := dk_167 0 33 (dk_at dksX6_field_0 21 rfl rfl)
theorem dX6_field_24 : decode cX6_field 24 = .ok (.iload_n 2, 1) := dk_28 (dk_at dksX6_field_1 0 rfl rfl)
theorem dX6_field_25 : decode cX6_field 25 = .ok (.iconst 1, 1) := dk_4 (dk_at dksX6_field_1 1 rfl rfl)
theorem dX6_field_26 : decode cX6_field 26 = .ok (.if_icmp .ne 12, 3) := dk_160 0 12 (dk_at dksX6_field_1 2 rfl rfl)
theorem dX6_field_29 : decode cX6_field 29 = .ok (.aload_n 0, 1) := dk_42 (dk_at dksX6_field_1 5 rfl rfl)
theorem dX6_field_30 : decode cX6_field 30 = .ok (.getfield 19, 3) := dk_180 0 19 (dk_at dksX6_field_1 6 rfl rfl)
theorem dX6_field_33 : decode cX6_field 33 = .ok (.iload_n 1, 1) := dk_27 (dk_at dksX6_field_1 9 rfl rfl)
theorem dX6_field_34 : decode cX6_field 34 = .ok (.iaload, 1) := dk_46 (dk_at dksX6_field_1 10 rfl rfl)
theorem dX6_field_35 : decode cX6_field 35 = .ok (.goto 19, 3) := dk_167 0 19 (dk_at dksX6_field_1 11 rfl rfl)
theorem dX6_field_38 : decode cX6_field 38 = .ok (.iload_n 2, 1) := dk_28 (dk_at dksX6_field_1 14 rfl rfl)
theorem dX6_field_39 : decode cX6_field 39 = .ok (.iconst 2, 1) := dk_5 (dk_at dksX6_field_1 15 rfl rfl)
theorem dX6_field_40 : decode cX6_field 40 = .ok (.if_icmp .ne 12, 3) := dk_160 0 12 (dk_at dksX6_field_1 16 rfl rfl)
theorem dX6_field_43 : decode cX6_field 43 = .ok (.aload_n 0, 1) := dk_42 (dk_at dksX6_field_1 19 rfl rfl)
theorem dX6_field_44 : decode cX6_field 44 = .ok (.getfield 22, 3) := dk_180 0 22 (dk_at dksX6_field_1 20 rfl rfl)
theorem dX6_field_47 : decode cX6_field 47 = .ok (.iload_n 1, 1) := dk_27 (dk_at dksX6_field_1 23 rfl rfl)
theorem dX6_field_48 : decode cX6_field 48 = .ok (.iaload, 1) := dk_46 (dk_at dksX6_field_2 0 rfl rfl)
theorem dX6_field_49 : decode cX6_field 49 = .ok (.goto 5, 3) := dk_167 0 5 (dk_at dksX6_field_2 1 rfl rfl)
theorem dX6_field_52 : decode cX6_field 52 = .ok (.bipush (-3), 2) := dk_16 253 (dk_at dksX6_field_2 4 rfl rfl)
theorem dX6_field_54 : decode cX6_field 54 = .ok (.ireturn, 1) := dk_172 (dk_at dksX6_field_2 6 rfl rfl)
abbrev cX6_isField : ByteArray := prog_12_method_15_code
def yX6_isField : MethodName := ⟨RX6, "isField", "(I)Z"⟩
def dkwX6_isField_1 : List UInt8 := [167, 0, 4, 3, 172]
abbrev dktX6_isField_1 : List UInt8 := dkwX6_isField_1 ++ []
def dkwX6_isField_0 : List UInt8 := [27, 133, 9, 20, 0, 167, 184, 0, 92, 153, 0, 18, 42, 180, 0, 144, 27, 184, 0, 169, 153, 0, 7, 4]
abbrev dktX6_isField_0 : List UInt8 := dkwX6_isField_0 ++ dktX6_isField_1
theorem dksX6_isField_0 : cX6_isField.data.toList.drop 0 = dktX6_isField_0 := by decide +kernel
theorem dksX6_isField_1 : cX6_isField.data.toList.drop 24 = dktX6_isField_1 := dk_seg dksX6_isField_0 24 rfl rfl
theorem dX6_isField_0 : decode cX6_isField 0 = .ok (.iload_n 1, 1) := dk_27 (dk_at dksX6_isField_0 0 rfl rfl)
theorem dX6_isField_1 : decode cX6_isField 1 = .ok (.i2l, 1) := dk_133 (dk_at dksX6_isField_0 1 rfl rfl)
theorem dX6_isField_2 : decode cX6_isField 2 = .ok (.lconst 0, 1) := dk_9 (dk_at dksX6_isField_0 2 rfl rfl)
theorem dX6_isField_3 : decode cX6_isField 3 = .ok (.ldc2_w 167, 3) := dk_20 0 167 (dk_at dksX6_isField_0 3 rfl rfl)
theorem dX6_isField_6 : decode cX6_isField 6 = .ok (.invokestatic 92, 3) := dk_184 0 92 (dk_at dksX6_isField_0 6 rfl rfl)
theorem dX6_isField_9 : decode cX6_isField 9 = .ok (.ifCond .eq 18, 3) := dk_153 0 18 (dk_at dksX6_isField_0 9 rfl rfl)
theorem dX6_isField_12 : decode cX6_isField 12 = .ok (.aload_n 0, 1) := dk_42 (dk_at dksX6_isField_0 12 rfl rfl)
theorem dX6_isField_13 : decode cX6_isField 13 = .ok (.getfield 144, 3) := dk_180 0 144 (dk_at dksX6_isField_0 13 rfl rfl)
theorem dX6_isField_16 : decode cX6_isField 16 = .ok (.iload_n 1, 1) := dk_27 (dk_at dksX6_isField_0 16 rfl rfl)
theorem dX6_isField_17 : decode cX6_isField 17 = .ok (.invokestatic 169, 3) := dk_184 0 169 (dk_at dksX6_isField_0 17 rfl rfl)
theorem dX6_isField_20 : decode cX6_isField 20 = .ok (.ifCond .eq 7, 3) := dk_153 0 7 (dk_at dksX6_isField_0 20 rfl rfl)
theorem dX6_isField_23 : decode cX6_isField 23 = .ok (.iconst 1, 1) := dk_4 (dk_at dksX6_isField_0 23 rfl rfl)
theorem dX6_isField_24 : decode cX6_isField 24 = .ok (.goto 4, 3) := dk_167 0 4 (dk_at dksX6_isField_1 0 rfl rfl)
theorem dX6_isField_27 : decode cX6_isField 27 = .ok (.iconst 0, 1) := dk_3 (dk_at dksX6_isField_1 3 rfl rfl)
theorem dX6_isField_28 : decode cX6_isField 28 = .ok (.ireturn, 1) := dk_172 (dk_at dksX6_isField_1 4 rfl rfl)
abbrev cX6_has : ByteArray := prog_12_method_3_code
def yX6_has : MethodName := ⟨RX6, "has", "(II)Z"⟩
def dkwX6_has_0 : List UInt8 := [26, 27, 122, 4, 126, 4, 160, 0, 7, 4, 167, 0, 4, 3, 172]
abbrev dktX6_has_0 : List UInt8 := dkwX6_has_0 ++ []
theorem dksX6_has_0 : cX6_has.data.toList.drop 0 = dktX6_has_0 := by decide +kernel
theorem dX6_has_0 : decode cX6_has 0 = .ok (.iload_n 0, 1) := dk_26 (dk_at dksX6_has_0 0 rfl rfl)
theorem dX6_has_1 : decode cX6_has 1 = .ok (.iload_n 1, 1) := dk_27 (dk_at dksX6_has_0 1 rfl rfl)
theorem dX6_has_2 : decode cX6_has 2 = .ok (.ishr, 1) := dk_122 (dk_at dksX6_has_0 2 rfl rfl)
theorem dX6_has_3 : decode cX6_has 3 = .ok (.iconst 1, 1) := dk_4 (dk_at dksX6_has_0 3 rfl rfl)
theorem dX6_has_4 : decode cX6_has 4 = .ok (.iand, 1) := dk_126 (dk_at dksX6_has_0 4 rfl rfl)
theorem dX6_has_5 : decode cX6_has 5 = .ok (.iconst 1, 1) := dk_4 (dk_at dksX6_has_0 5 rfl rfl)
theorem dX6_has_6 : decode cX6_has 6 = .ok (.if_icmp .ne 7, 3) := dk_160 0 7 (dk_at dksX6_has_0 6 rfl rfl)
theorem dX6_has_9 : decode cX6_has 9 = .ok (.iconst 1, 1) := dk_4 (dk_at dksX6_has_0 9 rfl rfl)
theorem dX6_has_10 : decode cX6_has 10 = .ok (.goto 4, 3) := dk_167 0 4 (dk_at dksX6_has_0 10 rfl rfl)
theorem dX6_has_13 : decode cX6_has 13 = .ok (.iconst 0, 1) := dk_3 (dk_at dksX6_has_0 13 rfl rfl)
theorem dX6_has_14 : decode cX6_has 14 = .ok (.ireturn, 1) := dk_172 (dk_at dksX6_has_0 14 rfl rfl)
abbrev cX6_flock : ByteArray := prog_12_method_19_code
def yX6_flock : MethodName := ⟨RX6, "flock", "(I)I"⟩
def dkwX6_flock_0 : List UInt8 := [42, 27, 182, 0, 175, 153, 0, 12, 42, 180, 0, 25, 27, 46, 167, 0, 5, 16, 254, 172]
abbrev dktX6_flock_0 : List UInt8 := dkwX6_flock_0 ++ []
theorem dksX6_flock_0 : cX6_flock.data.toList.drop 0 = dktX6_flock_0 := by decide +kernel
theorem dX6_flock_0 : decode cX6_flock 0 = .ok (.aload_n 0, 1) := dk_42 (dk_at dksX6_flock_0 0 rfl rfl)
theorem dX6_flock_1 : decode cX6_flock 1 = .ok (.iload_n 1, 1) := dk_27 (dk_at dksX6_flock_0 1 rfl rfl)
theorem dX6_flock_2 : decode cX6_flock 2 = .ok (.invokevirtual 175, 3) := dk_182 0 175 (dk_at dksX6_flock_0 2 rfl rfl)
theorem dX6_flock_5 : decode cX6_flock 5 = .ok (.ifCond .eq 12, 3) := dk_153 0 12 (dk_at dksX6_flock_0 5 rfl rfl)
theorem dX6_flock_8 : decode cX6_flock 8 = .ok (.aload_n 0, 1) := dk_42 (dk_at dksX6_flock_0 8 rfl rfl)
theorem dX6_flock_9 : decode cX6_flock 9 = .ok (.getfield 25, 3) := dk_180 0 25 (dk_at dksX6_flock_0 9 rfl rfl)
theorem dX6_flock_12 : decode cX6_flock 12 = .ok (.iload_n 1, 1) := dk_27 (dk_at dksX6_flock_0 12 rfl rfl)
theorem dX6_flock_13 : decode cX6_flock 13 = .ok (.iaload, 1) := dk_46 (dk_at dksX6_flock_0 13 rfl rfl)
theorem dX6_flock_14 : decode cX6_flock 14 = .ok (.goto 5, 3) := dk_167 0 5 (dk_at dksX6_flock_0 14 rfl rfl)
theorem dX6_flock_17 : decode cX6_flock 17 = .ok (.bipush (-2), 2) := dk_16 254 (dk_at dksX6_flock_0 17 rfl rfl)
theorem dX6_flock_19 : decode cX6_flock 19 = .ok (.ireturn, 1) := dk_172 (dk_at dksX6_flock_0 19 rfl rfl)
abbrev cX6_isFlock : ByteArray := prog_12_method_16_code
def yX6_isFlock : MethodName := ⟨RX6, "isFlock", "(I)Z"⟩
def dkwX6_isFlock_1 : List UInt8 := [167, 0, 4, 3, 172]
abbrev dktX6_isFlock_1 : List UInt8 := dkwX6_isFlock_1 ++ []
def dkwX6_isFlock_0 : List UInt8 := [27, 133, 9, 20, 0, 167, 184, 0, 92, 153, 0, 18, 42, 180, 0, 147, 27, 184, 0, 169, 153, 0, 7, 4]
abbrev dktX6_isFlock_0 : List UInt8 := dkwX6_isFlock_0 ++ dktX6_isFlock_1
theorem dksX6_isFlock_0 : cX6_isFlock.data.toList.drop 0 = dktX6_isFlock_0 := by decide +kernel
theorem dksX6_isFlock_1 : cX6_isFlock.data.toList.drop 24 = dktX6_isFlock_1 := dk_seg dksX6_isFlock_0 24 rfl rfl
theorem dX6_isFlock_0 : decode cX6_isFlock 0 = .ok (.iload_n 1, 1) := dk_27 (dk_at dksX6_isFlock_0 0 rfl rfl)
theorem dX6_isFlock_1 : decode cX6_isFlock 1 = .ok (.i2l, 1) := dk_133 (dk_at dksX6_isFlock_0 1 rfl rfl)
theorem dX6_isFlock_2 : decode cX6_isFlock 2 = .ok (.lconst 0, 1) := dk_9 (dk_at dksX6_isFlock_0 2 rfl rfl)
theorem dX6_isFlock_3 : decode cX6_isFlock 3 = .ok (.ldc2_w 167, 3) := dk_20 0 167 (dk_at dksX6_isFlock_0 3 rfl rfl)
theorem dX6_isFlock_6 : decode cX6_isFlock 6 = .ok (.invokestatic 92, 3) := dk_184 0 92 (dk_at dksX6_isFlock_0 6 rfl rfl)
theorem dX6_isFlock_9 : decode cX6_isFlock 9 = .ok (.ifCond .eq 18, 3) := dk_153 0 18 (dk_at dksX6_isFlock_0 9 rfl rfl)
theorem dX6_isFlock_12 : decode cX6_isFlock 12 = .ok (.aload_n 0, 1) := dk_42 (dk_at dksX6_isFlock_0 12 rfl rfl)
theorem dX6_isFlock_13 : decode cX6_isFlock 13 = .ok (.getfield 147, 3) := dk_180 0 147 (dk_at dksX6_isFlock_0 13 rfl rfl)
theorem dX6_isFlock_16 : decode cX6_isFlock 16 = .ok (.iload_n 1, 1) := dk_27 (dk_at dksX6_isFlock_0 16 rfl rfl)
theorem dX6_isFlock_17 : decode cX6_isFlock 17 = .ok (.invokestatic 169, 3) := dk_184 0 169 (dk_at dksX6_isFlock_0 17 rfl rfl)
theorem dX6_isFlock_20 : decode cX6_isFlock 20 = .ok (.ifCond .eq 7, 3) := dk_153 0 7 (dk_at dksX6_isFlock_0 20 rfl rfl)
theorem dX6_isFlock_23 : decode cX6_isFlock 23 = .ok (.iconst 1, 1) := dk_4 (dk_at dksX6_isFlock_0 23 rfl rfl)
theorem dX6_isFlock_24 : decode cX6_isFlock 24 = .ok (.goto 4, 3) := dk_167 0 4 (dk_at dksX6_isFlock_1 0 rfl rfl)
theorem dX6_isFlock_27 : decode cX6_isFlock 27 = .ok (.iconst 0, 1) := dk_3 (dk_at dksX6_isFlock_1 3 rfl rfl)
theorem dX6_isFlock_28 : decode cX6_isFlock 28 = .ok (.ireturn, 1) := dk_172 (dk_at dksX6_isFlock_1 4 rfl rfl)
abbrev cX6_coat : ByteArray := prog_12_method_20_code
def yX6_coat : MethodName := ⟨RX6, "coat", "(II)I"⟩
def dkwX6_coat_1 : List UInt8 := [28, 4, 160, 0, 12, 42, 180, 0, 31, 27, 46, 167, 0, 5, 16, 253, 172]
abbrev dktX6_coat_1 : List UInt8 := dkwX6_coat_1 ++ []
def dkwX6_coat_0 : List UInt8 := [42, 27, 182, 0, 178, 154, 0, 6, 16, 254, 172, 28, 154, 0, 12, 42, 180, 0, 28, 27, 46, 167, 0, 19]
abbrev dktX6_coat_0 : List UInt8 := dkwX6_coat_0 ++ dktX6_coat_1
theorem dksX6_coat_0 : cX6_coat.data.toList.drop 0 = dktX6_coat_0 := by decide +kernel
theorem dksX6_coat_1 : cX6_coat.data.toList.drop 24 = dktX6_coat_1 := dk_seg dksX6_coat_0 24 rfl rfl
theorem dX6_coat_0 : decode cX6_coat 0 = .ok (.aload_n 0, 1) := dk_42 (dk_at dksX6_coat_0 0 rfl rfl)
theorem dX6_coat_1 : decode cX6_coat 1 = .ok (.iload_n 1, 1) := dk_27 (dk_at dksX6_coat_0 1 rfl rfl)
theorem dX6_coat_2 : decode cX6_coat 2 = .ok (.invokevirtual 178, 3) := dk_182 0 178 (dk_at dksX6_coat_0 2 rfl rfl)
theorem dX6_coat_5 : decode cX6_coat 5 = .ok (.ifCond .ne 6, 3) := dk_154 0 6 (dk_at dksX6_coat_0 5 rfl rfl)
theorem dX6_coat_8 : decode cX6_coat 8 = .ok (.bipush (-2), 2) := dk_16 254 (dk_at dksX6_coat_0 8 rfl rfl)
theorem dX6_coat_10 : decode cX6_coat 10 = .ok (.ireturn, 1) := dk_172 (dk_at dksX6_coat_0 10 rfl rfl)
theorem dX6_coat_11 : decode cX6_coat 11 = .ok (.iload_n 2, 1) := dk_28 (dk_at dksX6_coat_0 11 rfl rfl)
theorem dX6_coat_12 : decode cX6_coat 12 = .ok (.ifCond .ne 12, 3) := dk_154 0 12 (dk_at dksX6_coat_0 12 rfl rfl)
theorem dX6_coat_15 : decode cX6_coat 15 = .ok (.aload_n 0, 1) := dk_42 (dk_at dksX6_coat_0 15 rfl rfl)
theorem dX6_coat_16 : decode cX6_coat 16 = .ok (.getfield 28, 3) := dk_180 0 28 (dk_at dksX6_coat_0 16 rfl rfl)
theorem dX6_coat_19 : decode cX6_coat 19 = .ok (.iload_n 1, 1) := dk_27 (dk_at dksX6_coat_0 19 rfl rfl)
theorem dX6_coat_20 : decode cX6_coat 20 = .ok (.iaload, 1) := dk_46 (dk_at dksX6_coat_0 20 rfl rfl)
theorem dX6_coat_21 : decode cX6_coat 21 = .ok (.goto 19, 3) := dk_167 0 19 (dk_at dksX6_coat_0 21 rfl rfl)
theorem dX6_coat_24 : decode cX6_coat 24 = .ok (.iload_n 2, 1) := dk_28 (dk_at dksX6_coat_1 0 rfl rfl)
theorem dX6_coat_25 : decode cX6_coat 25 = .ok (.iconst 1, 1) := dk_4 (dk_at dksX6_coat_1 1 rfl rfl)
theorem dX6_coat_26 : decode cX6_coat 26 = .ok (.if_icmp .ne 12, 3) := dk_160 0 12 (dk_at dksX6_coat_1 2 rfl rfl)
theorem dX6_coat_29 : decode cX6_coat 29 = .ok (.aload_n 0, 1) := dk_42 (dk_at dksX6_coat_1 5 rfl rfl)
theorem dX6_coat_30 : decode cX6_coat 30 = .ok (.getfield 31, 3) := dk_180 0 31 (dk_at dksX6_coat_1 6 rfl rfl)
theorem dX6_coat_33 : decode cX6_coat 33 = .ok (.iload_n 1, 1) := dk_27 (dk_at dksX6_coat_1 9 rfl rfl)
theorem dX6_coat_34 : decode cX6_coat 34 = .ok (.iaload, 1) := dk_46 (dk_at dksX6_coat_1 10 rfl rfl)
theorem dX6_coat_35 : decode cX6_coat 35 = .ok (.goto 5, 3) := dk_167 0 5 (dk_at dksX6_coat_1 11 rfl rfl)
theorem dX6_coat_38 : decode cX6_coat 38 = .ok (.bipush (-3), 2) := dk_16 253 (dk_at dksX6_coat_1 14 rfl rfl)
theorem dX6_coat_40 : decode cX6_coat 40 = .ok (.ireturn, 1) := dk_172 (dk_at dksX6_coat_1 16 rfl rfl)
abbrev cX6_isCoat : ByteArray := prog_12_method_17_code
def yX6_isCoat : MethodName := ⟨RX6, "isCoat", "(I)Z"⟩
def dkwX6_isCoat_1 : List UInt8 := [167, 0, 4, 3, 172]
abbrev dktX6_isCoat_1 : List UInt8 := dkwX6_isCoat_1 ++ []
def dkwX6_isCoat_0 : List UInt8 := [27, 133, 9, 20, 0, 167, 184, 0, 92, 153, 0, 18, 42, 180, 0, 150, 27, 184, 0, 169, 153, 0, 7, 4]
abbrev dktX6_isCoat_0 : List UInt8 := dkwX6_isCoat_0 ++ dktX6_isCoat_1
theorem dksX6_isCoat_0 : cX6_isCoat.data.toList.drop 0 = dktX6_isCoat_0 := by decide +kernel
theorem dksX6_isCoat_1 : cX6_isCoat.data.toList.drop 24 = dktX6_isCoat_1 := dk_seg dksX6_isCoat_0 24 rfl rfl
theorem dX6_isCoat_0 : decode cX6_isCoat 0 = .ok (.iload_n 1, 1) := dk_27 (dk_at dksX6_isCoat_0 0 rfl rfl)
theorem dX6_isCoat_1 : decode cX6_isCoat 1 = .ok (.i2l, 1) := dk_133 (dk_at dksX6_isCoat_0 1 rfl rfl)
theorem dX6_isCoat_2 : decode cX6_isCoat 2 = .ok (.lconst 0, 1) := dk_9 (dk_at dksX6_isCoat_0 2 rfl rfl)
theorem dX6_isCoat_3 : decode cX6_isCoat 3 = .ok (.ldc2_w 167, 3) := dk_20 0 167 (dk_at dksX6_isCoat_0 3 rfl rfl)
theorem dX6_isCoat_6 : decode cX6_isCoat 6 = .ok (.invokestatic 92, 3) := dk_184 0 92 (dk_at dksX6_isCoat_0 6 rfl rfl)
theorem dX6_isCoat_9 : decode cX6_isCoat 9 = .ok (.ifCond .eq 18, 3) := dk_153 0 18 (dk_at dksX6_isCoat_0 9 rfl rfl)
theorem dX6_isCoat_12 : decode cX6_isCoat 12 = .ok (.aload_n 0, 1) := dk_42 (dk_at dksX6_isCoat_0 12 rfl rfl)
theorem dX6_isCoat_13 : decode cX6_isCoat 13 = .ok (.getfield 150, 3) := dk_180 0 150 (dk_at dksX6_isCoat_0 13 rfl rfl)
theorem dX6_isCoat_16 : decode cX6_isCoat 16 = .ok (.iload_n 1, 1) := dk_27 (dk_at dksX6_isCoat_0 16 rfl rfl)
theorem dX6_isCoat_17 : decode cX6_isCoat 17 = .ok (.invokestatic 169, 3) := dk_184 0 169 (dk_at dksX6_isCoat_0 17 rfl rfl)
theorem dX6_isCoat_20 : decode cX6_isCoat 20 = .ok (.ifCond .eq 7, 3) := dk_153 0 7 (dk_at dksX6_isCoat_0 20 rfl rfl)
theorem dX6_isCoat_23 : decode cX6_isCoat 23 = .ok (.iconst 1, 1) := dk_4 (dk_at dksX6_isCoat_0 23 rfl rfl)
theorem dX6_isCoat_24 : decode cX6_isCoat 24 = .ok (.goto 4, 3) := dk_167 0 4 (dk_at dksX6_isCoat_1 0 rfl rfl)
theorem dX6_isCoat_27 : decode cX6_isCoat 27 = .ok (.iconst 0, 1) := dk_3 (dk_at dksX6_isCoat_1 3 rfl rfl)
theorem dX6_isCoat_28 : decode cX6_isCoat 28 = .ok (.ireturn, 1) := dk_172 (dk_at dksX6_isCoat_1 4 rfl rfl)
abbrev cX6_place : ByteArray := prog_12_method_21_code
def yX6_place : MethodName := ⟨RX6, "place", "(III)I"⟩
def dkwX6_place_4 : List UInt8 := [96, 46, 4, 100, 54, 4, 42, 180, 0, 41, 7, 27, 104, 28, 96, 29, 4, 96, 79, 21, 4, 172]
abbrev dktX6_place_4 : List UInt8 := dkwX6_place_4 ++ []
def dkwX6_place_3 : List UInt8 := [46, 29, 4, 96, 160, 0, 6, 16, 252, 172, 132, 4, 1, 167, 255, 216, 42, 180, 0, 41, 7, 27, 104, 28]
abbrev dktX6_place_3 : List UInt8 := dkwX6_place_3 ++ dktX6_place_4
def dkwX6_place_2 : List UInt8 := [162, 0, 40, 29, 2, 159, 0, 29, 21, 4, 28, 159, 0, 23, 42, 180, 0, 41, 7, 27, 104, 21, 4, 96]
abbrev dktX6_place_2 : List UInt8 := dkwX6_place_2 ++ dktX6_place_3
def dkwX6_place_1 : List UInt8 := [29, 133, 20, 0, 183, 20, 0, 167, 184, 0, 92, 154, 0, 6, 16, 254, 172, 3, 54, 4, 21, 4, 7]
abbrev dktX6_place_1 : List UInt8 := dkwX6_place_1 ++ dktX6_place_2
def dkwX6_place_0 : List UInt8 := [27, 133, 9, 20, 0, 181, 184, 0, 92, 153, 0, 29, 28, 133, 9, 20, 0, 167, 184, 0, 92, 153, 0, 17]
abbrev dktX6_place_0 : List UInt8 := dkwX6_place_0 ++ dktX6_place_1
theorem dksX6_place_0 : cX6_place.data.toList.drop 0 = dktX6_place_0 := by decide +kernel
theorem dksX6_place_1 : cX6_place.data.toList.drop 24 = dktX6_place_1 := dk_seg dksX6_place_0 24 rfl rfl
theorem dksX6_place_2 : cX6_place.data.toList.drop 47 = dktX6_place_2 := dk_seg dksX6_place_1 23 rfl rfl
theorem dksX6_place_3 : cX6_place.data.toList.drop 71 = dktX6_place_3 := dk_seg dksX6_place_2 24 rfl rfl
theorem dksX6_place_4 : cX6_place.data.toList.drop 95 = dktX6_place_4 := dk_seg dksX6_place_3 24 rfl rfl
theorem dX6_place_0 : decode cX6_place 0 = .ok (.iload_n 1, 1) := dk_27 (dk_at dksX6_place_0 0 rfl rfl)
theorem dX6_place_1 : decode cX6_place 1 = .ok (.i2l, 1) := dk_133 (dk_at dksX6_place_0 1 rfl rfl)
theorem dX6_place_2 : decode cX6_place 2 = .ok (.lconst 0, 1) := dk_9 (dk_at dksX6_place_0 2 rfl rfl)
theorem dX6_place_3 : decode cX6_place 3 = .ok (.ldc2_w 181, 3) := dk_20 0 181 (dk_at dksX6_place_0 3 rfl rfl)
theorem dX6_place_6 : decode cX6_place 6 = .ok (.invokestatic 92, 3) := dk_184 0 92 (dk_at dksX6_place_0 6 rfl rfl)
theorem dX6_place_9 : decode cX6_place 9 = .ok (.ifCond .eq 29, 3) := dk_153 0 29 (dk_at dksX6_place_0 9 rfl rfl)
theorem dX6_place_12 : decode cX6_place 12 = .ok (.iload_n 2, 1) := dk_28 (dk_at dksX6_place_0 12 rfl rfl)
theorem dX6_place_13 : decode cX6_place 13 = .ok (.i2l, 1) := dk_133 (dk_at dksX6_place_0 13 rfl rfl)
theorem dX6_place_14 : decode cX6_place 14 = .ok (.lconst 0, 1) := dk_9 (dk_at dksX6_place_0 14 rfl rfl)
theorem dX6_place_15 : decode cX6_place 15 = .ok (.ldc2_w 167, 3) := dk_20 0 167 (dk_at dksX6_place_0 15 rfl rfl)
theorem dX6_place_18 : decode cX6_place 18 = .ok (.invokestatic 92, 3) := dk_184 0 92 (dk_at dksX6_place_0 18 rfl rfl)
theorem dX6_place_21 : decode cX6_place 21 = .ok (.ifCond .eq 17, 3) := dk_153 0 17 (dk_at dksX6_place_0 21 rfl rfl)
theorem dX6_place_24 : decode cX6_place 24 = .ok (.iload_n 3, 1) := dk_29 (dk_at dksX6_place_1 0 rfl rfl)
theorem dX6_place_25 : decode cX6_place 25 = .ok (.i2l, 1) := dk_133 (dk_at dksX6_place_1 1 rfl rfl)
theorem dX6_place_26 : decode cX6_place 26 = .ok (.ldc2_w 183, 3) := dk_20 0 183 (dk_at dksX6_place_1 2 rfl rfl)
theorem dX6_place_29 : decode cX6_place 29 = .ok (.ldc2_w 167, 3) := dk_20 0 167 (dk_at dksX6_place_1 5 rfl rfl)
theorem dX6_place_32 : decode cX6_place 32 = .ok (.invokestatic 92, 3) := dk_184 0 92 (dk_at dksX6_place_1 8 rfl rfl)
theorem dX6_place_35 : decode cX6_place 35 = .ok (.ifCond .ne 6, 3) := dk_154 0 6 (dk_at dksX6_place_1 11 rfl rfl)
theorem dX6_place_38 : decode cX6_place 38 = .ok (.bipush (-2), 2) := dk_16 254 (dk_at dksX6_place_1 14 rfl rfl)
theorem dX6_place_40 : decode cX6_place 40 = .ok (.ireturn, 1) := dk_172 (dk_at dksX6_place_1 16 rfl rfl)
theorem dX6_place_41 : decode cX6_place 41 = .ok (.iconst 0, 1) := dk_3 (dk_at dksX6_place_1 17 rfl rfl)
theorem dX6_place_42 : decode cX6_place 42 = .ok (.istore 4, 2) := dk_54 4 (dk_at dksX6_place_1 18 rfl rfl)
theorem dX6_place_44 : decode cX6_place 44 = .ok (.iload 4, 2) := dk_21 4 (dk_at dksX6_place_1 20 rfl rfl)
theorem dX6_place_46 : decode cX6_place 46 = .ok (.iconst 4, 1) := dk_7 (dk_at dksX6_place_1 22 rfl rfl)
theorem dX6_place_47 : decode cX6_place 47 = .ok (.if_icmp .ge 40, 3) := dk_162 0 40 (dk_at dksX6_place_2 0 rfl rfl)
theorem dX6_place_50 : decode cX6_place 50 = .ok (.iload_n 3, 1) := dk_29 (dk_at dksX6_place_2 3 rfl rfl)
theorem dX6_place_51 : decode cX6_place 51 = .ok (.iconst (-1), 1) := dk_2 (dk_at dksX6_place_2 4 rfl rfl)
theorem dX6_place_52 : decode cX6_place 52 = .ok (.if_icmp .eq 29, 3) := dk_159 0 29 (dk_at dksX6_place_2 5 rfl rfl)
theorem dX6_place_55 : decode cX6_place 55 = .ok (.iload 4, 2) := dk_21 4 (dk_at dksX6_place_2 8 rfl rfl)
theorem dX6_place_57 : decode cX6_place 57 = .ok (.iload_n 2, 1) := dk_28 (dk_at dksX6_place_2 10 rfl rfl)
theorem dX6_place_58 : decode cX6_place 58 = .ok (.if_icmp .eq 23, 3) := dk_159 0 23 (dk_at dksX6_place_2 11 rfl rfl)
theorem dX6_place_61 : decode cX6_place 61 = .ok (.aload_n 0, 1) := dk_42 (dk_at dksX6_place_2 14 rfl rfl)
theorem dX6_place_62 : decode cX6_place 62 = .ok (.getfield 41, 3) := dk_180 0 41 (dk_at dksX6_place_2 15 rfl rfl)
theorem dX6_place_65 : decode cX6_place 65 = .ok (.iconst 4, 1) := dk_7 (dk_at dksX6_place_2 18 rfl rfl)
theorem dX6_place_66 : decode cX6_place 66 = .ok (.iload_n 1, 1) := dk_27 (dk_at dksX6_place_2 19 rfl rfl)
theorem dX6_place_67 : decode cX6_place 67 = .ok (.imul, 1) := dk_104 (dk_at dksX6_place_2 20 rfl rfl)
theorem dX6_place_68 : decode cX6_place 68 = .ok (.iload 4, 2) := dk_21 4 (dk_at dksX6_place_2 21 rfl rfl)
theorem dX6_place_70 : decode cX6_place 70 = .ok (.iadd, 1) := dk_96 (dk_at dksX6_place_2 23 rfl rfl)
theorem dX6_place_71 : decode cX6_place 71 = .ok (.iaload, 1) := dk_46 (dk_at dksX6_place_3 0 rfl rfl)
theorem dX6_place_72 : decode cX6_place 72 = .ok (.iload_n 3, 1) := dk_29 (dk_at dksX6_place_3 1 rfl rfl)
theorem dX6_place_73 : decode cX6_place 73 = .ok (.iconst 1, 1) := dk_4 (dk_at dksX6_place_3 2 rfl rfl)
theorem dX6_place_74 : decode cX6_place 74 = .ok (.iadd, 1) := dk_96 (dk_at dksX6_place_3 3 rfl rfl)
theorem dX6_place_75 : decode cX6_place 75 = .ok (.if_icmp .ne 6, 3) := dk_160 0 6 (dk_at dksX6_place_3 4 rfl rfl)
theorem dX6_place_78 : decode cX6_place 78 = .ok (.bipush (-4), 2) := dk_16 252 (dk_at dksX6_place_3 7 rfl rfl)
theorem dX6_place_80 : decode cX6_place 80 = .ok (.ireturn, 1) := dk_172 (dk_at dksX6_place_3 9 rfl rfl)
theorem dX6_place_81 : decode cX6_place 81 = .ok (.iinc 4 1, 3) := dk_132 4 1 (dk_at dksX6_place_3 10 rfl rfl)
theorem dX6_place_84 : decode cX6_place 84 = .ok (.goto (-40), 3) := dk_167 255 216 (dk_at dksX6_place_3 13 rfl rfl)
theorem dX6_place_87 : decode cX6_place 87 = .ok (.aload_n 0, 1) := dk_42 (dk_at dksX6_place_3 16 rfl rfl)
theorem dX6_place_88 : decode cX6_place 88 = .ok (.getfield 41, 3) := dk_180 0 41 (dk_at dksX6_place_3 17 rfl rfl)
theorem dX6_place_91 : decode cX6_place 91 = .ok (.iconst 4, 1) := dk_7 (dk_at dksX6_place_3 20 rfl rfl)
theorem dX6_place_92 : decode cX6_place 92 = .ok (.iload_n 1, 1) := dk_27 (dk_at dksX6_place_3 21 rfl rfl)
theorem dX6_place_93 : decode cX6_place 93 = .ok (.imul, 1) := dk_104 (dk_at dksX6_place_3 22 rfl rfl)
theorem dX6_place_94 : decode cX6_place 94 = .ok (.iload_n 2, 1) := dk_28 (dk_at dksX6_place_3 23 rfl rfl)
theorem dX6_place_95 : decode cX6_place 95 = .ok (.iadd, 1) := dk_96 (dk_at dksX6_place_4 0 rfl rfl)
theorem dX6_place_96 : decode cX6_place 96 = .ok (.iaload, 1) := dk_46 (dk_at dksX6_place_4 1 rfl rfl)
theorem dX6_place_97 : decode cX6_place 97 = .ok (.iconst 1, 1) := dk_4 (dk_at dksX6_place_4 2 rfl rfl)
theorem dX6_place_98 : decode cX6_place 98 = .ok (.isub, 1) := dk_100 (dk_at dksX6_place_4 3 rfl rfl)
theorem dX6_place_99 : decode cX6_place 99 = .ok (.istore 4, 2) := dk_54 4 (dk_at dksX6_place_4 4 rfl rfl)
theorem dX6_place_101 : decode cX6_place 101 = .ok (.aload_n 0, 1) := dk_42 (dk_at dksX6_place_4 6 rfl rfl)
theorem dX6_place_102 : decode cX6_place 102 = .ok (.getfield 41, 3) := dk_180 0 41 (dk_at dksX6_place_4 7 rfl rfl)
theorem dX6_place_105 : decode cX6_place 105 = .ok (.iconst 4, 1) := dk_7 (dk_at dksX6_place_4 10 rfl rfl)
theorem dX6_place_106 : decode cX6_place 106 = .ok (.iload_n 1, 1) := dk_27 (dk_at dksX6_place_4 11 rfl rfl)
theorem dX6_place_107 : decode cX6_place 107 = .ok (.imul, 1) := dk_104 (dk_at dksX6_place_4 12 rfl rfl)
theorem dX6_place_108 : decode cX6_place 108 = .ok (.iload_n 2, 1) := dk_28 (dk_at dksX6_place_4 13 rfl rfl)
theorem dX6_place_109 : decode cX6_place 109 = .ok (.iadd, 1) := dk_96 (dk_at dksX6_place_4 14 rfl rfl)
theorem dX6_place_110 : decode cX6_place 110 = .ok (.iload_n 3, 1) := dk_29 (dk_at dksX6_place_4 15 rfl rfl)
theorem dX6_place_111 : decode cX6_place 111 = .ok (.iconst 1, 1) := dk_4 (dk_at dksX6_place_4 16 rfl rfl)
theorem dX6_place_112 : decode cX6_place 112 = .ok (.iadd, 1) := dk_96 (dk_at dksX6_place_4 17 rfl rfl)
theorem dX6_place_113 : decode cX6_place 113 = .ok (.iastore, 1) := dk_79 (dk_at dksX6_place_4 18 rfl rfl)
theorem dX6_place_114 : decode cX6_place 114 = .ok (.iload 4, 2) := dk_21 4 (dk_at dksX6_place_4 19 rfl rfl)
theorem dX6_place_116 : decode cX6_place 116 = .ok (.ireturn, 1) := dk_172 (dk_at dksX6_place_4 21 rfl rfl)
abbrev cX6_real : ByteArray := prog_12_method_22_code
def yX6_real : MethodName := ⟨RX6, "real", "(IIZ)I"⟩
def dkwX6_real_3 : List UInt8 := [126, 79, 21, 4, 172]
abbrev dktX6_real_3 : List UInt8 := dkwX6_real_3 ++ []
def dkwX6_real_2 : List UInt8 := [42, 180, 0, 44, 27, 46, 4, 28, 120, 128, 167, 0, 15, 42, 180, 0, 44, 27, 46, 4, 28, 120, 2, 130]
abbrev dktX6_real_2 : List UInt8 := dkwX6_real_2 ++ dktX6_real_3
def dkwX6_real_1 : List UInt8 := [16, 254, 172, 42, 180, 0, 44, 27, 46, 28, 122, 4, 126, 54, 4, 42, 180, 0, 44, 27, 29, 153, 0, 16]
abbrev dktX6_real_1 : List UInt8 := dkwX6_real_1 ++ dktX6_real_2
def dkwX6_real_0 : List UInt8 := [27, 133, 9, 20, 0, 181, 184, 0, 92, 153, 0, 15, 28, 133, 9, 20, 0, 167, 184, 0, 92, 154, 0, 6]
abbrev dktX6_real_0 : List UInt8 := dkwX6_real_0 ++ dktX6_real_1
theorem dksX6_real_0 : cX6_real.data.toList.drop 0 = dktX6_real_0 := by decide +kernel
theorem dksX6_real_1 : cX6_real.data.toList.drop 24 = dktX6_real_1 := dk_seg dksX6_real_0 24 rfl rfl
theorem dksX6_real_2 : cX6_real.data.toList.drop 48 = dktX6_real_2 := dk_seg dksX6_real_1 24 rfl rfl
theorem dksX6_real_3 : cX6_real.data.toList.drop 72 = dktX6_real_3 := dk_seg dksX6_real_2 24 rfl rfl
theorem dX6_real_0 : decode cX6_real 0 = .ok (.iload_n 1, 1) := dk_27 (dk_at dksX6_real_0 0 rfl rfl)
theorem dX6_real_1 : decode cX6_real 1 = .ok (.i2l, 1) := dk_133 (dk_at dksX6_real_0 1 rfl rfl)
theorem dX6_real_2 : decode cX6_real 2 = .ok (.lconst 0, 1) := dk_9 (dk_at dksX6_real_0 2 rfl rfl)
theorem dX6_real_3 : decode cX6_real 3 = .ok (.ldc2_w 181, 3) := dk_20 0 181 (dk_at dksX6_real_0 3 rfl rfl)
theorem dX6_real_6 : decode cX6_real 6 = .ok (.invokestatic 92, 3) := dk_184 0 92 (dk_at dksX6_real_0 6 rfl rfl)
theorem dX6_real_9 : decode cX6_real 9 = .ok (.ifCond .eq 15, 3) := dk_153 0 15 (dk_at dksX6_real_0 9 rfl rfl)
theorem dX6_real_12 : decode cX6_real 12 = .ok (.iload_n 2, 1) := dk_28 (dk_at dksX6_real_0 12 rfl rfl)
theorem dX6_real_13 : decode cX6_real 13 = .ok (.i2l, 1) := dk_133 (dk_at dksX6_real_0 13 rfl rfl)
theorem dX6_real_14 : decode cX6_real 14 = .ok (.lconst 0, 1) := dk_9 (dk_at dksX6_real_0 14 rfl rfl)
theorem dX6_real_15 : decode cX6_real 15 = .ok (.ldc2_w 167, 3) := dk_20 0 167 (dk_at dksX6_real_0 15 rfl rfl)
theorem dX6_real_18 : decode cX6_real 18 = .ok (.invokestatic 92, 3) := dk_184 0 92 (dk_at dksX6_real_0 18 rfl rfl)
theorem dX6_real_21 : decode cX6_real 21 = .ok (.ifCond .ne 6, 3) := dk_154 0 6 (dk_at dksX6_real_0 21 rfl rfl)
theorem dX6_real_24 : decode cX6_real 24 = .ok (.bipush (-2), 2) := dk_16 254 (dk_at dksX6_real_1 0 rfl rfl)
theorem dX6_real_26 : decode cX6_real 26 = .ok (.ireturn, 1) := dk_172 (dk_at dksX6_real_1 2 rfl rfl)
theorem dX6_real_27 : decode cX6_real 27 = .ok (.aload_n 0, 1) := dk_42 (dk_at dksX6_real_1 3 rfl rfl)
theorem dX6_real_28 : decode cX6_real 28 = .ok (.getfield 44, 3) := dk_180 0 44 (dk_at dksX6_real_1 4 rfl rfl)
theorem dX6_real_31 : decode cX6_real 31 = .ok (.iload_n 1, 1) := dk_27 (dk_at dksX6_real_1 7 rfl rfl)
theorem dX6_real_32 : decode cX6_real 32 = .ok (.iaload, 1) := dk_46 (dk_at dksX6_real_1 8 rfl rfl)
theorem dX6_real_33 : decode cX6_real 33 = .ok (.iload_n 2, 1) := dk_28 (dk_at dksX6_real_1 9 rfl rfl)
theorem dX6_real_34 : decode cX6_real 34 = .ok (.ishr, 1) := dk_122 (dk_at dksX6_real_1 10 rfl rfl)
theorem dX6_real_35 : decode cX6_real 35 = .ok (.iconst 1, 1) := dk_4 (dk_at dksX6_real_1 11 rfl rfl)
theorem dX6_real_36 : decode cX6_real 36 = .ok (.iand, 1) := dk_126 (dk_at dksX6_real_1 12 rfl rfl)
theorem dX6_real_37 : decode cX6_real 37 = .ok (.istore 4, 2) := dk_54 4 (dk_at dksX6_real_1 13 rfl rfl)
theorem dX6_real_39 : decode cX6_real 39 = .ok (.aload_n 0, 1) := dk_42 (dk_at dksX6_real_1 15 rfl rfl)
theorem dX6_real_40 : decode cX6_real 40 = .ok (.getfield 44, 3) := dk_180 0 44 (dk_at dksX6_real_1 16 rfl rfl)
theorem dX6_real_43 : decode cX6_real 43 = .ok (.iload_n 1, 1) := dk_27 (dk_at dksX6_real_1 19 rfl rfl)
theorem dX6_real_44 : decode cX6_real 44 = .ok (.iload_n 3, 1) := dk_29 (dk_at dksX6_real_1 20 rfl rfl)
theorem dX6_real_45 : decode cX6_real 45 = .ok (.ifCond .eq 16, 3) := dk_153 0 16 (dk_at dksX6_real_1 21 rfl rfl)
theorem dX6_real_48 : decode cX6_real 48 = .ok (.aload_n 0, 1) := dk_42 (dk_at dksX6_real_2 0 rfl rfl)
theorem dX6_real_49 : decode cX6_real 49 = .ok (.getfield 44, 3) := dk_180 0 44 (dk_at dksX6_real_2 1 rfl rfl)
theorem dX6_real_52 : decode cX6_real 52 = .ok (.iload_n 1, 1) := dk_27 (dk_at dksX6_real_2 4 rfl rfl)
theorem dX6_real_53 : decode cX6_real 53 = .ok (.iaload, 1) := dk_46 (dk_at dksX6_real_2 5 rfl rfl)
theorem dX6_real_54 : decode cX6_real 54 = .ok (.iconst 1, 1) := dk_4 (dk_at dksX6_real_2 6 rfl rfl)
theorem dX6_real_55 : decode cX6_real 55 = .ok (.iload_n 2, 1) := dk_28 (dk_at dksX6_real_2 7 rfl rfl)
theorem dX6_real_56 : decode cX6_real 56 = .ok (.ishl, 1) := dk_120 (dk_at dksX6_real_2 8 rfl rfl)
theorem dX6_real_57 : decode cX6_real 57 = .ok (.ior, 1) := dk_128 (dk_at dksX6_real_2 9 rfl rfl)
theorem dX6_real_58 : decode cX6_real 58 = .ok (.goto 15, 3) := dk_167 0 15 (dk_at dksX6_real_2 10 rfl rfl)
theorem dX6_real_61 : decode cX6_real 61 = .ok (.aload_n 0, 1) := dk_42 (dk_at dksX6_real_2 13 rfl rfl)
theorem dX6_real_62 : decode cX6_real 62 = .ok (.getfield 44, 3) := dk_180 0 44 (dk_at dksX6_real_2 14 rfl rfl)
theorem dX6_real_65 : decode cX6_real 65 = .ok (.iload_n 1, 1) := dk_27 (dk_at dksX6_real_2 17 rfl rfl)
theorem dX6_real_66 : decode cX6_real 66 = .ok (.iaload, 1) := dk_46 (dk_at dksX6_real_2 18 rfl rfl)
theorem dX6_real_67 : decode cX6_real 67 = .ok (.iconst 1, 1) := dk_4 (dk_at dksX6_real_2 19 rfl rfl)
theorem dX6_real_68 : decode cX6_real 68 = .ok (.iload_n 2, 1) := dk_28 (dk_at dksX6_real_2 20 rfl rfl)
theorem dX6_real_69 : decode cX6_real 69 = .ok (.ishl, 1) := dk_120 (dk_at dksX6_real_2 21 rfl rfl)
theorem dX6_real_70 : decode cX6_real 70 = .ok (.iconst (-1), 1) := dk_2 (dk_at dksX6_real_2 22 rfl rfl)
theorem dX6_real_71 : decode cX6_real 71 = .ok (.ixor, 1) := dk_130 (dk_at dksX6_real_2 23 rfl rfl)
theorem dX6_real_72 : decode cX6_real 72 = .ok (.iand, 1) := dk_126 (dk_at dksX6_real_3 0 rfl rfl)
theorem dX6_real_73 : decode cX6_real 73 = .ok (.iastore, 1) := dk_79 (dk_at dksX6_real_3 1 rfl rfl)
theorem dX6_real_74 : decode cX6_real 74 = .ok (.iload 4, 2) := dk_21 4 (dk_at dksX6_real_3 2 rfl rfl)
theorem dX6_real_76 : decode cX6_real 76 = .ok (.ireturn, 1) := dk_172 (dk_at dksX6_real_3 4 rfl rfl)
abbrev cX6_went : ByteArray := prog_12_method_35_code
def yX6_went : MethodName := ⟨RX6, "went", "(II)I"⟩
def dkwX6_went_1 : List UInt8 := [27, 182, 0, 220, 42, 180, 0, 75, 28, 46, 172]
abbrev dktX6_went_1 : List UInt8 := dkwX6_went_1 ++ []
def dkwX6_went_0 : List UInt8 := [42, 27, 182, 0, 214, 153, 0, 11, 42, 28, 182, 0, 175, 154, 0, 6, 16, 254, 172, 42, 182, 0, 217, 42]
abbrev dktX6_went_0 : List UInt8 := dkwX6_went_0 ++ dktX6_went_1
theorem dksX6_went_0 : cX6_went.data.toList.drop 0 = dktX6_went_0 := by decide +kernel
theorem dksX6_went_1 : cX6_went.data.toList.drop 24 = dktX6_went_1 := dk_seg dksX6_went_0 24 rfl rfl
theorem dX6_went_0 : decode cX6_went 0 = .ok (.aload_n 0, 1) := dk_42 (dk_at dksX6_went_0 0 rfl rfl)
theorem dX6_went_1 : decode cX6_went 1 = .ok (.iload_n 1, 1) := dk_27 (dk_at dksX6_went_0 1 rfl rfl)
theorem dX6_went_2 : decode cX6_went 2 = .ok (.invokevirtual 214, 3) := dk_182 0 214 (dk_at dksX6_went_0 2 rfl rfl)
theorem dX6_went_5 : decode cX6_went 5 = .ok (.ifCond .eq 11, 3) := dk_153 0 11 (dk_at dksX6_went_0 5 rfl rfl)
theorem dX6_went_8 : decode cX6_went 8 = .ok (.aload_n 0, 1) := dk_42 (dk_at dksX6_went_0 8 rfl rfl)
theorem dX6_went_9 : decode cX6_went 9 = .ok (.iload_n 2, 1) := dk_28 (dk_at dksX6_went_0 9 rfl rfl)
theorem dX6_went_10 : decode cX6_went 10 = .ok (.invokevirtual 175, 3) := dk_182 0 175 (dk_at dksX6_went_0 10 rfl rfl)
theorem dX6_went_13 : decode cX6_went 13 = .ok (.ifCond .ne 6, 3) := dk_154 0 6 (dk_at dksX6_went_0 13 rfl rfl)
theorem dX6_went_16 : decode cX6_went 16 = .ok (.bipush (-2), 2) := dk_16 254 (dk_at dksX6_went_0 16 rfl rfl)
theorem dX6_went_18 : decode cX6_went 18 = .ok (.ireturn, 1) := dk_172 (dk_at dksX6_went_0 18 rfl rfl)
theorem dX6_went_19 : decode cX6_went 19 = .ok (.aload_n 0, 1) := dk_42 (dk_at dksX6_went_0 19 rfl rfl)
theorem dX6_went_20 : decode cX6_went 20 = .ok (.invokevirtual 217, 3) := dk_182 0 217 (dk_at dksX6_went_0 20 rfl rfl)
theorem dX6_went_23 : decode cX6_went 23 = .ok (.aload_n 0, 1) := dk_42 (dk_at dksX6_went_0 23 rfl rfl)
theorem dX6_went_24 : decode cX6_went 24 = .ok (.iload_n 1, 1) := dk_27 (dk_at dksX6_went_1 0 rfl rfl)
theorem dX6_went_25 : decode cX6_went 25 = .ok (.invokevirtual 220, 3) := dk_182 0 220 (dk_at dksX6_went_1 1 rfl rfl)
theorem dX6_went_28 : decode cX6_went 28 = .ok (.aload_n 0, 1) := dk_42 (dk_at dksX6_went_1 4 rfl rfl)
theorem dX6_went_29 : decode cX6_went 29 = .ok (.getfield 75, 3) := dk_180 0 75 (dk_at dksX6_went_1 5 rfl rfl)
theorem dX6_went_32 : decode cX6_went 32 = .ok (.iload_n 2, 1) := dk_28 (dk_at dksX6_went_1 8 rfl rfl)
theorem dX6_went_33 : decode cX6_went 33 = .ok (.iaload, 1) := dk_46 (dk_at dksX6_went_1 9 rfl rfl)
theorem dX6_went_34 : decode cX6_went 34 = .ok (.ireturn, 1) := dk_172 (dk_at dksX6_went_1 10 rfl rfl)
abbrev cX6_isDay : ByteArray := prog_12_method_34_code
def yX6_isDay : MethodName := ⟨RX6, "isDay", "(I)Z"⟩
def dkwX6_isDay_0 : List UInt8 := [27, 133, 9, 42, 180, 0, 38, 4, 100, 133, 184, 0, 92, 172]
abbrev dktX6_isDay_0 : List UInt8 := dkwX6_isDay_0 ++ []
theorem dksX6_isDay_0 : cX6_isDay.data.toList.drop 0 = dktX6_isDay_0 := by decide +kernel
theorem dX6_isDay_0 : decode cX6_isDay 0 = .ok (.iload_n 1, 1) := dk_27 (dk_at dksX6_isDay_0 0 rfl rfl)
theorem dX6_isDay_1 : decode cX6_isDay 1 = .ok (.i2l, 1) := dk_133 (dk_at dksX6_isDay_0 1 rfl rfl)
theorem dX6_isDay_2 : decode cX6_isDay 2 = .ok (.lconst 0, 1) := dk_9 (dk_at dksX6_isDay_0 2 rfl rfl)
theorem dX6_isDay_3 : decode cX6_isDay 3 = .ok (.aload_n 0, 1) := dk_42 (dk_at dksX6_isDay_0 3 rfl rfl)
theorem dX6_isDay_4 : decode cX6_isDay 4 = .ok (.getfield 38, 3) := dk_180 0 38 (dk_at dksX6_isDay_0 4 rfl rfl)
theorem dX6_isDay_7 : decode cX6_isDay 7 = .ok (.iconst 1, 1) := dk_4 (dk_at dksX6_isDay_0 7 rfl rfl)
theorem dX6_isDay_8 : decode cX6_isDay 8 = .ok (.isub, 1) := dk_100 (dk_at dksX6_isDay_0 8 rfl rfl)
theorem dX6_isDay_9 : decode cX6_isDay 9 = .ok (.i2l, 1) := dk_133 (dk_at dksX6_isDay_0 9 rfl rfl)
theorem dX6_isDay_10 : decode cX6_isDay 10 = .ok (.invokestatic 92, 3) := dk_184 0 92 (dk_at dksX6_isDay_0 10 rfl rfl)
theorem dX6_isDay_13 : decode cX6_isDay 13 = .ok (.ireturn, 1) := dk_172 (dk_at dksX6_isDay_0 13 rfl rfl)
abbrev cX6_asPlanned : ByteArray := prog_12_method_23_code
def yX6_asPlanned : MethodName := ⟨RX6, "asPlanned", "()V"⟩
def dkwX6_asPlanned_1 : List UInt8 := [181, 0, 63, 177]
abbrev dktX6_asPlanned_1 : List UInt8 := dkwX6_asPlanned_1 ++ []
def dkwX6_asPlanned_0 : List UInt8 := [42, 16, 15, 181, 0, 50, 42, 2, 181, 0, 53, 42, 2, 181, 0, 56, 42, 2, 181, 0, 59, 42, 18, 62]
abbrev dktX6_asPlanned_0 : List UInt8 := dkwX6_asPlanned_0 ++ dktX6_asPlanned_1
theorem dksX6_asPlanned_0 : cX6_asPlanned.data.toList.drop 0 = dktX6_asPlanned_0 := by decide +kernel
theorem dksX6_asPlanned_1 : cX6_asPlanned.data.toList.drop 24 = dktX6_asPlanned_1 := dk_seg dksX6_asPlanned_0 24 rfl rfl
theorem dX6_asPlanned_0 : decode cX6_asPlanned 0 = .ok (.aload_n 0, 1) := dk_42 (dk_at dksX6_asPlanned_0 0 rfl rfl)
theorem dX6_asPlanned_1 : decode cX6_asPlanned 1 = .ok (.bipush 15, 2) := dk_16 15 (dk_at dksX6_asPlanned_0 1 rfl rfl)
theorem dX6_asPlanned_3 : decode cX6_asPlanned 3 = .ok (.putfield 50, 3) := dk_181 0 50 (dk_at dksX6_asPlanned_0 3 rfl rfl)
theorem dX6_asPlanned_6 : decode cX6_asPlanned 6 = .ok (.aload_n 0, 1) := dk_42 (dk_at dksX6_asPlanned_0 6 rfl rfl)
theorem dX6_asPlanned_7 : decode cX6_asPlanned 7 = .ok (.iconst (-1), 1) := dk_2 (dk_at dksX6_asPlanned_0 7 rfl rfl)
theorem dX6_asPlanned_8 : decode cX6_asPlanned 8 = .ok (.putfield 53, 3) := dk_181 0 53 (dk_at dksX6_asPlanned_0 8 rfl rfl)
theorem dX6_asPlanned_11 : decode cX6_asPlanned 11 = .ok (.aload_n 0, 1) := dk_42 (dk_at dksX6_asPlanned_0 11 rfl rfl)
theorem dX6_asPlanned_12 : decode cX6_asPlanned 12 = .ok (.iconst (-1), 1) := dk_2 (dk_at dksX6_asPlanned_0 12 rfl rfl)
theorem dX6_asPlanned_13 : decode cX6_asPlanned 13 = .ok (.putfield 56, 3) := dk_181 0 56 (dk_at dksX6_asPlanned_0 13 rfl rfl)
theorem dX6_asPlanned_16 : decode cX6_asPlanned 16 = .ok (.aload_n 0, 1) := dk_42 (dk_at dksX6_asPlanned_0 16 rfl rfl)
theorem dX6_asPlanned_17 : decode cX6_asPlanned 17 = .ok (.iconst (-1), 1) := dk_2 (dk_at dksX6_asPlanned_0 17 rfl rfl)
theorem dX6_asPlanned_18 : decode cX6_asPlanned 18 = .ok (.putfield 59, 3) := dk_181 0 59 (dk_at dksX6_asPlanned_0 18 rfl rfl)
theorem dX6_asPlanned_21 : decode cX6_asPlanned 21 = .ok (.aload_n 0, 1) := dk_42 (dk_at dksX6_asPlanned_0 21 rfl rfl)
theorem dX6_asPlanned_22 : decode cX6_asPlanned 22 = .ok (.ldc 62, 2) := dk_18 62 (dk_at dksX6_asPlanned_0 22 rfl rfl)
theorem dX6_asPlanned_24 : decode cX6_asPlanned 24 = .ok (.putfield 63, 3) := dk_181 0 63 (dk_at dksX6_asPlanned_1 0 rfl rfl)
theorem dX6_asPlanned_27 : decode cX6_asPlanned 27 = .ok (.return_, 1) := dk_177 (dk_at dksX6_asPlanned_1 3 rfl rfl)
abbrev cX6_goTo : ByteArray := prog_12_method_31_code
def yX6_goTo : MethodName := ⟨RX6, "goTo", "(I)V"⟩
def dkwX6_goTo_0 : List UInt8 := [42, 182, 0, 208, 3, 61, 28, 27, 163, 0, 14, 42, 28, 182, 0, 211, 132, 2, 1, 167, 255, 243, 177]
abbrev dktX6_goTo_0 : List UInt8 := dkwX6_goTo_0 ++ []
theorem dksX6_goTo_0 : cX6_goTo.data.toList.drop 0 = dktX6_goTo_0 := by decide +kernel
theorem dX6_goTo_0 : decode cX6_goTo 0 = .ok (.aload_n 0, 1) := dk_42 (dk_at dksX6_goTo_0 0 rfl rfl)
theorem dX6_goTo_1 : decode cX6_goTo 1 = .ok (.invokevirtual 208, 3) := dk_182 0 208 (dk_at dksX6_goTo_0 1 rfl rfl)
theorem dX6_goTo_4 : decode cX6_goTo 4 = .ok (.iconst 0, 1) := dk_3 (dk_at dksX6_goTo_0 4 rfl rfl)
theorem dX6_goTo_5 : decode cX6_goTo 5 = .ok (.istore_n 2, 1) := dk_61 (dk_at dksX6_goTo_0 5 rfl rfl)
theorem dX6_goTo_6 : decode cX6_goTo 6 = .ok (.iload_n 2, 1) := dk_28 (dk_at dksX6_goTo_0 6 rfl rfl)
theorem dX6_goTo_7 : decode cX6_goTo 7 = .ok (.iload_n 1, 1) := dk_27 (dk_at dksX6_goTo_0 7 rfl rfl)
theorem dX6_goTo_8 : decode cX6_goTo 8 = .ok (.if_icmp .gt 14, 3) := dk_163 0 14 (dk_at dksX6_goTo_0 8 rfl rfl)
theorem dX6_goTo_11 : decode cX6_goTo 11 = .ok (.aload_n 0, 1) := dk_42 (dk_at dksX6_goTo_0 11 rfl rfl)
theorem dX6_goTo_12 : decode cX6_goTo 12 = .ok (.iload_n 2, 1) := dk_28 (dk_at dksX6_goTo_0 12 rfl rfl)
theorem dX6_goTo_13 : decode cX6_goTo 13 = .ok (.invokevirtual 211, 3) := dk_182 0 211 (dk_at dksX6_goTo_0 13 rfl rfl)
theorem dX6_goTo_16 : decode cX6_goTo 16 = .ok (.iinc 2 1, 3) := dk_132 2 1 (dk_at dksX6_goTo_0 16 rfl rfl)
theorem dX6_goTo_19 : decode cX6_goTo 19 = .ok (.goto (-13), 3) := dk_167 255 243 (dk_at dksX6_goTo_0 19 rfl rfl)
theorem dX6_goTo_22 : decode cX6_goTo 22 = .ok (.return_, 1) := dk_177 (dk_at dksX6_goTo_0 22 rfl rfl)
abbrev cX6_begin : ByteArray := prog_12_method_26_code
def yX6_begin : MethodName := ⟨RX6, "begin", "()V"⟩
def dkwX6_begin_2 : List UInt8 := [79, 132, 1, 1, 167, 255, 233, 177]
abbrev dktX6_begin_2 : List UInt8 := dkwX6_begin_2 ++ []
def dkwX6_begin_1 : List UInt8 := [167, 255, 236, 3, 60, 27, 16, 16, 162, 0, 23, 42, 180, 0, 72, 27, 42, 180, 0, 28, 27, 7, 112, 46]
abbrev dktX6_begin_1 : List UInt8 := dkwX6_begin_1 ++ dktX6_begin_2
def dkwX6_begin_0 : List UInt8 := [3, 60, 27, 7, 162, 0, 21, 42, 180, 0, 69, 27, 42, 180, 0, 16, 27, 46, 79, 132, 1, 1]
abbrev dktX6_begin_0 : List UInt8 := dkwX6_begin_0 ++ dktX6_begin_1
theorem dksX6_begin_0 : cX6_begin.data.toList.drop 0 = dktX6_begin_0 := by decide +kernel
theorem dksX6_begin_1 : cX6_begin.data.toList.drop 22 = dktX6_begin_1 := dk_seg dksX6_begin_0 22 rfl rfl
theorem dksX6_begin_2 : cX6_begin.data.toList.drop 46 = dktX6_begin_2 := dk_seg dksX6_begin_1 24 rfl rfl
theorem dX6_begin_0 : decode cX6_begin 0 = .ok (.iconst 0, 1) := dk_3 (dk_at dksX6_begin_0 0 rfl rfl)
theorem dX6_begin_1 : decode cX6_begin 1 = .ok (.istore_n 1, 1) := dk_60 (dk_at dksX6_begin_0 1 rfl rfl)
theorem dX6_begin_2 : decode cX6_begin 2 = .ok (.iload_n 1, 1) := dk_27 (dk_at dksX6_begin_0 2 rfl rfl)
theorem dX6_begin_3 : decode cX6_begin 3 = .ok (.iconst 4, 1) := dk_7 (dk_at dksX6_begin_0 3 rfl rfl)
theorem dX6_begin_4 : decode cX6_begin 4 = .ok (.if_icmp .ge 21, 3) := dk_162 0 21 (dk_at dksX6_begin_0 4 rfl rfl)
theorem dX6_begin_7 : decode cX6_begin 7 = .ok (.aload_n 0, 1) := dk_42 (dk_at dksX6_begin_0 7 rfl rfl)
theorem dX6_begin_8 : decode cX6_begin 8 = .ok (.getfield 69, 3) := dk_180 0 69 (dk_at dksX6_begin_0 8 rfl rfl)
theorem dX6_begin_11 : decode cX6_begin 11 = .ok (.iload_n 1, 1) := dk_27 (dk_at dksX6_begin_0 11 rfl rfl)
theorem dX6_begin_12 : decode cX6_begin 12 = .ok (.aload_n 0, 1) := dk_42 (dk_at dksX6_begin_0 12 rfl rfl)
theorem dX6_begin_13 : decode cX6_begin 13 = .ok (.getfield 16, 3) := dk_180 0 16 (dk_at dksX6_begin_0 13 rfl rfl)
theorem dX6_begin_16 : decode cX6_begin 16 = .ok (.iload_n 1, 1) := dk_27 (dk_at dksX6_begin_0 16 rfl rfl)
theorem dX6_begin_17 : decode cX6_begin 17 = .ok (.iaload, 1) := dk_46 (dk_at dksX6_begin_0 17 rfl rfl)
theorem dX6_begin_18 : decode cX6_begin 18 = .ok (.iastore, 1) := dk_79 (dk_at dksX6_begin_0 18 rfl rfl)
theorem dX6_begin_19 : decode cX6_begin 19 = .ok (.iinc 1 1, 3) := dk_132 1 1 (dk_at dksX6_begin_0 19 rfl rfl)
theorem dX6_begin_22 : decode cX6_begin 22 = .ok (.goto (-20), 3) := dk_167 255 236 (dk_at dksX6_begin_1 0 rfl rfl)
theorem dX6_begin_25 : decode cX6_begin 25 = .ok (.iconst 0, 1) := dk_3 (dk_at dksX6_begin_1 3 rfl rfl)
theorem dX6_begin_26 : decode cX6_begin 26 = .ok (.istore_n 1, 1) := dk_60 (dk_at dksX6_begin_1 4 rfl rfl)
theorem dX6_begin_27 : decode cX6_begin 27 = .ok (.iload_n 1, 1) := dk_27 (dk_at dksX6_begin_1 5 rfl rfl)
theorem dX6_begin_28 : decode cX6_begin 28 = .ok (.bipush 16, 2) := dk_16 16 (dk_at dksX6_begin_1 6 rfl rfl)
theorem dX6_begin_30 : decode cX6_begin 30 = .ok (.if_icmp .ge 23, 3) := dk_162 0 23 (dk_at dksX6_begin_1 8 rfl rfl)
theorem dX6_begin_33 : decode cX6_begin 33 = .ok (.aload_n 0, 1) := dk_42 (dk_at dksX6_begin_1 11 rfl rfl)
theorem dX6_begin_34 : decode cX6_begin 34 = .ok (.getfield 72, 3) := dk_180 0 72 (dk_at dksX6_begin_1 12 rfl rfl)
theorem dX6_begin_37 : decode cX6_begin 37 = .ok (.iload_n 1, 1) := dk_27 (dk_at dksX6_begin_1 15 rfl rfl)
theorem dX6_begin_38 : decode cX6_begin 38 = .ok (.aload_n 0, 1) := dk_42 (dk_at dksX6_begin_1 16 rfl rfl)
theorem dX6_begin_39 : decode cX6_begin 39 = .ok (.getfield 28, 3) := dk_180 0 28 (dk_at dksX6_begin_1 17 rfl rfl)
theorem dX6_begin_42 : decode cX6_begin 42 = .ok (.iload_n 1, 1) := dk_27 (dk_at dksX6_begin_1 20 rfl rfl)
theorem dX6_begin_43 : decode cX6_begin 43 = .ok (.iconst 4, 1) := dk_7 (dk_at dksX6_begin_1 21 rfl rfl)
theorem dX6_begin_44 : decode cX6_begin 44 = .ok (.irem, 1) := dk_112 (dk_at dksX6_begin_1 22 rfl rfl)
theorem dX6_begin_45 : decode cX6_begin 45 = .ok (.iaload, 1) := dk_46 (dk_at dksX6_begin_1 23 rfl rfl)
theorem dX6_begin_46 : decode cX6_begin 46 = .ok (.iastore, 1) := dk_79 (dk_at dksX6_begin_2 0 rfl rfl)
theorem dX6_begin_47 : decode cX6_begin 47 = .ok (.iinc 1 1, 3) := dk_132 1 1 (dk_at dksX6_begin_2 1 rfl rfl)
theorem dX6_begin_50 : decode cX6_begin 50 = .ok (.goto (-23), 3) := dk_167 255 233 (dk_at dksX6_begin_2 4 rfl rfl)
theorem dX6_begin_53 : decode cX6_begin 53 = .ok (.return_, 1) := dk_177 (dk_at dksX6_begin_2 7 rfl rfl)
abbrev cX6_goDay : ByteArray := prog_12_method_29_code
def yX6_goDay : MethodName := ⟨RX6, "goDay", "(I)V"⟩
def dkwX6_goDay_7 : List UInt8 := [108, 79, 132, 2, 1, 167, 255, 139, 42, 182, 0, 205, 177]
abbrev dktX6_goDay_7 : List UInt8 := dkwX6_goDay_7 ++ []
def dkwX6_goDay_6 : List UInt8 := [17, 3, 231, 167, 0, 22, 42, 180, 0, 72, 7, 28, 104, 29, 96, 46, 16, 100, 21, 4, 100, 104, 16, 100]
abbrev dktX6_goDay_6 : List UInt8 := dkwX6_goDay_6 ++ dktX6_goDay_7
def dkwX6_goDay_5 : List UInt8 := [180, 0, 59, 54, 4, 42, 180, 0, 72, 7, 28, 104, 29, 96, 42, 27, 29, 182, 0, 202, 153, 0, 9]
abbrev dktX6_goDay_5 : List UInt8 := dkwX6_goDay_5 ++ dktX6_goDay_6
def dkwX6_goDay_4 : List UInt8 := [62, 29, 2, 159, 0, 70, 42, 180, 0, 59, 2, 160, 0, 12, 42, 180, 0, 31, 29, 46, 167, 0, 7, 42]
abbrev dktX6_goDay_4 : List UInt8 := dkwX6_goDay_4 ++ dktX6_goDay_5
def dkwX6_goDay_3 : List UInt8 := [180, 0, 75, 28, 46, 2, 159, 0, 17, 42, 27, 42, 180, 0, 75, 28, 46, 182, 0, 191, 167, 0, 4, 2]
abbrev dktX6_goDay_3 : List UInt8 := dkwX6_goDay_3 ++ dktX6_goDay_4
def dkwX6_goDay_2 : List UInt8 := [167, 255, 231, 3, 61, 28, 7, 162, 0, 118, 42, 180, 0, 147, 28, 184, 0, 169, 153, 0, 27, 42]
abbrev dktX6_goDay_2 : List UInt8 := dkwX6_goDay_2 ++ dktX6_goDay_3
def dkwX6_goDay_1 : List UInt8 := [162, 0, 26, 42, 180, 0, 147, 28, 184, 0, 169, 153, 0, 9, 42, 27, 28, 182, 0, 198, 132, 2, 1]
abbrev dktX6_goDay_1 : List UInt8 := dkwX6_goDay_1 ++ dktX6_goDay_2
def dkwX6_goDay_0 : List UInt8 := [3, 61, 28, 7, 162, 0, 16, 42, 180, 0, 78, 28, 3, 79, 132, 2, 1, 167, 255, 241, 3, 61, 28, 7]
abbrev dktX6_goDay_0 : List UInt8 := dkwX6_goDay_0 ++ dktX6_goDay_1
theorem dksX6_goDay_0 : cX6_goDay.data.toList.drop 0 = dktX6_goDay_0 := by decide +kernel
theorem dksX6_goDay_1 : cX6_goDay.data.toList.drop 24 = dktX6_goDay_1 := dk_seg dksX6_goDay_0 24 rfl rfl
theorem dksX6_goDay_2 : cX6_goDay.data.toList.drop 47 = dktX6_goDay_2 := dk_seg dksX6_goDay_1 23 rfl rfl
theorem dksX6_goDay_3 : cX6_goDay.data.toList.drop 69 = dktX6_goDay_3 := dk_seg dksX6_goDay_2 22 rfl rfl
theorem dksX6_goDay_4 : cX6_goDay.data.toList.drop 93 = dktX6_goDay_4 := dk_seg dksX6_goDay_3 24 rfl rfl
theorem dksX6_goDay_5 : cX6_goDay.data.toList.drop 117 = dktX6_goDay_5 := dk_seg dksX6_goDay_4 24 rfl rfl
theorem dksX6_goDay_6 : cX6_goDay.data.toList.drop 140 = dktX6_goDay_6 := dk_seg dksX6_goDay_5 23 rfl rfl
theorem dksX6_goDay_7 : cX6_goDay.data.toList.drop 164 = dktX6_goDay_7 := dk_seg dksX6_goDay_6 24 rfl rfl
theorem dX6_goDay_0 : decode cX6_goDay 0 = .ok (.iconst 0, 1) := dk_3 (dk_at dksX6_goDay_0 0 rfl rfl)
theorem dX6_goDay_1 : decode cX6_goDay 1 = .ok (.istore_n 2, 1) := dk_61 (dk_at dksX6_goDay_0 1 rfl rfl)
theorem dX6_goDay_2 : decode cX6_goDay 2 = .ok (.iload_n 2, 1) := dk_28 (dk_at dksX6_goDay_0 2 rfl rfl)
theorem dX6_goDay_3 : decode cX6_goDay 3 = .ok (.iconst 4, 1) := dk_7 (dk_at dksX6_goDay_0 3 rfl rfl)
theorem dX6_goDay_4 : decode cX6_goDay 4 = .ok (.if_icmp .ge 16, 3) := dk_162 0 16 (dk_at dksX6_goDay_0 4 rfl rfl)
theorem dX6_goDay_7 : decode cX6_goDay 7 = .ok (.aload_n 0, 1) := dk_42 (dk_at dksX6_goDay_0 7 rfl rfl)
theorem dX6_goDay_8 : decode cX6_goDay 8 = .ok (.getfield 78, 3) := dk_180 0 78 (dk_at dksX6_goDay_0 8 rfl rfl)
theorem dX6_goDay_11 : decode cX6_goDay 11 = .ok (.iload_n 2, 1) := dk_28 (dk_at dksX6_goDay_0 11 rfl rfl)
theorem dX6_goDay_12 : decode cX6_goDay 12 = .ok (.iconst 0, 1) := dk_3 (dk_at dksX6_goDay_0 12 rfl rfl)
theorem dX6_goDay_13 : decode cX6_goDay 13 = .ok (.iastore, 1) := dk_79 (dk_at dksX6_goDay_0 13 rfl rfl)
theorem dX6_goDay_14 : decode cX6_goDay 14 = .ok (.iinc 2 1, 3) := dk_132 2 1 (dk_at dksX6_goDay_0 14 rfl rfl)
theorem dX6_goDay_17 : decode cX6_goDay 17 = .ok (.goto (-15), 3) := dk_167 255 241 (dk_at dksX6_goDay_0 17 rfl rfl)
theorem dX6_goDay_20 : decode cX6_goDay 20 = .ok (.iconst 0, 1) := dk_3 (dk_at dksX6_goDay_0 20 rfl rfl)
theorem dX6_goDay_21 : decode cX6_goDay 21 = .ok (.istore_n 2, 1) := dk_61 (dk_at dksX6_goDay_0 21 rfl rfl)
theorem dX6_goDay_22 : decode cX6_goDay 22 = .ok (.iload_n 2, 1) := dk_28 (dk_at dksX6_goDay_0 22 rfl rfl)
theorem dX6_goDay_23 : decode cX6_goDay 23 = .ok (.iconst 4, 1) := dk_7 (dk_at dksX6_goDay_0 23 rfl rfl)
theorem dX6_goDay_24 : decode cX6_goDay 24 = .ok (.if_icmp .ge 26, 3) := dk_162 0 26 (dk_at dksX6_goDay_1 0 rfl rfl)
theorem dX6_goDay_27 : decode cX6_goDay 27 = .ok (.aload_n 0, 1) := dk_42 (dk_at dksX6_goDay_1 3 rfl rfl)
theorem dX6_goDay_28 : decode cX6_goDay 28 = .ok (.getfield 147, 3) := dk_180 0 147 (dk_at dksX6_goDay_1 4 rfl rfl)
theorem dX6_goDay_31 : decode cX6_goDay 31 = .ok (.iload_n 2, 1) := dk_28 (dk_at dksX6_goDay_1 7 rfl rfl)
theorem dX6_goDay_32 : decode cX6_goDay 32 = .ok (.invokestatic 169, 3) := dk_184 0 169 (dk_at dksX6_goDay_1 8 rfl rfl)
theorem dX6_goDay_35 : decode cX6_goDay 35 = .ok (.ifCond .eq 9, 3) := dk_153 0 9 (dk_at dksX6_goDay_1 11 rfl rfl)
theorem dX6_goDay_38 : decode cX6_goDay 38 = .ok (.aload_n 0, 1) := dk_42 (dk_at dksX6_goDay_1 14 rfl rfl)
theorem dX6_goDay_39 : decode cX6_goDay 39 = .ok (.iload_n 1, 1) := dk_27 (dk_at dksX6_goDay_1 15 rfl rfl)
theorem dX6_goDay_40 : decode cX6_goDay 40 = .ok (.iload_n 2, 1) := dk_28 (dk_at dksX6_goDay_1 16 rfl rfl)
theorem dX6_goDay_41 : decode cX6_goDay 41 = .ok (.invokevirtual 198, 3) := dk_182 0 198 (dk_at dksX6_goDay_1 17 rfl rfl)
theorem dX6_goDay_44 : decode cX6_goDay 44 = .ok (.iinc 2 1, 3) := dk_132 2 1 (dk_at dksX6_goDay_1 20 rfl rfl)
theorem dX6_goDay_47 : decode cX6_goDay 47 = .ok (.goto (-25), 3) := dk_167 255 231 (dk_at dksX6_goDay_2 0 rfl rfl)
theorem dX6_goDay_50 : decode cX6_goDay 50 = .ok (.iconst 0, 1) := dk_3 (dk_at dksX6_goDay_2 3 rfl rfl)
theorem dX6_goDay_51 : decode cX6_goDay 51 = .ok (.istore_n 2, 1) := dk_61 (dk_at dksX6_goDay_2 4 rfl rfl)
theorem dX6_goDay_52 : decode cX6_goDay 52 = .ok (.iload_n 2, 1) := dk_28 (dk_at dksX6_goDay_2 5 rfl rfl)
theorem dX6_goDay_53 : decode cX6_goDay 53 = .ok (.iconst 4, 1) := dk_7 (dk_at dksX6_goDay_2 6 rfl rfl)
theorem dX6_goDay_54 : decode cX6_goDay 54 = .ok (.if_icmp .ge 118, 3) := dk_162 0 118 (dk_at dksX6_goDay_2 7 rfl rfl)
theorem dX6_goDay_57 : decode cX6_goDay 57 = .ok (.aload_n 0, 1) := dk_42 (dk_at dksX6_goDay_2 10 rfl rfl)
theorem dX6_goDay_58 : decode cX6_goDay 58 = .ok (.getfield 147, 3) := dk_180 0 147 (dk_at dksX6_goDay_2 11 rfl rfl)
theorem dX6_goDay_61 : decode cX6_goDay 61 = .ok (.iload_n 2, 1) := dk_28 (dk_at dksX6_goDay_2 14 rfl rfl)
theorem dX6_goDay_62 : decode cX6_goDay 62 = .ok (.invokestatic 169, 3) := dk_184 0 169 (dk_at dksX6_goDay_2 15 rfl rfl)
theorem dX6_goDay_65 : decode cX6_goDay 65 = .ok (.ifCond .eq 27, 3) := dk_153 0 27 (dk_at dksX6_goDay_2 18 rfl rfl)
theorem dX6_goDay_68 : decode cX6_goDay 68 = .ok (.aload_n 0, 1) := dk_42 (dk_at dksX6_goDay_2 21 rfl rfl)
theorem dX6_goDay_69 : decode cX6_goDay 69 = .ok (.getfield 75, 3) := dk_180 0 75 (dk_at dksX6_goDay_3 0 rfl rfl)
theorem dX6_goDay_72 : decode cX6_goDay 72 = .ok (.iload_n 2, 1) := dk_28 (dk_at dksX6_goDay_3 3 rfl rfl)
theorem dX6_goDay_73 : decode cX6_goDay 73 = .ok (.iaload, 1) := dk_46 (dk_at dksX6_goDay_3 4 rfl rfl)
theorem dX6_goDay_74 : decode cX6_goDay 74 = .ok (.iconst (-1), 1) := dk_2 (dk_at dksX6_goDay_3 5 rfl rfl)
theorem dX6_goDay_75 : decode cX6_goDay 75 = .ok (.if_icmp .eq 17, 3) := dk_159 0 17 (dk_at dksX6_goDay_3 6 rfl rfl)
theorem dX6_goDay_78 : decode cX6_goDay 78 = .ok (.aload_n 0, 1) := dk_42 (dk_at dksX6_goDay_3 9 rfl rfl)
theorem dX6_goDay_79 : decode cX6_goDay 79 = .ok (.iload_n 1, 1) := dk_27 (dk_at dksX6_goDay_3 10 rfl rfl)
theorem dX6_goDay_80 : decode cX6_goDay 80 = .ok (.aload_n 0, 1) := dk_42 (dk_at dksX6_goDay_3 11 rfl rfl)
theorem dX6_goDay_81 : decode cX6_goDay 81 = .ok (.getfield 75, 3) := dk_180 0 75 (dk_at dksX6_goDay_3 12 rfl rfl)
theorem dX6_goDay_84 : decode cX6_goDay 84 = .ok (.iload_n 2, 1) := dk_28 (dk_at dksX6_goDay_3 15 rfl rfl)
theorem dX6_goDay_85 : decode cX6_goDay 85 = .ok (.iaload, 1) := dk_46 (dk_at dksX6_goDay_3 16 rfl rfl)
theorem dX6_goDay_86 : decode cX6_goDay 86 = .ok (.invokevirtual 191, 3) := dk_182 0 191 (dk_at dksX6_goDay_3 17 rfl rfl)
theorem dX6_goDay_89 : decode cX6_goDay 89 = .ok (.goto 4, 3) := dk_167 0 4 (dk_at dksX6_goDay_3 20 rfl rfl)
theorem dX6_goDay_92 : decode cX6_goDay 92 = .ok (.iconst (-1), 1) := dk_2 (dk_at dksX6_goDay_3 23 rfl rfl)
theorem dX6_goDay_93 : decode cX6_goDay 93 = .ok (.istore_n 3, 1) := dk_62 (dk_at dksX6_goDay_4 0 rfl rfl)
theorem dX6_goDay_94 : decode cX6_goDay 94 = .ok (.iload_n 3, 1) := dk_29 (dk_at dksX6_goDay_4 1 rfl rfl)
theorem dX6_goDay_95 : decode cX6_goDay 95 = .ok (.iconst (-1), 1) := dk_2 (dk_at dksX6_goDay_4 2 rfl rfl)
theorem dX6_goDay_96 : decode cX6_goDay 96 = .ok (.if_icmp .eq 70, 3) := dk_159 0 70 (dk_at dksX6_goDay_4 3 rfl rfl)
theorem dX6_goDay_99 : decode cX6_goDay 99 = .ok (.aload_n 0, 1) := dk_42 (dk_at dksX6_goDay_4 6 rfl rfl)
theorem dX6_goDay_100 : decode cX6_goDay 100 = .ok (.getfield 59, 3) := dk_180 0 59 (dk_at dksX6_goDay_4 7 rfl rfl)
theorem dX6_goDay_103 : decode cX6_goDay 103 = .ok (.iconst (-1), 1) := dk_2 (dk_at dksX6_goDay_4 10 rfl rfl)
theorem dX6_goDay_104 : decode cX6_goDay 104 = .ok (.if_icmp .ne 12, 3) := dk_160 0 12 (dk_at dksX6_goDay_4 11 rfl rfl)
theorem dX6_goDay_107 : decode cX6_goDay 107 = .ok (.aload_n 0, 1) := dk_42 (dk_at dksX6_goDay_4 14 rfl rfl)
theorem dX6_goDay_108 : decode cX6_goDay 108 = .ok (.getfield 31, 3) := dk_180 0 31 (dk_at dksX6_goDay_4 15 rfl rfl)
theorem dX6_goDay_111 : decode cX6_goDay 111 = .ok (.iload_n 3, 1) := dk_29 (dk_at dksX6_goDay_4 18 rfl rfl)
theorem dX6_goDay_112 : decode cX6_goDay 112 = .ok (.iaload, 1) := dk_46 (dk_at dksX6_goDay_4 19 rfl rfl)
theorem dX6_goDay_113 : decode cX6_goDay 113 = .ok (.goto 7, 3) := dk_167 0 7 (dk_at dksX6_goDay_4 20 rfl rfl)
theorem dX6_goDay_116 : decode cX6_goDay 116 = .ok (.aload_n 0, 1) := dk_42 (dk_at dksX6_goDay_4 23 rfl rfl)
theorem dX6_goDay_117 : decode cX6_goDay 117 = .ok (.getfield 59, 3) := dk_180 0 59 (dk_at dksX6_goDay_5 0 rfl rfl)
theorem dX6_goDay_120 : decode cX6_goDay 120 = .ok (.istore 4, 2) := dk_54 4 (dk_at dksX6_goDay_5 3 rfl rfl)
theorem dX6_goDay_122 : decode cX6_goDay 122 = .ok (.aload_n 0, 1) := dk_42 (dk_at dksX6_goDay_5 5 rfl rfl)
theorem dX6_goDay_123 : decode cX6_goDay 123 = .ok (.getfield 72, 3) := dk_180 0 72 (dk_at dksX6_goDay_5 6 rfl rfl)
theorem dX6_goDay_126 : decode cX6_goDay 126 = .ok (.iconst 4, 1) := dk_7 (dk_at dksX6_goDay_5 9 rfl rfl)
theorem dX6_goDay_127 : decode cX6_goDay 127 = .ok (.iload_n 2, 1) := dk_28 (dk_at dksX6_goDay_5 10 rfl rfl)
theorem dX6_goDay_128 : decode cX6_goDay 128 = .ok (.imul, 1) := dk_104 (dk_at dksX6_goDay_5 11 rfl rfl)
theorem dX6_goDay_129 : decode cX6_goDay 129 = .ok (.iload_n 3, 1) := dk_29 (dk_at dksX6_goDay_5 12 rfl rfl)
theorem dX6_goDay_130 : decode cX6_goDay 130 = .ok (.iadd, 1) := dk_96 (dk_at dksX6_goDay_5 13 rfl rfl)
theorem dX6_goDay_131 : decode cX6_goDay 131 = .ok (.aload_n 0, 1) := dk_42 (dk_at dksX6_goDay_5 14 rfl rfl)
theorem dX6_goDay_132 : decode cX6_goDay 132 = .ok (.iload_n 1, 1) := dk_27 (dk_at dksX6_goDay_5 15 rfl rfl)
theorem dX6_goDay_133 : decode cX6_goDay 133 = .ok (.iload_n 3, 1) := dk_29 (dk_at dksX6_goDay_5 16 rfl rfl)
theorem dX6_goDay_134 : decode cX6_goDay 134 = .ok (.invokevirtual 202, 3) := dk_182 0 202 (dk_at dksX6_goDay_5 17 rfl rfl)
theorem dX6_goDay_137 : decode cX6_goDay 137 = .ok (.ifCond .eq 9, 3) := dk_153 0 9 (dk_at dksX6_goDay_5 20 rfl rfl)
theorem dX6_goDay_140 : decode cX6_goDay 140 = .ok (.sipush 999, 3) := dk_17 3 231 (dk_at dksX6_goDay_6 0 rfl rfl)
theorem dX6_goDay_143 : decode cX6_goDay 143 = .ok (.goto 22, 3) := dk_167 0 22 (dk_at dksX6_goDay_6 3 rfl rfl)
theorem dX6_goDay_146 : decode cX6_goDay 146 = .ok (.aload_n 0, 1) := dk_42 (dk_at dksX6_goDay_6 6 rfl rfl)
theorem dX6_goDay_147 : decode cX6_goDay 147 = .ok (.getfield 72, 3) := dk_180 0 72 (dk_at dksX6_goDay_6 7 rfl rfl)
theorem dX6_goDay_150 : decode cX6_goDay 150 = .ok (.iconst 4, 1) := dk_7 (dk_at dksX6_goDay_6 10 rfl rfl)
theorem dX6_goDay_151 : decode cX6_goDay 151 = .ok (.iload_n 2, 1) := dk_28 (dk_at dksX6_goDay_6 11 rfl rfl)
theorem dX6_goDay_152 : decode cX6_goDay 152 = .ok (.imul, 1) := dk_104 (dk_at dksX6_goDay_6 12 rfl rfl)
theorem dX6_goDay_153 : decode cX6_goDay 153 = .ok (.iload_n 3, 1) := dk_29 (dk_at dksX6_goDay_6 13 rfl rfl)
theorem dX6_goDay_154 : decode cX6_goDay 154 = .ok (.iadd, 1) := dk_96 (dk_at dksX6_goDay_6 14 rfl rfl)
theorem dX6_goDay_155 : decode cX6_goDay 155 = .ok (.iaload, 1) := dk_46 (dk_at dksX6_goDay_6 15 rfl rfl)
theorem dX6_goDay_156 : decode cX6_goDay 156 = .ok (.bipush 100, 2) := dk_16 100 (dk_at dksX6_goDay_6 16 rfl rfl)
theorem dX6_goDay_158 : decode cX6_goDay 158 = .ok (.iload 4, 2) := dk_21 4 (dk_at dksX6_goDay_6 18 rfl rfl)
theorem dX6_goDay_160 : decode cX6_goDay 160 = .ok (.isub, 1) := dk_100 (dk_at dksX6_goDay_6 20 rfl rfl)
theorem dX6_goDay_161 : decode cX6_goDay 161 = .ok (.imul, 1) := dk_104 (dk_at dksX6_goDay_6 21 rfl rfl)
theorem dX6_goDay_162 : decode cX6_goDay 162 = .ok (.bipush 100, 2) := dk_16 100 (dk_at dksX6_goDay_6 22 rfl rfl)
theorem dX6_goDay_164 : decode cX6_goDay 164 = .ok (.idiv, 1) := dk_108 (dk_at dksX6_goDay_7 0 rfl rfl)
theorem dX6_goDay_165 : decode cX6_goDay 165 = .ok (.iastore, 1) := dk_79 (dk_at dksX6_goDay_7 1 rfl rfl)
theorem dX6_goDay_166 : decode cX6_goDay 166 = .ok (.iinc 2 1, 3) := dk_132 2 1 (dk_at dksX6_goDay_7 2 rfl rfl)
theorem dX6_goDay_169 : decode cX6_goDay 169 = .ok (.goto (-117), 3) := dk_167 255 139 (dk_at dksX6_goDay_7 5 rfl rfl)
theorem dX6_goDay_172 : decode cX6_goDay 172 = .ok (.aload_n 0, 1) := dk_42 (dk_at dksX6_goDay_7 8 rfl rfl)
theorem dX6_goDay_173 : decode cX6_goDay 173 = .ok (.invokevirtual 205, 3) := dk_182 0 205 (dk_at dksX6_goDay_7 9 rfl rfl)
theorem dX6_goDay_176 : decode cX6_goDay 176 = .ok (.return_, 1) := dk_177 (dk_at dksX6_goDay_7 12 rfl rfl)
abbrev cX6_fly : ByteArray := prog_12_method_27_code
def yX6_fly : MethodName := ⟨RX6, "fly", "(II)V"⟩
def dkwX6_fly_9 : List UInt8 := [177]
abbrev dktX6_fly_9 : List UInt8 := dkwX6_fly_9 ++ []
def dkwX6_fly_8 : List UInt8 := [54, 5, 42, 180, 0, 69, 29, 92, 46, 21, 5, 100, 79, 42, 180, 0, 78, 29, 92, 46, 21, 5, 96, 79]
abbrev dktX6_fly_8 : List UInt8 := dkwX6_fly_8 ++ dktX6_fly_9
def dkwX6_fly_7 : List UInt8 := [180, 0, 25, 28, 46, 162, 0, 12, 42, 180, 0, 69, 29, 46, 167, 0, 9, 42, 180, 0, 25, 28, 46]
abbrev dktX6_fly_7 : List UInt8 := dkwX6_fly_7 ++ dktX6_fly_8
def dkwX6_fly_6 : List UInt8 := [167, 255, 125, 42, 180, 0, 75, 28, 29, 79, 29, 2, 159, 0, 57, 42, 180, 0, 69, 29, 46, 42]
abbrev dktX6_fly_6 : List UInt8 := dkwX6_fly_6 ++ dktX6_fly_7
def dkwX6_fly_5 : List UInt8 := [167, 0, 4, 29, 62, 21, 8, 21, 4, 164, 0, 8, 21, 8, 167, 0, 5, 21, 4, 54, 4, 132, 5, 1]
abbrev dktX6_fly_5 : List UInt8 := dkwX6_fly_5 ++ dktX6_fly_6
def dkwX6_fly_4 : List UInt8 := [180, 0, 72, 7, 28, 104, 21, 6, 96, 46, 100, 54, 8, 21, 8, 21, 4, 164, 0, 8, 21, 5]
abbrev dktX6_fly_4 : List UInt8 := dkwX6_fly_4 ++ dktX6_fly_5
def dkwX6_fly_3 : List UInt8 := [21, 7, 104, 42, 180, 0, 19, 21, 5, 46, 100, 21, 6, 2, 160, 0, 7, 3, 167, 0, 14, 42]
abbrev dktX6_fly_3 : List UInt8 := dkwX6_fly_3 ++ dktX6_fly_4
def dkwX6_fly_2 : List UInt8 := [46, 162, 0, 13, 42, 180, 0, 69, 21, 5, 46, 167, 0, 9, 42, 180, 0, 25, 28, 46, 54, 7, 16, 10]
abbrev dktX6_fly_2 : List UInt8 := dkwX6_fly_2 ++ dktX6_fly_3
def dkwX6_fly_1 : List UInt8 := [153, 0, 113, 42, 27, 21, 5, 182, 0, 191, 54, 6, 42, 180, 0, 69, 21, 5, 46, 42, 180, 0, 25, 28]
abbrev dktX6_fly_1 : List UInt8 := dkwX6_fly_1 ++ dktX6_fly_2
def dkwX6_fly_0 : List UInt8 := [2, 62, 3, 54, 4, 3, 54, 5, 21, 5, 7, 162, 0, 131, 42, 180, 0, 144, 21, 5, 184, 0, 169]
abbrev dktX6_fly_0 : List UInt8 := dkwX6_fly_0 ++ dktX6_fly_1
theorem dksX6_fly_0 : cX6_fly.data.toList.drop 0 = dktX6_fly_0 := by decide +kernel
theorem dksX6_fly_1 : cX6_fly.data.toList.drop 23 = dktX6_fly_1 := dk_seg dksX6_fly_0 23 rfl rfl
theorem dksX6_fly_2 : cX6_fly.data.toList.drop 47 = dktX6_fly_2 := dk_seg dksX6_fly_1 24 rfl rfl
theorem dksX6_fly_3 : cX6_fly.data.toList.drop 71 = dktX6_fly_3 := dk_seg dksX6_fly_2 24 rfl rfl
theorem dksX6_fly_4 : cX6_fly.data.toList.drop 93 = dktX6_fly_4 := dk_seg dksX6_fly_3 22 rfl rfl
theorem dksX6_fly_5 : cX6_fly.data.toList.drop 115 = dktX6_fly_5 := dk_seg dksX6_fly_4 22 rfl rfl
theorem dksX6_fly_6 : cX6_fly.data.toList.drop 139 = dktX6_fly_6 := dk_seg dksX6_fly_5 24 rfl rfl
theorem dksX6_fly_7 : cX6_fly.data.toList.drop 161 = dktX6_fly_7 := dk_seg dksX6_fly_6 22 rfl rfl
theorem dksX6_fly_8 : cX6_fly.data.toList.drop 184 = dktX6_fly_8 := dk_seg dksX6_fly_7 23 rfl rfl
theorem dksX6_fly_9 : cX6_fly.data.toList.drop 208 = dktX6_fly_9 := dk_seg dksX6_fly_8 24 rfl rfl
theorem dX6_fly_0 : decode cX6_fly 0 = .ok (.iconst (-1), 1) := dk_2 (dk_at dksX6_fly_0 0 rfl rfl)
theorem dX6_fly_1 : decode cX6_fly 1 = .ok (.istore_n 3, 1) := dk_62 (dk_at dksX6_fly_0 1 rfl rfl)
theorem dX6_fly_2 : decode cX6_fly 2 = .ok (.iconst 0, 1) := dk_3 (dk_at dksX6_fly_0 2 rfl rfl)
theorem dX6_fly_3 : decode cX6_fly 3 = .ok (.istore 4, 2) := dk_54 4 (dk_at dksX6_fly_0 3 rfl rfl)
theorem dX6_fly_5 : decode cX6_fly 5 = .ok (.iconst 0, 1) := dk_3 (dk_at dksX6_fly_0 5 rfl rfl)
theorem dX6_fly_6 : decode cX6_fly 6 = .ok (.istore 5, 2) := dk_54 5 (dk_at dksX6_fly_0 6 rfl rfl)
theorem dX6_fly_8 : decode cX6_fly 8 = .ok (.iload 5, 2) := dk_21 5 (dk_at dksX6_fly_0 8 rfl rfl)
theorem dX6_fly_10 : decode cX6_fly 10 = .ok (.iconst 4, 1) := dk_7 (dk_at dksX6_fly_0 10 rfl rfl)
theorem dX6_fly_11 : decode cX6_fly 11 = .ok (.if_icmp .ge 131, 3) := dk_162 0 131 (dk_at dksX6_fly_0 11 rfl rfl)
theorem dX6_fly_14 : decode cX6_fly 14 = .ok (.aload_n 0, 1) := dk_42 (dk_at dksX6_fly_0 14 rfl rfl)
theorem dX6_fly_15 : decode cX6_fly 15 = .ok (.getfield 144, 3) := dk_180 0 144 (dk_at dksX6_fly_0 15 rfl rfl)
theorem dX6_fly_18 : decode cX6_fly 18 = .ok (.iload 5, 2) := dk_21 5 (dk_at dksX6_fly_0 18 rfl rfl)
theorem dX6_fly_20 : decode cX6_fly 20 = .ok (.invokestatic 169, 3) := dk_184 0 169 (dk_at dksX6_fly_0 20 rfl rfl)
theorem dX6_fly_23 : decode cX6_fly 23 = .ok (.ifCond .eq 113, 3) := dk_153 0 113 (dk_at dksX6_fly_1 0 rfl rfl)
theorem dX6_fly_26 : decode cX6_fly 26 = .ok (.aload_n 0, 1) := dk_42 (dk_at dksX6_fly_1 3 rfl rfl)
theorem dX6_fly_27 : decode cX6_fly 27 = .ok (.iload_n 1, 1) := dk_27 (dk_at dksX6_fly_1 4 rfl rfl)
theorem dX6_fly_28 : decode cX6_fly 28 = .ok (.iload 5, 2) := dk_21 5 (dk_at dksX6_fly_1 5 rfl rfl)
theorem dX6_fly_30 : decode cX6_fly 30 = .ok (.invokevirtual 191, 3) := dk_182 0 191 (dk_at dksX6_fly_1 7 rfl rfl)
theorem dX6_fly_33 : decode cX6_fly 33 = .ok (.istore 6, 2) := dk_54 6 (dk_at dksX6_fly_1 10 rfl rfl)
theorem dX6_fly_35 : decode cX6_fly 35 = .ok (.aload_n 0, 1) := dk_42 (dk_at dksX6_fly_1 12 rfl rfl)
theorem dX6_fly_36 : decode cX6_fly 36 = .ok (.getfield 69, 3) := dk_180 0 69 (dk_at dksX6_fly_1 13 rfl rfl)
theorem dX6_fly_39 : decode cX6_fly 39 = .ok (.iload 5, 2) := dk_21 5 (dk_at dksX6_fly_1 16 rfl rfl)
theorem dX6_fly_41 : decode cX6_fly 41 = .ok (.iaload, 1) := dk_46 (dk_at dksX6_fly_1 18 rfl rfl)
theorem dX6_fly_42 : decode cX6_fly 42 = .ok (.aload_n 0, 1) := dk_42 (dk_at dksX6_fly_1 19 rfl rfl)
theorem dX6_fly_43 : decode cX6_fly 43 = .ok (.getfield 25, 3) := dk_180 0 25 (dk_at dksX6_fly_1 20 rfl rfl)
theorem dX6_fly_46 : decode cX6_fly 46 = .ok (.iload_n 2, 1) := dk_28 (dk_at dksX6_fly_1 23 rfl rfl)
theorem dX6_fly_47 : decode cX6_fly 47 = .ok (.iaload, 1) := dk_46 (dk_at dksX6_fly_2 0 rfl rfl)
theorem dX6_fly_48 : decode cX6_fly 48 = .ok (.if_icmp .ge 13, 3) := dk_162 0 13 (dk_at dksX6_fly_2 1 rfl rfl)
theorem dX6_fly_51 : decode cX6_fly 51 = .ok (.aload_n 0, 1) := dk_42 (dk_at dksX6_fly_2 4 rfl rfl)
theorem dX6_fly_52 : decode cX6_fly 52 = .ok (.getfield 69, 3) := dk_180 0 69 (dk_at dksX6_fly_2 5 rfl rfl)
theorem dX6_fly_55 : decode cX6_fly 55 = .ok (.iload 5, 2) := dk_21 5 (dk_at dksX6_fly_2 8 rfl rfl)
theorem dX6_fly_57 : decode cX6_fly 57 = .ok (.iaload, 1) := dk_46 (dk_at dksX6_fly_2 10 rfl rfl)
theorem dX6_fly_58 : decode cX6_fly 58 = .ok (.goto 9, 3) := dk_167 0 9 (dk_at dksX6_fly_2 11 rfl rfl)
theorem dX6_fly_61 : decode cX6_fly 61 = .ok (.aload_n 0, 1) := dk_42 (dk_at dksX6_fly_2 14 rfl rfl)
theorem dX6_fly_62 : decode cX6_fly 62 = .ok (.getfield 25, 3) := dk_180 0 25 (dk_at dksX6_fly_2 15 rfl rfl)
theorem dX6_fly_65 : decode cX6_fly 65 = .ok (.iload_n 2, 1) := dk_28 (dk_at dksX6_fly_2 18 rfl rfl)
theorem dX6_fly_66 : decode cX6_fly 66 = .ok (.iaload, 1) := dk_46 (dk_at dksX6_fly_2 19 rfl rfl)
theorem dX6_fly_67 : decode cX6_fly 67 = .ok (.istore 7, 2) := dk_54 7 (dk_at dksX6_fly_2 20 rfl rfl)
theorem dX6_fly_69 : decode cX6_fly 69 = .ok (.bipush 10, 2) := dk_16 10 (dk_at dksX6_fly_2 22 rfl rfl)
theorem dX6_fly_71 : decode cX6_fly 71 = .ok (.iload 7, 2) := dk_21 7 (dk_at dksX6_fly_3 0 rfl rfl)
theorem dX6_fly_73 : decode cX6_fly 73 = .ok (.imul, 1) := dk_104 (dk_at dksX6_fly_3 2 rfl rfl)
theorem dX6_fly_74 : decode cX6_fly 74 = .ok (.aload_n 0, 1) := dk_42 (dk_at dksX6_fly_3 3 rfl rfl)
theorem dX6_fly_75 : decode cX6_fly 75 = .ok (.getfield 19, 3) := dk_180 0 19 (dk_at dksX6_fly_3 4 rfl rfl)
theorem dX6_fly_78 : decode cX6_fly 78 = .ok (.iload 5, 2) := dk_21 5 (dk_at dksX6_fly_3 7 rfl rfl)
theorem dX6_fly_80 : decode cX6_fly 80 = .ok (.iaload, 1) := dk_46 (dk_at dksX6_fly_3 9 rfl rfl)
theorem dX6_fly_81 : decode cX6_fly 81 = .ok (.isub, 1) := dk_100 (dk_at dksX6_fly_3 10 rfl rfl)
theorem dX6_fly_82 : decode cX6_fly 82 = .ok (.iload 6, 2) := dk_21 6 (dk_at dksX6_fly_3 11 rfl rfl)
theorem dX6_fly_84 : decode cX6_fly 84 = .ok (.iconst (-1), 1) := dk_2 (dk_at dksX6_fly_3 13 rfl rfl)
theorem dX6_fly_85 : decode cX6_fly 85 = .ok (.if_icmp .ne 7, 3) := dk_160 0 7 (dk_at dksX6_fly_3 14 rfl rfl)
theorem dX6_fly_88 : decode cX6_fly 88 = .ok (.iconst 0, 1) := dk_3 (dk_at dksX6_fly_3 17 rfl rfl)
theorem dX6_fly_89 : decode cX6_fly 89 = .ok (.goto 14, 3) := dk_167 0 14 (dk_at dksX6_fly_3 18 rfl rfl)
theorem dX6_fly_92 : decode cX6_fly 92 = .ok (.aload_n 0, 1) := dk_42 (dk_at dksX6_fly_3 21 rfl rfl)
theorem dX6_fly_93 : decode cX6_fly 93 = .ok (.getfield 72, 3) := dk_180 0 72 (dk_at dksX6_fly_4 0 rfl rfl)
theorem dX6_fly_96 : decode cX6_fly 96 = .ok (.iconst 4, 1) := dk_7 (dk_at dksX6_fly_4 3 rfl rfl)
theorem dX6_fly_97 : decode cX6_fly 97 = .ok (.iload_n 2, 1) := dk_28 (dk_at dksX6_fly_4 4 rfl rfl)
theorem dX6_fly_98 : decode cX6_fly 98 = .ok (.imul, 1) := dk_104 (dk_at dksX6_fly_4 5 rfl rfl)
theorem dX6_fly_99 : decode cX6_fly 99 = .ok (.iload 6, 2) := dk_21 6 (dk_at dksX6_fly_4 6 rfl rfl)
theorem dX6_fly_101 : decode cX6_fly 101 = .ok (.iadd, 1) := dk_96 (dk_at dksX6_fly_4 8 rfl rfl)
theorem dX6_fly_102 : decode cX6_fly 102 = .ok (.iaload, 1) := dk_46 (dk_at dksX6_fly_4 9 rfl rfl)
theorem dX6_fly_103 : decode cX6_fly 103 = .ok (.isub, 1) := dk_100 (dk_at dksX6_fly_4 10 rfl rfl)
theorem dX6_fly_104 : decode cX6_fly 104 = .ok (.istore 8, 2) := dk_54 8 (dk_at dksX6_fly_4 11 rfl rfl)
theorem dX6_fly_106 : decode cX6_fly 106 = .ok (.iload 8, 2) := dk_21 8 (dk_at dksX6_fly_4 13 rfl rfl)
theorem dX6_fly_108 : decode cX6_fly 108 = .ok (.iload 4, 2) := dk_21 4 (dk_at dksX6_fly_4 15 rfl rfl)
theorem dX6_fly_110 : decode cX6_fly 110 = .ok (.if_icmp .le 8, 3) := dk_164 0 8 (dk_at dksX6_fly_4 17 rfl rfl)
theorem dX6_fly_113 : decode cX6_fly 113 = .ok (.iload 5, 2) := dk_21 5 (dk_at dksX6_fly_4 20 rfl rfl)
theorem dX6_fly_115 : decode cX6_fly 115 = .ok (.goto 4, 3) := dk_167 0 4 (dk_at dksX6_fly_5 0 rfl rfl)
theorem dX6_fly_118 : decode cX6_fly 118 = .ok (.iload_n 3, 1) := dk_29 (dk_at dksX6_fly_5 3 rfl rfl)
theorem dX6_fly_119 : decode cX6_fly 119 = .ok (.istore_n 3, 1) := dk_62 (dk_at dksX6_fly_5 4 rfl rfl)
theorem dX6_fly_120 : decode cX6_fly 120 = .ok (.iload 8, 2) := dk_21 8 (dk_at dksX6_fly_5 5 rfl rfl)
theorem dX6_fly_122 : decode cX6_fly 122 = .ok (.iload 4, 2) := dk_21 4 (dk_at dksX6_fly_5 7 rfl rfl)
theorem dX6_fly_124 : decode cX6_fly 124 = .ok (.if_icmp .le 8, 3) := dk_164 0 8 (dk_at dksX6_fly_5 9 rfl rfl)
theorem dX6_fly_127 : decode cX6_fly 127 = .ok (.iload 8, 2) := dk_21 8 (dk_at dksX6_fly_5 12 rfl rfl)
theorem dX6_fly_129 : decode cX6_fly 129 = .ok (.goto 5, 3) := dk_167 0 5 (dk_at dksX6_fly_5 14 rfl rfl)
theorem dX6_fly_132 : decode cX6_fly 132 = .ok (.iload 4, 2) := dk_21 4 (dk_at dksX6_fly_5 17 rfl rfl)
theorem dX6_fly_134 : decode cX6_fly 134 = .ok (.istore 4, 2) := dk_54 4 (dk_at dksX6_fly_5 19 rfl rfl)
theorem dX6_fly_136 : decode cX6_fly 136 = .ok (.iinc 5 1, 3) := dk_132 5 1 (dk_at dksX6_fly_5 21 rfl rfl)
theorem dX6_fly_139 : decode cX6_fly 139 = .ok (.goto (-131), 3) := dk_167 255 125 (dk_at dksX6_fly_6 0 rfl rfl)
theorem dX6_fly_142 : decode cX6_fly 142 = .ok (.aload_n 0, 1) := dk_42 (dk_at dksX6_fly_6 3 rfl rfl)
theorem dX6_fly_143 : decode cX6_fly 143 = .ok (.getfield 75, 3) := dk_180 0 75 (dk_at dksX6_fly_6 4 rfl rfl)
theorem dX6_fly_146 : decode cX6_fly 146 = .ok (.iload_n 2, 1) := dk_28 (dk_at dksX6_fly_6 7 rfl rfl)
theorem dX6_fly_147 : decode cX6_fly 147 = .ok (.iload_n 3, 1) := dk_29 (dk_at dksX6_fly_6 8 rfl rfl)
theorem dX6_fly_148 : decode cX6_fly 148 = .ok (.iastore, 1) := dk_79 (dk_at dksX6_fly_6 9 rfl rfl)
theorem dX6_fly_149 : decode cX6_fly 149 = .ok (.iload_n 3, 1) := dk_29 (dk_at dksX6_fly_6 10 rfl rfl)
theorem dX6_fly_150 : decode cX6_fly 150 = .ok (.iconst (-1), 1) := dk_2 (dk_at dksX6_fly_6 11 rfl rfl)
theorem dX6_fly_151 : decode cX6_fly 151 = .ok (.if_icmp .eq 57, 3) := dk_159 0 57 (dk_at dksX6_fly_6 12 rfl rfl)
theorem dX6_fly_154 : decode cX6_fly 154 = .ok (.aload_n 0, 1) := dk_42 (dk_at dksX6_fly_6 15 rfl rfl)
theorem dX6_fly_155 : decode cX6_fly 155 = .ok (.getfield 69, 3) := dk_180 0 69 (dk_at dksX6_fly_6 16 rfl rfl)
theorem dX6_fly_158 : decode cX6_fly 158 = .ok (.iload_n 3, 1) := dk_29 (dk_at dksX6_fly_6 19 rfl rfl)
theorem dX6_fly_159 : decode cX6_fly 159 = .ok (.iaload, 1) := dk_46 (dk_at dksX6_fly_6 20 rfl rfl)
theorem dX6_fly_160 : decode cX6_fly 160 = .ok (.aload_n 0, 1) := dk_42 (dk_at dksX6_fly_6 21 rfl rfl)
theorem dX6_fly_161 : decode cX6_fly 161 = .ok (.getfield 25, 3) := dk_180 0 25 (dk_at dksX6_fly_7 0 rfl rfl)
theorem dX6_fly_164 : decode cX6_fly 164 = .ok (.iload_n 2, 1) := dk_28 (dk_at dksX6_fly_7 3 rfl rfl)
theorem dX6_fly_165 : decode cX6_fly 165 = .ok (.iaload, 1) := dk_46 (dk_at dksX6_fly_7 4 rfl rfl)
theorem dX6_fly_166 : decode cX6_fly 166 = .ok (.if_icmp .ge 12, 3) := dk_162 0 12 (dk_at dksX6_fly_7 5 rfl rfl)
theorem dX6_fly_169 : decode cX6_fly 169 = .ok (.aload_n 0, 1) := dk_42 (dk_at dksX6_fly_7 8 rfl rfl)
theorem dX6_fly_170 : decode cX6_fly 170 = .ok (.getfield 69, 3) := dk_180 0 69 (dk_at dksX6_fly_7 9 rfl rfl)
theorem dX6_fly_173 : decode cX6_fly 173 = .ok (.iload_n 3, 1) := dk_29 (dk_at dksX6_fly_7 12 rfl rfl)
theorem dX6_fly_174 : decode cX6_fly 174 = .ok (.iaload, 1) := dk_46 (dk_at dksX6_fly_7 13 rfl rfl)
theorem dX6_fly_175 : decode cX6_fly 175 = .ok (.goto 9, 3) := dk_167 0 9 (dk_at dksX6_fly_7 14 rfl rfl)
theorem dX6_fly_178 : decode cX6_fly 178 = .ok (.aload_n 0, 1) := dk_42 (dk_at dksX6_fly_7 17 rfl rfl)
theorem dX6_fly_179 : decode cX6_fly 179 = .ok (.getfield 25, 3) := dk_180 0 25 (dk_at dksX6_fly_7 18 rfl rfl)
theorem dX6_fly_182 : decode cX6_fly 182 = .ok (.iload_n 2, 1) := dk_28 (dk_at dksX6_fly_7 21 rfl rfl)
theorem dX6_fly_183 : decode cX6_fly 183 = .ok (.iaload, 1) := dk_46 (dk_at dksX6_fly_7 22 rfl rfl)
theorem dX6_fly_184 : decode cX6_fly 184 = .ok (.istore 5, 2) := dk_54 5 (dk_at dksX6_fly_8 0 rfl rfl)
theorem dX6_fly_186 : decode cX6_fly 186 = .ok (.aload_n 0, 1) := dk_42 (dk_at dksX6_fly_8 2 rfl rfl)
theorem dX6_fly_187 : decode cX6_fly 187 = .ok (.getfield 69, 3) := dk_180 0 69 (dk_at dksX6_fly_8 3 rfl rfl)
theorem dX6_fly_190 : decode cX6_fly 190 = .ok (.iload_n 3, 1) := dk_29 (dk_at dksX6_fly_8 6 rfl rfl)
theorem dX6_fly_191 : decode cX6_fly 191 = .ok (.dup2, 1) := dk_92 (dk_at dksX6_fly_8 7 rfl rfl)
theorem dX6_fly_192 : decode cX6_fly 192 = .ok (.iaload, 1) := dk_46 (dk_at dksX6_fly_8 8 rfl rfl)
theorem dX6_fly_193 : decode cX6_fly 193 = .ok (.iload 5, 2) := dk_21 5 (dk_at dksX6_fly_8 9 rfl rfl)
theorem dX6_fly_195 : decode cX6_fly 195 = .ok (.isub, 1) := dk_100 (dk_at dksX6_fly_8 11 rfl rfl)
theorem dX6_fly_196 : decode cX6_fly 196 = .ok (.iastore, 1) := dk_79 (dk_at dksX6_fly_8 12 rfl rfl)
theorem dX6_fly_197 : decode cX6_fly 197 = .ok (.aload_n 0, 1) := dk_42 (dk_at dksX6_fly_8 13 rfl rfl)
theorem dX6_fly_198 : decode cX6_fly 198 = .ok (.getfield 78, 3) := dk_180 0 78 (dk_at dksX6_fly_8 14 rfl rfl)
theorem dX6_fly_201 : decode cX6_fly 201 = .ok (.iload_n 3, 1) := dk_29 (dk_at dksX6_fly_8 17 rfl rfl)
theorem dX6_fly_202 : decode cX6_fly 202 = .ok (.dup2, 1) := dk_92 (dk_at dksX6_fly_8 18 rfl rfl)
theorem dX6_fly_203 : decode cX6_fly 203 = .ok (.iaload, 1) := dk_46 (dk_at dksX6_fly_8 19 rfl rfl)
theorem dX6_fly_204 : decode cX6_fly 204 = .ok (.iload 5, 2) := dk_21 5 (dk_at dksX6_fly_8 20 rfl rfl)
theorem dX6_fly_206 : decode cX6_fly 206 = .ok (.iadd, 1) := dk_96 (dk_at dksX6_fly_8 22 rfl rfl)
theorem dX6_fly_207 : decode cX6_fly 207 = .ok (.iastore, 1) := dk_79 (dk_at dksX6_fly_8 23 rfl rfl)
theorem dX6_fly_208 : decode cX6_fly 208 = .ok (.return_, 1) := dk_177 (dk_at dksX6_fly_9 0 rfl rfl)
abbrev cX6_coatAt : ByteArray := prog_12_method_24_code
def yX6_coatAt : MethodName := ⟨RX6, "coatAt", "(II)I"⟩
def dkwX6_coatAt_5 : List UInt8 := [180, 0, 50, 42, 180, 0, 22, 28, 46, 184, 0, 169, 154, 0, 7, 2, 167, 0, 4, 29, 172]
abbrev dktX6_coatAt_5 : List UInt8 := dkwX6_coatAt_5 ++ []
def dkwX6_coatAt_4 : List UInt8 := [180, 0, 150, 29, 184, 0, 169, 153, 0, 30, 42, 180, 0, 144, 28, 184, 0, 169, 153, 0, 19, 42]
abbrev dktX6_coatAt_4 : List UInt8 := dkwX6_coatAt_4 ++ dktX6_coatAt_5
def dkwX6_coatAt_3 : List UInt8 := [160, 0, 7, 2, 167, 0, 4, 29, 62, 29, 2, 159, 0, 49, 29, 42, 180, 0, 53, 159, 0, 41, 42]
abbrev dktX6_coatAt_3 : List UInt8 := dkwX6_coatAt_3 ++ dktX6_coatAt_4
def dkwX6_coatAt_2 : List UInt8 := [159, 0, 32, 28, 42, 180, 0, 185, 160, 0, 10, 42, 180, 0, 56, 167, 0, 16, 29, 42, 180, 0, 56]
abbrev dktX6_coatAt_2 : List UInt8 := dkwX6_coatAt_2 ++ dktX6_coatAt_3
def dkwX6_coatAt_1 : List UInt8 := [100, 167, 0, 15, 42, 180, 0, 41, 7, 27, 104, 28, 96, 46, 4, 100, 62, 42, 180, 0, 56, 2]
abbrev dktX6_coatAt_1 : List UInt8 := dkwX6_coatAt_1 ++ dktX6_coatAt_2
def dkwX6_coatAt_0 : List UInt8 := [27, 42, 180, 0, 63, 161, 0, 23, 42, 180, 0, 66, 7, 27, 42, 180, 0, 63, 100, 104, 28, 96, 46, 4]
abbrev dktX6_coatAt_0 : List UInt8 := dkwX6_coatAt_0 ++ dktX6_coatAt_1
theorem dksX6_coatAt_0 : cX6_coatAt.data.toList.drop 0 = dktX6_coatAt_0 := by decide +kernel
theorem dksX6_coatAt_1 : cX6_coatAt.data.toList.drop 24 = dktX6_coatAt_1 := dk_seg dksX6_coatAt_0 24 rfl rfl
theorem dksX6_coatAt_2 : cX6_coatAt.data.toList.drop 46 = dktX6_coatAt_2 := dk_seg dksX6_coatAt_1 22 rfl rfl
theorem dksX6_coatAt_3 : cX6_coatAt.data.toList.drop 69 = dktX6_coatAt_3 := dk_seg dksX6_coatAt_2 23 rfl rfl
theorem dksX6_coatAt_4 : cX6_coatAt.data.toList.drop 92 = dktX6_coatAt_4 := dk_seg dksX6_coatAt_3 23 rfl rfl
theorem dksX6_coatAt_5 : cX6_coatAt.data.toList.drop 114 = dktX6_coatAt_5 := dk_seg dksX6_coatAt_4 22 rfl rfl
theorem dX6_coatAt_0 : decode cX6_coatAt 0 = .ok (.iload_n 1, 1) := dk_27 (dk_at dksX6_coatAt_0 0 rfl rfl)
theorem dX6_coatAt_1 : decode cX6_coatAt 1 = .ok (.aload_n 0, 1) := dk_42 (dk_at dksX6_coatAt_0 1 rfl rfl)
theorem dX6_coatAt_2 : decode cX6_coatAt 2 = .ok (.getfield 63, 3) := dk_180 0 63 (dk_at dksX6_coatAt_0 2 rfl rfl)
theorem dX6_coatAt_5 : decode cX6_coatAt 5 = .ok (.if_icmp .lt 23, 3) := dk_161 0 23 (dk_at dksX6_coatAt_0 5 rfl rfl)
theorem dX6_coatAt_8 : decode cX6_coatAt 8 = .ok (.aload_n 0, 1) := dk_42 (dk_at dksX6_coatAt_0 8 rfl rfl)
theorem dX6_coatAt_9 : decode cX6_coatAt 9 = .ok (.getfield 66, 3) := dk_180 0 66 (dk_at dksX6_coatAt_0 9 rfl rfl)
theorem dX6_coatAt_12 : decode cX6_coatAt 12 = .ok (.iconst 4, 1) := dk_7 (dk_at dksX6_coatAt_0 12 rfl rfl)
theorem dX6_coatAt_13 : decode cX6_coatAt 13 = .ok (.iload_n 1, 1) := dk_27 (dk_at dksX6_coatAt_0 13 rfl rfl)
theorem dX6_coatAt_14 : decode cX6_coatAt 14 = .ok (.aload_n 0, 1) := dk_42 (dk_at dksX6_coatAt_0 14 rfl rfl)
theorem dX6_coatAt_15 : decode cX6_coatAt 15 = .ok (.getfield 63, 3) := dk_180 0 63 (dk_at dksX6_coatAt_0 15 rfl rfl)
theorem dX6_coatAt_18 : decode cX6_coatAt 18 = .ok (.isub, 1) := dk_100 (dk_at dksX6_coatAt_0 18 rfl rfl)
theorem dX6_coatAt_19 : decode cX6_coatAt 19 = .ok (.imul, 1) := dk_104 (dk_at dksX6_coatAt_0 19 rfl rfl)
theorem dX6_coatAt_20 : decode cX6_coatAt 20 = .ok (.iload_n 2, 1) := dk_28 (dk_at dksX6_coatAt_0 20 rfl rfl)
theorem dX6_coatAt_21 : decode cX6_coatAt 21 = .ok (.iadd, 1) := dk_96 (dk_at dksX6_coatAt_0 21 rfl rfl)
theorem dX6_coatAt_22 : decode cX6_coatAt 22 = .ok (.iaload, 1) := dk_46 (dk_at dksX6_coatAt_0 22 rfl rfl)
theorem dX6_coatAt_23 : decode cX6_coatAt 23 = .ok (.iconst 1, 1) := dk_4 (dk_at dksX6_coatAt_0 23 rfl rfl)
theorem dX6_coatAt_24 : decode cX6_coatAt 24 = .ok (.isub, 1) := dk_100 (dk_at dksX6_coatAt_1 0 rfl rfl)
theorem dX6_coatAt_25 : decode cX6_coatAt 25 = .ok (.goto 15, 3) := dk_167 0 15 (dk_at dksX6_coatAt_1 1 rfl rfl)
theorem dX6_coatAt_28 : decode cX6_coatAt 28 = .ok (.aload_n 0, 1) := dk_42 (dk_at dksX6_coatAt_1 4 rfl rfl)
theorem dX6_coatAt_29 : decode cX6_coatAt 29 = .ok (.getfield 41, 3) := dk_180 0 41 (dk_at dksX6_coatAt_1 5 rfl rfl)
theorem dX6_coatAt_32 : decode cX6_coatAt 32 = .ok (.iconst 4, 1) := dk_7 (dk_at dksX6_coatAt_1 8 rfl rfl)
theorem dX6_coatAt_33 : decode cX6_coatAt 33 = .ok (.iload_n 1, 1) := dk_27 (dk_at dksX6_coatAt_1 9 rfl rfl)
theorem dX6_coatAt_34 : decode cX6_coatAt 34 = .ok (.imul, 1) := dk_104 (dk_at dksX6_coatAt_1 10 rfl rfl)
theorem dX6_coatAt_35 : decode cX6_coatAt 35 = .ok (.iload_n 2, 1) := dk_28 (dk_at dksX6_coatAt_1 11 rfl rfl)
theorem dX6_coatAt_36 : decode cX6_coatAt 36 = .ok (.iadd, 1) := dk_96 (dk_at dksX6_coatAt_1 12 rfl rfl)
theorem dX6_coatAt_37 : decode cX6_coatAt 37 = .ok (.iaload, 1) := dk_46 (dk_at dksX6_coatAt_1 13 rfl rfl)
theorem dX6_coatAt_38 : decode cX6_coatAt 38 = .ok (.iconst 1, 1) := dk_4 (dk_at dksX6_coatAt_1 14 rfl rfl)
theorem dX6_coatAt_39 : decode cX6_coatAt 39 = .ok (.isub, 1) := dk_100 (dk_at dksX6_coatAt_1 15 rfl rfl)
theorem dX6_coatAt_40 : decode cX6_coatAt 40 = .ok (.istore_n 3, 1) := dk_62 (dk_at dksX6_coatAt_1 16 rfl rfl)
theorem dX6_coatAt_41 : decode cX6_coatAt 41 = .ok (.aload_n 0, 1) := dk_42 (dk_at dksX6_coatAt_1 17 rfl rfl)
theorem dX6_coatAt_42 : decode cX6_coatAt 42 = .ok (.getfield 56, 3) := dk_180 0 56 (dk_at dksX6_coatAt_1 18 rfl rfl)
theorem dX6_coatAt_45 : decode cX6_coatAt 45 = .ok (.iconst (-1), 1) := dk_2 (dk_at dksX6_coatAt_1 21 rfl rfl)
theorem dX6_coatAt_46 : decode cX6_coatAt 46 = .ok (.if_icmp .eq 32, 3) := dk_159 0 32 (dk_at dksX6_coatAt_2 0 rfl rfl)
theorem dX6_coatAt_49 : decode cX6_coatAt 49 = .ok (.iload_n 2, 1) := dk_28 (dk_at dksX6_coatAt_2 3 rfl rfl)
theorem dX6_coatAt_50 : decode cX6_coatAt 50 = .ok (.aload_n 0, 1) := dk_42 (dk_at dksX6_coatAt_2 4 rfl rfl)
theorem dX6_coatAt_51 : decode cX6_coatAt 51 = .ok (.getfield 185, 3) := dk_180 0 185 (dk_at dksX6_coatAt_2 5 rfl rfl)
theorem dX6_coatAt_54 : decode cX6_coatAt 54 = .ok (.if_icmp .ne 10, 3) := dk_160 0 10 (dk_at dksX6_coatAt_2 8 rfl rfl)
theorem dX6_coatAt_57 : decode cX6_coatAt 57 = .ok (.aload_n 0, 1) := dk_42 (dk_at dksX6_coatAt_2 11 rfl rfl)
theorem dX6_coatAt_58 : decode cX6_coatAt 58 = .ok (.getfield 56, 3) := dk_180 0 56 (dk_at dksX6_coatAt_2 12 rfl rfl)
theorem dX6_coatAt_61 : decode cX6_coatAt 61 = .ok (.goto 16, 3) := dk_167 0 16 (dk_at dksX6_coatAt_2 15 rfl rfl)
theorem dX6_coatAt_64 : decode cX6_coatAt 64 = .ok (.iload_n 3, 1) := dk_29 (dk_at dksX6_coatAt_2 18 rfl rfl)
theorem dX6_coatAt_65 : decode cX6_coatAt 65 = .ok (.aload_n 0, 1) := dk_42 (dk_at dksX6_coatAt_2 19 rfl rfl)
theorem dX6_coatAt_66 : decode cX6_coatAt 66 = .ok (.getfield 56, 3) := dk_180 0 56 (dk_at dksX6_coatAt_2 20 rfl rfl)
theorem dX6_coatAt_69 : decode cX6_coatAt 69 = .ok (.if_icmp .ne 7, 3) := dk_160 0 7 (dk_at dksX6_coatAt_3 0 rfl rfl)
theorem dX6_coatAt_72 : decode cX6_coatAt 72 = .ok (.iconst (-1), 1) := dk_2 (dk_at dksX6_coatAt_3 3 rfl rfl)
theorem dX6_coatAt_73 : decode cX6_coatAt 73 = .ok (.goto 4, 3) := dk_167 0 4 (dk_at dksX6_coatAt_3 4 rfl rfl)
theorem dX6_coatAt_76 : decode cX6_coatAt 76 = .ok (.iload_n 3, 1) := dk_29 (dk_at dksX6_coatAt_3 7 rfl rfl)
theorem dX6_coatAt_77 : decode cX6_coatAt 77 = .ok (.istore_n 3, 1) := dk_62 (dk_at dksX6_coatAt_3 8 rfl rfl)
theorem dX6_coatAt_78 : decode cX6_coatAt 78 = .ok (.iload_n 3, 1) := dk_29 (dk_at dksX6_coatAt_3 9 rfl rfl)
theorem dX6_coatAt_79 : decode cX6_coatAt 79 = .ok (.iconst (-1), 1) := dk_2 (dk_at dksX6_coatAt_3 10 rfl rfl)
theorem dX6_coatAt_80 : decode cX6_coatAt 80 = .ok (.if_icmp .eq 49, 3) := dk_159 0 49 (dk_at dksX6_coatAt_3 11 rfl rfl)
theorem dX6_coatAt_83 : decode cX6_coatAt 83 = .ok (.iload_n 3, 1) := dk_29 (dk_at dksX6_coatAt_3 14 rfl rfl)
theorem dX6_coatAt_84 : decode cX6_coatAt 84 = .ok (.aload_n 0, 1) := dk_42 (dk_at dksX6_coatAt_3 15 rfl rfl)
theorem dX6_coatAt_85 : decode cX6_coatAt 85 = .ok (.getfield 53, 3) := dk_180 0 53 (dk_at dksX6_coatAt_3 16 rfl rfl)
theorem dX6_coatAt_88 : decode cX6_coatAt 88 = .ok (.if_icmp .eq 41, 3) := dk_159 0 41 (dk_at dksX6_coatAt_3 19 rfl rfl)
theorem dX6_coatAt_91 : decode cX6_coatAt 91 = .ok (.aload_n 0, 1) := dk_42 (dk_at dksX6_coatAt_3 22 rfl rfl)
theorem dX6_coatAt_92 : decode cX6_coatAt 92 = .ok (.getfield 150, 3) := dk_180 0 150 (dk_at dksX6_coatAt_4 0 rfl rfl)
theorem dX6_coatAt_95 : decode cX6_coatAt 95 = .ok (.iload_n 3, 1) := dk_29 (dk_at dksX6_coatAt_4 3 rfl rfl)
theorem dX6_coatAt_96 : decode cX6_coatAt 96 = .ok (.invokestatic 169, 3) := dk_184 0 169 (dk_at dksX6_coatAt_4 4 rfl rfl)
theorem dX6_coatAt_99 : decode cX6_coatAt 99 = .ok (.ifCond .eq 30, 3) := dk_153 0 30 (dk_at dksX6_coatAt_4 7 rfl rfl)
theorem dX6_coatAt_102 : decode cX6_coatAt 102 = .ok (.aload_n 0, 1) := dk_42 (dk_at dksX6_coatAt_4 10 rfl rfl)
theorem dX6_coatAt_103 : decode cX6_coatAt 103 = .ok (.getfield 144, 3) := dk_180 0 144 (dk_at dksX6_coatAt_4 11 rfl rfl)
theorem dX6_coatAt_106 : decode cX6_coatAt 106 = .ok (.iload_n 2, 1) := dk_28 (dk_at dksX6_coatAt_4 14 rfl rfl)
theorem dX6_coatAt_107 : decode cX6_coatAt 107 = .ok (.invokestatic 169, 3) := dk_184 0 169 (dk_at dksX6_coatAt_4 15 rfl rfl)
theorem dX6_coatAt_110 : decode cX6_coatAt 110 = .ok (.ifCond .eq 19, 3) := dk_153 0 19 (dk_at dksX6_coatAt_4 18 rfl rfl)
theorem dX6_coatAt_113 : decode cX6_coatAt 113 = .ok (.aload_n 0, 1) := dk_42 (dk_at dksX6_coatAt_4 21 rfl rfl)
theorem dX6_coatAt_114 : decode cX6_coatAt 114 = .ok (.getfield 50, 3) := dk_180 0 50 (dk_at dksX6_coatAt_5 0 rfl rfl)
theorem dX6_coatAt_117 : decode cX6_coatAt 117 = .ok (.aload_n 0, 1) := dk_42 (dk_at dksX6_coatAt_5 3 rfl rfl)
theorem dX6_coatAt_118 : decode cX6_coatAt 118 = .ok (.getfield 22, 3) := dk_180 0 22 (dk_at dksX6_coatAt_5 4 rfl rfl)
theorem dX6_coatAt_121 : decode cX6_coatAt 121 = .ok (.iload_n 2, 1) := dk_28 (dk_at dksX6_coatAt_5 7 rfl rfl)
theorem dX6_coatAt_122 : decode cX6_coatAt 122 = .ok (.iaload, 1) := dk_46 (dk_at dksX6_coatAt_5 8 rfl rfl)
theorem dX6_coatAt_123 : decode cX6_coatAt 123 = .ok (.invokestatic 169, 3) := dk_184 0 169 (dk_at dksX6_coatAt_5 9 rfl rfl)
theorem dX6_coatAt_126 : decode cX6_coatAt 126 = .ok (.ifCond .ne 7, 3) := dk_154 0 7 (dk_at dksX6_coatAt_5 12 rfl rfl)
theorem dX6_coatAt_129 : decode cX6_coatAt 129 = .ok (.iconst (-1), 1) := dk_2 (dk_at dksX6_coatAt_5 15 rfl rfl)
theorem dX6_coatAt_130 : decode cX6_coatAt 130 = .ok (.goto 4, 3) := dk_167 0 4 (dk_at dksX6_coatAt_5 16 rfl rfl)
theorem dX6_coatAt_133 : decode cX6_coatAt 133 = .ok (.iload_n 3, 1) := dk_29 (dk_at dksX6_coatAt_5 19 rfl rfl)
theorem dX6_coatAt_134 : decode cX6_coatAt 134 = .ok (.ireturn, 1) := dk_172 (dk_at dksX6_coatAt_5 20 rfl rfl)
abbrev cX6_isReal : ByteArray := prog_12_method_25_code
def yX6_isReal : MethodName := ⟨RX6, "isReal", "(II)Z"⟩
def dkwX6_isReal_1 : List UInt8 := [4, 167, 0, 17, 3, 167, 0, 13, 42, 180, 0, 44, 27, 46, 28, 184, 0, 169, 172]
abbrev dktX6_isReal_1 : List UInt8 := dkwX6_isReal_1 ++ []
def dkwX6_isReal_0 : List UInt8 := [28, 42, 180, 0, 56, 160, 0, 27, 42, 180, 0, 188, 158, 0, 16, 27, 42, 180, 0, 188, 112, 154, 0, 7]
abbrev dktX6_isReal_0 : List UInt8 := dkwX6_isReal_0 ++ dktX6_isReal_1
theorem dksX6_isReal_0 : cX6_isReal.data.toList.drop 0 = dktX6_isReal_0 := by decide +kernel
theorem dksX6_isReal_1 : cX6_isReal.data.toList.drop 24 = dktX6_isReal_1 := dk_seg dksX6_isReal_0 24 rfl rfl
theorem dX6_isReal_0 : decode cX6_isReal 0 = .ok (.iload_n 2, 1) := dk_28 (dk_at dksX6_isReal_0 0 rfl rfl)
theorem dX6_isReal_1 : decode cX6_isReal 1 = .ok (.aload_n 0, 1) := dk_42 (dk_at dksX6_isReal_0 1 rfl rfl)
theorem dX6_isReal_2 : decode cX6_isReal 2 = .ok (.getfield 56, 3) := dk_180 0 56 (dk_at dksX6_isReal_0 2 rfl rfl)
theorem dX6_isReal_5 : decode cX6_isReal 5 = .ok (.if_icmp .ne 27, 3) := dk_160 0 27 (dk_at dksX6_isReal_0 5 rfl rfl)
theorem dX6_isReal_8 : decode cX6_isReal 8 = .ok (.aload_n 0, 1) := dk_42 (dk_at dksX6_isReal_0 8 rfl rfl)
theorem dX6_isReal_9 : decode cX6_isReal 9 = .ok (.getfield 188, 3) := dk_180 0 188 (dk_at dksX6_isReal_0 9 rfl rfl)
theorem dX6_isReal_12 : decode cX6_isReal 12 = .ok (.ifCond .le 16, 3) := dk_158 0 16 (dk_at dksX6_isReal_0 12 rfl rfl)
theorem dX6_isReal_15 : decode cX6_isReal 15 = .ok (.iload_n 1, 1) := dk_27 (dk_at dksX6_isReal_0 15 rfl rfl)
theorem dX6_isReal_16 : decode cX6_isReal 16 = .ok (.aload_n 0, 1) := dk_42 (dk_at dksX6_isReal_0 16 rfl rfl)
theorem dX6_isReal_17 : decode cX6_isReal 17 = .ok (.getfield 188, 3) := dk_180 0 188 (dk_at dksX6_isReal_0 17 rfl rfl)
theorem dX6_isReal_20 : decode cX6_isReal 20 = .ok (.irem, 1) := dk_112 (dk_at dksX6_isReal_0 20 rfl rfl)
theorem dX6_isReal_21 : decode cX6_isReal 21 = .ok (.ifCond .ne 7, 3) := dk_154 0 7 (dk_at dksX6_isReal_0 21 rfl rfl)
theorem dX6_isReal_24 : decode cX6_isReal 24 = .ok (.iconst 1, 1) := dk_4 (dk_at dksX6_isReal_1 0 rfl rfl)
theorem dX6_isReal_25 : decode cX6_isReal 25 = .ok (.goto 17, 3) := dk_167 0 17 (dk_at dksX6_isReal_1 1 rfl rfl)
theorem dX6_isReal_28 : decode cX6_isReal 28 = .ok (.iconst 0, 1) := dk_3 (dk_at dksX6_isReal_1 4 rfl rfl)
theorem dX6_isReal_29 : decode cX6_isReal 29 = .ok (.goto 13, 3) := dk_167 0 13 (dk_at dksX6_isReal_1 5 rfl rfl)
theorem dX6_isReal_32 : decode cX6_isReal 32 = .ok (.aload_n 0, 1) := dk_42 (dk_at dksX6_isReal_1 8 rfl rfl)
theorem dX6_isReal_33 : decode cX6_isReal 33 = .ok (.getfield 44, 3) := dk_180 0 44 (dk_at dksX6_isReal_1 9 rfl rfl)
theorem dX6_isReal_36 : decode cX6_isReal 36 = .ok (.iload_n 1, 1) := dk_27 (dk_at dksX6_isReal_1 12 rfl rfl)
theorem dX6_isReal_37 : decode cX6_isReal 37 = .ok (.iaload, 1) := dk_46 (dk_at dksX6_isReal_1 13 rfl rfl)
theorem dX6_isReal_38 : decode cX6_isReal 38 = .ok (.iload_n 2, 1) := dk_28 (dk_at dksX6_isReal_1 14 rfl rfl)
theorem dX6_isReal_39 : decode cX6_isReal 39 = .ok (.invokestatic 169, 3) := dk_184 0 169 (dk_at dksX6_isReal_1 15 rfl rfl)
theorem dX6_isReal_42 : decode cX6_isReal 42 = .ok (.ireturn, 1) := dk_172 (dk_at dksX6_isReal_1 18 rfl rfl)
abbrev cX6_roost : ByteArray := prog_12_method_28_code
def yX6_roost : MethodName := ⟨RX6, "roost", "()V"⟩
def dkwX6_roost_8 : List UInt8 := [3, 96, 79, 132, 5, 1, 167, 255, 196, 132, 3, 1, 167, 255, 120, 177]
abbrev dktX6_roost_8 : List UInt8 := dkwX6_roost_8 ++ []
def dkwX6_roost_7 : List UInt8 := [21, 4, 28, 108, 42, 180, 0, 72, 7, 21, 5, 104, 29, 96, 46, 100, 27, 104, 16, 100, 108, 167, 0, 4]
abbrev dktX6_roost_7 : List UInt8 := dkwX6_roost_7 ++ dktX6_roost_8
def dkwX6_roost_6 : List UInt8 := [180, 0, 72, 7, 21, 5, 104, 29, 96, 92, 46, 42, 180, 0, 147, 21, 5, 184, 0, 169, 153, 0, 27]
abbrev dktX6_roost_6 : List UInt8 := dkwX6_roost_6 ++ dktX6_roost_7
def dkwX6_roost_5 : List UInt8 := [167, 0, 4, 3, 96, 54, 4, 132, 5, 1, 167, 255, 207, 3, 54, 5, 21, 5, 7, 162, 0, 60, 42]
abbrev dktX6_roost_5 : List UInt8 := dkwX6_roost_5 ++ dktX6_roost_6
def dkwX6_roost_4 : List UInt8 := [153, 0, 25, 42, 180, 0, 72, 7, 21, 5, 104, 29, 96, 46, 42, 180, 0, 25, 21, 5, 46, 104]
abbrev dktX6_roost_4 : List UInt8 := dkwX6_roost_4 ++ dktX6_roost_5
def dkwX6_roost_3 : List UInt8 := [54, 4, 3, 54, 5, 21, 5, 7, 162, 0, 49, 21, 4, 42, 180, 0, 147, 21, 5, 184, 0, 169]
abbrev dktX6_roost_3 : List UInt8 := dkwX6_roost_3 ++ dktX6_roost_4
def dkwX6_roost_2 : List UInt8 := [167, 0, 4, 3, 96, 61, 132, 3, 1, 167, 255, 224, 3, 62, 29, 7, 162, 0, 137, 28, 158, 0, 133, 3]
abbrev dktX6_roost_2 : List UInt8 := dkwX6_roost_2 ++ dktX6_roost_3
def dkwX6_roost_1 : List UInt8 := [29, 7, 162, 0, 33, 28, 42, 180, 0, 147, 29, 184, 0, 169, 153, 0, 12, 42, 180, 0, 25, 29, 46]
abbrev dktX6_roost_1 : List UInt8 := dkwX6_roost_1 ++ dktX6_roost_2
def dkwX6_roost_0 : List UInt8 := [42, 180, 0, 59, 2, 160, 0, 10, 42, 180, 0, 153, 167, 0, 7, 42, 180, 0, 195, 60, 3, 61, 3, 62]
abbrev dktX6_roost_0 : List UInt8 := dkwX6_roost_0 ++ dktX6_roost_1
theorem dksX6_roost_0 : cX6_roost.data.toList.drop 0 = dktX6_roost_0 := by decide +kernel
theorem dksX6_roost_1 : cX6_roost.data.toList.drop 24 = dktX6_roost_1 := dk_seg dksX6_roost_0 24 rfl rfl
theorem dksX6_roost_2 : cX6_roost.data.toList.drop 47 = dktX6_roost_2 := dk_seg dksX6_roost_1 23 rfl rfl
theorem dksX6_roost_3 : cX6_roost.data.toList.drop 71 = dktX6_roost_3 := dk_seg dksX6_roost_2 24 rfl rfl
theorem dksX6_roost_4 : cX6_roost.data.toList.drop 93 = dktX6_roost_4 := dk_seg dksX6_roost_3 22 rfl rfl
theorem dksX6_roost_5 : cX6_roost.data.toList.drop 115 = dktX6_roost_5 := dk_seg dksX6_roost_4 22 rfl rfl
theorem dksX6_roost_6 : cX6_roost.data.toList.drop 138 = dktX6_roost_6 := dk_seg dksX6_roost_5 23 rfl rfl
theorem dksX6_roost_7 : cX6_roost.data.toList.drop 161 = dktX6_roost_7 := dk_seg dksX6_roost_6 23 rfl rfl
theorem dksX6_roost_8 : cX6_roost.data.toList.drop 185 = dktX6_roost_8 := dk_seg dksX6_roost_7 24 rfl rfl
theorem dX6_roost_0 : decode cX6_roost 0 = .ok (.aload_n 0, 1) := dk_42 (dk_at dksX6_roost_0 0 rfl rfl)
theorem dX6_roost_1 : decode cX6_roost 1 = .ok (.getfield 59, 3) := dk_180 0 59 (dk_at dksX6_roost_0 1 rfl rfl)
theorem dX6_roost_4 : decode cX6_roost 4 = .ok (.iconst (-1), 1) := dk_2 (dk_at dksX6_roost_0 4 rfl rfl)
theorem dX6_roost_5 : decode cX6_roost 5 = .ok (.if_icmp .ne 10, 3) := dk_160 0 10 (dk_at dksX6_roost_0 5 rfl rfl)
theorem dX6_roost_8 : decode cX6_roost 8 = .ok (.aload_n 0, 1) := dk_42 (dk_at dksX6_roost_0 8 rfl rfl)
theorem dX6_roost_9 : decode cX6_roost 9 = .ok (.getfield 153, 3) := dk_180 0 153 (dk_at dksX6_roost_0 9 rfl rfl)
theorem dX6_roost_12 : decode cX6_roost 12 = .ok (.goto 7, 3) := dk_167 0 7 (dk_at dksX6_roost_0 12 rfl rfl)
theorem dX6_roost_15 : decode cX6_roost 15 = .ok (.aload_n 0, 1) := dk_42 (dk_at dksX6_roost_0 15 rfl rfl)
theorem dX6_roost_16 : decode cX6_roost 16 = .ok (.getfield 195, 3) := dk_180 0 195 (dk_at dksX6_roost_0 16 rfl rfl)
theorem dX6_roost_19 : decode cX6_roost 19 = .ok (.istore_n 1, 1) := dk_60 (dk_at dksX6_roost_0 19 rfl rfl)
theorem dX6_roost_20 : decode cX6_roost 20 = .ok (.iconst 0, 1) := dk_3 (dk_at dksX6_roost_0 20 rfl rfl)
theorem dX6_roost_21 : decode cX6_roost 21 = .ok (.istore_n 2, 1) := dk_61 (dk_at dksX6_roost_0 21 rfl rfl)
theorem dX6_roost_22 : decode cX6_roost 22 = .ok (.iconst 0, 1) := dk_3 (dk_at dksX6_roost_0 22 rfl rfl)
theorem dX6_roost_23 : decode cX6_roost 23 = .ok (.istore_n 3, 1) := dk_62 (dk_at dksX6_roost_0 23 rfl rfl)
theorem dX6_roost_24 : decode cX6_roost 24 = .ok (.iload_n 3, 1) := dk_29 (dk_at dksX6_roost_1 0 rfl rfl)
theorem dX6_roost_25 : decode cX6_roost 25 = .ok (.iconst 4, 1) := dk_7 (dk_at dksX6_roost_1 1 rfl rfl)
theorem dX6_roost_26 : decode cX6_roost 26 = .ok (.if_icmp .ge 33, 3) := dk_162 0 33 (dk_at dksX6_roost_1 2 rfl rfl)
theorem dX6_roost_29 : decode cX6_roost 29 = .ok (.iload_n 2, 1) := dk_28 (dk_at dksX6_roost_1 5 rfl rfl)
theorem dX6_roost_30 : decode cX6_roost 30 = .ok (.aload_n 0, 1) := dk_42 (dk_at dksX6_roost_1 6 rfl rfl)
theorem dX6_roost_31 : decode cX6_roost 31 = .ok (.getfield 147, 3) := dk_180 0 147 (dk_at dksX6_roost_1 7 rfl rfl)
theorem dX6_roost_34 : decode cX6_roost 34 = .ok (.iload_n 3, 1) := dk_29 (dk_at dksX6_roost_1 10 rfl rfl)
theorem dX6_roost_35 : decode cX6_roost 35 = .ok (.invokestatic 169, 3) := dk_184 0 169 (dk_at dksX6_roost_1 11 rfl rfl)
theorem dX6_roost_38 : decode cX6_roost 38 = .ok (.ifCond .eq 12, 3) := dk_153 0 12 (dk_at dksX6_roost_1 14 rfl rfl)
theorem dX6_roost_41 : decode cX6_roost 41 = .ok (.aload_n 0, 1) := dk_42 (dk_at dksX6_roost_1 17 rfl rfl)
theorem dX6_roost_42 : decode cX6_roost 42 = .ok (.getfield 25, 3) := dk_180 0 25 (dk_at dksX6_roost_1 18 rfl rfl)
theorem dX6_roost_45 : decode cX6_roost 45 = .ok (.iload_n 3, 1) := dk_29 (dk_at dksX6_roost_1 21 rfl rfl)
theorem dX6_roost_46 : decode cX6_roost 46 = .ok (.iaload, 1) := dk_46 (dk_at dksX6_roost_1 22 rfl rfl)
theorem dX6_roost_47 : decode cX6_roost 47 = .ok (.goto 4, 3) := dk_167 0 4 (dk_at dksX6_roost_2 0 rfl rfl)
theorem dX6_roost_50 : decode cX6_roost 50 = .ok (.iconst 0, 1) := dk_3 (dk_at dksX6_roost_2 3 rfl rfl)
theorem dX6_roost_51 : decode cX6_roost 51 = .ok (.iadd, 1) := dk_96 (dk_at dksX6_roost_2 4 rfl rfl)
theorem dX6_roost_52 : decode cX6_roost 52 = .ok (.istore_n 2, 1) := dk_61 (dk_at dksX6_roost_2 5 rfl rfl)
theorem dX6_roost_53 : decode cX6_roost 53 = .ok (.iinc 3 1, 3) := dk_132 3 1 (dk_at dksX6_roost_2 6 rfl rfl)
theorem dX6_roost_56 : decode cX6_roost 56 = .ok (.goto (-32), 3) := dk_167 255 224 (dk_at dksX6_roost_2 9 rfl rfl)
theorem dX6_roost_59 : decode cX6_roost 59 = .ok (.iconst 0, 1) := dk_3 (dk_at dksX6_roost_2 12 rfl rfl)
theorem dX6_roost_60 : decode cX6_roost 60 = .ok (.istore_n 3, 1) := dk_62 (dk_at dksX6_roost_2 13 rfl rfl)
theorem dX6_roost_61 : decode cX6_roost 61 = .ok (.iload_n 3, 1) := dk_29 (dk_at dksX6_roost_2 14 rfl rfl)
theorem dX6_roost_62 : decode cX6_roost 62 = .ok (.iconst 4, 1) := dk_7 (dk_at dksX6_roost_2 15 rfl rfl)
theorem dX6_roost_63 : decode cX6_roost 63 = .ok (.if_icmp .ge 137, 3) := dk_162 0 137 (dk_at dksX6_roost_2 16 rfl rfl)
theorem dX6_roost_66 : decode cX6_roost 66 = .ok (.iload_n 2, 1) := dk_28 (dk_at dksX6_roost_2 19 rfl rfl)
theorem dX6_roost_67 : decode cX6_roost 67 = .ok (.ifCond .le 133, 3) := dk_158 0 133 (dk_at dksX6_roost_2 20 rfl rfl)
theorem dX6_roost_70 : decode cX6_roost 70 = .ok (.iconst 0, 1) := dk_3 (dk_at dksX6_roost_2 23 rfl rfl)
theorem dX6_roost_71 : decode cX6_roost 71 = .ok (.istore 4, 2) := dk_54 4 (dk_at dksX6_roost_3 0 rfl rfl)
theorem dX6_roost_73 : decode cX6_roost 73 = .ok (.iconst 0, 1) := dk_3 (dk_at dksX6_roost_3 2 rfl rfl)
theorem dX6_roost_74 : decode cX6_roost 74 = .ok (.istore 5, 2) := dk_54 5 (dk_at dksX6_roost_3 3 rfl rfl)
theorem dX6_roost_76 : decode cX6_roost 76 = .ok (.iload 5, 2) := dk_21 5 (dk_at dksX6_roost_3 5 rfl rfl)
theorem dX6_roost_78 : decode cX6_roost 78 = .ok (.iconst 4, 1) := dk_7 (dk_at dksX6_roost_3 7 rfl rfl)
theorem dX6_roost_79 : decode cX6_roost 79 = .ok (.if_icmp .ge 49, 3) := dk_162 0 49 (dk_at dksX6_roost_3 8 rfl rfl)
theorem dX6_roost_82 : decode cX6_roost 82 = .ok (.iload 4, 2) := dk_21 4 (dk_at dksX6_roost_3 11 rfl rfl)
theorem dX6_roost_84 : decode cX6_roost 84 = .ok (.aload_n 0, 1) := dk_42 (dk_at dksX6_roost_3 13 rfl rfl)
theorem dX6_roost_85 : decode cX6_roost 85 = .ok (.getfield 147, 3) := dk_180 0 147 (dk_at dksX6_roost_3 14 rfl rfl)
theorem dX6_roost_88 : decode cX6_roost 88 = .ok (.iload 5, 2) := dk_21 5 (dk_at dksX6_roost_3 17 rfl rfl)
theorem dX6_roost_90 : decode cX6_roost 90 = .ok (.invokestatic 169, 3) := dk_184 0 169 (dk_at dksX6_roost_3 19 rfl rfl)
theorem dX6_roost_93 : decode cX6_roost 93 = .ok (.ifCond .eq 25, 3) := dk_153 0 25 (dk_at dksX6_roost_4 0 rfl rfl)
theorem dX6_roost_96 : decode cX6_roost 96 = .ok (.aload_n 0, 1) := dk_42 (dk_at dksX6_roost_4 3 rfl rfl)
theorem dX6_roost_97 : decode cX6_roost 97 = .ok (.getfield 72, 3) := dk_180 0 72 (dk_at dksX6_roost_4 4 rfl rfl)
theorem dX6_roost_100 : decode cX6_roost 100 = .ok (.iconst 4, 1) := dk_7 (dk_at dksX6_roost_4 7 rfl rfl)
theorem dX6_roost_101 : decode cX6_roost 101 = .ok (.iload 5, 2) := dk_21 5 (dk_at dksX6_roost_4 8 rfl rfl)
theorem dX6_roost_103 : decode cX6_roost 103 = .ok (.imul, 1) := dk_104 (dk_at dksX6_roost_4 10 rfl rfl)
theorem dX6_roost_104 : decode cX6_roost 104 = .ok (.iload_n 3, 1) := dk_29 (dk_at dksX6_roost_4 11 rfl rfl)
theorem dX6_roost_105 : decode cX6_roost 105 = .ok (.iadd, 1) := dk_96 (dk_at dksX6_roost_4 12 rfl rfl)
theorem dX6_roost_106 : decode cX6_roost 106 = .ok (.iaload, 1) := dk_46 (dk_at dksX6_roost_4 13 rfl rfl)
theorem dX6_roost_107 : decode cX6_roost 107 = .ok (.aload_n 0, 1) := dk_42 (dk_at dksX6_roost_4 14 rfl rfl)
theorem dX6_roost_108 : decode cX6_roost 108 = .ok (.getfield 25, 3) := dk_180 0 25 (dk_at dksX6_roost_4 15 rfl rfl)
theorem dX6_roost_111 : decode cX6_roost 111 = .ok (.iload 5, 2) := dk_21 5 (dk_at dksX6_roost_4 18 rfl rfl)
theorem dX6_roost_113 : decode cX6_roost 113 = .ok (.iaload, 1) := dk_46 (dk_at dksX6_roost_4 20 rfl rfl)
theorem dX6_roost_114 : decode cX6_roost 114 = .ok (.imul, 1) := dk_104 (dk_at dksX6_roost_4 21 rfl rfl)
theorem dX6_roost_115 : decode cX6_roost 115 = .ok (.goto 4, 3) := dk_167 0 4 (dk_at dksX6_roost_5 0 rfl rfl)
theorem dX6_roost_118 : decode cX6_roost 118 = .ok (.iconst 0, 1) := dk_3 (dk_at dksX6_roost_5 3 rfl rfl)
theorem dX6_roost_119 : decode cX6_roost 119 = .ok (.iadd, 1) := dk_96 (dk_at dksX6_roost_5 4 rfl rfl)
theorem dX6_roost_120 : decode cX6_roost 120 = .ok (.istore 4, 2) := dk_54 4 (dk_at dksX6_roost_5 5 rfl rfl)
theorem dX6_roost_122 : decode cX6_roost 122 = .ok (.iinc 5 1, 3) := dk_132 5 1 (dk_at dksX6_roost_5 7 rfl rfl)
theorem dX6_roost_125 : decode cX6_roost 125 = .ok (.goto (-49), 3) := dk_167 255 207 (dk_at dksX6_roost_5 10 rfl rfl)
theorem dX6_roost_128 : decode cX6_roost 128 = .ok (.iconst 0, 1) := dk_3 (dk_at dksX6_roost_5 13 rfl rfl)
theorem dX6_roost_129 : decode cX6_roost 129 = .ok (.istore 5, 2) := dk_54 5 (dk_at dksX6_roost_5 14 rfl rfl)
theorem dX6_roost_131 : decode cX6_roost 131 = .ok (.iload 5, 2) := dk_21 5 (dk_at dksX6_roost_5 16 rfl rfl)
theorem dX6_roost_133 : decode cX6_roost 133 = .ok (.iconst 4, 1) := dk_7 (dk_at dksX6_roost_5 18 rfl rfl)
theorem dX6_roost_134 : decode cX6_roost 134 = .ok (.if_icmp .ge 60, 3) := dk_162 0 60 (dk_at dksX6_roost_5 19 rfl rfl)
theorem dX6_roost_137 : decode cX6_roost 137 = .ok (.aload_n 0, 1) := dk_42 (dk_at dksX6_roost_5 22 rfl rfl)
theorem dX6_roost_138 : decode cX6_roost 138 = .ok (.getfield 72, 3) := dk_180 0 72 (dk_at dksX6_roost_6 0 rfl rfl)
theorem dX6_roost_141 : decode cX6_roost 141 = .ok (.iconst 4, 1) := dk_7 (dk_at dksX6_roost_6 3 rfl rfl)
theorem dX6_roost_142 : decode cX6_roost 142 = .ok (.iload 5, 2) := dk_21 5 (dk_at dksX6_roost_6 4 rfl rfl)
theorem dX6_roost_144 : decode cX6_roost 144 = .ok (.imul, 1) := dk_104 (dk_at dksX6_roost_6 6 rfl rfl)
theorem dX6_roost_145 : decode cX6_roost 145 = .ok (.iload_n 3, 1) := dk_29 (dk_at dksX6_roost_6 7 rfl rfl)
theorem dX6_roost_146 : decode cX6_roost 146 = .ok (.iadd, 1) := dk_96 (dk_at dksX6_roost_6 8 rfl rfl)
theorem dX6_roost_147 : decode cX6_roost 147 = .ok (.dup2, 1) := dk_92 (dk_at dksX6_roost_6 9 rfl rfl)
theorem dX6_roost_148 : decode cX6_roost 148 = .ok (.iaload, 1) := dk_46 (dk_at dksX6_roost_6 10 rfl rfl)
theorem dX6_roost_149 : decode cX6_roost 149 = .ok (.aload_n 0, 1) := dk_42 (dk_at dksX6_roost_6 11 rfl rfl)
theorem dX6_roost_150 : decode cX6_roost 150 = .ok (.getfield 147, 3) := dk_180 0 147 (dk_at dksX6_roost_6 12 rfl rfl)
theorem dX6_roost_153 : decode cX6_roost 153 = .ok (.iload 5, 2) := dk_21 5 (dk_at dksX6_roost_6 15 rfl rfl)
theorem dX6_roost_155 : decode cX6_roost 155 = .ok (.invokestatic 169, 3) := dk_184 0 169 (dk_at dksX6_roost_6 17 rfl rfl)
theorem dX6_roost_158 : decode cX6_roost 158 = .ok (.ifCond .eq 27, 3) := dk_153 0 27 (dk_at dksX6_roost_6 20 rfl rfl)
theorem dX6_roost_161 : decode cX6_roost 161 = .ok (.iload 4, 2) := dk_21 4 (dk_at dksX6_roost_7 0 rfl rfl)
theorem dX6_roost_163 : decode cX6_roost 163 = .ok (.iload_n 2, 1) := dk_28 (dk_at dksX6_roost_7 2 rfl rfl)
theorem dX6_roost_164 : decode cX6_roost 164 = .ok (.idiv, 1) := dk_108 (dk_at dksX6_roost_7 3 rfl rfl)
theorem dX6_roost_165 : decode cX6_roost 165 = .ok (.aload_n 0, 1) := dk_42 (dk_at dksX6_roost_7 4 rfl rfl)
theorem dX6_roost_166 : decode cX6_roost 166 = .ok (.getfield 72, 3) := dk_180 0 72 (dk_at dksX6_roost_7 5 rfl rfl)
theorem dX6_roost_169 : decode cX6_roost 169 = .ok (.iconst 4, 1) := dk_7 (dk_at dksX6_roost_7 8 rfl rfl)
theorem dX6_roost_170 : decode cX6_roost 170 = .ok (.iload 5, 2) := dk_21 5 (dk_at dksX6_roost_7 9 rfl rfl)
theorem dX6_roost_172 : decode cX6_roost 172 = .ok (.imul, 1) := dk_104 (dk_at dksX6_roost_7 11 rfl rfl)
theorem dX6_roost_173 : decode cX6_roost 173 = .ok (.iload_n 3, 1) := dk_29 (dk_at dksX6_roost_7 12 rfl rfl)
theorem dX6_roost_174 : decode cX6_roost 174 = .ok (.iadd, 1) := dk_96 (dk_at dksX6_roost_7 13 rfl rfl)
theorem dX6_roost_175 : decode cX6_roost 175 = .ok (.iaload, 1) := dk_46 (dk_at dksX6_roost_7 14 rfl rfl)
theorem dX6_roost_176 : decode cX6_roost 176 = .ok (.isub, 1) := dk_100 (dk_at dksX6_roost_7 15 rfl rfl)
theorem dX6_roost_177 : decode cX6_roost 177 = .ok (.iload_n 1, 1) := dk_27 (dk_at dksX6_roost_7 16 rfl rfl)
theorem dX6_roost_178 : decode cX6_roost 178 = .ok (.imul, 1) := dk_104 (dk_at dksX6_roost_7 17 rfl rfl)
theorem dX6_roost_179 : decode cX6_roost 179 = .ok (.bipush 100, 2) := dk_16 100 (dk_at dksX6_roost_7 18 rfl rfl)
theorem dX6_roost_181 : decode cX6_roost 181 = .ok (.idiv, 1) := dk_108 (dk_at dksX6_roost_7 20 rfl rfl)
theorem dX6_roost_182 : decode cX6_roost 182 = .ok (.goto 4, 3) := dk_167 0 4 (dk_at dksX6_roost_7 21 rfl rfl)
theorem dX6_roost_185 : decode cX6_roost 185 = .ok (.iconst 0, 1) := dk_3 (dk_at dksX6_roost_8 0 rfl rfl)
theorem dX6_roost_186 : decode cX6_roost 186 = .ok (.iadd, 1) := dk_96 (dk_at dksX6_roost_8 1 rfl rfl)
theorem dX6_roost_187 : decode cX6_roost 187 = .ok (.iastore, 1) := dk_79 (dk_at dksX6_roost_8 2 rfl rfl)
theorem dX6_roost_188 : decode cX6_roost 188 = .ok (.iinc 5 1, 3) := dk_132 5 1 (dk_at dksX6_roost_8 3 rfl rfl)
theorem dX6_roost_191 : decode cX6_roost 191 = .ok (.goto (-60), 3) := dk_167 255 196 (dk_at dksX6_roost_8 6 rfl rfl)
theorem dX6_roost_194 : decode cX6_roost 194 = .ok (.iinc 3 1, 3) := dk_132 3 1 (dk_at dksX6_roost_8 9 rfl rfl)
theorem dX6_roost_197 : decode cX6_roost 197 = .ok (.goto (-136), 3) := dk_167 255 120 (dk_at dksX6_roost_8 12 rfl rfl)
theorem dX6_roost_200 : decode cX6_roost 200 = .ok (.return_, 1) := dk_177 (dk_at dksX6_roost_8 15 rfl rfl)
abbrev cX6_eaten : ByteArray := prog_12_method_36_code
def yX6_eaten : MethodName := ⟨RX6, "eaten", "(II)I"⟩
def dkwX6_eaten_2 : List UInt8 := [180, 0, 78, 28, 46, 172]
abbrev dktX6_eaten_2 : List UInt8 := dkwX6_eaten_2 ++ []
def dkwX6_eaten_1 : List UInt8 := [42, 182, 0, 217, 42, 27, 182, 0, 220, 28, 2, 160, 0, 10, 42, 182, 0, 223, 167, 0, 9, 42]
abbrev dktX6_eaten_1 : List UInt8 := dkwX6_eaten_1 ++ dktX6_eaten_2
def dkwX6_eaten_0 : List UInt8 := [42, 27, 182, 0, 214, 153, 0, 16, 28, 2, 159, 0, 14, 42, 28, 182, 0, 172, 154, 0, 6, 16, 254, 172]
abbrev dktX6_eaten_0 : List UInt8 := dkwX6_eaten_0 ++ dktX6_eaten_1
theorem dksX6_eaten_0 : cX6_eaten.data.toList.drop 0 = dktX6_eaten_0 := by decide +kernel
theorem dksX6_eaten_1 : cX6_eaten.data.toList.drop 24 = dktX6_eaten_1 := dk_seg dksX6_eaten_0 24 rfl rfl
theorem dksX6_eaten_2 : cX6_eaten.data.toList.drop 46 = dktX6_eaten_2 := dk_seg dksX6_eaten_1 22 rfl rfl
theorem dX6_eaten_0 : decode cX6_eaten 0 = .ok (.aload_n 0, 1) := dk_42 (dk_at dksX6_eaten_0 0 rfl rfl)
theorem dX6_eaten_1 : decode cX6_eaten 1 = .ok (.iload_n 1, 1) := dk_27 (dk_at dksX6_eaten_0 1 rfl rfl)
theorem dX6_eaten_2 : decode cX6_eaten 2 = .ok (.invokevirtual 214, 3) := dk_182 0 214 (dk_at dksX6_eaten_0 2 rfl rfl)
theorem dX6_eaten_5 : decode cX6_eaten 5 = .ok (.ifCond .eq 16, 3) := dk_153 0 16 (dk_at dksX6_eaten_0 5 rfl rfl)
theorem dX6_eaten_8 : decode cX6_eaten 8 = .ok (.iload_n 2, 1) := dk_28 (dk_at dksX6_eaten_0 8 rfl rfl)
theorem dX6_eaten_9 : decode cX6_eaten 9 = .ok (.iconst (-1), 1) := dk_2 (dk_at dksX6_eaten_0 9 rfl rfl)
theorem dX6_eaten_10 : decode cX6_eaten 10 = .ok (.if_icmp .eq 14, 3) := dk_159 0 14 (dk_at dksX6_eaten_0 10 rfl rfl)
theorem dX6_eaten_13 : decode cX6_eaten 13 = .ok (.aload_n 0, 1) := dk_42 (dk_at dksX6_eaten_0 13 rfl rfl)
theorem dX6_eaten_14 : decode cX6_eaten 14 = .ok (.iload_n 2, 1) := dk_28 (dk_at dksX6_eaten_0 14 rfl rfl)
theorem dX6_eaten_15 : decode cX6_eaten 15 = .ok (.invokevirtual 172, 3) := dk_182 0 172 (dk_at dksX6_eaten_0 15 rfl rfl)
theorem dX6_eaten_18 : decode cX6_eaten 18 = .ok (.ifCond .ne 6, 3) := dk_154 0 6 (dk_at dksX6_eaten_0 18 rfl rfl)
theorem dX6_eaten_21 : decode cX6_eaten 21 = .ok (.bipush (-2), 2) := dk_16 254 (dk_at dksX6_eaten_0 21 rfl rfl)
theorem dX6_eaten_23 : decode cX6_eaten 23 = .ok (.ireturn, 1) := dk_172 (dk_at dksX6_eaten_0 23 rfl rfl)
theorem dX6_eaten_24 : decode cX6_eaten 24 = .ok (.aload_n 0, 1) := dk_42 (dk_at dksX6_eaten_1 0 rfl rfl)
theorem dX6_eaten_25 : decode cX6_eaten 25 = .ok (.invokevirtual 217, 3) := dk_182 0 217 (dk_at dksX6_eaten_1 1 rfl rfl)
theorem dX6_eaten_28 : decode cX6_eaten 28 = .ok (.aload_n 0, 1) := dk_42 (dk_at dksX6_eaten_1 4 rfl rfl)
theorem dX6_eaten_29 : decode cX6_eaten 29 = .ok (.iload_n 1, 1) := dk_27 (dk_at dksX6_eaten_1 5 rfl rfl)
theorem dX6_eaten_30 : decode cX6_eaten 30 = .ok (.invokevirtual 220, 3) := dk_182 0 220 (dk_at dksX6_eaten_1 6 rfl rfl)
theorem dX6_eaten_33 : decode cX6_eaten 33 = .ok (.iload_n 2, 1) := dk_28 (dk_at dksX6_eaten_1 9 rfl rfl)
theorem dX6_eaten_34 : decode cX6_eaten 34 = .ok (.iconst (-1), 1) := dk_2 (dk_at dksX6_eaten_1 10 rfl rfl)
theorem dX6_eaten_35 : decode cX6_eaten 35 = .ok (.if_icmp .ne 10, 3) := dk_160 0 10 (dk_at dksX6_eaten_1 11 rfl rfl)
theorem dX6_eaten_38 : decode cX6_eaten 38 = .ok (.aload_n 0, 1) := dk_42 (dk_at dksX6_eaten_1 14 rfl rfl)
theorem dX6_eaten_39 : decode cX6_eaten 39 = .ok (.invokevirtual 223, 3) := dk_182 0 223 (dk_at dksX6_eaten_1 15 rfl rfl)
theorem dX6_eaten_42 : decode cX6_eaten 42 = .ok (.goto 9, 3) := dk_167 0 9 (dk_at dksX6_eaten_1 18 rfl rfl)
theorem dX6_eaten_45 : decode cX6_eaten 45 = .ok (.aload_n 0, 1) := dk_42 (dk_at dksX6_eaten_1 21 rfl rfl)
theorem dX6_eaten_46 : decode cX6_eaten 46 = .ok (.getfield 78, 3) := dk_180 0 78 (dk_at dksX6_eaten_2 0 rfl rfl)
theorem dX6_eaten_49 : decode cX6_eaten 49 = .ok (.iload_n 2, 1) := dk_28 (dk_at dksX6_eaten_2 3 rfl rfl)
theorem dX6_eaten_50 : decode cX6_eaten 50 = .ok (.iaload, 1) := dk_46 (dk_at dksX6_eaten_2 4 rfl rfl)
theorem dX6_eaten_51 : decode cX6_eaten 51 = .ok (.ireturn, 1) := dk_172 (dk_at dksX6_eaten_2 5 rfl rfl)
abbrev cX6_eatenAll : ByteArray := prog_12_method_30_code
def yX6_eatenAll : MethodName := ⟨RX6, "eatenAll", "()I"⟩
def dkwX6_eatenAll_1 : List UInt8 := [6, 46, 96, 172]
abbrev dktX6_eatenAll_1 : List UInt8 := dkwX6_eatenAll_1 ++ []
def dkwX6_eatenAll_0 : List UInt8 := [42, 180, 0, 78, 3, 46, 42, 180, 0, 78, 4, 46, 96, 42, 180, 0, 78, 5, 46, 96, 42, 180, 0, 78]
abbrev dktX6_eatenAll_0 : List UInt8 := dkwX6_eatenAll_0 ++ dktX6_eatenAll_1
theorem dksX6_eatenAll_0 : cX6_eatenAll.data.toList.drop 0 = dktX6_eatenAll_0 := by decide +kernel
theorem dksX6_eatenAll_1 : cX6_eatenAll.data.toList.drop 24 = dktX6_eatenAll_1 := dk_seg dksX6_eatenAll_0 24 rfl rfl
theorem dX6_eatenAll_0 : decode cX6_eatenAll 0 = .ok (.aload_n 0, 1) := dk_42 (dk_at dksX6_eatenAll_0 0 rfl rfl)
theorem dX6_eatenAll_1 : decode cX6_eatenAll 1 = .ok (.getfield 78, 3) := dk_180 0 78 (dk_at dksX6_eatenAll_0 1 rfl rfl)
theorem dX6_eatenAll_4 : decode cX6_eatenAll 4 = .ok (.iconst 0, 1) := dk_3 (dk_at dksX6_eatenAll_0 4 rfl rfl)
theorem dX6_eatenAll_5 : decode cX6_eatenAll 5 = .ok (.iaload, 1) := dk_46 (dk_at dksX6_eatenAll_0 5 rfl rfl)
theorem dX6_eatenAll_6 : decode cX6_eatenAll 6 = .ok (.aload_n 0, 1) := dk_42 (dk_at dksX6_eatenAll_0 6 rfl rfl)
theorem dX6_eatenAll_7 : decode cX6_eatenAll 7 = .ok (.getfield 78, 3) := dk_180 0 78 (dk_at dksX6_eatenAll_0 7 rfl rfl)
theorem dX6_eatenAll_10 : decode cX6_eatenAll 10 = .ok (.iconst 1, 1) := dk_4 (dk_at dksX6_eatenAll_0 10 rfl rfl)
theorem dX6_eatenAll_11 : decode cX6_eatenAll 11 = .ok (.iaload, 1) := dk_46 (dk_at dksX6_eatenAll_0 11 rfl rfl)
theorem dX6_eatenAll_12 : decode cX6_eatenAll 12 = .ok (.iadd, 1) := dk_96 (dk_at dksX6_eatenAll_0 12 rfl rfl)
theorem dX6_eatenAll_13 : decode cX6_eatenAll 13 = .ok (.aload_n 0, 1) := dk_42 (dk_at dksX6_eatenAll_0 13 rfl rfl)
theorem dX6_eatenAll_14 : decode cX6_eatenAll 14 = .ok (.getfield 78, 3) := dk_180 0 78 (dk_at dksX6_eatenAll_0 14 rfl rfl)
theorem dX6_eatenAll_17 : decode cX6_eatenAll 17 = .ok (.iconst 2, 1) := dk_5 (dk_at dksX6_eatenAll_0 17 rfl rfl)
theorem dX6_eatenAll_18 : decode cX6_eatenAll 18 = .ok (.iaload, 1) := dk_46 (dk_at dksX6_eatenAll_0 18 rfl rfl)
theorem dX6_eatenAll_19 : decode cX6_eatenAll 19 = .ok (.iadd, 1) := dk_96 (dk_at dksX6_eatenAll_0 19 rfl rfl)
theorem dX6_eatenAll_20 : decode cX6_eatenAll 20 = .ok (.aload_n 0, 1) := dk_42 (dk_at dksX6_eatenAll_0 20 rfl rfl)
theorem dX6_eatenAll_21 : decode cX6_eatenAll 21 = .ok (.getfield 78, 3) := dk_180 0 78 (dk_at dksX6_eatenAll_0 21 rfl rfl)
theorem dX6_eatenAll_24 : decode cX6_eatenAll 24 = .ok (.iconst 3, 1) := dk_6 (dk_at dksX6_eatenAll_1 0 rfl rfl)
theorem dX6_eatenAll_25 : decode cX6_eatenAll 25 = .ok (.iaload, 1) := dk_46 (dk_at dksX6_eatenAll_1 1 rfl rfl)
theorem dX6_eatenAll_26 : decode cX6_eatenAll 26 = .ok (.iadd, 1) := dk_96 (dk_at dksX6_eatenAll_1 2 rfl rfl)
theorem dX6_eatenAll_27 : decode cX6_eatenAll 27 = .ok (.ireturn, 1) := dk_172 (dk_at dksX6_eatenAll_1 3 rfl rfl)
abbrev cX6_left : ByteArray := prog_12_method_37_code
def yX6_left : MethodName := ⟨RX6, "left", "(II)I"⟩
def dkwX6_left_1 : List UInt8 := [27, 182, 0, 220, 42, 180, 0, 69, 28, 46, 172]
abbrev dktX6_left_1 : List UInt8 := dkwX6_left_1 ++ []
def dkwX6_left_0 : List UInt8 := [42, 27, 182, 0, 214, 153, 0, 11, 42, 28, 182, 0, 172, 154, 0, 6, 16, 254, 172, 42, 182, 0, 217, 42]
abbrev dktX6_left_0 : List UInt8 := dkwX6_left_0 ++ dktX6_left_1
theorem dksX6_left_0 : cX6_left.data.toList.drop 0 = dktX6_left_0 := by decide +kernel
theorem dksX6_left_1 : cX6_left.data.toList.drop 24 = dktX6_left_1 := dk_seg dksX6_left_0 24 rfl rfl
theorem dX6_left_0 : decode cX6_left 0 = .ok (.aload_n 0, 1) := dk_42 (dk_at dksX6_left_0 0 rfl rfl)
theorem dX6_left_1 : decode cX6_left 1 = .ok (.iload_n 1, 1) := dk_27 (dk_at dksX6_left_0 1 rfl rfl)
theorem dX6_left_2 : decode cX6_left 2 = .ok (.invokevirtual 214, 3) := dk_182 0 214 (dk_at dksX6_left_0 2 rfl rfl)
theorem dX6_left_5 : decode cX6_left 5 = .ok (.ifCond .eq 11, 3) := dk_153 0 11 (dk_at dksX6_left_0 5 rfl rfl)
theorem dX6_left_8 : decode cX6_left 8 = .ok (.aload_n 0, 1) := dk_42 (dk_at dksX6_left_0 8 rfl rfl)
theorem dX6_left_9 : decode cX6_left 9 = .ok (.iload_n 2, 1) := dk_28 (dk_at dksX6_left_0 9 rfl rfl)
theorem dX6_left_10 : decode cX6_left 10 = .ok (.invokevirtual 172, 3) := dk_182 0 172 (dk_at dksX6_left_0 10 rfl rfl)
theorem dX6_left_13 : decode cX6_left 13 = .ok (.ifCond .ne 6, 3) := dk_154 0 6 (dk_at dksX6_left_0 13 rfl rfl)
theorem dX6_left_16 : decode cX6_left 16 = .ok (.bipush (-2), 2) := dk_16 254 (dk_at dksX6_left_0 16 rfl rfl)
theorem dX6_left_18 : decode cX6_left 18 = .ok (.ireturn, 1) := dk_172 (dk_at dksX6_left_0 18 rfl rfl)
theorem dX6_left_19 : decode cX6_left 19 = .ok (.aload_n 0, 1) := dk_42 (dk_at dksX6_left_0 19 rfl rfl)
theorem dX6_left_20 : decode cX6_left 20 = .ok (.invokevirtual 217, 3) := dk_182 0 217 (dk_at dksX6_left_0 20 rfl rfl)
theorem dX6_left_23 : decode cX6_left 23 = .ok (.aload_n 0, 1) := dk_42 (dk_at dksX6_left_0 23 rfl rfl)
theorem dX6_left_24 : decode cX6_left 24 = .ok (.iload_n 1, 1) := dk_27 (dk_at dksX6_left_1 0 rfl rfl)
theorem dX6_left_25 : decode cX6_left 25 = .ok (.invokevirtual 220, 3) := dk_182 0 220 (dk_at dksX6_left_1 1 rfl rfl)
theorem dX6_left_28 : decode cX6_left 28 = .ok (.aload_n 0, 1) := dk_42 (dk_at dksX6_left_1 4 rfl rfl)
theorem dX6_left_29 : decode cX6_left 29 = .ok (.getfield 69, 3) := dk_180 0 69 (dk_at dksX6_left_1 5 rfl rfl)
theorem dX6_left_32 : decode cX6_left 32 = .ok (.iload_n 2, 1) := dk_28 (dk_at dksX6_left_1 8 rfl rfl)
theorem dX6_left_33 : decode cX6_left 33 = .ok (.iaload, 1) := dk_46 (dk_at dksX6_left_1 9 rfl rfl)
theorem dX6_left_34 : decode cX6_left 34 = .ok (.ireturn, 1) := dk_172 (dk_at dksX6_left_1 10 rfl rfl)
abbrev cX6_fear : ByteArray := prog_12_method_38_code
def yX6_fear : MethodName := ⟨RX6, "fear", "(III)I"⟩
def dkwX6_fear_2 : List UInt8 := [104, 29, 96, 46, 172]
abbrev dktX6_fear_2 : List UInt8 := dkwX6_fear_2 ++ []
def dkwX6_fear_1 : List UInt8 := [182, 0, 178, 154, 0, 6, 16, 254, 172, 42, 182, 0, 217, 42, 27, 182, 0, 220, 42, 180, 0, 72, 7, 28]
abbrev dktX6_fear_1 : List UInt8 := dkwX6_fear_1 ++ dktX6_fear_2
def dkwX6_fear_0 : List UInt8 := [27, 2, 159, 0, 11, 42, 27, 182, 0, 214, 153, 0, 19, 42, 28, 182, 0, 175, 153, 0, 11, 42, 29]
abbrev dktX6_fear_0 : List UInt8 := dkwX6_fear_0 ++ dktX6_fear_1
theorem dksX6_fear_0 : cX6_fear.data.toList.drop 0 = dktX6_fear_0 := by decide +kernel
theorem dksX6_fear_1 : cX6_fear.data.toList.drop 23 = dktX6_fear_1 := dk_seg dksX6_fear_0 23 rfl rfl
theorem dksX6_fear_2 : cX6_fear.data.toList.drop 47 = dktX6_fear_2 := dk_seg dksX6_fear_1 24 rfl rfl
theorem dX6_fear_0 : decode cX6_fear 0 = .ok (.iload_n 1, 1) := dk_27 (dk_at dksX6_fear_0 0 rfl rfl)
theorem dX6_fear_1 : decode cX6_fear 1 = .ok (.iconst (-1), 1) := dk_2 (dk_at dksX6_fear_0 1 rfl rfl)
theorem dX6_fear_2 : decode cX6_fear 2 = .ok (.if_icmp .eq 11, 3) := dk_159 0 11 (dk_at dksX6_fear_0 2 rfl rfl)
theorem dX6_fear_5 : decode cX6_fear 5 = .ok (.aload_n 0, 1) := dk_42 (dk_at dksX6_fear_0 5 rfl rfl)
theorem dX6_fear_6 : decode cX6_fear 6 = .ok (.iload_n 1, 1) := dk_27 (dk_at dksX6_fear_0 6 rfl rfl)
theorem dX6_fear_7 : decode cX6_fear 7 = .ok (.invokevirtual 214, 3) := dk_182 0 214 (dk_at dksX6_fear_0 7 rfl rfl)
theorem dX6_fear_10 : decode cX6_fear 10 = .ok (.ifCond .eq 19, 3) := dk_153 0 19 (dk_at dksX6_fear_0 10 rfl rfl)
theorem dX6_fear_13 : decode cX6_fear 13 = .ok (.aload_n 0, 1) := dk_42 (dk_at dksX6_fear_0 13 rfl rfl)
theorem dX6_fear_14 : decode cX6_fear 14 = .ok (.iload_n 2, 1) := dk_28 (dk_at dksX6_fear_0 14 rfl rfl)
theorem dX6_fear_15 : decode cX6_fear 15 = .ok (.invokevirtual 175, 3) := dk_182 0 175 (dk_at dksX6_fear_0 15 rfl rfl)
theorem dX6_fear_18 : decode cX6_fear 18 = .ok (.ifCond .eq 11, 3) := dk_153 0 11 (dk_at dksX6_fear_0 18 rfl rfl)
theorem dX6_fear_21 : decode cX6_fear 21 = .ok (.aload_n 0, 1) := dk_42 (dk_at dksX6_fear_0 21 rfl rfl)
theorem dX6_fear_22 : decode cX6_fear 22 = .ok (.iload_n 3, 1) := dk_29 (dk_at dksX6_fear_0 22 rfl rfl)
theorem dX6_fear_23 : decode cX6_fear 23 = .ok (.invokevirtual 178, 3) := dk_182 0 178 (dk_at dksX6_fear_1 0 rfl rfl)
theorem dX6_fear_26 : decode cX6_fear 26 = .ok (.ifCond .ne 6, 3) := dk_154 0 6 (dk_at dksX6_fear_1 3 rfl rfl)
theorem dX6_fear_29 : decode cX6_fear 29 = .ok (.bipush (-2), 2) := dk_16 254 (dk_at dksX6_fear_1 6 rfl rfl)
theorem dX6_fear_31 : decode cX6_fear 31 = .ok (.ireturn, 1) := dk_172 (dk_at dksX6_fear_1 8 rfl rfl)
theorem dX6_fear_32 : decode cX6_fear 32 = .ok (.aload_n 0, 1) := dk_42 (dk_at dksX6_fear_1 9 rfl rfl)
theorem dX6_fear_33 : decode cX6_fear 33 = .ok (.invokevirtual 217, 3) := dk_182 0 217 (dk_at dksX6_fear_1 10 rfl rfl)
theorem dX6_fear_36 : decode cX6_fear 36 = .ok (.aload_n 0, 1) := dk_42 (dk_at dksX6_fear_1 13 rfl rfl)
theorem dX6_fear_37 : decode cX6_fear 37 = .ok (.iload_n 1, 1) := dk_27 (dk_at dksX6_fear_1 14 rfl rfl)
theorem dX6_fear_38 : decode cX6_fear 38 = .ok (.invokevirtual 220, 3) := dk_182 0 220 (dk_at dksX6_fear_1 15 rfl rfl)
theorem dX6_fear_41 : decode cX6_fear 41 = .ok (.aload_n 0, 1) := dk_42 (dk_at dksX6_fear_1 18 rfl rfl)
theorem dX6_fear_42 : decode cX6_fear 42 = .ok (.getfield 72, 3) := dk_180 0 72 (dk_at dksX6_fear_1 19 rfl rfl)
theorem dX6_fear_45 : decode cX6_fear 45 = .ok (.iconst 4, 1) := dk_7 (dk_at dksX6_fear_1 22 rfl rfl)
theorem dX6_fear_46 : decode cX6_fear 46 = .ok (.iload_n 2, 1) := dk_28 (dk_at dksX6_fear_1 23 rfl rfl)
theorem dX6_fear_47 : decode cX6_fear 47 = .ok (.imul, 1) := dk_104 (dk_at dksX6_fear_2 0 rfl rfl)
theorem dX6_fear_48 : decode cX6_fear 48 = .ok (.iload_n 3, 1) := dk_29 (dk_at dksX6_fear_2 1 rfl rfl)
theorem dX6_fear_49 : decode cX6_fear 49 = .ok (.iadd, 1) := dk_96 (dk_at dksX6_fear_2 2 rfl rfl)
theorem dX6_fear_50 : decode cX6_fear 50 = .ok (.iaload, 1) := dk_46 (dk_at dksX6_fear_2 3 rfl rfl)
theorem dX6_fear_51 : decode cX6_fear 51 = .ok (.ireturn, 1) := dk_172 (dk_at dksX6_fear_2 4 rfl rfl)
abbrev cX6_cost : ByteArray := prog_12_method_39_code
def yX6_cost : MethodName := ⟨RX6, "cost", "(I)I"⟩
def dkwX6_cost_3 : List UInt8 := [42, 182, 0, 229, 172, 16, 253, 172]
abbrev dktX6_cost_3 : List UInt8 := dkwX6_cost_3 ++ []
def dkwX6_cost_2 : List UInt8 := [42, 16, 15, 182, 0, 226, 42, 180, 0, 34, 104, 42, 182, 0, 229, 96, 172, 42, 16, 15, 182, 0, 226, 172]
abbrev dktX6_cost_2 : List UInt8 := dkwX6_cost_2 ++ dktX6_cost_3
def dkwX6_cost_1 : List UInt8 := [170, 0, 0, 0, 0, 0, 56, 0, 0, 0, 0, 0, 0, 0, 2, 0, 0, 0, 27, 0, 0, 0, 44, 0, 0, 0, 51]
abbrev dktX6_cost_1 : List UInt8 := dkwX6_cost_1 ++ dktX6_cost_2
def dkwX6_cost_0 : List UInt8 := [42, 182, 0, 217, 27]
abbrev dktX6_cost_0 : List UInt8 := dkwX6_cost_0 ++ dktX6_cost_1
theorem dksX6_cost_0 : cX6_cost.data.toList.drop 0 = dktX6_cost_0 := by decide +kernel
theorem dksX6_cost_1 : cX6_cost.data.toList.drop 5 = dktX6_cost_1 := dk_seg dksX6_cost_0 5 rfl rfl
theorem dksX6_cost_2 : cX6_cost.data.toList.drop 32 = dktX6_cost_2 := dk_seg dksX6_cost_1 27 rfl rfl
theorem dksX6_cost_3 : cX6_cost.data.toList.drop 56 = dktX6_cost_3 := dk_seg dksX6_cost_2 24 rfl rfl
theorem dX6_cost_0 : decode cX6_cost 0 = .ok (.aload_n 0, 1) := dk_42 (dk_at dksX6_cost_0 0 rfl rfl)
theorem dX6_cost_1 : decode cX6_cost 1 = .ok (.invokevirtual 217, 3) := dk_182 0 217 (dk_at dksX6_cost_0 1 rfl rfl)
theorem dX6_cost_4 : decode cX6_cost 4 = .ok (.iload_n 1, 1) := dk_27 (dk_at dksX6_cost_0 4 rfl rfl)
theorem dX6_cost_5 : decode cX6_cost 5 = .ok (.tableswitch 56 0 2 #[27, 44, 51], 27) := by decide +kernel
theorem dX6_cost_32 : decode cX6_cost 32 = .ok (.aload_n 0, 1) := dk_42 (dk_at dksX6_cost_2 0 rfl rfl)
theorem dX6_cost_33 : decode cX6_cost 33 = .ok (.bipush 15, 2) := dk_16 15 (dk_at dksX6_cost_2 1 rfl rfl)
theorem dX6_cost_35 : decode cX6_cost 35 = .ok (.invokevirtual 226, 3) := dk_182 0 226 (dk_at dksX6_cost_2 3 rfl rfl)
theorem dX6_cost_38 : decode cX6_cost 38 = .ok (.aload_n 0, 1) := dk_42 (dk_at dksX6_cost_2 6 rfl rfl)
theorem dX6_cost_39 : decode cX6_cost 39 = .ok (.getfield 34, 3) := dk_180 0 34 (dk_at dksX6_cost_2 7 rfl rfl)
theorem dX6_cost_42 : decode cX6_cost 42 = .ok (.imul, 1) := dk_104 (dk_at dksX6_cost_2 10 rfl rfl)
theorem dX6_cost_43 : decode cX6_cost 43 = .ok (.aload_n 0, 1) := dk_42 (dk_at dksX6_cost_2 11 rfl rfl)
theorem dX6_cost_44 : decode cX6_cost 44 = .ok (.invokevirtual 229, 3) := dk_182 0 229 (dk_at dksX6_cost_2 12 rfl rfl)
theorem dX6_cost_47 : decode cX6_cost 47 = .ok (.iadd, 1) := dk_96 (dk_at dksX6_cost_2 15 rfl rfl)
theorem dX6_cost_48 : decode cX6_cost 48 = .ok (.ireturn, 1) := dk_172 (dk_at dksX6_cost_2 16 rfl rfl)
theorem dX6_cost_49 : decode cX6_cost 49 = .ok (.aload_n 0, 1) := dk_42 (dk_at dksX6_cost_2 17 rfl rfl)
theorem dX6_cost_50 : decode cX6_cost 50 = .ok (.bipush 15, 2) := dk_16 15 (dk_at dksX6_cost_2 18 rfl rfl)
theorem dX6_cost_52 : decode cX6_cost 52 = .ok (.invokevirtual 226, 3) := dk_182 0 226 (dk_at dksX6_cost_2 20 rfl rfl)
theorem dX6_cost_55 : decode cX6_cost 55 = .ok (.ireturn, 1) := dk_172 (dk_at dksX6_cost_2 23 rfl rfl)
theorem dX6_cost_56 : decode cX6_cost 56 = .ok (.aload_n 0, 1) := dk_42 (dk_at dksX6_cost_3 0 rfl rfl)
theorem dX6_cost_57 : decode cX6_cost 57 = .ok (.invokevirtual 229, 3) := dk_182 0 229 (dk_at dksX6_cost_3 1 rfl rfl)
theorem dX6_cost_60 : decode cX6_cost 60 = .ok (.ireturn, 1) := dk_172 (dk_at dksX6_cost_3 4 rfl rfl)
theorem dX6_cost_61 : decode cX6_cost 61 = .ok (.bipush (-3), 2) := dk_16 253 (dk_at dksX6_cost_3 5 rfl rfl)
theorem dX6_cost_63 : decode cX6_cost 63 = .ok (.ireturn, 1) := dk_172 (dk_at dksX6_cost_3 7 rfl rfl)
abbrev cX6_lossOf : ByteArray := prog_12_method_32_code
def yX6_lossOf : MethodName := ⟨RX6, "lossOf", "(I)I"⟩
def dkwX6_lossOf_3 : List UInt8 := [28, 172]
abbrev dktX6_lossOf_3 : List UInt8 := dkwX6_lossOf_3 ++ []
def dkwX6_lossOf_2 : List UInt8 := [180, 0, 78, 21, 4, 46, 167, 0, 4, 3, 96, 61, 132, 4, 1, 167, 255, 219, 132, 3, 1, 167, 255, 197]
abbrev dktX6_lossOf_2 : List UInt8 := dkwX6_lossOf_2 ++ dktX6_lossOf_3
def dkwX6_lossOf_1 : List UInt8 := [21, 4, 7, 162, 0, 37, 28, 27, 42, 180, 0, 22, 21, 4, 46, 184, 0, 169, 153, 0, 13, 42]
abbrev dktX6_lossOf_1 : List UInt8 := dkwX6_lossOf_1 ++ dktX6_lossOf_2
def dkwX6_lossOf_0 : List UInt8 := [42, 182, 0, 208, 3, 61, 3, 62, 29, 42, 180, 0, 38, 162, 0, 57, 42, 29, 182, 0, 211, 3, 54, 4]
abbrev dktX6_lossOf_0 : List UInt8 := dkwX6_lossOf_0 ++ dktX6_lossOf_1
theorem dksX6_lossOf_0 : cX6_lossOf.data.toList.drop 0 = dktX6_lossOf_0 := by decide +kernel
theorem dksX6_lossOf_1 : cX6_lossOf.data.toList.drop 24 = dktX6_lossOf_1 := dk_seg dksX6_lossOf_0 24 rfl rfl
theorem dksX6_lossOf_2 : cX6_lossOf.data.toList.drop 46 = dktX6_lossOf_2 := dk_seg dksX6_lossOf_1 22 rfl rfl
theorem dksX6_lossOf_3 : cX6_lossOf.data.toList.drop 70 = dktX6_lossOf_3 := dk_seg dksX6_lossOf_2 24 rfl rfl
theorem dX6_lossOf_0 : decode cX6_lossOf 0 = .ok (.aload_n 0, 1) := dk_42 (dk_at dksX6_lossOf_0 0 rfl rfl)
theorem dX6_lossOf_1 : decode cX6_lossOf 1 = .ok (.invokevirtual 208, 3) := dk_182 0 208 (dk_at dksX6_lossOf_0 1 rfl rfl)
theorem dX6_lossOf_4 : decode cX6_lossOf 4 = .ok (.iconst 0, 1) := dk_3 (dk_at dksX6_lossOf_0 4 rfl rfl)
theorem dX6_lossOf_5 : decode cX6_lossOf 5 = .ok (.istore_n 2, 1) := dk_61 (dk_at dksX6_lossOf_0 5 rfl rfl)
theorem dX6_lossOf_6 : decode cX6_lossOf 6 = .ok (.iconst 0, 1) := dk_3 (dk_at dksX6_lossOf_0 6 rfl rfl)
theorem dX6_lossOf_7 : decode cX6_lossOf 7 = .ok (.istore_n 3, 1) := dk_62 (dk_at dksX6_lossOf_0 7 rfl rfl)
theorem dX6_lossOf_8 : decode cX6_lossOf 8 = .ok (.iload_n 3, 1) := dk_29 (dk_at dksX6_lossOf_0 8 rfl rfl)
theorem dX6_lossOf_9 : decode cX6_lossOf 9 = .ok (.aload_n 0, 1) := dk_42 (dk_at dksX6_lossOf_0 9 rfl rfl)
theorem dX6_lossOf_10 : decode cX6_lossOf 10 = .ok (.getfield 38, 3) := dk_180 0 38 (dk_at dksX6_lossOf_0 10 rfl rfl)
theorem dX6_lossOf_13 : decode cX6_lossOf 13 = .ok (.if_icmp .ge 57, 3) := dk_162 0 57 (dk_at dksX6_lossOf_0 13 rfl rfl)
theorem dX6_lossOf_16 : decode cX6_lossOf 16 = .ok (.aload_n 0, 1) := dk_42 (dk_at dksX6_lossOf_0 16 rfl rfl)
theorem dX6_lossOf_17 : decode cX6_lossOf 17 = .ok (.iload_n 3, 1) := dk_29 (dk_at dksX6_lossOf_0 17 rfl rfl)
theorem dX6_lossOf_18 : decode cX6_lossOf 18 = .ok (.invokevirtual 211, 3) := dk_182 0 211 (dk_at dksX6_lossOf_0 18 rfl rfl)
theorem dX6_lossOf_21 : decode cX6_lossOf 21 = .ok (.iconst 0, 1) := dk_3 (dk_at dksX6_lossOf_0 21 rfl rfl)
theorem dX6_lossOf_22 : decode cX6_lossOf 22 = .ok (.istore 4, 2) := dk_54 4 (dk_at dksX6_lossOf_0 22 rfl rfl)
theorem dX6_lossOf_24 : decode cX6_lossOf 24 = .ok (.iload 4, 2) := dk_21 4 (dk_at dksX6_lossOf_1 0 rfl rfl)
theorem dX6_lossOf_26 : decode cX6_lossOf 26 = .ok (.iconst 4, 1) := dk_7 (dk_at dksX6_lossOf_1 2 rfl rfl)
theorem dX6_lossOf_27 : decode cX6_lossOf 27 = .ok (.if_icmp .ge 37, 3) := dk_162 0 37 (dk_at dksX6_lossOf_1 3 rfl rfl)
theorem dX6_lossOf_30 : decode cX6_lossOf 30 = .ok (.iload_n 2, 1) := dk_28 (dk_at dksX6_lossOf_1 6 rfl rfl)
theorem dX6_lossOf_31 : decode cX6_lossOf 31 = .ok (.iload_n 1, 1) := dk_27 (dk_at dksX6_lossOf_1 7 rfl rfl)
theorem dX6_lossOf_32 : decode cX6_lossOf 32 = .ok (.aload_n 0, 1) := dk_42 (dk_at dksX6_lossOf_1 8 rfl rfl)
theorem dX6_lossOf_33 : decode cX6_lossOf 33 = .ok (.getfield 22, 3) := dk_180 0 22 (dk_at dksX6_lossOf_1 9 rfl rfl)
theorem dX6_lossOf_36 : decode cX6_lossOf 36 = .ok (.iload 4, 2) := dk_21 4 (dk_at dksX6_lossOf_1 12 rfl rfl)
theorem dX6_lossOf_38 : decode cX6_lossOf 38 = .ok (.iaload, 1) := dk_46 (dk_at dksX6_lossOf_1 14 rfl rfl)
theorem dX6_lossOf_39 : decode cX6_lossOf 39 = .ok (.invokestatic 169, 3) := dk_184 0 169 (dk_at dksX6_lossOf_1 15 rfl rfl)
theorem dX6_lossOf_42 : decode cX6_lossOf 42 = .ok (.ifCond .eq 13, 3) := dk_153 0 13 (dk_at dksX6_lossOf_1 18 rfl rfl)
theorem dX6_lossOf_45 : decode cX6_lossOf 45 = .ok (.aload_n 0, 1) := dk_42 (dk_at dksX6_lossOf_1 21 rfl rfl)
theorem dX6_lossOf_46 : decode cX6_lossOf 46 = .ok (.getfield 78, 3) := dk_180 0 78 (dk_at dksX6_lossOf_2 0 rfl rfl)
theorem dX6_lossOf_49 : decode cX6_lossOf 49 = .ok (.iload 4, 2) := dk_21 4 (dk_at dksX6_lossOf_2 3 rfl rfl)
theorem dX6_lossOf_51 : decode cX6_lossOf 51 = .ok (.iaload, 1) := dk_46 (dk_at dksX6_lossOf_2 5 rfl rfl)
theorem dX6_lossOf_52 : decode cX6_lossOf 52 = .ok (.goto 4, 3) := dk_167 0 4 (dk_at dksX6_lossOf_2 6 rfl rfl)
theorem dX6_lossOf_55 : decode cX6_lossOf 55 = .ok (.iconst 0, 1) := dk_3 (dk_at dksX6_lossOf_2 9 rfl rfl)
theorem dX6_lossOf_56 : decode cX6_lossOf 56 = .ok (.iadd, 1) := dk_96 (dk_at dksX6_lossOf_2 10 rfl rfl)
theorem dX6_lossOf_57 : decode cX6_lossOf 57 = .ok (.istore_n 2, 1) := dk_61 (dk_at dksX6_lossOf_2 11 rfl rfl)
theorem dX6_lossOf_58 : decode cX6_lossOf 58 = .ok (.iinc 4 1, 3) := dk_132 4 1 (dk_at dksX6_lossOf_2 12 rfl rfl)
theorem dX6_lossOf_61 : decode cX6_lossOf 61 = .ok (.goto (-37), 3) := dk_167 255 219 (dk_at dksX6_lossOf_2 15 rfl rfl)
theorem dX6_lossOf_64 : decode cX6_lossOf 64 = .ok (.iinc 3 1, 3) := dk_132 3 1 (dk_at dksX6_lossOf_2 18 rfl rfl)
theorem dX6_lossOf_67 : decode cX6_lossOf 67 = .ok (.goto (-59), 3) := dk_167 255 197 (dk_at dksX6_lossOf_2 21 rfl rfl)
theorem dX6_lossOf_70 : decode cX6_lossOf 70 = .ok (.iload_n 2, 1) := dk_28 (dk_at dksX6_lossOf_3 0 rfl rfl)
theorem dX6_lossOf_71 : decode cX6_lossOf 71 = .ok (.ireturn, 1) := dk_172 (dk_at dksX6_lossOf_3 1 rfl rfl)
abbrev cX6_wages : ByteArray := prog_12_method_33_code
def yX6_wages : MethodName := ⟨RX6, "wages", "()I"⟩
def dkwX6_wages_2 : List UInt8 := [60, 132, 2, 1, 167, 255, 208, 27, 42, 180, 0, 156, 104, 172]
abbrev dktX6_wages_2 : List UInt8 := dkwX6_wages_2 ++ []
def dkwX6_wages_1 : List UInt8 := [62, 27, 29, 2, 159, 0, 18, 42, 28, 7, 108, 29, 182, 0, 202, 153, 0, 7, 4, 167, 0, 4, 3, 96]
abbrev dktX6_wages_1 : List UInt8 := dkwX6_wages_1 ++ dktX6_wages_2
def dkwX6_wages_0 : List UInt8 := [3, 60, 3, 61, 28, 7, 42, 180, 0, 38, 104, 162, 0, 44, 42, 28, 7, 108, 28, 7, 112, 182, 0, 191]
abbrev dktX6_wages_0 : List UInt8 := dkwX6_wages_0 ++ dktX6_wages_1
theorem dksX6_wages_0 : cX6_wages.data.toList.drop 0 = dktX6_wages_0 := by decide +kernel
theorem dksX6_wages_1 : cX6_wages.data.toList.drop 24 = dktX6_wages_1 := dk_seg dksX6_wages_0 24 rfl rfl
theorem dksX6_wages_2 : cX6_wages.data.toList.drop 48 = dktX6_wages_2 := dk_seg dksX6_wages_1 24 rfl rfl
theorem dX6_wages_0 : decode cX6_wages 0 = .ok (.iconst 0, 1) := dk_3 (dk_at dksX6_wages_0 0 rfl rfl)
theorem dX6_wages_1 : decode cX6_wages 1 = .ok (.istore_n 1, 1) := dk_60 (dk_at dksX6_wages_0 1 rfl rfl)
theorem dX6_wages_2 : decode cX6_wages 2 = .ok (.iconst 0, 1) := dk_3 (dk_at dksX6_wages_0 2 rfl rfl)
theorem dX6_wages_3 : decode cX6_wages 3 = .ok (.istore_n 2, 1) := dk_61 (dk_at dksX6_wages_0 3 rfl rfl)
theorem dX6_wages_4 : decode cX6_wages 4 = .ok (.iload_n 2, 1) := dk_28 (dk_at dksX6_wages_0 4 rfl rfl)
theorem dX6_wages_5 : decode cX6_wages 5 = .ok (.iconst 4, 1) := dk_7 (dk_at dksX6_wages_0 5 rfl rfl)
theorem dX6_wages_6 : decode cX6_wages 6 = .ok (.aload_n 0, 1) := dk_42 (dk_at dksX6_wages_0 6 rfl rfl)
theorem dX6_wages_7 : decode cX6_wages 7 = .ok (.getfield 38, 3) := dk_180 0 38 (dk_at dksX6_wages_0 7 rfl rfl)
theorem dX6_wages_10 : decode cX6_wages 10 = .ok (.imul, 1) := dk_104 (dk_at dksX6_wages_0 10 rfl rfl)
theorem dX6_wages_11 : decode cX6_wages 11 = .ok (.if_icmp .ge 44, 3) := dk_162 0 44 (dk_at dksX6_wages_0 11 rfl rfl)
theorem dX6_wages_14 : decode cX6_wages 14 = .ok (.aload_n 0, 1) := dk_42 (dk_at dksX6_wages_0 14 rfl rfl)
theorem dX6_wages_15 : decode cX6_wages 15 = .ok (.iload_n 2, 1) := dk_28 (dk_at dksX6_wages_0 15 rfl rfl)
theorem dX6_wages_16 : decode cX6_wages 16 = .ok (.iconst 4, 1) := dk_7 (dk_at dksX6_wages_0 16 rfl rfl)
theorem dX6_wages_17 : decode cX6_wages 17 = .ok (.idiv, 1) := dk_108 (dk_at dksX6_wages_0 17 rfl rfl)
theorem dX6_wages_18 : decode cX6_wages 18 = .ok (.iload_n 2, 1) := dk_28 (dk_at dksX6_wages_0 18 rfl rfl)
theorem dX6_wages_19 : decode cX6_wages 19 = .ok (.iconst 4, 1) := dk_7 (dk_at dksX6_wages_0 19 rfl rfl)
theorem dX6_wages_20 : decode cX6_wages 20 = .ok (.irem, 1) := dk_112 (dk_at dksX6_wages_0 20 rfl rfl)
theorem dX6_wages_21 : decode cX6_wages 21 = .ok (.invokevirtual 191, 3) := dk_182 0 191 (dk_at dksX6_wages_0 21 rfl rfl)
theorem dX6_wages_24 : decode cX6_wages 24 = .ok (.istore_n 3, 1) := dk_62 (dk_at dksX6_wages_1 0 rfl rfl)
theorem dX6_wages_25 : decode cX6_wages 25 = .ok (.iload_n 1, 1) := dk_27 (dk_at dksX6_wages_1 1 rfl rfl)
theorem dX6_wages_26 : decode cX6_wages 26 = .ok (.iload_n 3, 1) := dk_29 (dk_at dksX6_wages_1 2 rfl rfl)
theorem dX6_wages_27 : decode cX6_wages 27 = .ok (.iconst (-1), 1) := dk_2 (dk_at dksX6_wages_1 3 rfl rfl)
theorem dX6_wages_28 : decode cX6_wages 28 = .ok (.if_icmp .eq 18, 3) := dk_159 0 18 (dk_at dksX6_wages_1 4 rfl rfl)
theorem dX6_wages_31 : decode cX6_wages 31 = .ok (.aload_n 0, 1) := dk_42 (dk_at dksX6_wages_1 7 rfl rfl)
theorem dX6_wages_32 : decode cX6_wages 32 = .ok (.iload_n 2, 1) := dk_28 (dk_at dksX6_wages_1 8 rfl rfl)
theorem dX6_wages_33 : decode cX6_wages 33 = .ok (.iconst 4, 1) := dk_7 (dk_at dksX6_wages_1 9 rfl rfl)
theorem dX6_wages_34 : decode cX6_wages 34 = .ok (.idiv, 1) := dk_108 (dk_at dksX6_wages_1 10 rfl rfl)
theorem dX6_wages_35 : decode cX6_wages 35 = .ok (.iload_n 3, 1) := dk_29 (dk_at dksX6_wages_1 11 rfl rfl)
theorem dX6_wages_36 : decode cX6_wages 36 = .ok (.invokevirtual 202, 3) := dk_182 0 202 (dk_at dksX6_wages_1 12 rfl rfl)
theorem dX6_wages_39 : decode cX6_wages 39 = .ok (.ifCond .eq 7, 3) := dk_153 0 7 (dk_at dksX6_wages_1 15 rfl rfl)
theorem dX6_wages_42 : decode cX6_wages 42 = .ok (.iconst 1, 1) := dk_4 (dk_at dksX6_wages_1 18 rfl rfl)
theorem dX6_wages_43 : decode cX6_wages 43 = .ok (.goto 4, 3) := dk_167 0 4 (dk_at dksX6_wages_1 19 rfl rfl)
theorem dX6_wages_46 : decode cX6_wages 46 = .ok (.iconst 0, 1) := dk_3 (dk_at dksX6_wages_1 22 rfl rfl)
theorem dX6_wages_47 : decode cX6_wages 47 = .ok (.iadd, 1) := dk_96 (dk_at dksX6_wages_1 23 rfl rfl)
theorem dX6_wages_48 : decode cX6_wages 48 = .ok (.istore_n 1, 1) := dk_60 (dk_at dksX6_wages_2 0 rfl rfl)
theorem dX6_wages_49 : decode cX6_wages 49 = .ok (.iinc 2 1, 3) := dk_132 2 1 (dk_at dksX6_wages_2 1 rfl rfl)
theorem dX6_wages_52 : decode cX6_wages 52 = .ok (.goto (-48), 3) := dk_167 255 208 (dk_at dksX6_wages_2 4 rfl rfl)
theorem dX6_wages_55 : decode cX6_wages 55 = .ok (.iload_n 1, 1) := dk_27 (dk_at dksX6_wages_2 7 rfl rfl)
theorem dX6_wages_56 : decode cX6_wages 56 = .ok (.aload_n 0, 1) := dk_42 (dk_at dksX6_wages_2 8 rfl rfl)
theorem dX6_wages_57 : decode cX6_wages 57 = .ok (.getfield 156, 3) := dk_180 0 156 (dk_at dksX6_wages_2 9 rfl rfl)
theorem dX6_wages_60 : decode cX6_wages 60 = .ok (.imul, 1) := dk_104 (dk_at dksX6_wages_2 12 rfl rfl)
theorem dX6_wages_61 : decode cX6_wages 61 = .ok (.ireturn, 1) := dk_172 (dk_at dksX6_wages_2 13 rfl rfl)
abbrev cX6_best : ByteArray := prog_12_method_43_code
def yX6_best : MethodName := ⟨RX6, "best", "(III)I"⟩
def dkwX6_best_8 : List UInt8 := [21, 4, 167, 0, 11, 42, 180, 0, 66, 29, 46, 4, 100, 172]
abbrev dktX6_best_8 : List UInt8 := dkwX6_best_8 ++ []
def dkwX6_best_7 : List UInt8 := [21, 4, 54, 4, 132, 6, 1, 167, 255, 165, 42, 3, 21, 5, 182, 0, 237, 87, 29, 2, 160, 0, 8]
abbrev dktX6_best_7 : List UInt8 := dkwX6_best_7 ++ dktX6_best_8
def dkwX6_best_6 : List UInt8 := [162, 0, 8, 21, 6, 167, 0, 5, 21, 5, 54, 5, 21, 8, 21, 4, 162, 0, 8, 21, 8, 167, 0, 5]
abbrev dktX6_best_6 : List UInt8 := dkwX6_best_6 ++ dktX6_best_7
def dkwX6_best_5 : List UInt8 := [160, 0, 8, 21, 7, 167, 0, 13, 21, 7, 42, 27, 4, 96, 182, 0, 243, 96, 54, 8, 21, 8, 21, 4]
abbrev dktX6_best_5 : List UInt8 := dkwX6_best_5 ++ dktX6_best_6
def dkwX6_best_4 : List UInt8 := [182, 0, 237, 153, 0, 73, 42, 3, 182, 0, 240, 42, 27, 182, 0, 211, 42, 182, 0, 223, 54, 7, 28, 4]
abbrev dktX6_best_4 : List UInt8 := dkwX6_best_4 ++ dktX6_best_5
def dkwX6_best_3 : List UInt8 := [18, 62, 54, 4, 3, 54, 5, 3, 54, 6, 21, 6, 17, 2, 113, 162, 0, 89, 42, 3, 21, 6]
abbrev dktX6_best_3 : List UInt8 := dkwX6_best_3 ++ dktX6_best_4
def dkwX6_best_2 : List UInt8 := [16, 253, 172, 42, 182, 0, 217, 42, 27, 4, 100, 182, 0, 220, 42, 3, 182, 0, 234, 42, 27, 181, 0, 63]
abbrev dktX6_best_2 : List UInt8 := dkwX6_best_2 ++ dktX6_best_3
def dkwX6_best_1 : List UInt8 := [28, 96, 42, 180, 0, 38, 163, 0, 17, 29, 133, 20, 0, 183, 20, 0, 167, 184, 0, 92, 154, 0, 6]
abbrev dktX6_best_1 : List UInt8 := dkwX6_best_1 ++ dktX6_best_2
def dkwX6_best_0 : List UInt8 := [42, 27, 182, 0, 214, 154, 0, 6, 16, 254, 172, 28, 133, 10, 20, 0, 232, 184, 0, 92, 153, 0, 27, 27]
abbrev dktX6_best_0 : List UInt8 := dkwX6_best_0 ++ dktX6_best_1
theorem dksX6_best_0 : cX6_best.data.toList.drop 0 = dktX6_best_0 := by decide +kernel
theorem dksX6_best_1 : cX6_best.data.toList.drop 24 = dktX6_best_1 := dk_seg dksX6_best_0 24 rfl rfl
theorem dksX6_best_2 : cX6_best.data.toList.drop 47 = dktX6_best_2 := dk_seg dksX6_best_1 23 rfl rfl
theorem dksX6_best_3 : cX6_best.data.toList.drop 71 = dktX6_best_3 := dk_seg dksX6_best_2 24 rfl rfl
theorem dksX6_best_4 : cX6_best.data.toList.drop 93 = dktX6_best_4 := dk_seg dksX6_best_3 22 rfl rfl
theorem dksX6_best_5 : cX6_best.data.toList.drop 117 = dktX6_best_5 := dk_seg dksX6_best_4 24 rfl rfl
theorem dksX6_best_6 : cX6_best.data.toList.drop 141 = dktX6_best_6 := dk_seg dksX6_best_5 24 rfl rfl
theorem dksX6_best_7 : cX6_best.data.toList.drop 165 = dktX6_best_7 := dk_seg dksX6_best_6 24 rfl rfl
theorem dksX6_best_8 : cX6_best.data.toList.drop 188 = dktX6_best_8 := dk_seg dksX6_best_7 23 rfl rfl
theorem dX6_best_0 : decode cX6_best 0 = .ok (.aload_n 0, 1) := dk_42 (dk_at dksX6_best_0 0 rfl rfl)
theorem dX6_best_1 : decode cX6_best 1 = .ok (.iload_n 1, 1) := dk_27 (dk_at dksX6_best_0 1 rfl rfl)
theorem dX6_best_2 : decode cX6_best 2 = .ok (.invokevirtual 214, 3) := dk_182 0 214 (dk_at dksX6_best_0 2 rfl rfl)
theorem dX6_best_5 : decode cX6_best 5 = .ok (.ifCond .ne 6, 3) := dk_154 0 6 (dk_at dksX6_best_0 5 rfl rfl)
theorem dX6_best_8 : decode cX6_best 8 = .ok (.bipush (-2), 2) := dk_16 254 (dk_at dksX6_best_0 8 rfl rfl)
theorem dX6_best_10 : decode cX6_best 10 = .ok (.ireturn, 1) := dk_172 (dk_at dksX6_best_0 10 rfl rfl)
theorem dX6_best_11 : decode cX6_best 11 = .ok (.iload_n 2, 1) := dk_28 (dk_at dksX6_best_0 11 rfl rfl)
theorem dX6_best_12 : decode cX6_best 12 = .ok (.i2l, 1) := dk_133 (dk_at dksX6_best_0 12 rfl rfl)
theorem dX6_best_13 : decode cX6_best 13 = .ok (.lconst 1, 1) := dk_10 (dk_at dksX6_best_0 13 rfl rfl)
theorem dX6_best_14 : decode cX6_best 14 = .ok (.ldc2_w 232, 3) := dk_20 0 232 (dk_at dksX6_best_0 14 rfl rfl)
theorem dX6_best_17 : decode cX6_best 17 = .ok (.invokestatic 92, 3) := dk_184 0 92 (dk_at dksX6_best_0 17 rfl rfl)
theorem dX6_best_20 : decode cX6_best 20 = .ok (.ifCond .eq 27, 3) := dk_153 0 27 (dk_at dksX6_best_0 20 rfl rfl)
theorem dX6_best_23 : decode cX6_best 23 = .ok (.iload_n 1, 1) := dk_27 (dk_at dksX6_best_0 23 rfl rfl)
theorem dX6_best_24 : decode cX6_best 24 = .ok (.iload_n 2, 1) := dk_28 (dk_at dksX6_best_1 0 rfl rfl)
theorem dX6_best_25 : decode cX6_best 25 = .ok (.iadd, 1) := dk_96 (dk_at dksX6_best_1 1 rfl rfl)
theorem dX6_best_26 : decode cX6_best 26 = .ok (.aload_n 0, 1) := dk_42 (dk_at dksX6_best_1 2 rfl rfl)
theorem dX6_best_27 : decode cX6_best 27 = .ok (.getfield 38, 3) := dk_180 0 38 (dk_at dksX6_best_1 3 rfl rfl)
theorem dX6_best_30 : decode cX6_best 30 = .ok (.if_icmp .gt 17, 3) := dk_163 0 17 (dk_at dksX6_best_1 6 rfl rfl)
theorem dX6_best_33 : decode cX6_best 33 = .ok (.iload_n 3, 1) := dk_29 (dk_at dksX6_best_1 9 rfl rfl)
theorem dX6_best_34 : decode cX6_best 34 = .ok (.i2l, 1) := dk_133 (dk_at dksX6_best_1 10 rfl rfl)
theorem dX6_best_35 : decode cX6_best 35 = .ok (.ldc2_w 183, 3) := dk_20 0 183 (dk_at dksX6_best_1 11 rfl rfl)
theorem dX6_best_38 : decode cX6_best 38 = .ok (.ldc2_w 167, 3) := dk_20 0 167 (dk_at dksX6_best_1 14 rfl rfl)
theorem dX6_best_41 : decode cX6_best 41 = .ok (.invokestatic 92, 3) := dk_184 0 92 (dk_at dksX6_best_1 17 rfl rfl)
theorem dX6_best_44 : decode cX6_best 44 = .ok (.ifCond .ne 6, 3) := dk_154 0 6 (dk_at dksX6_best_1 20 rfl rfl)
theorem dX6_best_47 : decode cX6_best 47 = .ok (.bipush (-3), 2) := dk_16 253 (dk_at dksX6_best_2 0 rfl rfl)
theorem dX6_best_49 : decode cX6_best 49 = .ok (.ireturn, 1) := dk_172 (dk_at dksX6_best_2 2 rfl rfl)
theorem dX6_best_50 : decode cX6_best 50 = .ok (.aload_n 0, 1) := dk_42 (dk_at dksX6_best_2 3 rfl rfl)
theorem dX6_best_51 : decode cX6_best 51 = .ok (.invokevirtual 217, 3) := dk_182 0 217 (dk_at dksX6_best_2 4 rfl rfl)
theorem dX6_best_54 : decode cX6_best 54 = .ok (.aload_n 0, 1) := dk_42 (dk_at dksX6_best_2 7 rfl rfl)
theorem dX6_best_55 : decode cX6_best 55 = .ok (.iload_n 1, 1) := dk_27 (dk_at dksX6_best_2 8 rfl rfl)
theorem dX6_best_56 : decode cX6_best 56 = .ok (.iconst 1, 1) := dk_4 (dk_at dksX6_best_2 9 rfl rfl)
theorem dX6_best_57 : decode cX6_best 57 = .ok (.isub, 1) := dk_100 (dk_at dksX6_best_2 10 rfl rfl)
theorem dX6_best_58 : decode cX6_best 58 = .ok (.invokevirtual 220, 3) := dk_182 0 220 (dk_at dksX6_best_2 11 rfl rfl)
theorem dX6_best_61 : decode cX6_best 61 = .ok (.aload_n 0, 1) := dk_42 (dk_at dksX6_best_2 14 rfl rfl)
theorem dX6_best_62 : decode cX6_best 62 = .ok (.iconst 0, 1) := dk_3 (dk_at dksX6_best_2 15 rfl rfl)
theorem dX6_best_63 : decode cX6_best 63 = .ok (.invokevirtual 234, 3) := dk_182 0 234 (dk_at dksX6_best_2 16 rfl rfl)
theorem dX6_best_66 : decode cX6_best 66 = .ok (.aload_n 0, 1) := dk_42 (dk_at dksX6_best_2 19 rfl rfl)
theorem dX6_best_67 : decode cX6_best 67 = .ok (.iload_n 1, 1) := dk_27 (dk_at dksX6_best_2 20 rfl rfl)
theorem dX6_best_68 : decode cX6_best 68 = .ok (.putfield 63, 3) := dk_181 0 63 (dk_at dksX6_best_2 21 rfl rfl)
theorem dX6_best_71 : decode cX6_best 71 = .ok (.ldc 62, 2) := dk_18 62 (dk_at dksX6_best_3 0 rfl rfl)
theorem dX6_best_73 : decode cX6_best 73 = .ok (.istore 4, 2) := dk_54 4 (dk_at dksX6_best_3 2 rfl rfl)
theorem dX6_best_75 : decode cX6_best 75 = .ok (.iconst 0, 1) := dk_3 (dk_at dksX6_best_3 4 rfl rfl)
theorem dX6_best_76 : decode cX6_best 76 = .ok (.istore 5, 2) := dk_54 5 (dk_at dksX6_best_3 5 rfl rfl)
theorem dX6_best_78 : decode cX6_best 78 = .ok (.iconst 0, 1) := dk_3 (dk_at dksX6_best_3 7 rfl rfl)
theorem dX6_best_79 : decode cX6_best 79 = .ok (.istore 6, 2) := dk_54 6 (dk_at dksX6_best_3 8 rfl rfl)
theorem dX6_best_81 : decode cX6_best 81 = .ok (.iload 6, 2) := dk_21 6 (dk_at dksX6_best_3 10 rfl rfl)
theorem dX6_best_83 : decode cX6_best 83 = .ok (.sipush 625, 3) := dk_17 2 113 (dk_at dksX6_best_3 12 rfl rfl)
theorem dX6_best_86 : decode cX6_best 86 = .ok (.if_icmp .ge 89, 3) := dk_162 0 89 (dk_at dksX6_best_3 15 rfl rfl)
theorem dX6_best_89 : decode cX6_best 89 = .ok (.aload_n 0, 1) := dk_42 (dk_at dksX6_best_3 18 rfl rfl)
theorem dX6_best_90 : decode cX6_best 90 = .ok (.iconst 0, 1) := dk_3 (dk_at dksX6_best_3 19 rfl rfl)
theorem dX6_best_91 : decode cX6_best 91 = .ok (.iload 6, 2) := dk_21 6 (dk_at dksX6_best_3 20 rfl rfl)
theorem dX6_best_93 : decode cX6_best 93 = .ok (.invokevirtual 237, 3) := dk_182 0 237 (dk_at dksX6_best_4 0 rfl rfl)
theorem dX6_best_96 : decode cX6_best 96 = .ok (.ifCond .eq 73, 3) := dk_153 0 73 (dk_at dksX6_best_4 3 rfl rfl)
theorem dX6_best_99 : decode cX6_best 99 = .ok (.aload_n 0, 1) := dk_42 (dk_at dksX6_best_4 6 rfl rfl)
theorem dX6_best_100 : decode cX6_best 100 = .ok (.iconst 0, 1) := dk_3 (dk_at dksX6_best_4 7 rfl rfl)
theorem dX6_best_101 : decode cX6_best 101 = .ok (.invokevirtual 240, 3) := dk_182 0 240 (dk_at dksX6_best_4 8 rfl rfl)
theorem dX6_best_104 : decode cX6_best 104 = .ok (.aload_n 0, 1) := dk_42 (dk_at dksX6_best_4 11 rfl rfl)
theorem dX6_best_105 : decode cX6_best 105 = .ok (.iload_n 1, 1) := dk_27 (dk_at dksX6_best_4 12 rfl rfl)
theorem dX6_best_106 : decode cX6_best 106 = .ok (.invokevirtual 211, 3) := dk_182 0 211 (dk_at dksX6_best_4 13 rfl rfl)
theorem dX6_best_109 : decode cX6_best 109 = .ok (.aload_n 0, 1) := dk_42 (dk_at dksX6_best_4 16 rfl rfl)
theorem dX6_best_110 : decode cX6_best 110 = .ok (.invokevirtual 223, 3) := dk_182 0 223 (dk_at dksX6_best_4 17 rfl rfl)
theorem dX6_best_113 : decode cX6_best 113 = .ok (.istore 7, 2) := dk_54 7 (dk_at dksX6_best_4 20 rfl rfl)
theorem dX6_best_115 : decode cX6_best 115 = .ok (.iload_n 2, 1) := dk_28 (dk_at dksX6_best_4 22 rfl rfl)
theorem dX6_best_116 : decode cX6_best 116 = .ok (.iconst 1, 1) := dk_4 (dk_at dksX6_best_4 23 rfl rfl)
theorem dX6_best_117 : decode cX6_best 117 = .ok (.if_icmp .ne 8, 3) := dk_160 0 8 (dk_at dksX6_best_5 0 rfl rfl)
theorem dX6_best_120 : decode cX6_best 120 = .ok (.iload 7, 2) := dk_21 7 (dk_at dksX6_best_5 3 rfl rfl)
theorem dX6_best_122 : decode cX6_best 122 = .ok (.goto 13, 3) := dk_167 0 13 (dk_at dksX6_best_5 5 rfl rfl)
theorem dX6_best_125 : decode cX6_best 125 = .ok (.iload 7, 2) := dk_21 7 (dk_at dksX6_best_5 8 rfl rfl)
theorem dX6_best_127 : decode cX6_best 127 = .ok (.aload_n 0, 1) := dk_42 (dk_at dksX6_best_5 10 rfl rfl)
theorem dX6_best_128 : decode cX6_best 128 = .ok (.iload_n 1, 1) := dk_27 (dk_at dksX6_best_5 11 rfl rfl)
theorem dX6_best_129 : decode cX6_best 129 = .ok (.iconst 1, 1) := dk_4 (dk_at dksX6_best_5 12 rfl rfl)
theorem dX6_best_130 : decode cX6_best 130 = .ok (.iadd, 1) := dk_96 (dk_at dksX6_best_5 13 rfl rfl)
theorem dX6_best_131 : decode cX6_best 131 = .ok (.invokevirtual 243, 3) := dk_182 0 243 (dk_at dksX6_best_5 14 rfl rfl)
theorem dX6_best_134 : decode cX6_best 134 = .ok (.iadd, 1) := dk_96 (dk_at dksX6_best_5 17 rfl rfl)
theorem dX6_best_135 : decode cX6_best 135 = .ok (.istore 8, 2) := dk_54 8 (dk_at dksX6_best_5 18 rfl rfl)
theorem dX6_best_137 : decode cX6_best 137 = .ok (.iload 8, 2) := dk_21 8 (dk_at dksX6_best_5 20 rfl rfl)
theorem dX6_best_139 : decode cX6_best 139 = .ok (.iload 4, 2) := dk_21 4 (dk_at dksX6_best_5 22 rfl rfl)
theorem dX6_best_141 : decode cX6_best 141 = .ok (.if_icmp .ge 8, 3) := dk_162 0 8 (dk_at dksX6_best_6 0 rfl rfl)
theorem dX6_best_144 : decode cX6_best 144 = .ok (.iload 6, 2) := dk_21 6 (dk_at dksX6_best_6 3 rfl rfl)
theorem dX6_best_146 : decode cX6_best 146 = .ok (.goto 5, 3) := dk_167 0 5 (dk_at dksX6_best_6 5 rfl rfl)
theorem dX6_best_149 : decode cX6_best 149 = .ok (.iload 5, 2) := dk_21 5 (dk_at dksX6_best_6 8 rfl rfl)
theorem dX6_best_151 : decode cX6_best 151 = .ok (.istore 5, 2) := dk_54 5 (dk_at dksX6_best_6 10 rfl rfl)
theorem dX6_best_153 : decode cX6_best 153 = .ok (.iload 8, 2) := dk_21 8 (dk_at dksX6_best_6 12 rfl rfl)
theorem dX6_best_155 : decode cX6_best 155 = .ok (.iload 4, 2) := dk_21 4 (dk_at dksX6_best_6 14 rfl rfl)
theorem dX6_best_157 : decode cX6_best 157 = .ok (.if_icmp .ge 8, 3) := dk_162 0 8 (dk_at dksX6_best_6 16 rfl rfl)
theorem dX6_best_160 : decode cX6_best 160 = .ok (.iload 8, 2) := dk_21 8 (dk_at dksX6_best_6 19 rfl rfl)
theorem dX6_best_162 : decode cX6_best 162 = .ok (.goto 5, 3) := dk_167 0 5 (dk_at dksX6_best_6 21 rfl rfl)
theorem dX6_best_165 : decode cX6_best 165 = .ok (.iload 4, 2) := dk_21 4 (dk_at dksX6_best_7 0 rfl rfl)
theorem dX6_best_167 : decode cX6_best 167 = .ok (.istore 4, 2) := dk_54 4 (dk_at dksX6_best_7 2 rfl rfl)
theorem dX6_best_169 : decode cX6_best 169 = .ok (.iinc 6 1, 3) := dk_132 6 1 (dk_at dksX6_best_7 4 rfl rfl)
theorem dX6_best_172 : decode cX6_best 172 = .ok (.goto (-91), 3) := dk_167 255 165 (dk_at dksX6_best_7 7 rfl rfl)
theorem dX6_best_175 : decode cX6_best 175 = .ok (.aload_n 0, 1) := dk_42 (dk_at dksX6_best_7 10 rfl rfl)
theorem dX6_best_176 : decode cX6_best 176 = .ok (.iconst 0, 1) := dk_3 (dk_at dksX6_best_7 11 rfl rfl)
theorem dX6_best_177 : decode cX6_best 177 = .ok (.iload 5, 2) := dk_21 5 (dk_at dksX6_best_7 12 rfl rfl)
theorem dX6_best_179 : decode cX6_best 179 = .ok (.invokevirtual 237, 3) := dk_182 0 237 (dk_at dksX6_best_7 14 rfl rfl)
theorem dX6_best_182 : decode cX6_best 182 = .ok (.pop, 1) := dk_87 (dk_at dksX6_best_7 17 rfl rfl)
theorem dX6_best_183 : decode cX6_best 183 = .ok (.iload_n 3, 1) := dk_29 (dk_at dksX6_best_7 18 rfl rfl)
theorem dX6_best_184 : decode cX6_best 184 = .ok (.iconst (-1), 1) := dk_2 (dk_at dksX6_best_7 19 rfl rfl)
theorem dX6_best_185 : decode cX6_best 185 = .ok (.if_icmp .ne 8, 3) := dk_160 0 8 (dk_at dksX6_best_7 20 rfl rfl)
theorem dX6_best_188 : decode cX6_best 188 = .ok (.iload 4, 2) := dk_21 4 (dk_at dksX6_best_8 0 rfl rfl)
theorem dX6_best_190 : decode cX6_best 190 = .ok (.goto 11, 3) := dk_167 0 11 (dk_at dksX6_best_8 2 rfl rfl)
theorem dX6_best_193 : decode cX6_best 193 = .ok (.aload_n 0, 1) := dk_42 (dk_at dksX6_best_8 5 rfl rfl)
theorem dX6_best_194 : decode cX6_best 194 = .ok (.getfield 66, 3) := dk_180 0 66 (dk_at dksX6_best_8 6 rfl rfl)
theorem dX6_best_197 : decode cX6_best 197 = .ok (.iload_n 3, 1) := dk_29 (dk_at dksX6_best_8 9 rfl rfl)
theorem dX6_best_198 : decode cX6_best 198 = .ok (.iaload, 1) := dk_46 (dk_at dksX6_best_8 10 rfl rfl)
theorem dX6_best_199 : decode cX6_best 199 = .ok (.iconst 1, 1) := dk_4 (dk_at dksX6_best_8 11 rfl rfl)
theorem dX6_best_200 : decode cX6_best 200 = .ok (.isub, 1) := dk_100 (dk_at dksX6_best_8 12 rfl rfl)
theorem dX6_best_201 : decode cX6_best 201 = .ok (.ireturn, 1) := dk_172 (dk_at dksX6_best_8 13 rfl rfl)
abbrev cX6_keep : ByteArray := prog_12_method_40_code
def yX6_keep : MethodName := ⟨RX6, "keep", "(I)V"⟩
def dkwX6_keep_2 : List UInt8 := [42, 180, 0, 72, 28, 46, 79, 132, 2, 1, 167, 255, 230, 177]
abbrev dktX6_keep_2 : List UInt8 := dkwX6_keep_2 ++ []
def dkwX6_keep_1 : List UInt8 := [132, 2, 1, 167, 255, 232, 3, 61, 28, 16, 16, 162, 0, 26, 42, 180, 0, 84, 16, 16, 27, 104, 28, 96]
abbrev dktX6_keep_1 : List UInt8 := dkwX6_keep_1 ++ dktX6_keep_2
def dkwX6_keep_0 : List UInt8 := [3, 61, 28, 7, 162, 0, 25, 42, 180, 0, 81, 7, 27, 104, 28, 96, 42, 180, 0, 69, 28, 46, 79]
abbrev dktX6_keep_0 : List UInt8 := dkwX6_keep_0 ++ dktX6_keep_1
theorem dksX6_keep_0 : cX6_keep.data.toList.drop 0 = dktX6_keep_0 := by decide +kernel
theorem dksX6_keep_1 : cX6_keep.data.toList.drop 23 = dktX6_keep_1 := dk_seg dksX6_keep_0 23 rfl rfl
theorem dksX6_keep_2 : cX6_keep.data.toList.drop 47 = dktX6_keep_2 := dk_seg dksX6_keep_1 24 rfl rfl
theorem dX6_keep_0 : decode cX6_keep 0 = .ok (.iconst 0, 1) := dk_3 (dk_at dksX6_keep_0 0 rfl rfl)
theorem dX6_keep_1 : decode cX6_keep 1 = .ok (.istore_n 2, 1) := dk_61 (dk_at dksX6_keep_0 1 rfl rfl)
theorem dX6_keep_2 : decode cX6_keep 2 = .ok (.iload_n 2, 1) := dk_28 (dk_at dksX6_keep_0 2 rfl rfl)
theorem dX6_keep_3 : decode cX6_keep 3 = .ok (.iconst 4, 1) := dk_7 (dk_at dksX6_keep_0 3 rfl rfl)
theorem dX6_keep_4 : decode cX6_keep 4 = .ok (.if_icmp .ge 25, 3) := dk_162 0 25 (dk_at dksX6_keep_0 4 rfl rfl)
theorem dX6_keep_7 : decode cX6_keep 7 = .ok (.aload_n 0, 1) := dk_42 (dk_at dksX6_keep_0 7 rfl rfl)
theorem dX6_keep_8 : decode cX6_keep 8 = .ok (.getfield 81, 3) := dk_180 0 81 (dk_at dksX6_keep_0 8 rfl rfl)
theorem dX6_keep_11 : decode cX6_keep 11 = .ok (.iconst 4, 1) := dk_7 (dk_at dksX6_keep_0 11 rfl rfl)
theorem dX6_keep_12 : decode cX6_keep 12 = .ok (.iload_n 1, 1) := dk_27 (dk_at dksX6_keep_0 12 rfl rfl)
theorem dX6_keep_13 : decode cX6_keep 13 = .ok (.imul, 1) := dk_104 (dk_at dksX6_keep_0 13 rfl rfl)
theorem dX6_keep_14 : decode cX6_keep 14 = .ok (.iload_n 2, 1) := dk_28 (dk_at dksX6_keep_0 14 rfl rfl)
theorem dX6_keep_15 : decode cX6_keep 15 = .ok (.iadd, 1) := dk_96 (dk_at dksX6_keep_0 15 rfl rfl)
theorem dX6_keep_16 : decode cX6_keep 16 = .ok (.aload_n 0, 1) := dk_42 (dk_at dksX6_keep_0 16 rfl rfl)
theorem dX6_keep_17 : decode cX6_keep 17 = .ok (.getfield 69, 3) := dk_180 0 69 (dk_at dksX6_keep_0 17 rfl rfl)
theorem dX6_keep_20 : decode cX6_keep 20 = .ok (.iload_n 2, 1) := dk_28 (dk_at dksX6_keep_0 20 rfl rfl)
theorem dX6_keep_21 : decode cX6_keep 21 = .ok (.iaload, 1) := dk_46 (dk_at dksX6_keep_0 21 rfl rfl)
theorem dX6_keep_22 : decode cX6_keep 22 = .ok (.iastore, 1) := dk_79 (dk_at dksX6_keep_0 22 rfl rfl)
theorem dX6_keep_23 : decode cX6_keep 23 = .ok (.iinc 2 1, 3) := dk_132 2 1 (dk_at dksX6_keep_1 0 rfl rfl)
theorem dX6_keep_26 : decode cX6_keep 26 = .ok (.goto (-24), 3) := dk_167 255 232 (dk_at dksX6_keep_1 3 rfl rfl)
theorem dX6_keep_29 : decode cX6_keep 29 = .ok (.iconst 0, 1) := dk_3 (dk_at dksX6_keep_1 6 rfl rfl)
theorem dX6_keep_30 : decode cX6_keep 30 = .ok (.istore_n 2, 1) := dk_61 (dk_at dksX6_keep_1 7 rfl rfl)
theorem dX6_keep_31 : decode cX6_keep 31 = .ok (.iload_n 2, 1) := dk_28 (dk_at dksX6_keep_1 8 rfl rfl)
theorem dX6_keep_32 : decode cX6_keep 32 = .ok (.bipush 16, 2) := dk_16 16 (dk_at dksX6_keep_1 9 rfl rfl)
theorem dX6_keep_34 : decode cX6_keep 34 = .ok (.if_icmp .ge 26, 3) := dk_162 0 26 (dk_at dksX6_keep_1 11 rfl rfl)
theorem dX6_keep_37 : decode cX6_keep 37 = .ok (.aload_n 0, 1) := dk_42 (dk_at dksX6_keep_1 14 rfl rfl)
theorem dX6_keep_38 : decode cX6_keep 38 = .ok (.getfield 84, 3) := dk_180 0 84 (dk_at dksX6_keep_1 15 rfl rfl)
theorem dX6_keep_41 : decode cX6_keep 41 = .ok (.bipush 16, 2) := dk_16 16 (dk_at dksX6_keep_1 18 rfl rfl)
theorem dX6_keep_43 : decode cX6_keep 43 = .ok (.iload_n 1, 1) := dk_27 (dk_at dksX6_keep_1 20 rfl rfl)
theorem dX6_keep_44 : decode cX6_keep 44 = .ok (.imul, 1) := dk_104 (dk_at dksX6_keep_1 21 rfl rfl)
theorem dX6_keep_45 : decode cX6_keep 45 = .ok (.iload_n 2, 1) := dk_28 (dk_at dksX6_keep_1 22 rfl rfl)
theorem dX6_keep_46 : decode cX6_keep 46 = .ok (.iadd, 1) := dk_96 (dk_at dksX6_keep_1 23 rfl rfl)
theorem dX6_keep_47 : decode cX6_keep 47 = .ok (.aload_n 0, 1) := dk_42 (dk_at dksX6_keep_2 0 rfl rfl)
theorem dX6_keep_48 : decode cX6_keep 48 = .ok (.getfield 72, 3) := dk_180 0 72 (dk_at dksX6_keep_2 1 rfl rfl)
theorem dX6_keep_51 : decode cX6_keep 51 = .ok (.iload_n 2, 1) := dk_28 (dk_at dksX6_keep_2 4 rfl rfl)
theorem dX6_keep_52 : decode cX6_keep 52 = .ok (.iaload, 1) := dk_46 (dk_at dksX6_keep_2 5 rfl rfl)
theorem dX6_keep_53 : decode cX6_keep 53 = .ok (.iastore, 1) := dk_79 (dk_at dksX6_keep_2 6 rfl rfl)
theorem dX6_keep_54 : decode cX6_keep 54 = .ok (.iinc 2 1, 3) := dk_132 2 1 (dk_at dksX6_keep_2 7 rfl rfl)
theorem dX6_keep_57 : decode cX6_keep 57 = .ok (.goto (-26), 3) := dk_167 255 230 (dk_at dksX6_keep_2 10 rfl rfl)
theorem dX6_keep_60 : decode cX6_keep 60 = .ok (.return_, 1) := dk_177 (dk_at dksX6_keep_2 13 rfl rfl)
abbrev cX6_layTried : ByteArray := prog_12_method_42_code
def yX6_layTried : MethodName := ⟨RX6, "layTried", "(II)Z"⟩
def dkwX6_layTried_4 : List UInt8 := [21, 7, 120, 128, 54, 4, 132, 6, 255, 167, 255, 164, 21, 5, 172]
abbrev dktX6_layTried_4 : List UInt8 := dkwX6_layTried_4 ++ []
def dkwX6_layTried_3 : List UInt8 := [153, 0, 17, 21, 4, 21, 7, 184, 0, 169, 154, 0, 7, 4, 167, 0, 4, 3, 54, 5, 21, 4, 4]
abbrev dktX6_layTried_3 : List UInt8 := dkwX6_layTried_3 ++ dktX6_layTried_4
def dkwX6_layTried_2 : List UInt8 := [42, 180, 0, 144, 21, 6, 184, 0, 169, 153, 0, 31, 42, 180, 0, 150, 21, 7, 4, 100, 184, 0, 169]
abbrev dktX6_layTried_2 : List UInt8 := dkwX6_layTried_2 ++ dktX6_layTried_3
def dkwX6_layTried_1 : List UInt8 := [62, 42, 180, 0, 66, 7, 27, 104, 21, 6, 96, 21, 7, 79, 21, 5, 153, 0, 48, 21, 7, 153, 0, 39]
abbrev dktX6_layTried_1 : List UInt8 := dkwX6_layTried_1 ++ dktX6_layTried_2
def dkwX6_layTried_0 : List UInt8 := [28, 62, 3, 54, 4, 4, 54, 5, 6, 54, 6, 21, 6, 155, 0, 93, 29, 8, 112, 54, 7, 29, 8, 108]
abbrev dktX6_layTried_0 : List UInt8 := dkwX6_layTried_0 ++ dktX6_layTried_1
theorem dksX6_layTried_0 : cX6_layTried.data.toList.drop 0 = dktX6_layTried_0 := by decide +kernel
theorem dksX6_layTried_1 : cX6_layTried.data.toList.drop 24 = dktX6_layTried_1 := dk_seg dksX6_layTried_0 24 rfl rfl
theorem dksX6_layTried_2 : cX6_layTried.data.toList.drop 48 = dktX6_layTried_2 := dk_seg dksX6_layTried_1 24 rfl rfl
theorem dksX6_layTried_3 : cX6_layTried.data.toList.drop 71 = dktX6_layTried_3 := dk_seg dksX6_layTried_2 23 rfl rfl
theorem dksX6_layTried_4 : cX6_layTried.data.toList.drop 94 = dktX6_layTried_4 := dk_seg dksX6_layTried_3 23 rfl rfl
theorem dX6_layTried_0 : decode cX6_layTried 0 = .ok (.iload_n 2, 1) := dk_28 (dk_at dksX6_layTried_0 0 rfl rfl)
theorem dX6_layTried_1 : decode cX6_layTried 1 = .ok (.istore_n 3, 1) := dk_62 (dk_at dksX6_layTried_0 1 rfl rfl)
theorem dX6_layTried_2 : decode cX6_layTried 2 = .ok (.iconst 0, 1) := dk_3 (dk_at dksX6_layTried_0 2 rfl rfl)
theorem dX6_layTried_3 : decode cX6_layTried 3 = .ok (.istore 4, 2) := dk_54 4 (dk_at dksX6_layTried_0 3 rfl rfl)
theorem dX6_layTried_5 : decode cX6_layTried 5 = .ok (.iconst 1, 1) := dk_4 (dk_at dksX6_layTried_0 5 rfl rfl)
theorem dX6_layTried_6 : decode cX6_layTried 6 = .ok (.istore 5, 2) := dk_54 5 (dk_at dksX6_layTried_0 6 rfl rfl)
theorem dX6_layTried_8 : decode cX6_layTried 8 = .ok (.iconst 3, 1) := dk_6 (dk_at dksX6_layTried_0 8 rfl rfl)
theorem dX6_layTried_9 : decode cX6_layTried 9 = .ok (.istore 6, 2) := dk_54 6 (dk_at dksX6_layTried_0 9 rfl rfl)
theorem dX6_layTried_11 : decode cX6_layTried 11 = .ok (.iload 6, 2) := dk_21 6 (dk_at dksX6_layTried_0 11 rfl rfl)
theorem dX6_layTried_13 : decode cX6_layTried 13 = .ok (.ifCond .lt 93, 3) := dk_155 0 93 (dk_at dksX6_layTried_0 13 rfl rfl)
theorem dX6_layTried_16 : decode cX6_layTried 16 = .ok (.iload_n 3, 1) := dk_29 (dk_at dksX6_layTried_0 16 rfl rfl)
theorem dX6_layTried_17 : decode cX6_layTried 17 = .ok (.iconst 5, 1) := dk_8 (dk_at dksX6_layTried_0 17 rfl rfl)
theorem dX6_layTried_18 : decode cX6_layTried 18 = .ok (.irem, 1) := dk_112 (dk_at dksX6_layTried_0 18 rfl rfl)
theorem dX6_layTried_19 : decode cX6_layTried 19 = .ok (.istore 7, 2) := dk_54 7 (dk_at dksX6_layTried_0 19 rfl rfl)
theorem dX6_layTried_21 : decode cX6_layTried 21 = .ok (.iload_n 3, 1) := dk_29 (dk_at dksX6_layTried_0 21 rfl rfl)
theorem dX6_layTried_22 : decode cX6_layTried 22 = .ok (.iconst 5, 1) := dk_8 (dk_at dksX6_layTried_0 22 rfl rfl)
theorem dX6_layTried_23 : decode cX6_layTried 23 = .ok (.idiv, 1) := dk_108 (dk_at dksX6_layTried_0 23 rfl rfl)
theorem dX6_layTried_24 : decode cX6_layTried 24 = .ok (.istore_n 3, 1) := dk_62 (dk_at dksX6_layTried_1 0 rfl rfl)
theorem dX6_layTried_25 : decode cX6_layTried 25 = .ok (.aload_n 0, 1) := dk_42 (dk_at dksX6_layTried_1 1 rfl rfl)
theorem dX6_layTried_26 : decode cX6_layTried 26 = .ok (.getfield 66, 3) := dk_180 0 66 (dk_at dksX6_layTried_1 2 rfl rfl)
theorem dX6_layTried_29 : decode cX6_layTried 29 = .ok (.iconst 4, 1) := dk_7 (dk_at dksX6_layTried_1 5 rfl rfl)
theorem dX6_layTried_30 : decode cX6_layTried 30 = .ok (.iload_n 1, 1) := dk_27 (dk_at dksX6_layTried_1 6 rfl rfl)
theorem dX6_layTried_31 : decode cX6_layTried 31 = .ok (.imul, 1) := dk_104 (dk_at dksX6_layTried_1 7 rfl rfl)
theorem dX6_layTried_32 : decode cX6_layTried 32 = .ok (.iload 6, 2) := dk_21 6 (dk_at dksX6_layTried_1 8 rfl rfl)
theorem dX6_layTried_34 : decode cX6_layTried 34 = .ok (.iadd, 1) := dk_96 (dk_at dksX6_layTried_1 10 rfl rfl)
theorem dX6_layTried_35 : decode cX6_layTried 35 = .ok (.iload 7, 2) := dk_21 7 (dk_at dksX6_layTried_1 11 rfl rfl)
theorem dX6_layTried_37 : decode cX6_layTried 37 = .ok (.iastore, 1) := dk_79 (dk_at dksX6_layTried_1 13 rfl rfl)
theorem dX6_layTried_38 : decode cX6_layTried 38 = .ok (.iload 5, 2) := dk_21 5 (dk_at dksX6_layTried_1 14 rfl rfl)
theorem dX6_layTried_40 : decode cX6_layTried 40 = .ok (.ifCond .eq 48, 3) := dk_153 0 48 (dk_at dksX6_layTried_1 16 rfl rfl)
theorem dX6_layTried_43 : decode cX6_layTried 43 = .ok (.iload 7, 2) := dk_21 7 (dk_at dksX6_layTried_1 19 rfl rfl)
theorem dX6_layTried_45 : decode cX6_layTried 45 = .ok (.ifCond .eq 39, 3) := dk_153 0 39 (dk_at dksX6_layTried_1 21 rfl rfl)
theorem dX6_layTried_48 : decode cX6_layTried 48 = .ok (.aload_n 0, 1) := dk_42 (dk_at dksX6_layTried_2 0 rfl rfl)
theorem dX6_layTried_49 : decode cX6_layTried 49 = .ok (.getfield 144, 3) := dk_180 0 144 (dk_at dksX6_layTried_2 1 rfl rfl)
theorem dX6_layTried_52 : decode cX6_layTried 52 = .ok (.iload 6, 2) := dk_21 6 (dk_at dksX6_layTried_2 4 rfl rfl)
theorem dX6_layTried_54 : decode cX6_layTried 54 = .ok (.invokestatic 169, 3) := dk_184 0 169 (dk_at dksX6_layTried_2 6 rfl rfl)
theorem dX6_layTried_57 : decode cX6_layTried 57 = .ok (.ifCond .eq 31, 3) := dk_153 0 31 (dk_at dksX6_layTried_2 9 rfl rfl)
theorem dX6_layTried_60 : decode cX6_layTried 60 = .ok (.aload_n 0, 1) := dk_42 (dk_at dksX6_layTried_2 12 rfl rfl)
theorem dX6_layTried_61 : decode cX6_layTried 61 = .ok (.getfield 150, 3) := dk_180 0 150 (dk_at dksX6_layTried_2 13 rfl rfl)
theorem dX6_layTried_64 : decode cX6_layTried 64 = .ok (.iload 7, 2) := dk_21 7 (dk_at dksX6_layTried_2 16 rfl rfl)
theorem dX6_layTried_66 : decode cX6_layTried 66 = .ok (.iconst 1, 1) := dk_4 (dk_at dksX6_layTried_2 18 rfl rfl)
theorem dX6_layTried_67 : decode cX6_layTried 67 = .ok (.isub, 1) := dk_100 (dk_at dksX6_layTried_2 19 rfl rfl)
theorem dX6_layTried_68 : decode cX6_layTried 68 = .ok (.invokestatic 169, 3) := dk_184 0 169 (dk_at dksX6_layTried_2 20 rfl rfl)
theorem dX6_layTried_71 : decode cX6_layTried 71 = .ok (.ifCond .eq 17, 3) := dk_153 0 17 (dk_at dksX6_layTried_3 0 rfl rfl)
theorem dX6_layTried_74 : decode cX6_layTried 74 = .ok (.iload 4, 2) := dk_21 4 (dk_at dksX6_layTried_3 3 rfl rfl)
theorem dX6_layTried_76 : decode cX6_layTried 76 = .ok (.iload 7, 2) := dk_21 7 (dk_at dksX6_layTried_3 5 rfl rfl)
theorem dX6_layTried_78 : decode cX6_layTried 78 = .ok (.invokestatic 169, 3) := dk_184 0 169 (dk_at dksX6_layTried_3 7 rfl rfl)
theorem dX6_layTried_81 : decode cX6_layTried 81 = .ok (.ifCond .ne 7, 3) := dk_154 0 7 (dk_at dksX6_layTried_3 10 rfl rfl)
theorem dX6_layTried_84 : decode cX6_layTried 84 = .ok (.iconst 1, 1) := dk_4 (dk_at dksX6_layTried_3 13 rfl rfl)
theorem dX6_layTried_85 : decode cX6_layTried 85 = .ok (.goto 4, 3) := dk_167 0 4 (dk_at dksX6_layTried_3 14 rfl rfl)
theorem dX6_layTried_88 : decode cX6_layTried 88 = .ok (.iconst 0, 1) := dk_3 (dk_at dksX6_layTried_3 17 rfl rfl)
theorem dX6_layTried_89 : decode cX6_layTried 89 = .ok (.istore 5, 2) := dk_54 5 (dk_at dksX6_layTried_3 18 rfl rfl)
theorem dX6_layTried_91 : decode cX6_layTried 91 = .ok (.iload 4, 2) := dk_21 4 (dk_at dksX6_layTried_3 20 rfl rfl)
theorem dX6_layTried_93 : decode cX6_layTried 93 = .ok (.iconst 1, 1) := dk_4 (dk_at dksX6_layTried_3 22 rfl rfl)
theorem dX6_layTried_94 : decode cX6_layTried 94 = .ok (.iload 7, 2) := dk_21 7 (dk_at dksX6_layTried_4 0 rfl rfl)
theorem dX6_layTried_96 : decode cX6_layTried 96 = .ok (.ishl, 1) := dk_120 (dk_at dksX6_layTried_4 2 rfl rfl)
theorem dX6_layTried_97 : decode cX6_layTried 97 = .ok (.ior, 1) := dk_128 (dk_at dksX6_layTried_4 3 rfl rfl)
theorem dX6_layTried_98 : decode cX6_layTried 98 = .ok (.istore 4, 2) := dk_54 4 (dk_at dksX6_layTried_4 4 rfl rfl)
theorem dX6_layTried_100 : decode cX6_layTried 100 = .ok (.iinc 6 (-1), 3) := dk_132 6 255 (dk_at dksX6_layTried_4 6 rfl rfl)
theorem dX6_layTried_103 : decode cX6_layTried 103 = .ok (.goto (-92), 3) := dk_167 255 164 (dk_at dksX6_layTried_4 9 rfl rfl)
theorem dX6_layTried_106 : decode cX6_layTried 106 = .ok (.iload 5, 2) := dk_21 5 (dk_at dksX6_layTried_4 12 rfl rfl)
theorem dX6_layTried_108 : decode cX6_layTried 108 = .ok (.ireturn, 1) := dk_172 (dk_at dksX6_layTried_4 14 rfl rfl)
abbrev cX6_back : ByteArray := prog_12_method_41_code
def yX6_back : MethodName := ⟨RX6, "back", "(I)V"⟩
def dkwX6_back_2 : List UInt8 := [16, 16, 27, 104, 28, 96, 46, 79, 132, 2, 1, 167, 255, 230, 177]
abbrev dktX6_back_2 : List UInt8 := dkwX6_back_2 ++ []
def dkwX6_back_1 : List UInt8 := [132, 2, 1, 167, 255, 232, 3, 61, 28, 16, 16, 162, 0, 26, 42, 180, 0, 72, 28, 42, 180, 0, 84]
abbrev dktX6_back_1 : List UInt8 := dkwX6_back_1 ++ dktX6_back_2
def dkwX6_back_0 : List UInt8 := [3, 61, 28, 7, 162, 0, 25, 42, 180, 0, 69, 28, 42, 180, 0, 81, 7, 27, 104, 28, 96, 46, 79]
abbrev dktX6_back_0 : List UInt8 := dkwX6_back_0 ++ dktX6_back_1
theorem dksX6_back_0 : cX6_back.data.toList.drop 0 = dktX6_back_0 := by decide +kernel
theorem dksX6_back_1 : cX6_back.data.toList.drop 23 = dktX6_back_1 := dk_seg dksX6_back_0 23 rfl rfl
theorem dksX6_back_2 : cX6_back.data.toList.drop 46 = dktX6_back_2 := dk_seg dksX6_back_1 23 rfl rfl
theorem dX6_back_0 : decode cX6_back 0 = .ok (.iconst 0, 1) := dk_3 (dk_at dksX6_back_0 0 rfl rfl)
theorem dX6_back_1 : decode cX6_back 1 = .ok (.istore_n 2, 1) := dk_61 (dk_at dksX6_back_0 1 rfl rfl)
theorem dX6_back_2 : decode cX6_back 2 = .ok (.iload_n 2, 1) := dk_28 (dk_at dksX6_back_0 2 rfl rfl)
theorem dX6_back_3 : decode cX6_back 3 = .ok (.iconst 4, 1) := dk_7 (dk_at dksX6_back_0 3 rfl rfl)
theorem dX6_back_4 : decode cX6_back 4 = .ok (.if_icmp .ge 25, 3) := dk_162 0 25 (dk_at dksX6_back_0 4 rfl rfl)
theorem dX6_back_7 : decode cX6_back 7 = .ok (.aload_n 0, 1) := dk_42 (dk_at dksX6_back_0 7 rfl rfl)
theorem dX6_back_8 : decode cX6_back 8 = .ok (.getfield 69, 3) := dk_180 0 69 (dk_at dksX6_back_0 8 rfl rfl)
theorem dX6_back_11 : decode cX6_back 11 = .ok (.iload_n 2, 1) := dk_28 (dk_at dksX6_back_0 11 rfl rfl)
theorem dX6_back_12 : decode cX6_back 12 = .ok (.aload_n 0, 1) := dk_42 (dk_at dksX6_back_0 12 rfl rfl)
theorem dX6_back_13 : decode cX6_back 13 = .ok (.getfield 81, 3) := dk_180 0 81 (dk_at dksX6_back_0 13 rfl rfl)
theorem dX6_back_16 : decode cX6_back 16 = .ok (.iconst 4, 1) := dk_7 (dk_at dksX6_back_0 16 rfl rfl)
theorem dX6_back_17 : decode cX6_back 17 = .ok (.iload_n 1, 1) := dk_27 (dk_at dksX6_back_0 17 rfl rfl)
theorem dX6_back_18 : decode cX6_back 18 = .ok (.imul, 1) := dk_104 (dk_at dksX6_back_0 18 rfl rfl)
theorem dX6_back_19 : decode cX6_back 19 = .ok (.iload_n 2, 1) := dk_28 (dk_at dksX6_back_0 19 rfl rfl)
theorem dX6_back_20 : decode cX6_back 20 = .ok (.iadd, 1) := dk_96 (dk_at dksX6_back_0 20 rfl rfl)
theorem dX6_back_21 : decode cX6_back 21 = .ok (.iaload, 1) := dk_46 (dk_at dksX6_back_0 21 rfl rfl)
theorem dX6_back_22 : decode cX6_back 22 = .ok (.iastore, 1) := dk_79 (dk_at dksX6_back_0 22 rfl rfl)
theorem dX6_back_23 : decode cX6_back 23 = .ok (.iinc 2 1, 3) := dk_132 2 1 (dk_at dksX6_back_1 0 rfl rfl)
theorem dX6_back_26 : decode cX6_back 26 = .ok (.goto (-24), 3) := dk_167 255 232 (dk_at dksX6_back_1 3 rfl rfl)
theorem dX6_back_29 : decode cX6_back 29 = .ok (.iconst 0, 1) := dk_3 (dk_at dksX6_back_1 6 rfl rfl)
theorem dX6_back_30 : decode cX6_back 30 = .ok (.istore_n 2, 1) := dk_61 (dk_at dksX6_back_1 7 rfl rfl)
theorem dX6_back_31 : decode cX6_back 31 = .ok (.iload_n 2, 1) := dk_28 (dk_at dksX6_back_1 8 rfl rfl)
theorem dX6_back_32 : decode cX6_back 32 = .ok (.bipush 16, 2) := dk_16 16 (dk_at dksX6_back_1 9 rfl rfl)
theorem dX6_back_34 : decode cX6_back 34 = .ok (.if_icmp .ge 26, 3) := dk_162 0 26 (dk_at dksX6_back_1 11 rfl rfl)
theorem dX6_back_37 : decode cX6_back 37 = .ok (.aload_n 0, 1) := dk_42 (dk_at dksX6_back_1 14 rfl rfl)
theorem dX6_back_38 : decode cX6_back 38 = .ok (.getfield 72, 3) := dk_180 0 72 (dk_at dksX6_back_1 15 rfl rfl)
theorem dX6_back_41 : decode cX6_back 41 = .ok (.iload_n 2, 1) := dk_28 (dk_at dksX6_back_1 18 rfl rfl)
theorem dX6_back_42 : decode cX6_back 42 = .ok (.aload_n 0, 1) := dk_42 (dk_at dksX6_back_1 19 rfl rfl)
theorem dX6_back_43 : decode cX6_back 43 = .ok (.getfield 84, 3) := dk_180 0 84 (dk_at dksX6_back_1 20 rfl rfl)
theorem dX6_back_46 : decode cX6_back 46 = .ok (.bipush 16, 2) := dk_16 16 (dk_at dksX6_back_2 0 rfl rfl)
theorem dX6_back_48 : decode cX6_back 48 = .ok (.iload_n 1, 1) := dk_27 (dk_at dksX6_back_2 2 rfl rfl)
theorem dX6_back_49 : decode cX6_back 49 = .ok (.imul, 1) := dk_104 (dk_at dksX6_back_2 3 rfl rfl)
theorem dX6_back_50 : decode cX6_back 50 = .ok (.iload_n 2, 1) := dk_28 (dk_at dksX6_back_2 4 rfl rfl)
theorem dX6_back_51 : decode cX6_back 51 = .ok (.iadd, 1) := dk_96 (dk_at dksX6_back_2 5 rfl rfl)
theorem dX6_back_52 : decode cX6_back 52 = .ok (.iaload, 1) := dk_46 (dk_at dksX6_back_2 6 rfl rfl)
theorem dX6_back_53 : decode cX6_back 53 = .ok (.iastore, 1) := dk_79 (dk_at dksX6_back_2 7 rfl rfl)
theorem dX6_back_54 : decode cX6_back 54 = .ok (.iinc 2 1, 3) := dk_132 2 1 (dk_at dksX6_back_2 8 rfl rfl)
theorem dX6_back_57 : decode cX6_back 57 = .ok (.goto (-26), 3) := dk_167 255 230 (dk_at dksX6_back_2 11 rfl rfl)
theorem dX6_back_60 : decode cX6_back 60 = .ok (.return_, 1) := dk_177 (dk_at dksX6_back_2 14 rfl rfl)
abbrev cX6_leastSecond : ByteArray := prog_12_method_44_code
def yX6_leastSecond : MethodName := ⟨RX6, "leastSecond", "(I)I"⟩
def dkwX6_leastSecond_2 : List UInt8 := [182, 0, 223, 167, 0, 4, 28, 61, 132, 3, 1, 167, 255, 210, 28, 172]
abbrev dktX6_leastSecond_2 : List UInt8 := dkwX6_leastSecond_2 ++ []
def dkwX6_leastSecond_1 : List UInt8 := [153, 0, 30, 42, 4, 182, 0, 240, 42, 27, 182, 0, 211, 42, 182, 0, 223, 28, 162, 0, 10, 42]
abbrev dktX6_leastSecond_1 : List UInt8 := dkwX6_leastSecond_1 ++ dktX6_leastSecond_2
def dkwX6_leastSecond_0 : List UInt8 := [42, 4, 182, 0, 234, 18, 62, 61, 3, 62, 29, 17, 2, 113, 162, 0, 45, 42, 4, 29, 182, 0, 237]
abbrev dktX6_leastSecond_0 : List UInt8 := dkwX6_leastSecond_0 ++ dktX6_leastSecond_1
theorem dksX6_leastSecond_0 : cX6_leastSecond.data.toList.drop 0 = dktX6_leastSecond_0 := by decide +kernel
theorem dksX6_leastSecond_1 : cX6_leastSecond.data.toList.drop 23 = dktX6_leastSecond_1 := dk_seg dksX6_leastSecond_0 23 rfl rfl
theorem dksX6_leastSecond_2 : cX6_leastSecond.data.toList.drop 45 = dktX6_leastSecond_2 := dk_seg dksX6_leastSecond_1 22 rfl rfl
theorem dX6_leastSecond_0 : decode cX6_leastSecond 0 = .ok (.aload_n 0, 1) := dk_42 (dk_at dksX6_leastSecond_0 0 rfl rfl)
theorem dX6_leastSecond_1 : decode cX6_leastSecond 1 = .ok (.iconst 1, 1) := dk_4 (dk_at dksX6_leastSecond_0 1 rfl rfl)
theorem dX6_leastSecond_2 : decode cX6_leastSecond 2 = .ok (.invokevirtual 234, 3) := dk_182 0 234 (dk_at dksX6_leastSecond_0 2 rfl rfl)
theorem dX6_leastSecond_5 : decode cX6_leastSecond 5 = .ok (.ldc 62, 2) := dk_18 62 (dk_at dksX6_leastSecond_0 5 rfl rfl)
theorem dX6_leastSecond_7 : decode cX6_leastSecond 7 = .ok (.istore_n 2, 1) := dk_61 (dk_at dksX6_leastSecond_0 7 rfl rfl)
theorem dX6_leastSecond_8 : decode cX6_leastSecond 8 = .ok (.iconst 0, 1) := dk_3 (dk_at dksX6_leastSecond_0 8 rfl rfl)
theorem dX6_leastSecond_9 : decode cX6_leastSecond 9 = .ok (.istore_n 3, 1) := dk_62 (dk_at dksX6_leastSecond_0 9 rfl rfl)
theorem dX6_leastSecond_10 : decode cX6_leastSecond 10 = .ok (.iload_n 3, 1) := dk_29 (dk_at dksX6_leastSecond_0 10 rfl rfl)
theorem dX6_leastSecond_11 : decode cX6_leastSecond 11 = .ok (.sipush 625, 3) := dk_17 2 113 (dk_at dksX6_leastSecond_0 11 rfl rfl)
theorem dX6_leastSecond_14 : decode cX6_leastSecond 14 = .ok (.if_icmp .ge 45, 3) := dk_162 0 45 (dk_at dksX6_leastSecond_0 14 rfl rfl)
theorem dX6_leastSecond_17 : decode cX6_leastSecond 17 = .ok (.aload_n 0, 1) := dk_42 (dk_at dksX6_leastSecond_0 17 rfl rfl)
theorem dX6_leastSecond_18 : decode cX6_leastSecond 18 = .ok (.iconst 1, 1) := dk_4 (dk_at dksX6_leastSecond_0 18 rfl rfl)
theorem dX6_leastSecond_19 : decode cX6_leastSecond 19 = .ok (.iload_n 3, 1) := dk_29 (dk_at dksX6_leastSecond_0 19 rfl rfl)
theorem dX6_leastSecond_20 : decode cX6_leastSecond 20 = .ok (.invokevirtual 237, 3) := dk_182 0 237 (dk_at dksX6_leastSecond_0 20 rfl rfl)
theorem dX6_leastSecond_23 : decode cX6_leastSecond 23 = .ok (.ifCond .eq 30, 3) := dk_153 0 30 (dk_at dksX6_leastSecond_1 0 rfl rfl)
theorem dX6_leastSecond_26 : decode cX6_leastSecond 26 = .ok (.aload_n 0, 1) := dk_42 (dk_at dksX6_leastSecond_1 3 rfl rfl)
theorem dX6_leastSecond_27 : decode cX6_leastSecond 27 = .ok (.iconst 1, 1) := dk_4 (dk_at dksX6_leastSecond_1 4 rfl rfl)
theorem dX6_leastSecond_28 : decode cX6_leastSecond 28 = .ok (.invokevirtual 240, 3) := dk_182 0 240 (dk_at dksX6_leastSecond_1 5 rfl rfl)
theorem dX6_leastSecond_31 : decode cX6_leastSecond 31 = .ok (.aload_n 0, 1) := dk_42 (dk_at dksX6_leastSecond_1 8 rfl rfl)
theorem dX6_leastSecond_32 : decode cX6_leastSecond 32 = .ok (.iload_n 1, 1) := dk_27 (dk_at dksX6_leastSecond_1 9 rfl rfl)
theorem dX6_leastSecond_33 : decode cX6_leastSecond 33 = .ok (.invokevirtual 211, 3) := dk_182 0 211 (dk_at dksX6_leastSecond_1 10 rfl rfl)
theorem dX6_leastSecond_36 : decode cX6_leastSecond 36 = .ok (.aload_n 0, 1) := dk_42 (dk_at dksX6_leastSecond_1 13 rfl rfl)
theorem dX6_leastSecond_37 : decode cX6_leastSecond 37 = .ok (.invokevirtual 223, 3) := dk_182 0 223 (dk_at dksX6_leastSecond_1 14 rfl rfl)
theorem dX6_leastSecond_40 : decode cX6_leastSecond 40 = .ok (.iload_n 2, 1) := dk_28 (dk_at dksX6_leastSecond_1 17 rfl rfl)
theorem dX6_leastSecond_41 : decode cX6_leastSecond 41 = .ok (.if_icmp .ge 10, 3) := dk_162 0 10 (dk_at dksX6_leastSecond_1 18 rfl rfl)
theorem dX6_leastSecond_44 : decode cX6_leastSecond 44 = .ok (.aload_n 0, 1) := dk_42 (dk_at dksX6_leastSecond_1 21 rfl rfl)
theorem dX6_leastSecond_45 : decode cX6_leastSecond 45 = .ok (.invokevirtual 223, 3) := dk_182 0 223 (dk_at dksX6_leastSecond_2 0 rfl rfl)
theorem dX6_leastSecond_48 : decode cX6_leastSecond 48 = .ok (.goto 4, 3) := dk_167 0 4 (dk_at dksX6_leastSecond_2 3 rfl rfl)
theorem dX6_leastSecond_51 : decode cX6_leastSecond 51 = .ok (.iload_n 2, 1) := dk_28 (dk_at dksX6_leastSecond_2 6 rfl rfl)
theorem dX6_leastSecond_52 : decode cX6_leastSecond 52 = .ok (.istore_n 2, 1) := dk_61 (dk_at dksX6_leastSecond_2 7 rfl rfl)
theorem dX6_leastSecond_53 : decode cX6_leastSecond 53 = .ok (.iinc 3 1, 3) := dk_132 3 1 (dk_at dksX6_leastSecond_2 8 rfl rfl)
theorem dX6_leastSecond_56 : decode cX6_leastSecond 56 = .ok (.goto (-46), 3) := dk_167 255 210 (dk_at dksX6_leastSecond_2 11 rfl rfl)
theorem dX6_leastSecond_59 : decode cX6_leastSecond 59 = .ok (.iload_n 2, 1) := dk_28 (dk_at dksX6_leastSecond_2 14 rfl rfl)
theorem dX6_leastSecond_60 : decode cX6_leastSecond 60 = .ok (.ireturn, 1) := dk_172 (dk_at dksX6_leastSecond_2 15 rfl rfl)
abbrev cX6_seldom : ByteArray := prog_12_method_46_code
def yX6_seldom : MethodName := ⟨RX6, "seldom", "(II)I"⟩
def dkwX6_seldom_3 : List UInt8 := [172]
abbrev dktX6_seldom_3 : List UInt8 := dkwX6_seldom_3 ++ []
def dkwX6_seldom_2 : List UInt8 := [21, 4, 16, 100, 42, 180, 0, 31, 27, 46, 100, 104, 16, 100, 108, 54, 4, 132, 5, 1, 167, 255, 220, 29]
abbrev dktX6_seldom_2 : List UInt8 := dkwX6_seldom_2 ++ dktX6_seldom_3
def dkwX6_seldom_1 : List UInt8 := [17, 3, 231, 54, 4, 4, 54, 5, 21, 5, 16, 100, 162, 0, 35, 21, 4, 28, 161, 0, 29, 21, 5, 62]
abbrev dktX6_seldom_1 : List UInt8 := dkwX6_seldom_1 ++ dktX6_seldom_2
def dkwX6_seldom_0 : List UInt8 := [42, 27, 182, 0, 178, 154, 0, 6, 16, 254, 172, 28, 184, 0, 248, 154, 0, 6, 16, 253, 172, 2, 62]
abbrev dktX6_seldom_0 : List UInt8 := dkwX6_seldom_0 ++ dktX6_seldom_1
theorem dksX6_seldom_0 : cX6_seldom.data.toList.drop 0 = dktX6_seldom_0 := by decide +kernel
theorem dksX6_seldom_1 : cX6_seldom.data.toList.drop 23 = dktX6_seldom_1 := dk_seg dksX6_seldom_0 23 rfl rfl
theorem dksX6_seldom_2 : cX6_seldom.data.toList.drop 47 = dktX6_seldom_2 := dk_seg dksX6_seldom_1 24 rfl rfl
theorem dksX6_seldom_3 : cX6_seldom.data.toList.drop 71 = dktX6_seldom_3 := dk_seg dksX6_seldom_2 24 rfl rfl
theorem dX6_seldom_0 : decode cX6_seldom 0 = .ok (.aload_n 0, 1) := dk_42 (dk_at dksX6_seldom_0 0 rfl rfl)
theorem dX6_seldom_1 : decode cX6_seldom 1 = .ok (.iload_n 1, 1) := dk_27 (dk_at dksX6_seldom_0 1 rfl rfl)
theorem dX6_seldom_2 : decode cX6_seldom 2 = .ok (.invokevirtual 178, 3) := dk_182 0 178 (dk_at dksX6_seldom_0 2 rfl rfl)
theorem dX6_seldom_5 : decode cX6_seldom 5 = .ok (.ifCond .ne 6, 3) := dk_154 0 6 (dk_at dksX6_seldom_0 5 rfl rfl)
theorem dX6_seldom_8 : decode cX6_seldom 8 = .ok (.bipush (-2), 2) := dk_16 254 (dk_at dksX6_seldom_0 8 rfl rfl)
theorem dX6_seldom_10 : decode cX6_seldom 10 = .ok (.ireturn, 1) := dk_172 (dk_at dksX6_seldom_0 10 rfl rfl)
theorem dX6_seldom_11 : decode cX6_seldom 11 = .ok (.iload_n 2, 1) := dk_28 (dk_at dksX6_seldom_0 11 rfl rfl)
theorem dX6_seldom_12 : decode cX6_seldom 12 = .ok (.invokestatic 248, 3) := dk_184 0 248 (dk_at dksX6_seldom_0 12 rfl rfl)
theorem dX6_seldom_15 : decode cX6_seldom 15 = .ok (.ifCond .ne 6, 3) := dk_154 0 6 (dk_at dksX6_seldom_0 15 rfl rfl)
theorem dX6_seldom_18 : decode cX6_seldom 18 = .ok (.bipush (-3), 2) := dk_16 253 (dk_at dksX6_seldom_0 18 rfl rfl)
theorem dX6_seldom_20 : decode cX6_seldom 20 = .ok (.ireturn, 1) := dk_172 (dk_at dksX6_seldom_0 20 rfl rfl)
theorem dX6_seldom_21 : decode cX6_seldom 21 = .ok (.iconst (-1), 1) := dk_2 (dk_at dksX6_seldom_0 21 rfl rfl)
theorem dX6_seldom_22 : decode cX6_seldom 22 = .ok (.istore_n 3, 1) := dk_62 (dk_at dksX6_seldom_0 22 rfl rfl)
theorem dX6_seldom_23 : decode cX6_seldom 23 = .ok (.sipush 999, 3) := dk_17 3 231 (dk_at dksX6_seldom_1 0 rfl rfl)
theorem dX6_seldom_26 : decode cX6_seldom 26 = .ok (.istore 4, 2) := dk_54 4 (dk_at dksX6_seldom_1 3 rfl rfl)
theorem dX6_seldom_28 : decode cX6_seldom 28 = .ok (.iconst 1, 1) := dk_4 (dk_at dksX6_seldom_1 5 rfl rfl)
theorem dX6_seldom_29 : decode cX6_seldom 29 = .ok (.istore 5, 2) := dk_54 5 (dk_at dksX6_seldom_1 6 rfl rfl)
theorem dX6_seldom_31 : decode cX6_seldom 31 = .ok (.iload 5, 2) := dk_21 5 (dk_at dksX6_seldom_1 8 rfl rfl)
theorem dX6_seldom_33 : decode cX6_seldom 33 = .ok (.bipush 100, 2) := dk_16 100 (dk_at dksX6_seldom_1 10 rfl rfl)
theorem dX6_seldom_35 : decode cX6_seldom 35 = .ok (.if_icmp .ge 35, 3) := dk_162 0 35 (dk_at dksX6_seldom_1 12 rfl rfl)
theorem dX6_seldom_38 : decode cX6_seldom 38 = .ok (.iload 4, 2) := dk_21 4 (dk_at dksX6_seldom_1 15 rfl rfl)
theorem dX6_seldom_40 : decode cX6_seldom 40 = .ok (.iload_n 2, 1) := dk_28 (dk_at dksX6_seldom_1 17 rfl rfl)
theorem dX6_seldom_41 : decode cX6_seldom 41 = .ok (.if_icmp .lt 29, 3) := dk_161 0 29 (dk_at dksX6_seldom_1 18 rfl rfl)
theorem dX6_seldom_44 : decode cX6_seldom 44 = .ok (.iload 5, 2) := dk_21 5 (dk_at dksX6_seldom_1 21 rfl rfl)
theorem dX6_seldom_46 : decode cX6_seldom 46 = .ok (.istore_n 3, 1) := dk_62 (dk_at dksX6_seldom_1 23 rfl rfl)
theorem dX6_seldom_47 : decode cX6_seldom 47 = .ok (.iload 4, 2) := dk_21 4 (dk_at dksX6_seldom_2 0 rfl rfl)
theorem dX6_seldom_49 : decode cX6_seldom 49 = .ok (.bipush 100, 2) := dk_16 100 (dk_at dksX6_seldom_2 2 rfl rfl)
theorem dX6_seldom_51 : decode cX6_seldom 51 = .ok (.aload_n 0, 1) := dk_42 (dk_at dksX6_seldom_2 4 rfl rfl)
theorem dX6_seldom_52 : decode cX6_seldom 52 = .ok (.getfield 31, 3) := dk_180 0 31 (dk_at dksX6_seldom_2 5 rfl rfl)
theorem dX6_seldom_55 : decode cX6_seldom 55 = .ok (.iload_n 1, 1) := dk_27 (dk_at dksX6_seldom_2 8 rfl rfl)
theorem dX6_seldom_56 : decode cX6_seldom 56 = .ok (.iaload, 1) := dk_46 (dk_at dksX6_seldom_2 9 rfl rfl)
theorem dX6_seldom_57 : decode cX6_seldom 57 = .ok (.isub, 1) := dk_100 (dk_at dksX6_seldom_2 10 rfl rfl)
theorem dX6_seldom_58 : decode cX6_seldom 58 = .ok (.imul, 1) := dk_104 (dk_at dksX6_seldom_2 11 rfl rfl)
theorem dX6_seldom_59 : decode cX6_seldom 59 = .ok (.bipush 100, 2) := dk_16 100 (dk_at dksX6_seldom_2 12 rfl rfl)
theorem dX6_seldom_61 : decode cX6_seldom 61 = .ok (.idiv, 1) := dk_108 (dk_at dksX6_seldom_2 14 rfl rfl)
theorem dX6_seldom_62 : decode cX6_seldom 62 = .ok (.istore 4, 2) := dk_54 4 (dk_at dksX6_seldom_2 15 rfl rfl)
theorem dX6_seldom_64 : decode cX6_seldom 64 = .ok (.iinc 5 1, 3) := dk_132 5 1 (dk_at dksX6_seldom_2 17 rfl rfl)
theorem dX6_seldom_67 : decode cX6_seldom 67 = .ok (.goto (-36), 3) := dk_167 255 220 (dk_at dksX6_seldom_2 20 rfl rfl)
theorem dX6_seldom_70 : decode cX6_seldom 70 = .ok (.iload_n 3, 1) := dk_29 (dk_at dksX6_seldom_2 23 rfl rfl)
theorem dX6_seldom_71 : decode cX6_seldom 71 = .ok (.ireturn, 1) := dk_172 (dk_at dksX6_seldom_3 0 rfl rfl)
abbrev cX6_isLevel : ByteArray := prog_12_method_45_code
def yX6_isLevel : MethodName := ⟨RX6, "isLevel", "(I)Z"⟩
def dkwX6_isLevel_0 : List UInt8 := [26, 133, 10, 20, 0, 246, 184, 0, 92, 172]
abbrev dktX6_isLevel_0 : List UInt8 := dkwX6_isLevel_0 ++ []
theorem dksX6_isLevel_0 : cX6_isLevel.data.toList.drop 0 = dktX6_isLevel_0 := by decide +kernel
theorem dX6_isLevel_0 : decode cX6_isLevel 0 = .ok (.iload_n 0, 1) := dk_26 (dk_at dksX6_isLevel_0 0 rfl rfl)
theorem dX6_isLevel_1 : decode cX6_isLevel 1 = .ok (.i2l, 1) := dk_133 (dk_at dksX6_isLevel_0 1 rfl rfl)
theorem dX6_isLevel_2 : decode cX6_isLevel 2 = .ok (.lconst 1, 1) := dk_10 (dk_at dksX6_isLevel_0 2 rfl rfl)
theorem dX6_isLevel_3 : decode cX6_isLevel 3 = .ok (.ldc2_w 246, 3) := dk_20 0 246 (dk_at dksX6_isLevel_0 3 rfl rfl)
theorem dX6_isLevel_6 : decode cX6_isLevel 6 = .ok (.invokestatic 92, 3) := dk_184 0 92 (dk_at dksX6_isLevel_0 6 rfl rfl)
theorem dX6_isLevel_9 : decode cX6_isLevel 9 = .ok (.ireturn, 1) := dk_172 (dk_at dksX6_isLevel_0 9 rfl rfl)
abbrev cX6_lasts : ByteArray := prog_12_method_47_code
def yX6_lasts : MethodName := ⟨RX6, "lasts", "(II)I"⟩
def dkwX6_lasts_3 : List UInt8 := [161, 0, 7, 2, 167, 0, 5, 21, 4, 172]
abbrev dktX6_lasts_3 : List UInt8 := dkwX6_lasts_3 ++ []
def dkwX6_lasts_2 : List UInt8 := [16, 100, 42, 180, 0, 31, 27, 46, 100, 104, 16, 100, 108, 62, 132, 4, 1, 167, 255, 224, 29, 28]
abbrev dktX6_lasts_2 : List UInt8 := dkwX6_lasts_2 ++ dktX6_lasts_3
def dkwX6_lasts_1 : List UInt8 := [180, 0, 28, 27, 46, 62, 3, 54, 4, 29, 28, 161, 0, 33, 42, 180, 0, 31, 27, 46, 158, 0, 24, 29]
abbrev dktX6_lasts_1 : List UInt8 := dkwX6_lasts_1 ++ dktX6_lasts_2
def dkwX6_lasts_0 : List UInt8 := [42, 27, 182, 0, 178, 154, 0, 6, 16, 254, 172, 28, 184, 0, 248, 154, 0, 6, 16, 253, 172, 42]
abbrev dktX6_lasts_0 : List UInt8 := dkwX6_lasts_0 ++ dktX6_lasts_1
theorem dksX6_lasts_0 : cX6_lasts.data.toList.drop 0 = dktX6_lasts_0 := by decide +kernel
theorem dksX6_lasts_1 : cX6_lasts.data.toList.drop 22 = dktX6_lasts_1 := dk_seg dksX6_lasts_0 22 rfl rfl
theorem dksX6_lasts_2 : cX6_lasts.data.toList.drop 46 = dktX6_lasts_2 := dk_seg dksX6_lasts_1 24 rfl rfl
theorem dksX6_lasts_3 : cX6_lasts.data.toList.drop 68 = dktX6_lasts_3 := dk_seg dksX6_lasts_2 22 rfl rfl
theorem dX6_lasts_0 : decode cX6_lasts 0 = .ok (.aload_n 0, 1) := dk_42 (dk_at dksX6_lasts_0 0 rfl rfl)
theorem dX6_lasts_1 : decode cX6_lasts 1 = .ok (.iload_n 1, 1) := dk_27 (dk_at dksX6_lasts_0 1 rfl rfl)
theorem dX6_lasts_2 : decode cX6_lasts 2 = .ok (.invokevirtual 178, 3) := dk_182 0 178 (dk_at dksX6_lasts_0 2 rfl rfl)
theorem dX6_lasts_5 : decode cX6_lasts 5 = .ok (.ifCond .ne 6, 3) := dk_154 0 6 (dk_at dksX6_lasts_0 5 rfl rfl)
theorem dX6_lasts_8 : decode cX6_lasts 8 = .ok (.bipush (-2), 2) := dk_16 254 (dk_at dksX6_lasts_0 8 rfl rfl)
theorem dX6_lasts_10 : decode cX6_lasts 10 = .ok (.ireturn, 1) := dk_172 (dk_at dksX6_lasts_0 10 rfl rfl)
theorem dX6_lasts_11 : decode cX6_lasts 11 = .ok (.iload_n 2, 1) := dk_28 (dk_at dksX6_lasts_0 11 rfl rfl)
theorem dX6_lasts_12 : decode cX6_lasts 12 = .ok (.invokestatic 248, 3) := dk_184 0 248 (dk_at dksX6_lasts_0 12 rfl rfl)
theorem dX6_lasts_15 : decode cX6_lasts 15 = .ok (.ifCond .ne 6, 3) := dk_154 0 6 (dk_at dksX6_lasts_0 15 rfl rfl)
theorem dX6_lasts_18 : decode cX6_lasts 18 = .ok (.bipush (-3), 2) := dk_16 253 (dk_at dksX6_lasts_0 18 rfl rfl)
theorem dX6_lasts_20 : decode cX6_lasts 20 = .ok (.ireturn, 1) := dk_172 (dk_at dksX6_lasts_0 20 rfl rfl)
theorem dX6_lasts_21 : decode cX6_lasts 21 = .ok (.aload_n 0, 1) := dk_42 (dk_at dksX6_lasts_0 21 rfl rfl)
theorem dX6_lasts_22 : decode cX6_lasts 22 = .ok (.getfield 28, 3) := dk_180 0 28 (dk_at dksX6_lasts_1 0 rfl rfl)
theorem dX6_lasts_25 : decode cX6_lasts 25 = .ok (.iload_n 1, 1) := dk_27 (dk_at dksX6_lasts_1 3 rfl rfl)
theorem dX6_lasts_26 : decode cX6_lasts 26 = .ok (.iaload, 1) := dk_46 (dk_at dksX6_lasts_1 4 rfl rfl)
theorem dX6_lasts_27 : decode cX6_lasts 27 = .ok (.istore_n 3, 1) := dk_62 (dk_at dksX6_lasts_1 5 rfl rfl)
theorem dX6_lasts_28 : decode cX6_lasts 28 = .ok (.iconst 0, 1) := dk_3 (dk_at dksX6_lasts_1 6 rfl rfl)
theorem dX6_lasts_29 : decode cX6_lasts 29 = .ok (.istore 4, 2) := dk_54 4 (dk_at dksX6_lasts_1 7 rfl rfl)
theorem dX6_lasts_31 : decode cX6_lasts 31 = .ok (.iload_n 3, 1) := dk_29 (dk_at dksX6_lasts_1 9 rfl rfl)
theorem dX6_lasts_32 : decode cX6_lasts 32 = .ok (.iload_n 2, 1) := dk_28 (dk_at dksX6_lasts_1 10 rfl rfl)
theorem dX6_lasts_33 : decode cX6_lasts 33 = .ok (.if_icmp .lt 33, 3) := dk_161 0 33 (dk_at dksX6_lasts_1 11 rfl rfl)
theorem dX6_lasts_36 : decode cX6_lasts 36 = .ok (.aload_n 0, 1) := dk_42 (dk_at dksX6_lasts_1 14 rfl rfl)
theorem dX6_lasts_37 : decode cX6_lasts 37 = .ok (.getfield 31, 3) := dk_180 0 31 (dk_at dksX6_lasts_1 15 rfl rfl)
theorem dX6_lasts_40 : decode cX6_lasts 40 = .ok (.iload_n 1, 1) := dk_27 (dk_at dksX6_lasts_1 18 rfl rfl)
theorem dX6_lasts_41 : decode cX6_lasts 41 = .ok (.iaload, 1) := dk_46 (dk_at dksX6_lasts_1 19 rfl rfl)
theorem dX6_lasts_42 : decode cX6_lasts 42 = .ok (.ifCond .le 24, 3) := dk_158 0 24 (dk_at dksX6_lasts_1 20 rfl rfl)
theorem dX6_lasts_45 : decode cX6_lasts 45 = .ok (.iload_n 3, 1) := dk_29 (dk_at dksX6_lasts_1 23 rfl rfl)
theorem dX6_lasts_46 : decode cX6_lasts 46 = .ok (.bipush 100, 2) := dk_16 100 (dk_at dksX6_lasts_2 0 rfl rfl)
theorem dX6_lasts_48 : decode cX6_lasts 48 = .ok (.aload_n 0, 1) := dk_42 (dk_at dksX6_lasts_2 2 rfl rfl)
theorem dX6_lasts_49 : decode cX6_lasts 49 = .ok (.getfield 31, 3) := dk_180 0 31 (dk_at dksX6_lasts_2 3 rfl rfl)
theorem dX6_lasts_52 : decode cX6_lasts 52 = .ok (.iload_n 1, 1) := dk_27 (dk_at dksX6_lasts_2 6 rfl rfl)
theorem dX6_lasts_53 : decode cX6_lasts 53 = .ok (.iaload, 1) := dk_46 (dk_at dksX6_lasts_2 7 rfl rfl)
theorem dX6_lasts_54 : decode cX6_lasts 54 = .ok (.isub, 1) := dk_100 (dk_at dksX6_lasts_2 8 rfl rfl)
theorem dX6_lasts_55 : decode cX6_lasts 55 = .ok (.imul, 1) := dk_104 (dk_at dksX6_lasts_2 9 rfl rfl)
theorem dX6_lasts_56 : decode cX6_lasts 56 = .ok (.bipush 100, 2) := dk_16 100 (dk_at dksX6_lasts_2 10 rfl rfl)
theorem dX6_lasts_58 : decode cX6_lasts 58 = .ok (.idiv, 1) := dk_108 (dk_at dksX6_lasts_2 12 rfl rfl)
theorem dX6_lasts_59 : decode cX6_lasts 59 = .ok (.istore_n 3, 1) := dk_62 (dk_at dksX6_lasts_2 13 rfl rfl)
theorem dX6_lasts_60 : decode cX6_lasts 60 = .ok (.iinc 4 1, 3) := dk_132 4 1 (dk_at dksX6_lasts_2 14 rfl rfl)
theorem dX6_lasts_63 : decode cX6_lasts 63 = .ok (.goto (-32), 3) := dk_167 255 224 (dk_at dksX6_lasts_2 17 rfl rfl)
theorem dX6_lasts_66 : decode cX6_lasts 66 = .ok (.iload_n 3, 1) := dk_29 (dk_at dksX6_lasts_2 20 rfl rfl)
theorem dX6_lasts_67 : decode cX6_lasts 67 = .ok (.iload_n 2, 1) := dk_28 (dk_at dksX6_lasts_2 21 rfl rfl)
theorem dX6_lasts_68 : decode cX6_lasts 68 = .ok (.if_icmp .lt 7, 3) := dk_161 0 7 (dk_at dksX6_lasts_3 0 rfl rfl)
theorem dX6_lasts_71 : decode cX6_lasts 71 = .ok (.iconst (-1), 1) := dk_2 (dk_at dksX6_lasts_3 3 rfl rfl)
theorem dX6_lasts_72 : decode cX6_lasts 72 = .ok (.goto 5, 3) := dk_167 0 5 (dk_at dksX6_lasts_3 4 rfl rfl)
theorem dX6_lasts_75 : decode cX6_lasts 75 = .ok (.iload 4, 2) := dk_21 4 (dk_at dksX6_lasts_3 7 rfl rfl)
theorem dX6_lasts_77 : decode cX6_lasts 77 = .ok (.ireturn, 1) := dk_172 (dk_at dksX6_lasts_3 9 rfl rfl)
abbrev cX6_cheapest : ByteArray := prog_12_method_48_code
def yX6_cheapest : MethodName := ⟨RX6, "cheapest", "(III)I"⟩
def dkwX6_cheapest_5 : List UInt8 := [54, 5, 132, 6, 1, 167, 255, 190, 29, 154, 0, 8, 21, 4, 167, 0, 5, 21, 5, 172]
abbrev dktX6_cheapest_5 : List UInt8 := dkwX6_cheapest_5 ++ []
def dkwX6_cheapest_4 : List UInt8 := [21, 6, 167, 0, 5, 21, 4, 54, 4, 21, 7, 21, 5, 162, 0, 8, 21, 7, 167, 0, 5, 21, 5]
abbrev dktX6_cheapest_4 : List UInt8 := dkwX6_cheapest_4 ++ dktX6_cheapest_5
def dkwX6_cheapest_3 : List UInt8 := [16, 15, 182, 0, 226, 42, 180, 0, 34, 104, 42, 182, 0, 229, 96, 54, 7, 21, 7, 21, 5, 162, 0, 8]
abbrev dktX6_cheapest_3 : List UInt8 := dkwX6_cheapest_3 ++ dktX6_cheapest_4
def dkwX6_cheapest_2 : List UInt8 := [54, 4, 18, 62, 54, 5, 3, 54, 6, 21, 6, 16, 22, 162, 0, 65, 42, 21, 6, 181, 0, 188, 42]
abbrev dktX6_cheapest_2 : List UInt8 := dkwX6_cheapest_2 ++ dktX6_cheapest_3
def dkwX6_cheapest_1 : List UInt8 := [184, 0, 92, 154, 0, 6, 16, 253, 172, 42, 182, 0, 217, 42, 27, 181, 0, 56, 42, 28, 181, 0, 185, 3]
abbrev dktX6_cheapest_1 : List UInt8 := dkwX6_cheapest_1 ++ dktX6_cheapest_2
def dkwX6_cheapest_0 : List UInt8 := [42, 27, 182, 0, 178, 153, 0, 11, 42, 28, 182, 0, 172, 154, 0, 6, 16, 254, 172, 29, 133, 9, 10]
abbrev dktX6_cheapest_0 : List UInt8 := dkwX6_cheapest_0 ++ dktX6_cheapest_1
theorem dksX6_cheapest_0 : cX6_cheapest.data.toList.drop 0 = dktX6_cheapest_0 := by decide +kernel
theorem dksX6_cheapest_1 : cX6_cheapest.data.toList.drop 23 = dktX6_cheapest_1 := dk_seg dksX6_cheapest_0 23 rfl rfl
theorem dksX6_cheapest_2 : cX6_cheapest.data.toList.drop 47 = dktX6_cheapest_2 := dk_seg dksX6_cheapest_1 24 rfl rfl
theorem dksX6_cheapest_3 : cX6_cheapest.data.toList.drop 70 = dktX6_cheapest_3 := dk_seg dksX6_cheapest_2 23 rfl rfl
theorem dksX6_cheapest_4 : cX6_cheapest.data.toList.drop 94 = dktX6_cheapest_4 := dk_seg dksX6_cheapest_3 24 rfl rfl
theorem dksX6_cheapest_5 : cX6_cheapest.data.toList.drop 117 = dktX6_cheapest_5 := dk_seg dksX6_cheapest_4 23 rfl rfl
theorem dX6_cheapest_0 : decode cX6_cheapest 0 = .ok (.aload_n 0, 1) := dk_42 (dk_at dksX6_cheapest_0 0 rfl rfl)
theorem dX6_cheapest_1 : decode cX6_cheapest 1 = .ok (.iload_n 1, 1) := dk_27 (dk_at dksX6_cheapest_0 1 rfl rfl)
theorem dX6_cheapest_2 : decode cX6_cheapest 2 = .ok (.invokevirtual 178, 3) := dk_182 0 178 (dk_at dksX6_cheapest_0 2 rfl rfl)
theorem dX6_cheapest_5 : decode cX6_cheapest 5 = .ok (.ifCond .eq 11, 3) := dk_153 0 11 (dk_at dksX6_cheapest_0 5 rfl rfl)
theorem dX6_cheapest_8 : decode cX6_cheapest 8 = .ok (.aload_n 0, 1) := dk_42 (dk_at dksX6_cheapest_0 8 rfl rfl)
theorem dX6_cheapest_9 : decode cX6_cheapest 9 = .ok (.iload_n 2, 1) := dk_28 (dk_at dksX6_cheapest_0 9 rfl rfl)
theorem dX6_cheapest_10 : decode cX6_cheapest 10 = .ok (.invokevirtual 172, 3) := dk_182 0 172 (dk_at dksX6_cheapest_0 10 rfl rfl)
theorem dX6_cheapest_13 : decode cX6_cheapest 13 = .ok (.ifCond .ne 6, 3) := dk_154 0 6 (dk_at dksX6_cheapest_0 13 rfl rfl)
theorem dX6_cheapest_16 : decode cX6_cheapest 16 = .ok (.bipush (-2), 2) := dk_16 254 (dk_at dksX6_cheapest_0 16 rfl rfl)
theorem dX6_cheapest_18 : decode cX6_cheapest 18 = .ok (.ireturn, 1) := dk_172 (dk_at dksX6_cheapest_0 18 rfl rfl)
theorem dX6_cheapest_19 : decode cX6_cheapest 19 = .ok (.iload_n 3, 1) := dk_29 (dk_at dksX6_cheapest_0 19 rfl rfl)
theorem dX6_cheapest_20 : decode cX6_cheapest 20 = .ok (.i2l, 1) := dk_133 (dk_at dksX6_cheapest_0 20 rfl rfl)
theorem dX6_cheapest_21 : decode cX6_cheapest 21 = .ok (.lconst 0, 1) := dk_9 (dk_at dksX6_cheapest_0 21 rfl rfl)
theorem dX6_cheapest_22 : decode cX6_cheapest 22 = .ok (.lconst 1, 1) := dk_10 (dk_at dksX6_cheapest_0 22 rfl rfl)
theorem dX6_cheapest_23 : decode cX6_cheapest 23 = .ok (.invokestatic 92, 3) := dk_184 0 92 (dk_at dksX6_cheapest_1 0 rfl rfl)
theorem dX6_cheapest_26 : decode cX6_cheapest 26 = .ok (.ifCond .ne 6, 3) := dk_154 0 6 (dk_at dksX6_cheapest_1 3 rfl rfl)
theorem dX6_cheapest_29 : decode cX6_cheapest 29 = .ok (.bipush (-3), 2) := dk_16 253 (dk_at dksX6_cheapest_1 6 rfl rfl)
theorem dX6_cheapest_31 : decode cX6_cheapest 31 = .ok (.ireturn, 1) := dk_172 (dk_at dksX6_cheapest_1 8 rfl rfl)
theorem dX6_cheapest_32 : decode cX6_cheapest 32 = .ok (.aload_n 0, 1) := dk_42 (dk_at dksX6_cheapest_1 9 rfl rfl)
theorem dX6_cheapest_33 : decode cX6_cheapest 33 = .ok (.invokevirtual 217, 3) := dk_182 0 217 (dk_at dksX6_cheapest_1 10 rfl rfl)
theorem dX6_cheapest_36 : decode cX6_cheapest 36 = .ok (.aload_n 0, 1) := dk_42 (dk_at dksX6_cheapest_1 13 rfl rfl)
theorem dX6_cheapest_37 : decode cX6_cheapest 37 = .ok (.iload_n 1, 1) := dk_27 (dk_at dksX6_cheapest_1 14 rfl rfl)
theorem dX6_cheapest_38 : decode cX6_cheapest 38 = .ok (.putfield 56, 3) := dk_181 0 56 (dk_at dksX6_cheapest_1 15 rfl rfl)
theorem dX6_cheapest_41 : decode cX6_cheapest 41 = .ok (.aload_n 0, 1) := dk_42 (dk_at dksX6_cheapest_1 18 rfl rfl)
theorem dX6_cheapest_42 : decode cX6_cheapest 42 = .ok (.iload_n 2, 1) := dk_28 (dk_at dksX6_cheapest_1 19 rfl rfl)
theorem dX6_cheapest_43 : decode cX6_cheapest 43 = .ok (.putfield 185, 3) := dk_181 0 185 (dk_at dksX6_cheapest_1 20 rfl rfl)
theorem dX6_cheapest_46 : decode cX6_cheapest 46 = .ok (.iconst 0, 1) := dk_3 (dk_at dksX6_cheapest_1 23 rfl rfl)
theorem dX6_cheapest_47 : decode cX6_cheapest 47 = .ok (.istore 4, 2) := dk_54 4 (dk_at dksX6_cheapest_2 0 rfl rfl)
theorem dX6_cheapest_49 : decode cX6_cheapest 49 = .ok (.ldc 62, 2) := dk_18 62 (dk_at dksX6_cheapest_2 2 rfl rfl)
theorem dX6_cheapest_51 : decode cX6_cheapest 51 = .ok (.istore 5, 2) := dk_54 5 (dk_at dksX6_cheapest_2 4 rfl rfl)
theorem dX6_cheapest_53 : decode cX6_cheapest 53 = .ok (.iconst 0, 1) := dk_3 (dk_at dksX6_cheapest_2 6 rfl rfl)
theorem dX6_cheapest_54 : decode cX6_cheapest 54 = .ok (.istore 6, 2) := dk_54 6 (dk_at dksX6_cheapest_2 7 rfl rfl)
theorem dX6_cheapest_56 : decode cX6_cheapest 56 = .ok (.iload 6, 2) := dk_21 6 (dk_at dksX6_cheapest_2 9 rfl rfl)
theorem dX6_cheapest_58 : decode cX6_cheapest 58 = .ok (.bipush 22, 2) := dk_16 22 (dk_at dksX6_cheapest_2 11 rfl rfl)
theorem dX6_cheapest_60 : decode cX6_cheapest 60 = .ok (.if_icmp .ge 65, 3) := dk_162 0 65 (dk_at dksX6_cheapest_2 13 rfl rfl)
theorem dX6_cheapest_63 : decode cX6_cheapest 63 = .ok (.aload_n 0, 1) := dk_42 (dk_at dksX6_cheapest_2 16 rfl rfl)
theorem dX6_cheapest_64 : decode cX6_cheapest 64 = .ok (.iload 6, 2) := dk_21 6 (dk_at dksX6_cheapest_2 17 rfl rfl)
theorem dX6_cheapest_66 : decode cX6_cheapest 66 = .ok (.putfield 188, 3) := dk_181 0 188 (dk_at dksX6_cheapest_2 19 rfl rfl)
theorem dX6_cheapest_69 : decode cX6_cheapest 69 = .ok (.aload_n 0, 1) := dk_42 (dk_at dksX6_cheapest_2 22 rfl rfl)
theorem dX6_cheapest_70 : decode cX6_cheapest 70 = .ok (.bipush 15, 2) := dk_16 15 (dk_at dksX6_cheapest_3 0 rfl rfl)
theorem dX6_cheapest_72 : decode cX6_cheapest 72 = .ok (.invokevirtual 226, 3) := dk_182 0 226 (dk_at dksX6_cheapest_3 2 rfl rfl)
theorem dX6_cheapest_75 : decode cX6_cheapest 75 = .ok (.aload_n 0, 1) := dk_42 (dk_at dksX6_cheapest_3 5 rfl rfl)
theorem dX6_cheapest_76 : decode cX6_cheapest 76 = .ok (.getfield 34, 3) := dk_180 0 34 (dk_at dksX6_cheapest_3 6 rfl rfl)
theorem dX6_cheapest_79 : decode cX6_cheapest 79 = .ok (.imul, 1) := dk_104 (dk_at dksX6_cheapest_3 9 rfl rfl)
theorem dX6_cheapest_80 : decode cX6_cheapest 80 = .ok (.aload_n 0, 1) := dk_42 (dk_at dksX6_cheapest_3 10 rfl rfl)
theorem dX6_cheapest_81 : decode cX6_cheapest 81 = .ok (.invokevirtual 229, 3) := dk_182 0 229 (dk_at dksX6_cheapest_3 11 rfl rfl)
theorem dX6_cheapest_84 : decode cX6_cheapest 84 = .ok (.iadd, 1) := dk_96 (dk_at dksX6_cheapest_3 14 rfl rfl)
theorem dX6_cheapest_85 : decode cX6_cheapest 85 = .ok (.istore 7, 2) := dk_54 7 (dk_at dksX6_cheapest_3 15 rfl rfl)
theorem dX6_cheapest_87 : decode cX6_cheapest 87 = .ok (.iload 7, 2) := dk_21 7 (dk_at dksX6_cheapest_3 17 rfl rfl)
theorem dX6_cheapest_89 : decode cX6_cheapest 89 = .ok (.iload 5, 2) := dk_21 5 (dk_at dksX6_cheapest_3 19 rfl rfl)
theorem dX6_cheapest_91 : decode cX6_cheapest 91 = .ok (.if_icmp .ge 8, 3) := dk_162 0 8 (dk_at dksX6_cheapest_3 21 rfl rfl)
theorem dX6_cheapest_94 : decode cX6_cheapest 94 = .ok (.iload 6, 2) := dk_21 6 (dk_at dksX6_cheapest_4 0 rfl rfl)
theorem dX6_cheapest_96 : decode cX6_cheapest 96 = .ok (.goto 5, 3) := dk_167 0 5 (dk_at dksX6_cheapest_4 2 rfl rfl)
theorem dX6_cheapest_99 : decode cX6_cheapest 99 = .ok (.iload 4, 2) := dk_21 4 (dk_at dksX6_cheapest_4 5 rfl rfl)
theorem dX6_cheapest_101 : decode cX6_cheapest 101 = .ok (.istore 4, 2) := dk_54 4 (dk_at dksX6_cheapest_4 7 rfl rfl)
theorem dX6_cheapest_103 : decode cX6_cheapest 103 = .ok (.iload 7, 2) := dk_21 7 (dk_at dksX6_cheapest_4 9 rfl rfl)
theorem dX6_cheapest_105 : decode cX6_cheapest 105 = .ok (.iload 5, 2) := dk_21 5 (dk_at dksX6_cheapest_4 11 rfl rfl)
theorem dX6_cheapest_107 : decode cX6_cheapest 107 = .ok (.if_icmp .ge 8, 3) := dk_162 0 8 (dk_at dksX6_cheapest_4 13 rfl rfl)
theorem dX6_cheapest_110 : decode cX6_cheapest 110 = .ok (.iload 7, 2) := dk_21 7 (dk_at dksX6_cheapest_4 16 rfl rfl)
theorem dX6_cheapest_112 : decode cX6_cheapest 112 = .ok (.goto 5, 3) := dk_167 0 5 (dk_at dksX6_cheapest_4 18 rfl rfl)
theorem dX6_cheapest_115 : decode cX6_cheapest 115 = .ok (.iload 5, 2) := dk_21 5 (dk_at dksX6_cheapest_4 21 rfl rfl)
theorem dX6_cheapest_117 : decode cX6_cheapest 117 = .ok (.istore 5, 2) := dk_54 5 (dk_at dksX6_cheapest_5 0 rfl rfl)
theorem dX6_cheapest_119 : decode cX6_cheapest 119 = .ok (.iinc 6 1, 3) := dk_132 6 1 (dk_at dksX6_cheapest_5 2 rfl rfl)
theorem dX6_cheapest_122 : decode cX6_cheapest 122 = .ok (.goto (-66), 3) := dk_167 255 190 (dk_at dksX6_cheapest_5 5 rfl rfl)
theorem dX6_cheapest_125 : decode cX6_cheapest 125 = .ok (.iload_n 3, 1) := dk_29 (dk_at dksX6_cheapest_5 8 rfl rfl)
theorem dX6_cheapest_126 : decode cX6_cheapest 126 = .ok (.ifCond .ne 8, 3) := dk_154 0 8 (dk_at dksX6_cheapest_5 9 rfl rfl)
theorem dX6_cheapest_129 : decode cX6_cheapest 129 = .ok (.iload 4, 2) := dk_21 4 (dk_at dksX6_cheapest_5 12 rfl rfl)
theorem dX6_cheapest_131 : decode cX6_cheapest 131 = .ok (.goto 5, 3) := dk_167 0 5 (dk_at dksX6_cheapest_5 14 rfl rfl)
theorem dX6_cheapest_134 : decode cX6_cheapest 134 = .ok (.iload 5, 2) := dk_21 5 (dk_at dksX6_cheapest_5 17 rfl rfl)
theorem dX6_cheapest_136 : decode cX6_cheapest 136 = .ok (.ireturn, 1) := dk_172 (dk_at dksX6_cheapest_5 19 rfl rfl)
abbrev cX6_saved : ByteArray := prog_12_method_50_code
def yX6_saved : MethodName := ⟨RX6, "saved", "(I)I"⟩
def dkwX6_saved_1 : List UInt8 := [19, 1, 0, 96, 167, 0, 5, 16, 253, 172]
abbrev dktX6_saved_1 : List UInt8 := dkwX6_saved_1 ++ []
def dkwX6_saved_0 : List UInt8 := [27, 133, 9, 20, 0, 251, 184, 0, 92, 153, 0, 21, 42, 3, 182, 0, 253, 42, 27, 182, 0, 253, 100]
abbrev dktX6_saved_0 : List UInt8 := dkwX6_saved_0 ++ dktX6_saved_1
theorem dksX6_saved_0 : cX6_saved.data.toList.drop 0 = dktX6_saved_0 := by decide +kernel
theorem dksX6_saved_1 : cX6_saved.data.toList.drop 23 = dktX6_saved_1 := dk_seg dksX6_saved_0 23 rfl rfl
theorem dX6_saved_0 : decode cX6_saved 0 = .ok (.iload_n 1, 1) := dk_27 (dk_at dksX6_saved_0 0 rfl rfl)
theorem dX6_saved_1 : decode cX6_saved 1 = .ok (.i2l, 1) := dk_133 (dk_at dksX6_saved_0 1 rfl rfl)
theorem dX6_saved_2 : decode cX6_saved 2 = .ok (.lconst 0, 1) := dk_9 (dk_at dksX6_saved_0 2 rfl rfl)
theorem dX6_saved_3 : decode cX6_saved 3 = .ok (.ldc2_w 251, 3) := dk_20 0 251 (dk_at dksX6_saved_0 3 rfl rfl)
theorem dX6_saved_6 : decode cX6_saved 6 = .ok (.invokestatic 92, 3) := dk_184 0 92 (dk_at dksX6_saved_0 6 rfl rfl)
theorem dX6_saved_9 : decode cX6_saved 9 = .ok (.ifCond .eq 21, 3) := dk_153 0 21 (dk_at dksX6_saved_0 9 rfl rfl)
theorem dX6_saved_12 : decode cX6_saved 12 = .ok (.aload_n 0, 1) := dk_42 (dk_at dksX6_saved_0 12 rfl rfl)
theorem dX6_saved_13 : decode cX6_saved 13 = .ok (.iconst 0, 1) := dk_3 (dk_at dksX6_saved_0 13 rfl rfl)
theorem dX6_saved_14 : decode cX6_saved 14 = .ok (.invokevirtual 253, 3) := dk_182 0 253 (dk_at dksX6_saved_0 14 rfl rfl)
theorem dX6_saved_17 : decode cX6_saved 17 = .ok (.aload_n 0, 1) := dk_42 (dk_at dksX6_saved_0 17 rfl rfl)
theorem dX6_saved_18 : decode cX6_saved 18 = .ok (.iload_n 1, 1) := dk_27 (dk_at dksX6_saved_0 18 rfl rfl)
theorem dX6_saved_19 : decode cX6_saved 19 = .ok (.invokevirtual 253, 3) := dk_182 0 253 (dk_at dksX6_saved_0 19 rfl rfl)
theorem dX6_saved_22 : decode cX6_saved 22 = .ok (.isub, 1) := dk_100 (dk_at dksX6_saved_0 22 rfl rfl)
theorem dX6_saved_23 : decode cX6_saved 23 = .ok (.ldc_w 256, 3) := dk_19 1 0 (dk_at dksX6_saved_1 0 rfl rfl)
theorem dX6_saved_26 : decode cX6_saved 26 = .ok (.iadd, 1) := dk_96 (dk_at dksX6_saved_1 3 rfl rfl)
theorem dX6_saved_27 : decode cX6_saved 27 = .ok (.goto 5, 3) := dk_167 0 5 (dk_at dksX6_saved_1 4 rfl rfl)
theorem dX6_saved_30 : decode cX6_saved 30 = .ok (.bipush (-3), 2) := dk_16 253 (dk_at dksX6_saved_1 7 rfl rfl)
theorem dX6_saved_32 : decode cX6_saved 32 = .ok (.ireturn, 1) := dk_172 (dk_at dksX6_saved_1 9 rfl rfl)
abbrev cX6_alone : ByteArray := prog_12_method_49_code
def yX6_alone : MethodName := ⟨RX6, "alone", "(I)I"⟩
def dkwX6_alone_0 : List UInt8 := [42, 182, 0, 217, 42, 27, 181, 0, 50, 42, 16, 15, 182, 0, 226, 172]
abbrev dktX6_alone_0 : List UInt8 := dkwX6_alone_0 ++ []
theorem dksX6_alone_0 : cX6_alone.data.toList.drop 0 = dktX6_alone_0 := by decide +kernel
theorem dX6_alone_0 : decode cX6_alone 0 = .ok (.aload_n 0, 1) := dk_42 (dk_at dksX6_alone_0 0 rfl rfl)
theorem dX6_alone_1 : decode cX6_alone 1 = .ok (.invokevirtual 217, 3) := dk_182 0 217 (dk_at dksX6_alone_0 1 rfl rfl)
theorem dX6_alone_4 : decode cX6_alone 4 = .ok (.aload_n 0, 1) := dk_42 (dk_at dksX6_alone_0 4 rfl rfl)
theorem dX6_alone_5 : decode cX6_alone 5 = .ok (.iload_n 1, 1) := dk_27 (dk_at dksX6_alone_0 5 rfl rfl)
theorem dX6_alone_6 : decode cX6_alone 6 = .ok (.putfield 50, 3) := dk_181 0 50 (dk_at dksX6_alone_0 6 rfl rfl)
theorem dX6_alone_9 : decode cX6_alone 9 = .ok (.aload_n 0, 1) := dk_42 (dk_at dksX6_alone_0 9 rfl rfl)
theorem dX6_alone_10 : decode cX6_alone 10 = .ok (.bipush 15, 2) := dk_16 15 (dk_at dksX6_alone_0 10 rfl rfl)
theorem dX6_alone_12 : decode cX6_alone 12 = .ok (.invokevirtual 226, 3) := dk_182 0 226 (dk_at dksX6_alone_0 12 rfl rfl)
theorem dX6_alone_15 : decode cX6_alone 15 = .ok (.ireturn, 1) := dk_172 (dk_at dksX6_alone_0 15 rfl rfl)
abbrev cX6_fair : ByteArray := prog_12_method_53_code
def yX6_fair : MethodName := ⟨RX6, "fair", "(II)I"⟩
def dkwX6_fair_7 : List UInt8 := [109, 167, 0, 9, 20, 1, 6, 22, 6, 109, 136, 172]
abbrev dktX6_fair_7 : List UInt8 := dkwX6_fair_7 ++ []
def dkwX6_fair_6 : List UInt8 := [20, 1, 4, 97, 55, 4, 22, 4, 20, 1, 6, 184, 1, 8, 55, 6, 28, 154, 0, 11, 22, 4, 22, 6]
abbrev dktX6_fair_6 : List UInt8 := dkwX6_fair_6 ++ dktX6_fair_7
def dkwX6_fair_5 : List UInt8 := [46, 42, 180, 0, 87, 21, 4, 4, 27, 120, 128, 46, 100, 104, 96, 62, 132, 4, 1, 167, 255, 178, 29, 133]
abbrev dktX6_fair_5 : List UInt8 := dkwX6_fair_5 ++ dktX6_fair_6
def dkwX6_fair_4 : List UInt8 := [21, 4, 27, 184, 0, 169, 153, 0, 7, 3, 167, 0, 28, 21, 5, 184, 1, 1, 42, 180, 0, 87, 21, 4]
abbrev dktX6_fair_4 : List UInt8 := dkwX6_fair_4 ++ dktX6_fair_5
def dkwX6_fair_3 : List UInt8 := [21, 4, 4, 122, 4, 126, 96, 21, 4, 5, 122, 4, 126, 96, 21, 4, 6, 122, 4, 126, 96, 54, 5, 29]
abbrev dktX6_fair_3 : List UInt8 := dkwX6_fair_3 ++ dktX6_fair_4
def dkwX6_fair_2 : List UInt8 := [79, 132, 3, 1, 167, 255, 236, 3, 62, 3, 54, 4, 21, 4, 16, 16, 162, 0, 77, 21, 4, 4, 126]
abbrev dktX6_fair_2 : List UInt8 := dkwX6_fair_2 ++ dktX6_fair_3
def dkwX6_fair_1 : List UInt8 := [154, 0, 6, 16, 253, 172, 3, 62, 29, 16, 16, 162, 0, 20, 42, 180, 0, 87, 29, 42, 29, 182, 0, 253]
abbrev dktX6_fair_1 : List UInt8 := dkwX6_fair_1 ++ dktX6_fair_2
def dkwX6_fair_0 : List UInt8 := [27, 133, 9, 20, 0, 167, 184, 0, 92, 154, 0, 6, 16, 254, 172, 28, 133, 9, 10, 184, 0, 92]
abbrev dktX6_fair_0 : List UInt8 := dkwX6_fair_0 ++ dktX6_fair_1
theorem dksX6_fair_0 : cX6_fair.data.toList.drop 0 = dktX6_fair_0 := by decide +kernel
theorem dksX6_fair_1 : cX6_fair.data.toList.drop 22 = dktX6_fair_1 := dk_seg dksX6_fair_0 22 rfl rfl
theorem dksX6_fair_2 : cX6_fair.data.toList.drop 46 = dktX6_fair_2 := dk_seg dksX6_fair_1 24 rfl rfl
theorem dksX6_fair_3 : cX6_fair.data.toList.drop 69 = dktX6_fair_3 := dk_seg dksX6_fair_2 23 rfl rfl
theorem dksX6_fair_4 : cX6_fair.data.toList.drop 93 = dktX6_fair_4 := dk_seg dksX6_fair_3 24 rfl rfl
theorem dksX6_fair_5 : cX6_fair.data.toList.drop 117 = dktX6_fair_5 := dk_seg dksX6_fair_4 24 rfl rfl
theorem dksX6_fair_6 : cX6_fair.data.toList.drop 141 = dktX6_fair_6 := dk_seg dksX6_fair_5 24 rfl rfl
theorem dksX6_fair_7 : cX6_fair.data.toList.drop 165 = dktX6_fair_7 := dk_seg dksX6_fair_6 24 rfl rfl
theorem dX6_fair_0 : decode cX6_fair 0 = .ok (.iload_n 1, 1) := dk_27 (dk_at dksX6_fair_0 0 rfl rfl)
theorem dX6_fair_1 : decode cX6_fair 1 = .ok (.i2l, 1) := dk_133 (dk_at dksX6_fair_0 1 rfl rfl)
theorem dX6_fair_2 : decode cX6_fair 2 = .ok (.lconst 0, 1) := dk_9 (dk_at dksX6_fair_0 2 rfl rfl)
theorem dX6_fair_3 : decode cX6_fair 3 = .ok (.ldc2_w 167, 3) := dk_20 0 167 (dk_at dksX6_fair_0 3 rfl rfl)
theorem dX6_fair_6 : decode cX6_fair 6 = .ok (.invokestatic 92, 3) := dk_184 0 92 (dk_at dksX6_fair_0 6 rfl rfl)
theorem dX6_fair_9 : decode cX6_fair 9 = .ok (.ifCond .ne 6, 3) := dk_154 0 6 (dk_at dksX6_fair_0 9 rfl rfl)
theorem dX6_fair_12 : decode cX6_fair 12 = .ok (.bipush (-2), 2) := dk_16 254 (dk_at dksX6_fair_0 12 rfl rfl)
theorem dX6_fair_14 : decode cX6_fair 14 = .ok (.ireturn, 1) := dk_172 (dk_at dksX6_fair_0 14 rfl rfl)
theorem dX6_fair_15 : decode cX6_fair 15 = .ok (.iload_n 2, 1) := dk_28 (dk_at dksX6_fair_0 15 rfl rfl)
theorem dX6_fair_16 : decode cX6_fair 16 = .ok (.i2l, 1) := dk_133 (dk_at dksX6_fair_0 16 rfl rfl)
theorem dX6_fair_17 : decode cX6_fair 17 = .ok (.lconst 0, 1) := dk_9 (dk_at dksX6_fair_0 17 rfl rfl)
theorem dX6_fair_18 : decode cX6_fair 18 = .ok (.lconst 1, 1) := dk_10 (dk_at dksX6_fair_0 18 rfl rfl)
theorem dX6_fair_19 : decode cX6_fair 19 = .ok (.invokestatic 92, 3) := dk_184 0 92 (dk_at dksX6_fair_0 19 rfl rfl)
theorem dX6_fair_22 : decode cX6_fair 22 = .ok (.ifCond .ne 6, 3) := dk_154 0 6 (dk_at dksX6_fair_1 0 rfl rfl)
theorem dX6_fair_25 : decode cX6_fair 25 = .ok (.bipush (-3), 2) := dk_16 253 (dk_at dksX6_fair_1 3 rfl rfl)
theorem dX6_fair_27 : decode cX6_fair 27 = .ok (.ireturn, 1) := dk_172 (dk_at dksX6_fair_1 5 rfl rfl)
theorem dX6_fair_28 : decode cX6_fair 28 = .ok (.iconst 0, 1) := dk_3 (dk_at dksX6_fair_1 6 rfl rfl)
theorem dX6_fair_29 : decode cX6_fair 29 = .ok (.istore_n 3, 1) := dk_62 (dk_at dksX6_fair_1 7 rfl rfl)
theorem dX6_fair_30 : decode cX6_fair 30 = .ok (.iload_n 3, 1) := dk_29 (dk_at dksX6_fair_1 8 rfl rfl)
theorem dX6_fair_31 : decode cX6_fair 31 = .ok (.bipush 16, 2) := dk_16 16 (dk_at dksX6_fair_1 9 rfl rfl)
theorem dX6_fair_33 : decode cX6_fair 33 = .ok (.if_icmp .ge 20, 3) := dk_162 0 20 (dk_at dksX6_fair_1 11 rfl rfl)
theorem dX6_fair_36 : decode cX6_fair 36 = .ok (.aload_n 0, 1) := dk_42 (dk_at dksX6_fair_1 14 rfl rfl)
theorem dX6_fair_37 : decode cX6_fair 37 = .ok (.getfield 87, 3) := dk_180 0 87 (dk_at dksX6_fair_1 15 rfl rfl)
theorem dX6_fair_40 : decode cX6_fair 40 = .ok (.iload_n 3, 1) := dk_29 (dk_at dksX6_fair_1 18 rfl rfl)
theorem dX6_fair_41 : decode cX6_fair 41 = .ok (.aload_n 0, 1) := dk_42 (dk_at dksX6_fair_1 19 rfl rfl)
theorem dX6_fair_42 : decode cX6_fair 42 = .ok (.iload_n 3, 1) := dk_29 (dk_at dksX6_fair_1 20 rfl rfl)
theorem dX6_fair_43 : decode cX6_fair 43 = .ok (.invokevirtual 253, 3) := dk_182 0 253 (dk_at dksX6_fair_1 21 rfl rfl)
theorem dX6_fair_46 : decode cX6_fair 46 = .ok (.iastore, 1) := dk_79 (dk_at dksX6_fair_2 0 rfl rfl)
theorem dX6_fair_47 : decode cX6_fair 47 = .ok (.iinc 3 1, 3) := dk_132 3 1 (dk_at dksX6_fair_2 1 rfl rfl)
theorem dX6_fair_50 : decode cX6_fair 50 = .ok (.goto (-20), 3) := dk_167 255 236 (dk_at dksX6_fair_2 4 rfl rfl)
theorem dX6_fair_53 : decode cX6_fair 53 = .ok (.iconst 0, 1) := dk_3 (dk_at dksX6_fair_2 7 rfl rfl)
theorem dX6_fair_54 : decode cX6_fair 54 = .ok (.istore_n 3, 1) := dk_62 (dk_at dksX6_fair_2 8 rfl rfl)
theorem dX6_fair_55 : decode cX6_fair 55 = .ok (.iconst 0, 1) := dk_3 (dk_at dksX6_fair_2 9 rfl rfl)
theorem dX6_fair_56 : decode cX6_fair 56 = .ok (.istore 4, 2) := dk_54 4 (dk_at dksX6_fair_2 10 rfl rfl)
theorem dX6_fair_58 : decode cX6_fair 58 = .ok (.iload 4, 2) := dk_21 4 (dk_at dksX6_fair_2 12 rfl rfl)
theorem dX6_fair_60 : decode cX6_fair 60 = .ok (.bipush 16, 2) := dk_16 16 (dk_at dksX6_fair_2 14 rfl rfl)
theorem dX6_fair_62 : decode cX6_fair 62 = .ok (.if_icmp .ge 77, 3) := dk_162 0 77 (dk_at dksX6_fair_2 16 rfl rfl)
theorem dX6_fair_65 : decode cX6_fair 65 = .ok (.iload 4, 2) := dk_21 4 (dk_at dksX6_fair_2 19 rfl rfl)
theorem dX6_fair_67 : decode cX6_fair 67 = .ok (.iconst 1, 1) := dk_4 (dk_at dksX6_fair_2 21 rfl rfl)
theorem dX6_fair_68 : decode cX6_fair 68 = .ok (.iand, 1) := dk_126 (dk_at dksX6_fair_2 22 rfl rfl)
theorem dX6_fair_69 : decode cX6_fair 69 = .ok (.iload 4, 2) := dk_21 4 (dk_at dksX6_fair_3 0 rfl rfl)
theorem dX6_fair_71 : decode cX6_fair 71 = .ok (.iconst 1, 1) := dk_4 (dk_at dksX6_fair_3 2 rfl rfl)
theorem dX6_fair_72 : decode cX6_fair 72 = .ok (.ishr, 1) := dk_122 (dk_at dksX6_fair_3 3 rfl rfl)
theorem dX6_fair_73 : decode cX6_fair 73 = .ok (.iconst 1, 1) := dk_4 (dk_at dksX6_fair_3 4 rfl rfl)
theorem dX6_fair_74 : decode cX6_fair 74 = .ok (.iand, 1) := dk_126 (dk_at dksX6_fair_3 5 rfl rfl)
theorem dX6_fair_75 : decode cX6_fair 75 = .ok (.iadd, 1) := dk_96 (dk_at dksX6_fair_3 6 rfl rfl)
theorem dX6_fair_76 : decode cX6_fair 76 = .ok (.iload 4, 2) := dk_21 4 (dk_at dksX6_fair_3 7 rfl rfl)
theorem dX6_fair_78 : decode cX6_fair 78 = .ok (.iconst 2, 1) := dk_5 (dk_at dksX6_fair_3 9 rfl rfl)
theorem dX6_fair_79 : decode cX6_fair 79 = .ok (.ishr, 1) := dk_122 (dk_at dksX6_fair_3 10 rfl rfl)
theorem dX6_fair_80 : decode cX6_fair 80 = .ok (.iconst 1, 1) := dk_4 (dk_at dksX6_fair_3 11 rfl rfl)
theorem dX6_fair_81 : decode cX6_fair 81 = .ok (.iand, 1) := dk_126 (dk_at dksX6_fair_3 12 rfl rfl)
theorem dX6_fair_82 : decode cX6_fair 82 = .ok (.iadd, 1) := dk_96 (dk_at dksX6_fair_3 13 rfl rfl)
theorem dX6_fair_83 : decode cX6_fair 83 = .ok (.iload 4, 2) := dk_21 4 (dk_at dksX6_fair_3 14 rfl rfl)
theorem dX6_fair_85 : decode cX6_fair 85 = .ok (.iconst 3, 1) := dk_6 (dk_at dksX6_fair_3 16 rfl rfl)
theorem dX6_fair_86 : decode cX6_fair 86 = .ok (.ishr, 1) := dk_122 (dk_at dksX6_fair_3 17 rfl rfl)
theorem dX6_fair_87 : decode cX6_fair 87 = .ok (.iconst 1, 1) := dk_4 (dk_at dksX6_fair_3 18 rfl rfl)
theorem dX6_fair_88 : decode cX6_fair 88 = .ok (.iand, 1) := dk_126 (dk_at dksX6_fair_3 19 rfl rfl)
theorem dX6_fair_89 : decode cX6_fair 89 = .ok (.iadd, 1) := dk_96 (dk_at dksX6_fair_3 20 rfl rfl)
theorem dX6_fair_90 : decode cX6_fair 90 = .ok (.istore 5, 2) := dk_54 5 (dk_at dksX6_fair_3 21 rfl rfl)
theorem dX6_fair_92 : decode cX6_fair 92 = .ok (.iload_n 3, 1) := dk_29 (dk_at dksX6_fair_3 23 rfl rfl)
theorem dX6_fair_93 : decode cX6_fair 93 = .ok (.iload 4, 2) := dk_21 4 (dk_at dksX6_fair_4 0 rfl rfl)
theorem dX6_fair_95 : decode cX6_fair 95 = .ok (.iload_n 1, 1) := dk_27 (dk_at dksX6_fair_4 2 rfl rfl)
theorem dX6_fair_96 : decode cX6_fair 96 = .ok (.invokestatic 169, 3) := dk_184 0 169 (dk_at dksX6_fair_4 3 rfl rfl)
theorem dX6_fair_99 : decode cX6_fair 99 = .ok (.ifCond .eq 7, 3) := dk_153 0 7 (dk_at dksX6_fair_4 6 rfl rfl)
theorem dX6_fair_102 : decode cX6_fair 102 = .ok (.iconst 0, 1) := dk_3 (dk_at dksX6_fair_4 9 rfl rfl)
theorem dX6_fair_103 : decode cX6_fair 103 = .ok (.goto 28, 3) := dk_167 0 28 (dk_at dksX6_fair_4 10 rfl rfl)
theorem dX6_fair_106 : decode cX6_fair 106 = .ok (.iload 5, 2) := dk_21 5 (dk_at dksX6_fair_4 13 rfl rfl)
theorem dX6_fair_108 : decode cX6_fair 108 = .ok (.invokestatic 257, 3) := dk_184 1 1 (dk_at dksX6_fair_4 15 rfl rfl)
theorem dX6_fair_111 : decode cX6_fair 111 = .ok (.aload_n 0, 1) := dk_42 (dk_at dksX6_fair_4 18 rfl rfl)
theorem dX6_fair_112 : decode cX6_fair 112 = .ok (.getfield 87, 3) := dk_180 0 87 (dk_at dksX6_fair_4 19 rfl rfl)
theorem dX6_fair_115 : decode cX6_fair 115 = .ok (.iload 4, 2) := dk_21 4 (dk_at dksX6_fair_4 22 rfl rfl)
theorem dX6_fair_117 : decode cX6_fair 117 = .ok (.iaload, 1) := dk_46 (dk_at dksX6_fair_5 0 rfl rfl)
theorem dX6_fair_118 : decode cX6_fair 118 = .ok (.aload_n 0, 1) := dk_42 (dk_at dksX6_fair_5 1 rfl rfl)
theorem dX6_fair_119 : decode cX6_fair 119 = .ok (.getfield 87, 3) := dk_180 0 87 (dk_at dksX6_fair_5 2 rfl rfl)
theorem dX6_fair_122 : decode cX6_fair 122 = .ok (.iload 4, 2) := dk_21 4 (dk_at dksX6_fair_5 5 rfl rfl)
theorem dX6_fair_124 : decode cX6_fair 124 = .ok (.iconst 1, 1) := dk_4 (dk_at dksX6_fair_5 7 rfl rfl)
theorem dX6_fair_125 : decode cX6_fair 125 = .ok (.iload_n 1, 1) := dk_27 (dk_at dksX6_fair_5 8 rfl rfl)
theorem dX6_fair_126 : decode cX6_fair 126 = .ok (.ishl, 1) := dk_120 (dk_at dksX6_fair_5 9 rfl rfl)
theorem dX6_fair_127 : decode cX6_fair 127 = .ok (.ior, 1) := dk_128 (dk_at dksX6_fair_5 10 rfl rfl)
theorem dX6_fair_128 : decode cX6_fair 128 = .ok (.iaload, 1) := dk_46 (dk_at dksX6_fair_5 11 rfl rfl)
theorem dX6_fair_129 : decode cX6_fair 129 = .ok (.isub, 1) := dk_100 (dk_at dksX6_fair_5 12 rfl rfl)
theorem dX6_fair_130 : decode cX6_fair 130 = .ok (.imul, 1) := dk_104 (dk_at dksX6_fair_5 13 rfl rfl)
theorem dX6_fair_131 : decode cX6_fair 131 = .ok (.iadd, 1) := dk_96 (dk_at dksX6_fair_5 14 rfl rfl)
theorem dX6_fair_132 : decode cX6_fair 132 = .ok (.istore_n 3, 1) := dk_62 (dk_at dksX6_fair_5 15 rfl rfl)
theorem dX6_fair_133 : decode cX6_fair 133 = .ok (.iinc 4 1, 3) := dk_132 4 1 (dk_at dksX6_fair_5 16 rfl rfl)
theorem dX6_fair_136 : decode cX6_fair 136 = .ok (.goto (-78), 3) := dk_167 255 178 (dk_at dksX6_fair_5 19 rfl rfl)
theorem dX6_fair_139 : decode cX6_fair 139 = .ok (.iload_n 3, 1) := dk_29 (dk_at dksX6_fair_5 22 rfl rfl)
theorem dX6_fair_140 : decode cX6_fair 140 = .ok (.i2l, 1) := dk_133 (dk_at dksX6_fair_5 23 rfl rfl)
theorem dX6_fair_141 : decode cX6_fair 141 = .ok (.ldc2_w 260, 3) := dk_20 1 4 (dk_at dksX6_fair_6 0 rfl rfl)
theorem dX6_fair_144 : decode cX6_fair 144 = .ok (.ladd, 1) := dk_97 (dk_at dksX6_fair_6 3 rfl rfl)
theorem dX6_fair_145 : decode cX6_fair 145 = .ok (.lstore 4, 2) := dk_55 4 (dk_at dksX6_fair_6 4 rfl rfl)
theorem dX6_fair_147 : decode cX6_fair 147 = .ok (.lload 4, 2) := dk_22 4 (dk_at dksX6_fair_6 6 rfl rfl)
theorem dX6_fair_149 : decode cX6_fair 149 = .ok (.ldc2_w 262, 3) := dk_20 1 6 (dk_at dksX6_fair_6 8 rfl rfl)
theorem dX6_fair_152 : decode cX6_fair 152 = .ok (.invokestatic 264, 3) := dk_184 1 8 (dk_at dksX6_fair_6 11 rfl rfl)
theorem dX6_fair_155 : decode cX6_fair 155 = .ok (.lstore 6, 2) := dk_55 6 (dk_at dksX6_fair_6 14 rfl rfl)
theorem dX6_fair_157 : decode cX6_fair 157 = .ok (.iload_n 2, 1) := dk_28 (dk_at dksX6_fair_6 16 rfl rfl)
theorem dX6_fair_158 : decode cX6_fair 158 = .ok (.ifCond .ne 11, 3) := dk_154 0 11 (dk_at dksX6_fair_6 17 rfl rfl)
theorem dX6_fair_161 : decode cX6_fair 161 = .ok (.lload 4, 2) := dk_22 4 (dk_at dksX6_fair_6 20 rfl rfl)
theorem dX6_fair_163 : decode cX6_fair 163 = .ok (.lload 6, 2) := dk_22 6 (dk_at dksX6_fair_6 22 rfl rfl)
theorem dX6_fair_165 : decode cX6_fair 165 = .ok (.ldiv, 1) := dk_109 (dk_at dksX6_fair_7 0 rfl rfl)
theorem dX6_fair_166 : decode cX6_fair 166 = .ok (.goto 9, 3) := dk_167 0 9 (dk_at dksX6_fair_7 1 rfl rfl)
theorem dX6_fair_169 : decode cX6_fair 169 = .ok (.ldc2_w 262, 3) := dk_20 1 6 (dk_at dksX6_fair_7 4 rfl rfl)
theorem dX6_fair_172 : decode cX6_fair 172 = .ok (.lload 6, 2) := dk_22 6 (dk_at dksX6_fair_7 7 rfl rfl)
theorem dX6_fair_174 : decode cX6_fair 174 = .ok (.ldiv, 1) := dk_109 (dk_at dksX6_fair_7 9 rfl rfl)
theorem dX6_fair_175 : decode cX6_fair 175 = .ok (.l2i, 1) := dk_136 (dk_at dksX6_fair_7 10 rfl rfl)
theorem dX6_fair_176 : decode cX6_fair 176 = .ok (.ireturn, 1) := dk_172 (dk_at dksX6_fair_7 11 rfl rfl)
abbrev cX6_orders : ByteArray := prog_12_method_52_code
def yX6_orders : MethodName := ⟨RX6, "orders", "(I)I"⟩
def dkwX6_orders_0 : List UInt8 := [26, 153, 0, 8, 26, 6, 160, 0, 8, 16, 6, 167, 0, 4, 5, 172]
abbrev dktX6_orders_0 : List UInt8 := dkwX6_orders_0 ++ []
theorem dksX6_orders_0 : cX6_orders.data.toList.drop 0 = dktX6_orders_0 := by decide +kernel
theorem dX6_orders_0 : decode cX6_orders 0 = .ok (.iload_n 0, 1) := dk_26 (dk_at dksX6_orders_0 0 rfl rfl)
theorem dX6_orders_1 : decode cX6_orders 1 = .ok (.ifCond .eq 8, 3) := dk_153 0 8 (dk_at dksX6_orders_0 1 rfl rfl)
theorem dX6_orders_4 : decode cX6_orders 4 = .ok (.iload_n 0, 1) := dk_26 (dk_at dksX6_orders_0 4 rfl rfl)
theorem dX6_orders_5 : decode cX6_orders 5 = .ok (.iconst 3, 1) := dk_6 (dk_at dksX6_orders_0 5 rfl rfl)
theorem dX6_orders_6 : decode cX6_orders 6 = .ok (.if_icmp .ne 8, 3) := dk_160 0 8 (dk_at dksX6_orders_0 6 rfl rfl)
theorem dX6_orders_9 : decode cX6_orders 9 = .ok (.bipush 6, 2) := dk_16 6 (dk_at dksX6_orders_0 9 rfl rfl)
theorem dX6_orders_11 : decode cX6_orders 11 = .ok (.goto 4, 3) := dk_167 0 4 (dk_at dksX6_orders_0 11 rfl rfl)
theorem dX6_orders_14 : decode cX6_orders 14 = .ok (.iconst 2, 1) := dk_5 (dk_at dksX6_orders_0 14 rfl rfl)
theorem dX6_orders_15 : decode cX6_orders 15 = .ok (.ireturn, 1) := dk_172 (dk_at dksX6_orders_0 15 rfl rfl)
abbrev cX6_divisor : ByteArray := prog_12_method_51_code
def yX6_divisor : MethodName := ⟨RX6, "divisor", "(JJ)J"⟩
def dkwX6_divisor_1 : List UInt8 := [22, 4, 22, 6, 113, 55, 8, 22, 6, 55, 4, 22, 8, 55, 6, 167, 255, 234, 22, 4, 173]
abbrev dktX6_divisor_1 : List UInt8 := dkwX6_divisor_1 ++ []
def dkwX6_divisor_0 : List UInt8 := [30, 9, 148, 156, 0, 8, 30, 117, 167, 0, 4, 30, 55, 4, 32, 55, 6, 22, 6, 9, 148, 153, 0, 21]
abbrev dktX6_divisor_0 : List UInt8 := dkwX6_divisor_0 ++ dktX6_divisor_1
theorem dksX6_divisor_0 : cX6_divisor.data.toList.drop 0 = dktX6_divisor_0 := by decide +kernel
theorem dksX6_divisor_1 : cX6_divisor.data.toList.drop 24 = dktX6_divisor_1 := dk_seg dksX6_divisor_0 24 rfl rfl
theorem dX6_divisor_0 : decode cX6_divisor 0 = .ok (.lload_n 0, 1) := dk_30 (dk_at dksX6_divisor_0 0 rfl rfl)
theorem dX6_divisor_1 : decode cX6_divisor 1 = .ok (.lconst 0, 1) := dk_9 (dk_at dksX6_divisor_0 1 rfl rfl)
theorem dX6_divisor_2 : decode cX6_divisor 2 = .ok (.lcmp, 1) := dk_148 (dk_at dksX6_divisor_0 2 rfl rfl)
theorem dX6_divisor_3 : decode cX6_divisor 3 = .ok (.ifCond .ge 8, 3) := dk_156 0 8 (dk_at dksX6_divisor_0 3 rfl rfl)
theorem dX6_divisor_6 : decode cX6_divisor 6 = .ok (.lload_n 0, 1) := dk_30 (dk_at dksX6_divisor_0 6 rfl rfl)
theorem dX6_divisor_7 : decode cX6_divisor 7 = .ok (.lneg, 1) := dk_117 (dk_at dksX6_divisor_0 7 rfl rfl)
theorem dX6_divisor_8 : decode cX6_divisor 8 = .ok (.goto 4, 3) := dk_167 0 4 (dk_at dksX6_divisor_0 8 rfl rfl)
theorem dX6_divisor_11 : decode cX6_divisor 11 = .ok (.lload_n 0, 1) := dk_30 (dk_at dksX6_divisor_0 11 rfl rfl)
theorem dX6_divisor_12 : decode cX6_divisor 12 = .ok (.lstore 4, 2) := dk_55 4 (dk_at dksX6_divisor_0 12 rfl rfl)
theorem dX6_divisor_14 : decode cX6_divisor 14 = .ok (.lload_n 2, 1) := dk_32 (dk_at dksX6_divisor_0 14 rfl rfl)
theorem dX6_divisor_15 : decode cX6_divisor 15 = .ok (.lstore 6, 2) := dk_55 6 (dk_at dksX6_divisor_0 15 rfl rfl)
theorem dX6_divisor_17 : decode cX6_divisor 17 = .ok (.lload 6, 2) := dk_22 6 (dk_at dksX6_divisor_0 17 rfl rfl)
theorem dX6_divisor_19 : decode cX6_divisor 19 = .ok (.lconst 0, 1) := dk_9 (dk_at dksX6_divisor_0 19 rfl rfl)
theorem dX6_divisor_20 : decode cX6_divisor 20 = .ok (.lcmp, 1) := dk_148 (dk_at dksX6_divisor_0 20 rfl rfl)
theorem dX6_divisor_21 : decode cX6_divisor 21 = .ok (.ifCond .eq 21, 3) := dk_153 0 21 (dk_at dksX6_divisor_0 21 rfl rfl)
theorem dX6_divisor_24 : decode cX6_divisor 24 = .ok (.lload 4, 2) := dk_22 4 (dk_at dksX6_divisor_1 0 rfl rfl)
theorem dX6_divisor_26 : decode cX6_divisor 26 = .ok (.lload 6, 2) := dk_22 6 (dk_at dksX6_divisor_1 2 rfl rfl)
theorem dX6_divisor_28 : decode cX6_divisor 28 = .ok (.lrem, 1) := dk_113 (dk_at dksX6_divisor_1 4 rfl rfl)
theorem dX6_divisor_29 : decode cX6_divisor 29 = .ok (.lstore 8, 2) := dk_55 8 (dk_at dksX6_divisor_1 5 rfl rfl)
theorem dX6_divisor_31 : decode cX6_divisor 31 = .ok (.lload 6, 2) := dk_22 6 (dk_at dksX6_divisor_1 7 rfl rfl)
theorem dX6_divisor_33 : decode cX6_divisor 33 = .ok (.lstore 4, 2) := dk_55 4 (dk_at dksX6_divisor_1 9 rfl rfl)
theorem dX6_divisor_35 : decode cX6_divisor 35 = .ok (.lload 8, 2) := dk_22 8 (dk_at dksX6_divisor_1 11 rfl rfl)
theorem dX6_divisor_37 : decode cX6_divisor 37 = .ok (.lstore 6, 2) := dk_55 6 (dk_at dksX6_divisor_1 13 rfl rfl)
theorem dX6_divisor_39 : decode cX6_divisor 39 = .ok (.goto (-22), 3) := dk_167 255 234 (dk_at dksX6_divisor_1 15 rfl rfl)
theorem dX6_divisor_42 : decode cX6_divisor 42 = .ok (.lload 4, 2) := dk_22 4 (dk_at dksX6_divisor_1 18 rfl rfl)
theorem dX6_divisor_44 : decode cX6_divisor 44 = .ok (.lreturn, 1) := dk_173 (dk_at dksX6_divisor_1 20 rfl rfl)
abbrev cX6_free : ByteArray := prog_12_method_54_code
def yX6_free : MethodName := ⟨RX6, "free", "(I)I"⟩
def dkwX6_free_2 : List UInt8 := [120, 182, 0, 226, 100, 19, 1, 0, 96, 172]
abbrev dktX6_free_2 : List UInt8 := dkwX6_free_2 ++ []
def dkwX6_free_1 : List UInt8 := [120, 2, 130, 126, 181, 0, 50, 42, 4, 27, 120, 182, 0, 226, 61, 42, 3, 181, 0, 50, 28, 42, 4, 27]
abbrev dktX6_free_1 : List UInt8 := dkwX6_free_1 ++ dktX6_free_2
def dkwX6_free_0 : List UInt8 := [27, 133, 9, 20, 0, 167, 184, 0, 92, 154, 0, 6, 16, 254, 172, 42, 182, 0, 217, 42, 16, 15, 4, 27]
abbrev dktX6_free_0 : List UInt8 := dkwX6_free_0 ++ dktX6_free_1
theorem dksX6_free_0 : cX6_free.data.toList.drop 0 = dktX6_free_0 := by decide +kernel
theorem dksX6_free_1 : cX6_free.data.toList.drop 24 = dktX6_free_1 := dk_seg dksX6_free_0 24 rfl rfl
theorem dksX6_free_2 : cX6_free.data.toList.drop 48 = dktX6_free_2 := dk_seg dksX6_free_1 24 rfl rfl
theorem dX6_free_0 : decode cX6_free 0 = .ok (.iload_n 1, 1) := dk_27 (dk_at dksX6_free_0 0 rfl rfl)
theorem dX6_free_1 : decode cX6_free 1 = .ok (.i2l, 1) := dk_133 (dk_at dksX6_free_0 1 rfl rfl)
theorem dX6_free_2 : decode cX6_free 2 = .ok (.lconst 0, 1) := dk_9 (dk_at dksX6_free_0 2 rfl rfl)
theorem dX6_free_3 : decode cX6_free 3 = .ok (.ldc2_w 167, 3) := dk_20 0 167 (dk_at dksX6_free_0 3 rfl rfl)
theorem dX6_free_6 : decode cX6_free 6 = .ok (.invokestatic 92, 3) := dk_184 0 92 (dk_at dksX6_free_0 6 rfl rfl)
theorem dX6_free_9 : decode cX6_free 9 = .ok (.ifCond .ne 6, 3) := dk_154 0 6 (dk_at dksX6_free_0 9 rfl rfl)
theorem dX6_free_12 : decode cX6_free 12 = .ok (.bipush (-2), 2) := dk_16 254 (dk_at dksX6_free_0 12 rfl rfl)
theorem dX6_free_14 : decode cX6_free 14 = .ok (.ireturn, 1) := dk_172 (dk_at dksX6_free_0 14 rfl rfl)
theorem dX6_free_15 : decode cX6_free 15 = .ok (.aload_n 0, 1) := dk_42 (dk_at dksX6_free_0 15 rfl rfl)
theorem dX6_free_16 : decode cX6_free 16 = .ok (.invokevirtual 217, 3) := dk_182 0 217 (dk_at dksX6_free_0 16 rfl rfl)
theorem dX6_free_19 : decode cX6_free 19 = .ok (.aload_n 0, 1) := dk_42 (dk_at dksX6_free_0 19 rfl rfl)
theorem dX6_free_20 : decode cX6_free 20 = .ok (.bipush 15, 2) := dk_16 15 (dk_at dksX6_free_0 20 rfl rfl)
theorem dX6_free_22 : decode cX6_free 22 = .ok (.iconst 1, 1) := dk_4 (dk_at dksX6_free_0 22 rfl rfl)
theorem dX6_free_23 : decode cX6_free 23 = .ok (.iload_n 1, 1) := dk_27 (dk_at dksX6_free_0 23 rfl rfl)
theorem dX6_free_24 : decode cX6_free 24 = .ok (.ishl, 1) := dk_120 (dk_at dksX6_free_1 0 rfl rfl)
theorem dX6_free_25 : decode cX6_free 25 = .ok (.iconst (-1), 1) := dk_2 (dk_at dksX6_free_1 1 rfl rfl)
theorem dX6_free_26 : decode cX6_free 26 = .ok (.ixor, 1) := dk_130 (dk_at dksX6_free_1 2 rfl rfl)
theorem dX6_free_27 : decode cX6_free 27 = .ok (.iand, 1) := dk_126 (dk_at dksX6_free_1 3 rfl rfl)
theorem dX6_free_28 : decode cX6_free 28 = .ok (.putfield 50, 3) := dk_181 0 50 (dk_at dksX6_free_1 4 rfl rfl)
theorem dX6_free_31 : decode cX6_free 31 = .ok (.aload_n 0, 1) := dk_42 (dk_at dksX6_free_1 7 rfl rfl)
theorem dX6_free_32 : decode cX6_free 32 = .ok (.iconst 1, 1) := dk_4 (dk_at dksX6_free_1 8 rfl rfl)
theorem dX6_free_33 : decode cX6_free 33 = .ok (.iload_n 1, 1) := dk_27 (dk_at dksX6_free_1 9 rfl rfl)
theorem dX6_free_34 : decode cX6_free 34 = .ok (.ishl, 1) := dk_120 (dk_at dksX6_free_1 10 rfl rfl)
theorem dX6_free_35 : decode cX6_free 35 = .ok (.invokevirtual 226, 3) := dk_182 0 226 (dk_at dksX6_free_1 11 rfl rfl)
theorem dX6_free_38 : decode cX6_free 38 = .ok (.istore_n 2, 1) := dk_61 (dk_at dksX6_free_1 14 rfl rfl)
theorem dX6_free_39 : decode cX6_free 39 = .ok (.aload_n 0, 1) := dk_42 (dk_at dksX6_free_1 15 rfl rfl)
theorem dX6_free_40 : decode cX6_free 40 = .ok (.iconst 0, 1) := dk_3 (dk_at dksX6_free_1 16 rfl rfl)
theorem dX6_free_41 : decode cX6_free 41 = .ok (.putfield 50, 3) := dk_181 0 50 (dk_at dksX6_free_1 17 rfl rfl)
theorem dX6_free_44 : decode cX6_free 44 = .ok (.iload_n 2, 1) := dk_28 (dk_at dksX6_free_1 20 rfl rfl)
theorem dX6_free_45 : decode cX6_free 45 = .ok (.aload_n 0, 1) := dk_42 (dk_at dksX6_free_1 21 rfl rfl)
theorem dX6_free_46 : decode cX6_free 46 = .ok (.iconst 1, 1) := dk_4 (dk_at dksX6_free_1 22 rfl rfl)
theorem dX6_free_47 : decode cX6_free 47 = .ok (.iload_n 1, 1) := dk_27 (dk_at dksX6_free_1 23 rfl rfl)
theorem dX6_free_48 : decode cX6_free 48 = .ok (.ishl, 1) := dk_120 (dk_at dksX6_free_2 0 rfl rfl)
theorem dX6_free_49 : decode cX6_free 49 = .ok (.invokevirtual 226, 3) := dk_182 0 226 (dk_at dksX6_free_2 1 rfl rfl)
theorem dX6_free_52 : decode cX6_free 52 = .ok (.isub, 1) := dk_100 (dk_at dksX6_free_2 4 rfl rfl)
theorem dX6_free_53 : decode cX6_free 53 = .ok (.ldc_w 256, 3) := dk_19 1 0 (dk_at dksX6_free_2 5 rfl rfl)
theorem dX6_free_56 : decode cX6_free 56 = .ok (.iadd, 1) := dk_96 (dk_at dksX6_free_2 8 rfl rfl)
theorem dX6_free_57 : decode cX6_free 57 = .ok (.ireturn, 1) := dk_172 (dk_at dksX6_free_2 9 rfl rfl)
abbrev cX6_matters : ByteArray := prog_12_method_55_code
def yX6_matters : MethodName := ⟨RX6, "matters", "()I"⟩
def dkwX6_matters_2 : List UInt8 := [159, 0, 9, 4, 29, 120, 167, 0, 4, 3, 128, 61, 132, 3, 1, 167, 255, 212, 28, 172]
abbrev dktX6_matters_2 : List UInt8 := dkwX6_matters_2 ++ []
def dkwX6_matters_1 : List UInt8 := [181, 0, 53, 28, 42, 180, 0, 150, 29, 184, 0, 169, 153, 0, 19, 42, 16, 15, 182, 0, 226, 27]
abbrev dktX6_matters_1 : List UInt8 := dkwX6_matters_1 ++ dktX6_matters_2
def dkwX6_matters_0 : List UInt8 := [42, 182, 0, 217, 42, 16, 15, 182, 0, 226, 60, 3, 61, 3, 62, 29, 7, 162, 0, 45, 42, 29]
abbrev dktX6_matters_0 : List UInt8 := dkwX6_matters_0 ++ dktX6_matters_1
theorem dksX6_matters_0 : cX6_matters.data.toList.drop 0 = dktX6_matters_0 := by decide +kernel
theorem dksX6_matters_1 : cX6_matters.data.toList.drop 22 = dktX6_matters_1 := dk_seg dksX6_matters_0 22 rfl rfl
theorem dksX6_matters_2 : cX6_matters.data.toList.drop 44 = dktX6_matters_2 := dk_seg dksX6_matters_1 22 rfl rfl
theorem dX6_matters_0 : decode cX6_matters 0 = .ok (.aload_n 0, 1) := dk_42 (dk_at dksX6_matters_0 0 rfl rfl)
theorem dX6_matters_1 : decode cX6_matters 1 = .ok (.invokevirtual 217, 3) := dk_182 0 217 (dk_at dksX6_matters_0 1 rfl rfl)
theorem dX6_matters_4 : decode cX6_matters 4 = .ok (.aload_n 0, 1) := dk_42 (dk_at dksX6_matters_0 4 rfl rfl)
theorem dX6_matters_5 : decode cX6_matters 5 = .ok (.bipush 15, 2) := dk_16 15 (dk_at dksX6_matters_0 5 rfl rfl)
theorem dX6_matters_7 : decode cX6_matters 7 = .ok (.invokevirtual 226, 3) := dk_182 0 226 (dk_at dksX6_matters_0 7 rfl rfl)
theorem dX6_matters_10 : decode cX6_matters 10 = .ok (.istore_n 1, 1) := dk_60 (dk_at dksX6_matters_0 10 rfl rfl)
theorem dX6_matters_11 : decode cX6_matters 11 = .ok (.iconst 0, 1) := dk_3 (dk_at dksX6_matters_0 11 rfl rfl)
theorem dX6_matters_12 : decode cX6_matters 12 = .ok (.istore_n 2, 1) := dk_61 (dk_at dksX6_matters_0 12 rfl rfl)
theorem dX6_matters_13 : decode cX6_matters 13 = .ok (.iconst 0, 1) := dk_3 (dk_at dksX6_matters_0 13 rfl rfl)
theorem dX6_matters_14 : decode cX6_matters 14 = .ok (.istore_n 3, 1) := dk_62 (dk_at dksX6_matters_0 14 rfl rfl)
theorem dX6_matters_15 : decode cX6_matters 15 = .ok (.iload_n 3, 1) := dk_29 (dk_at dksX6_matters_0 15 rfl rfl)
theorem dX6_matters_16 : decode cX6_matters 16 = .ok (.iconst 4, 1) := dk_7 (dk_at dksX6_matters_0 16 rfl rfl)
theorem dX6_matters_17 : decode cX6_matters 17 = .ok (.if_icmp .ge 45, 3) := dk_162 0 45 (dk_at dksX6_matters_0 17 rfl rfl)
theorem dX6_matters_20 : decode cX6_matters 20 = .ok (.aload_n 0, 1) := dk_42 (dk_at dksX6_matters_0 20 rfl rfl)
theorem dX6_matters_21 : decode cX6_matters 21 = .ok (.iload_n 3, 1) := dk_29 (dk_at dksX6_matters_0 21 rfl rfl)
theorem dX6_matters_22 : decode cX6_matters 22 = .ok (.putfield 53, 3) := dk_181 0 53 (dk_at dksX6_matters_1 0 rfl rfl)
theorem dX6_matters_25 : decode cX6_matters 25 = .ok (.iload_n 2, 1) := dk_28 (dk_at dksX6_matters_1 3 rfl rfl)
theorem dX6_matters_26 : decode cX6_matters 26 = .ok (.aload_n 0, 1) := dk_42 (dk_at dksX6_matters_1 4 rfl rfl)
theorem dX6_matters_27 : decode cX6_matters 27 = .ok (.getfield 150, 3) := dk_180 0 150 (dk_at dksX6_matters_1 5 rfl rfl)
theorem dX6_matters_30 : decode cX6_matters 30 = .ok (.iload_n 3, 1) := dk_29 (dk_at dksX6_matters_1 8 rfl rfl)
theorem dX6_matters_31 : decode cX6_matters 31 = .ok (.invokestatic 169, 3) := dk_184 0 169 (dk_at dksX6_matters_1 9 rfl rfl)
theorem dX6_matters_34 : decode cX6_matters 34 = .ok (.ifCond .eq 19, 3) := dk_153 0 19 (dk_at dksX6_matters_1 12 rfl rfl)
theorem dX6_matters_37 : decode cX6_matters 37 = .ok (.aload_n 0, 1) := dk_42 (dk_at dksX6_matters_1 15 rfl rfl)
theorem dX6_matters_38 : decode cX6_matters 38 = .ok (.bipush 15, 2) := dk_16 15 (dk_at dksX6_matters_1 16 rfl rfl)
theorem dX6_matters_40 : decode cX6_matters 40 = .ok (.invokevirtual 226, 3) := dk_182 0 226 (dk_at dksX6_matters_1 18 rfl rfl)
theorem dX6_matters_43 : decode cX6_matters 43 = .ok (.iload_n 1, 1) := dk_27 (dk_at dksX6_matters_1 21 rfl rfl)
theorem dX6_matters_44 : decode cX6_matters 44 = .ok (.if_icmp .eq 9, 3) := dk_159 0 9 (dk_at dksX6_matters_2 0 rfl rfl)
theorem dX6_matters_47 : decode cX6_matters 47 = .ok (.iconst 1, 1) := dk_4 (dk_at dksX6_matters_2 3 rfl rfl)
theorem dX6_matters_48 : decode cX6_matters 48 = .ok (.iload_n 3, 1) := dk_29 (dk_at dksX6_matters_2 4 rfl rfl)
theorem dX6_matters_49 : decode cX6_matters 49 = .ok (.ishl, 1) := dk_120 (dk_at dksX6_matters_2 5 rfl rfl)
theorem dX6_matters_50 : decode cX6_matters 50 = .ok (.goto 4, 3) := dk_167 0 4 (dk_at dksX6_matters_2 6 rfl rfl)
theorem dX6_matters_53 : decode cX6_matters 53 = .ok (.iconst 0, 1) := dk_3 (dk_at dksX6_matters_2 9 rfl rfl)
theorem dX6_matters_54 : decode cX6_matters 54 = .ok (.ior, 1) := dk_128 (dk_at dksX6_matters_2 10 rfl rfl)
theorem dX6_matters_55 : decode cX6_matters 55 = .ok (.istore_n 2, 1) := dk_61 (dk_at dksX6_matters_2 11 rfl rfl)
theorem dX6_matters_56 : decode cX6_matters 56 = .ok (.iinc 3 1, 3) := dk_132 3 1 (dk_at dksX6_matters_2 12 rfl rfl)
theorem dX6_matters_59 : decode cX6_matters 59 = .ok (.goto (-44), 3) := dk_167 255 212 (dk_at dksX6_matters_2 15 rfl rfl)
theorem dX6_matters_62 : decode cX6_matters 62 = .ok (.iload_n 2, 1) := dk_28 (dk_at dksX6_matters_2 18 rfl rfl)
theorem dX6_matters_63 : decode cX6_matters 63 = .ok (.ireturn, 1) := dk_172 (dk_at dksX6_matters_2 19 rfl rfl)
abbrev cX6_counted : ByteArray := prog_12_method_56_code
def yX6_counted : MethodName := ⟨RX6, "counted", "(III)I"⟩
def dkwX6_counted_4 : List UInt8 := [180, 1, 12, 4, 96, 181, 1, 12, 42, 180, 1, 12, 172]
abbrev dktX6_counted_4 : List UInt8 := dkwX6_counted_4 ++ []
def dkwX6_counted_3 : List UInt8 := [180, 1, 12, 104, 4, 96, 28, 79, 42, 180, 0, 47, 6, 42, 180, 1, 12, 104, 5, 96, 29, 79, 42, 89]
abbrev dktX6_counted_3 : List UInt8 := dkwX6_counted_3 ++ dktX6_counted_4
def dkwX6_counted_2 : List UInt8 := [160, 0, 6, 16, 251, 172, 42, 180, 0, 47, 6, 42, 180, 1, 12, 104, 27, 79, 42, 180, 0, 47, 6, 42]
abbrev dktX6_counted_2 : List UInt8 := dkwX6_counted_2 ++ dktX6_counted_3
def dkwX6_counted_1 : List UInt8 := [16, 254, 172, 29, 133, 9, 20, 0, 246, 184, 0, 92, 154, 0, 6, 16, 253, 172, 42, 180, 1, 12, 16, 12]
abbrev dktX6_counted_1 : List UInt8 := dkwX6_counted_1 ++ dktX6_counted_2
def dkwX6_counted_0 : List UInt8 := [27, 133, 9, 20, 0, 181, 184, 0, 92, 153, 0, 15, 28, 133, 9, 20, 0, 167, 184, 0, 92, 154, 0, 6]
abbrev dktX6_counted_0 : List UInt8 := dkwX6_counted_0 ++ dktX6_counted_1
theorem dksX6_counted_0 : cX6_counted.data.toList.drop 0 = dktX6_counted_0 := by decide +kernel
theorem dksX6_counted_1 : cX6_counted.data.toList.drop 24 = dktX6_counted_1 := dk_seg dksX6_counted_0 24 rfl rfl
theorem dksX6_counted_2 : cX6_counted.data.toList.drop 48 = dktX6_counted_2 := dk_seg dksX6_counted_1 24 rfl rfl
theorem dksX6_counted_3 : cX6_counted.data.toList.drop 72 = dktX6_counted_3 := dk_seg dksX6_counted_2 24 rfl rfl
theorem dksX6_counted_4 : cX6_counted.data.toList.drop 96 = dktX6_counted_4 := dk_seg dksX6_counted_3 24 rfl rfl
theorem dX6_counted_0 : decode cX6_counted 0 = .ok (.iload_n 1, 1) := dk_27 (dk_at dksX6_counted_0 0 rfl rfl)
theorem dX6_counted_1 : decode cX6_counted 1 = .ok (.i2l, 1) := dk_133 (dk_at dksX6_counted_0 1 rfl rfl)
theorem dX6_counted_2 : decode cX6_counted 2 = .ok (.lconst 0, 1) := dk_9 (dk_at dksX6_counted_0 2 rfl rfl)
theorem dX6_counted_3 : decode cX6_counted 3 = .ok (.ldc2_w 181, 3) := dk_20 0 181 (dk_at dksX6_counted_0 3 rfl rfl)
theorem dX6_counted_6 : decode cX6_counted 6 = .ok (.invokestatic 92, 3) := dk_184 0 92 (dk_at dksX6_counted_0 6 rfl rfl)
theorem dX6_counted_9 : decode cX6_counted 9 = .ok (.ifCond .eq 15, 3) := dk_153 0 15 (dk_at dksX6_counted_0 9 rfl rfl)
theorem dX6_counted_12 : decode cX6_counted 12 = .ok (.iload_n 2, 1) := dk_28 (dk_at dksX6_counted_0 12 rfl rfl)
theorem dX6_counted_13 : decode cX6_counted 13 = .ok (.i2l, 1) := dk_133 (dk_at dksX6_counted_0 13 rfl rfl)
theorem dX6_counted_14 : decode cX6_counted 14 = .ok (.lconst 0, 1) := dk_9 (dk_at dksX6_counted_0 14 rfl rfl)
theorem dX6_counted_15 : decode cX6_counted 15 = .ok (.ldc2_w 167, 3) := dk_20 0 167 (dk_at dksX6_counted_0 15 rfl rfl)
theorem dX6_counted_18 : decode cX6_counted 18 = .ok (.invokestatic 92, 3) := dk_184 0 92 (dk_at dksX6_counted_0 18 rfl rfl)
theorem dX6_counted_21 : decode cX6_counted 21 = .ok (.ifCond .ne 6, 3) := dk_154 0 6 (dk_at dksX6_counted_0 21 rfl rfl)
theorem dX6_counted_24 : decode cX6_counted 24 = .ok (.bipush (-2), 2) := dk_16 254 (dk_at dksX6_counted_1 0 rfl rfl)
theorem dX6_counted_26 : decode cX6_counted 26 = .ok (.ireturn, 1) := dk_172 (dk_at dksX6_counted_1 2 rfl rfl)
theorem dX6_counted_27 : decode cX6_counted 27 = .ok (.iload_n 3, 1) := dk_29 (dk_at dksX6_counted_1 3 rfl rfl)
theorem dX6_counted_28 : decode cX6_counted 28 = .ok (.i2l, 1) := dk_133 (dk_at dksX6_counted_1 4 rfl rfl)
theorem dX6_counted_29 : decode cX6_counted 29 = .ok (.lconst 0, 1) := dk_9 (dk_at dksX6_counted_1 5 rfl rfl)
theorem dX6_counted_30 : decode cX6_counted 30 = .ok (.ldc2_w 246, 3) := dk_20 0 246 (dk_at dksX6_counted_1 6 rfl rfl)
theorem dX6_counted_33 : decode cX6_counted 33 = .ok (.invokestatic 92, 3) := dk_184 0 92 (dk_at dksX6_counted_1 9 rfl rfl)
theorem dX6_counted_36 : decode cX6_counted 36 = .ok (.ifCond .ne 6, 3) := dk_154 0 6 (dk_at dksX6_counted_1 12 rfl rfl)
theorem dX6_counted_39 : decode cX6_counted 39 = .ok (.bipush (-3), 2) := dk_16 253 (dk_at dksX6_counted_1 15 rfl rfl)
theorem dX6_counted_41 : decode cX6_counted 41 = .ok (.ireturn, 1) := dk_172 (dk_at dksX6_counted_1 17 rfl rfl)
theorem dX6_counted_42 : decode cX6_counted 42 = .ok (.aload_n 0, 1) := dk_42 (dk_at dksX6_counted_1 18 rfl rfl)
theorem dX6_counted_43 : decode cX6_counted 43 = .ok (.getfield 268, 3) := dk_180 1 12 (dk_at dksX6_counted_1 19 rfl rfl)
theorem dX6_counted_46 : decode cX6_counted 46 = .ok (.bipush 12, 2) := dk_16 12 (dk_at dksX6_counted_1 22 rfl rfl)
theorem dX6_counted_48 : decode cX6_counted 48 = .ok (.if_icmp .ne 6, 3) := dk_160 0 6 (dk_at dksX6_counted_2 0 rfl rfl)
theorem dX6_counted_51 : decode cX6_counted 51 = .ok (.bipush (-5), 2) := dk_16 251 (dk_at dksX6_counted_2 3 rfl rfl)
theorem dX6_counted_53 : decode cX6_counted 53 = .ok (.ireturn, 1) := dk_172 (dk_at dksX6_counted_2 5 rfl rfl)
theorem dX6_counted_54 : decode cX6_counted 54 = .ok (.aload_n 0, 1) := dk_42 (dk_at dksX6_counted_2 6 rfl rfl)
theorem dX6_counted_55 : decode cX6_counted 55 = .ok (.getfield 47, 3) := dk_180 0 47 (dk_at dksX6_counted_2 7 rfl rfl)
theorem dX6_counted_58 : decode cX6_counted 58 = .ok (.iconst 3, 1) := dk_6 (dk_at dksX6_counted_2 10 rfl rfl)
theorem dX6_counted_59 : decode cX6_counted 59 = .ok (.aload_n 0, 1) := dk_42 (dk_at dksX6_counted_2 11 rfl rfl)
theorem dX6_counted_60 : decode cX6_counted 60 = .ok (.getfield 268, 3) := dk_180 1 12 (dk_at dksX6_counted_2 12 rfl rfl)
theorem dX6_counted_63 : decode cX6_counted 63 = .ok (.imul, 1) := dk_104 (dk_at dksX6_counted_2 15 rfl rfl)
theorem dX6_counted_64 : decode cX6_counted 64 = .ok (.iload_n 1, 1) := dk_27 (dk_at dksX6_counted_2 16 rfl rfl)
theorem dX6_counted_65 : decode cX6_counted 65 = .ok (.iastore, 1) := dk_79 (dk_at dksX6_counted_2 17 rfl rfl)
theorem dX6_counted_66 : decode cX6_counted 66 = .ok (.aload_n 0, 1) := dk_42 (dk_at dksX6_counted_2 18 rfl rfl)
theorem dX6_counted_67 : decode cX6_counted 67 = .ok (.getfield 47, 3) := dk_180 0 47 (dk_at dksX6_counted_2 19 rfl rfl)
theorem dX6_counted_70 : decode cX6_counted 70 = .ok (.iconst 3, 1) := dk_6 (dk_at dksX6_counted_2 22 rfl rfl)
theorem dX6_counted_71 : decode cX6_counted 71 = .ok (.aload_n 0, 1) := dk_42 (dk_at dksX6_counted_2 23 rfl rfl)
theorem dX6_counted_72 : decode cX6_counted 72 = .ok (.getfield 268, 3) := dk_180 1 12 (dk_at dksX6_counted_3 0 rfl rfl)
theorem dX6_counted_75 : decode cX6_counted 75 = .ok (.imul, 1) := dk_104 (dk_at dksX6_counted_3 3 rfl rfl)
theorem dX6_counted_76 : decode cX6_counted 76 = .ok (.iconst 1, 1) := dk_4 (dk_at dksX6_counted_3 4 rfl rfl)
theorem dX6_counted_77 : decode cX6_counted 77 = .ok (.iadd, 1) := dk_96 (dk_at dksX6_counted_3 5 rfl rfl)
theorem dX6_counted_78 : decode cX6_counted 78 = .ok (.iload_n 2, 1) := dk_28 (dk_at dksX6_counted_3 6 rfl rfl)
theorem dX6_counted_79 : decode cX6_counted 79 = .ok (.iastore, 1) := dk_79 (dk_at dksX6_counted_3 7 rfl rfl)
theorem dX6_counted_80 : decode cX6_counted 80 = .ok (.aload_n 0, 1) := dk_42 (dk_at dksX6_counted_3 8 rfl rfl)
theorem dX6_counted_81 : decode cX6_counted 81 = .ok (.getfield 47, 3) := dk_180 0 47 (dk_at dksX6_counted_3 9 rfl rfl)
theorem dX6_counted_84 : decode cX6_counted 84 = .ok (.iconst 3, 1) := dk_6 (dk_at dksX6_counted_3 12 rfl rfl)
theorem dX6_counted_85 : decode cX6_counted 85 = .ok (.aload_n 0, 1) := dk_42 (dk_at dksX6_counted_3 13 rfl rfl)
theorem dX6_counted_86 : decode cX6_counted 86 = .ok (.getfield 268, 3) := dk_180 1 12 (dk_at dksX6_counted_3 14 rfl rfl)
theorem dX6_counted_89 : decode cX6_counted 89 = .ok (.imul, 1) := dk_104 (dk_at dksX6_counted_3 17 rfl rfl)
theorem dX6_counted_90 : decode cX6_counted 90 = .ok (.iconst 2, 1) := dk_5 (dk_at dksX6_counted_3 18 rfl rfl)
theorem dX6_counted_91 : decode cX6_counted 91 = .ok (.iadd, 1) := dk_96 (dk_at dksX6_counted_3 19 rfl rfl)
theorem dX6_counted_92 : decode cX6_counted 92 = .ok (.iload_n 3, 1) := dk_29 (dk_at dksX6_counted_3 20 rfl rfl)
theorem dX6_counted_93 : decode cX6_counted 93 = .ok (.iastore, 1) := dk_79 (dk_at dksX6_counted_3 21 rfl rfl)
theorem dX6_counted_94 : decode cX6_counted 94 = .ok (.aload_n 0, 1) := dk_42 (dk_at dksX6_counted_3 22 rfl rfl)
theorem dX6_counted_95 : decode cX6_counted 95 = .ok (.dup, 1) := dk_89 (dk_at dksX6_counted_3 23 rfl rfl)
theorem dX6_counted_96 : decode cX6_counted 96 = .ok (.getfield 268, 3) := dk_180 1 12 (dk_at dksX6_counted_4 0 rfl rfl)
theorem dX6_counted_99 : decode cX6_counted 99 = .ok (.iconst 1, 1) := dk_4 (dk_at dksX6_counted_4 3 rfl rfl)
theorem dX6_counted_100 : decode cX6_counted 100 = .ok (.iadd, 1) := dk_96 (dk_at dksX6_counted_4 4 rfl rfl)
theorem dX6_counted_101 : decode cX6_counted 101 = .ok (.putfield 268, 3) := dk_181 1 12 (dk_at dksX6_counted_4 5 rfl rfl)
theorem dX6_counted_104 : decode cX6_counted 104 = .ok (.aload_n 0, 1) := dk_42 (dk_at dksX6_counted_4 8 rfl rfl)
theorem dX6_counted_105 : decode cX6_counted 105 = .ok (.getfield 268, 3) := dk_180 1 12 (dk_at dksX6_counted_4 9 rfl rfl)
theorem dX6_counted_108 : decode cX6_counted 108 = .ok (.ireturn, 1) := dk_172 (dk_at dksX6_counted_4 12 rfl rfl)
abbrev cX6_learnt : ByteArray := prog_12_method_58_code
def yX6_learnt : MethodName := ⟨RX6, "learnt", "(I)I"⟩
def dkwX6_learnt_4 : List UInt8 := [167, 0, 22, 27, 4, 160, 0, 10, 29, 16, 11, 108, 167, 0, 10, 29, 16, 11, 112, 16, 10, 104, 172]
abbrev dktX6_learnt_4 : List UInt8 := dkwX6_learnt_4 ++ []
def dkwX6_learnt_3 : List UInt8 := [62, 132, 2, 1, 132, 4, 1, 167, 255, 203, 27, 154, 0, 7, 28, 167, 0, 31, 29, 2, 160, 0, 7, 2]
abbrev dktX6_learnt_3 : List UInt8 := dkwX6_learnt_3 ++ dktX6_learnt_4
def dkwX6_learnt_2 : List UInt8 := [112, 16, 10, 104, 181, 0, 195, 42, 182, 1, 15, 153, 0, 17, 28, 154, 0, 8, 21, 4, 167, 0, 4, 29]
abbrev dktX6_learnt_2 : List UInt8 := dkwX6_learnt_2 ++ dktX6_learnt_3
def dkwX6_learnt_1 : List UInt8 := [54, 4, 21, 4, 17, 4, 76, 162, 0, 51, 42, 21, 4, 16, 11, 108, 181, 0, 59, 42, 21, 4, 16, 11]
abbrev dktX6_learnt_1 : List UInt8 := dkwX6_learnt_1 ++ dktX6_learnt_2
def dkwX6_learnt_0 : List UInt8 := [27, 133, 9, 20, 0, 232, 184, 0, 92, 154, 0, 6, 16, 253, 172, 42, 182, 0, 217, 3, 61, 2, 62, 3]
abbrev dktX6_learnt_0 : List UInt8 := dkwX6_learnt_0 ++ dktX6_learnt_1
theorem dksX6_learnt_0 : cX6_learnt.data.toList.drop 0 = dktX6_learnt_0 := by decide +kernel
theorem dksX6_learnt_1 : cX6_learnt.data.toList.drop 24 = dktX6_learnt_1 := dk_seg dksX6_learnt_0 24 rfl rfl
theorem dksX6_learnt_2 : cX6_learnt.data.toList.drop 48 = dktX6_learnt_2 := dk_seg dksX6_learnt_1 24 rfl rfl
theorem dksX6_learnt_3 : cX6_learnt.data.toList.drop 72 = dktX6_learnt_3 := dk_seg dksX6_learnt_2 24 rfl rfl
theorem dksX6_learnt_4 : cX6_learnt.data.toList.drop 96 = dktX6_learnt_4 := dk_seg dksX6_learnt_3 24 rfl rfl
theorem dX6_learnt_0 : decode cX6_learnt 0 = .ok (.iload_n 1, 1) := dk_27 (dk_at dksX6_learnt_0 0 rfl rfl)
theorem dX6_learnt_1 : decode cX6_learnt 1 = .ok (.i2l, 1) := dk_133 (dk_at dksX6_learnt_0 1 rfl rfl)
theorem dX6_learnt_2 : decode cX6_learnt 2 = .ok (.lconst 0, 1) := dk_9 (dk_at dksX6_learnt_0 2 rfl rfl)
theorem dX6_learnt_3 : decode cX6_learnt 3 = .ok (.ldc2_w 232, 3) := dk_20 0 232 (dk_at dksX6_learnt_0 3 rfl rfl)
theorem dX6_learnt_6 : decode cX6_learnt 6 = .ok (.invokestatic 92, 3) := dk_184 0 92 (dk_at dksX6_learnt_0 6 rfl rfl)
theorem dX6_learnt_9 : decode cX6_learnt 9 = .ok (.ifCond .ne 6, 3) := dk_154 0 6 (dk_at dksX6_learnt_0 9 rfl rfl)
theorem dX6_learnt_12 : decode cX6_learnt 12 = .ok (.bipush (-3), 2) := dk_16 253 (dk_at dksX6_learnt_0 12 rfl rfl)
theorem dX6_learnt_14 : decode cX6_learnt 14 = .ok (.ireturn, 1) := dk_172 (dk_at dksX6_learnt_0 14 rfl rfl)
theorem dX6_learnt_15 : decode cX6_learnt 15 = .ok (.aload_n 0, 1) := dk_42 (dk_at dksX6_learnt_0 15 rfl rfl)
theorem dX6_learnt_16 : decode cX6_learnt 16 = .ok (.invokevirtual 217, 3) := dk_182 0 217 (dk_at dksX6_learnt_0 16 rfl rfl)
theorem dX6_learnt_19 : decode cX6_learnt 19 = .ok (.iconst 0, 1) := dk_3 (dk_at dksX6_learnt_0 19 rfl rfl)
theorem dX6_learnt_20 : decode cX6_learnt 20 = .ok (.istore_n 2, 1) := dk_61 (dk_at dksX6_learnt_0 20 rfl rfl)
theorem dX6_learnt_21 : decode cX6_learnt 21 = .ok (.iconst (-1), 1) := dk_2 (dk_at dksX6_learnt_0 21 rfl rfl)
theorem dX6_learnt_22 : decode cX6_learnt 22 = .ok (.istore_n 3, 1) := dk_62 (dk_at dksX6_learnt_0 22 rfl rfl)
theorem dX6_learnt_23 : decode cX6_learnt 23 = .ok (.iconst 0, 1) := dk_3 (dk_at dksX6_learnt_0 23 rfl rfl)
theorem dX6_learnt_24 : decode cX6_learnt 24 = .ok (.istore 4, 2) := dk_54 4 (dk_at dksX6_learnt_1 0 rfl rfl)
theorem dX6_learnt_26 : decode cX6_learnt 26 = .ok (.iload 4, 2) := dk_21 4 (dk_at dksX6_learnt_1 2 rfl rfl)
theorem dX6_learnt_28 : decode cX6_learnt 28 = .ok (.sipush 1100, 3) := dk_17 4 76 (dk_at dksX6_learnt_1 4 rfl rfl)
theorem dX6_learnt_31 : decode cX6_learnt 31 = .ok (.if_icmp .ge 51, 3) := dk_162 0 51 (dk_at dksX6_learnt_1 7 rfl rfl)
theorem dX6_learnt_34 : decode cX6_learnt 34 = .ok (.aload_n 0, 1) := dk_42 (dk_at dksX6_learnt_1 10 rfl rfl)
theorem dX6_learnt_35 : decode cX6_learnt 35 = .ok (.iload 4, 2) := dk_21 4 (dk_at dksX6_learnt_1 11 rfl rfl)
theorem dX6_learnt_37 : decode cX6_learnt 37 = .ok (.bipush 11, 2) := dk_16 11 (dk_at dksX6_learnt_1 13 rfl rfl)
theorem dX6_learnt_39 : decode cX6_learnt 39 = .ok (.idiv, 1) := dk_108 (dk_at dksX6_learnt_1 15 rfl rfl)
theorem dX6_learnt_40 : decode cX6_learnt 40 = .ok (.putfield 59, 3) := dk_181 0 59 (dk_at dksX6_learnt_1 16 rfl rfl)
theorem dX6_learnt_43 : decode cX6_learnt 43 = .ok (.aload_n 0, 1) := dk_42 (dk_at dksX6_learnt_1 19 rfl rfl)
theorem dX6_learnt_44 : decode cX6_learnt 44 = .ok (.iload 4, 2) := dk_21 4 (dk_at dksX6_learnt_1 20 rfl rfl)
theorem dX6_learnt_46 : decode cX6_learnt 46 = .ok (.bipush 11, 2) := dk_16 11 (dk_at dksX6_learnt_1 22 rfl rfl)
theorem dX6_learnt_48 : decode cX6_learnt 48 = .ok (.irem, 1) := dk_112 (dk_at dksX6_learnt_2 0 rfl rfl)
theorem dX6_learnt_49 : decode cX6_learnt 49 = .ok (.bipush 10, 2) := dk_16 10 (dk_at dksX6_learnt_2 1 rfl rfl)
theorem dX6_learnt_51 : decode cX6_learnt 51 = .ok (.imul, 1) := dk_104 (dk_at dksX6_learnt_2 3 rfl rfl)
theorem dX6_learnt_52 : decode cX6_learnt 52 = .ok (.putfield 195, 3) := dk_181 0 195 (dk_at dksX6_learnt_2 4 rfl rfl)
theorem dX6_learnt_55 : decode cX6_learnt 55 = .ok (.aload_n 0, 1) := dk_42 (dk_at dksX6_learnt_2 7 rfl rfl)
theorem dX6_learnt_56 : decode cX6_learnt 56 = .ok (.invokevirtual 271, 3) := dk_182 1 15 (dk_at dksX6_learnt_2 8 rfl rfl)
theorem dX6_learnt_59 : decode cX6_learnt 59 = .ok (.ifCond .eq 17, 3) := dk_153 0 17 (dk_at dksX6_learnt_2 11 rfl rfl)
theorem dX6_learnt_62 : decode cX6_learnt 62 = .ok (.iload_n 2, 1) := dk_28 (dk_at dksX6_learnt_2 14 rfl rfl)
theorem dX6_learnt_63 : decode cX6_learnt 63 = .ok (.ifCond .ne 8, 3) := dk_154 0 8 (dk_at dksX6_learnt_2 15 rfl rfl)
theorem dX6_learnt_66 : decode cX6_learnt 66 = .ok (.iload 4, 2) := dk_21 4 (dk_at dksX6_learnt_2 18 rfl rfl)
theorem dX6_learnt_68 : decode cX6_learnt 68 = .ok (.goto 4, 3) := dk_167 0 4 (dk_at dksX6_learnt_2 20 rfl rfl)
theorem dX6_learnt_71 : decode cX6_learnt 71 = .ok (.iload_n 3, 1) := dk_29 (dk_at dksX6_learnt_2 23 rfl rfl)
theorem dX6_learnt_72 : decode cX6_learnt 72 = .ok (.istore_n 3, 1) := dk_62 (dk_at dksX6_learnt_3 0 rfl rfl)
theorem dX6_learnt_73 : decode cX6_learnt 73 = .ok (.iinc 2 1, 3) := dk_132 2 1 (dk_at dksX6_learnt_3 1 rfl rfl)
theorem dX6_learnt_76 : decode cX6_learnt 76 = .ok (.iinc 4 1, 3) := dk_132 4 1 (dk_at dksX6_learnt_3 4 rfl rfl)
theorem dX6_learnt_79 : decode cX6_learnt 79 = .ok (.goto (-53), 3) := dk_167 255 203 (dk_at dksX6_learnt_3 7 rfl rfl)
theorem dX6_learnt_82 : decode cX6_learnt 82 = .ok (.iload_n 1, 1) := dk_27 (dk_at dksX6_learnt_3 10 rfl rfl)
theorem dX6_learnt_83 : decode cX6_learnt 83 = .ok (.ifCond .ne 7, 3) := dk_154 0 7 (dk_at dksX6_learnt_3 11 rfl rfl)
theorem dX6_learnt_86 : decode cX6_learnt 86 = .ok (.iload_n 2, 1) := dk_28 (dk_at dksX6_learnt_3 14 rfl rfl)
theorem dX6_learnt_87 : decode cX6_learnt 87 = .ok (.goto 31, 3) := dk_167 0 31 (dk_at dksX6_learnt_3 15 rfl rfl)
theorem dX6_learnt_90 : decode cX6_learnt 90 = .ok (.iload_n 3, 1) := dk_29 (dk_at dksX6_learnt_3 18 rfl rfl)
theorem dX6_learnt_91 : decode cX6_learnt 91 = .ok (.iconst (-1), 1) := dk_2 (dk_at dksX6_learnt_3 19 rfl rfl)
theorem dX6_learnt_92 : decode cX6_learnt 92 = .ok (.if_icmp .ne 7, 3) := dk_160 0 7 (dk_at dksX6_learnt_3 20 rfl rfl)
theorem dX6_learnt_95 : decode cX6_learnt 95 = .ok (.iconst (-1), 1) := dk_2 (dk_at dksX6_learnt_3 23 rfl rfl)
theorem dX6_learnt_96 : decode cX6_learnt 96 = .ok (.goto 22, 3) := dk_167 0 22 (dk_at dksX6_learnt_4 0 rfl rfl)
theorem dX6_learnt_99 : decode cX6_learnt 99 = .ok (.iload_n 1, 1) := dk_27 (dk_at dksX6_learnt_4 3 rfl rfl)
theorem dX6_learnt_100 : decode cX6_learnt 100 = .ok (.iconst 1, 1) := dk_4 (dk_at dksX6_learnt_4 4 rfl rfl)
theorem dX6_learnt_101 : decode cX6_learnt 101 = .ok (.if_icmp .ne 10, 3) := dk_160 0 10 (dk_at dksX6_learnt_4 5 rfl rfl)
theorem dX6_learnt_104 : decode cX6_learnt 104 = .ok (.iload_n 3, 1) := dk_29 (dk_at dksX6_learnt_4 8 rfl rfl)
theorem dX6_learnt_105 : decode cX6_learnt 105 = .ok (.bipush 11, 2) := dk_16 11 (dk_at dksX6_learnt_4 9 rfl rfl)
theorem dX6_learnt_107 : decode cX6_learnt 107 = .ok (.idiv, 1) := dk_108 (dk_at dksX6_learnt_4 11 rfl rfl)
theorem dX6_learnt_108 : decode cX6_learnt 108 = .ok (.goto 10, 3) := dk_167 0 10 (dk_at dksX6_learnt_4 12 rfl rfl)
theorem dX6_learnt_111 : decode cX6_learnt 111 = .ok (.iload_n 3, 1) := dk_29 (dk_at dksX6_learnt_4 15 rfl rfl)
theorem dX6_learnt_112 : decode cX6_learnt 112 = .ok (.bipush 11, 2) := dk_16 11 (dk_at dksX6_learnt_4 16 rfl rfl)
theorem dX6_learnt_114 : decode cX6_learnt 114 = .ok (.irem, 1) := dk_112 (dk_at dksX6_learnt_4 18 rfl rfl)
theorem dX6_learnt_115 : decode cX6_learnt 115 = .ok (.bipush 10, 2) := dk_16 10 (dk_at dksX6_learnt_4 19 rfl rfl)
theorem dX6_learnt_117 : decode cX6_learnt 117 = .ok (.imul, 1) := dk_104 (dk_at dksX6_learnt_4 21 rfl rfl)
theorem dX6_learnt_118 : decode cX6_learnt 118 = .ok (.ireturn, 1) := dk_172 (dk_at dksX6_learnt_4 22 rfl rfl)
abbrev cX6_holds : ByteArray := prog_12_method_57_code
def yX6_holds : MethodName := ⟨RX6, "holds", "()Z"⟩
def dkwX6_holds_5 : List UInt8 := [132, 2, 3, 167, 255, 190, 132, 1, 1, 167, 255, 135, 4, 172]
abbrev dktX6_holds_5 : List UInt8 := dkwX6_holds_5 ++ []
def dkwX6_holds_4 : List UInt8 := [29, 184, 0, 169, 153, 0, 12, 42, 180, 0, 78, 29, 46, 167, 0, 4, 3, 159, 0, 5, 3, 172]
abbrev dktX6_holds_4 : List UInt8 := dkwX6_holds_4 ++ dktX6_holds_5
def dkwX6_holds_3 : List UInt8 := [46, 62, 42, 180, 0, 47, 28, 46, 27, 160, 0, 37, 42, 180, 0, 47, 28, 5, 96, 46, 42, 180, 0, 144]
abbrev dktX6_holds_3 : List UInt8 := dkwX6_holds_3 ++ dktX6_holds_4
def dkwX6_holds_2 : List UInt8 := [42, 27, 182, 0, 211, 3, 61, 28, 6, 42, 180, 1, 12, 104, 162, 0, 62, 42, 180, 0, 47, 28, 4, 96]
abbrev dktX6_holds_2 : List UInt8 := dkwX6_holds_2 ++ dktX6_holds_3
def dkwX6_holds_1 : List UInt8 := [161, 0, 16, 42, 180, 0, 78, 28, 3, 79, 132, 2, 1, 167, 255, 233, 27, 42, 180, 0, 38, 162, 0, 8]
abbrev dktX6_holds_1 : List UInt8 := dkwX6_holds_1 ++ dktX6_holds_2
def dkwX6_holds_0 : List UInt8 := [42, 182, 0, 208, 3, 60, 27, 16, 21, 162, 0, 121, 3, 61, 28, 7, 162, 0, 24, 27, 42, 180, 0, 38]
abbrev dktX6_holds_0 : List UInt8 := dkwX6_holds_0 ++ dktX6_holds_1
theorem dksX6_holds_0 : cX6_holds.data.toList.drop 0 = dktX6_holds_0 := by decide +kernel
theorem dksX6_holds_1 : cX6_holds.data.toList.drop 24 = dktX6_holds_1 := dk_seg dksX6_holds_0 24 rfl rfl
theorem dksX6_holds_2 : cX6_holds.data.toList.drop 48 = dktX6_holds_2 := dk_seg dksX6_holds_1 24 rfl rfl
theorem dksX6_holds_3 : cX6_holds.data.toList.drop 72 = dktX6_holds_3 := dk_seg dksX6_holds_2 24 rfl rfl
theorem dksX6_holds_4 : cX6_holds.data.toList.drop 96 = dktX6_holds_4 := dk_seg dksX6_holds_3 24 rfl rfl
theorem dksX6_holds_5 : cX6_holds.data.toList.drop 118 = dktX6_holds_5 := dk_seg dksX6_holds_4 22 rfl rfl
theorem dX6_holds_0 : decode cX6_holds 0 = .ok (.aload_n 0, 1) := dk_42 (dk_at dksX6_holds_0 0 rfl rfl)
theorem dX6_holds_1 : decode cX6_holds 1 = .ok (.invokevirtual 208, 3) := dk_182 0 208 (dk_at dksX6_holds_0 1 rfl rfl)
theorem dX6_holds_4 : decode cX6_holds 4 = .ok (.iconst 0, 1) := dk_3 (dk_at dksX6_holds_0 4 rfl rfl)
theorem dX6_holds_5 : decode cX6_holds 5 = .ok (.istore_n 1, 1) := dk_60 (dk_at dksX6_holds_0 5 rfl rfl)
theorem dX6_holds_6 : decode cX6_holds 6 = .ok (.iload_n 1, 1) := dk_27 (dk_at dksX6_holds_0 6 rfl rfl)
theorem dX6_holds_7 : decode cX6_holds 7 = .ok (.bipush 21, 2) := dk_16 21 (dk_at dksX6_holds_0 7 rfl rfl)
theorem dX6_holds_9 : decode cX6_holds 9 = .ok (.if_icmp .ge 121, 3) := dk_162 0 121 (dk_at dksX6_holds_0 9 rfl rfl)
theorem dX6_holds_12 : decode cX6_holds 12 = .ok (.iconst 0, 1) := dk_3 (dk_at dksX6_holds_0 12 rfl rfl)
theorem dX6_holds_13 : decode cX6_holds 13 = .ok (.istore_n 2, 1) := dk_61 (dk_at dksX6_holds_0 13 rfl rfl)
theorem dX6_holds_14 : decode cX6_holds 14 = .ok (.iload_n 2, 1) := dk_28 (dk_at dksX6_holds_0 14 rfl rfl)
theorem dX6_holds_15 : decode cX6_holds 15 = .ok (.iconst 4, 1) := dk_7 (dk_at dksX6_holds_0 15 rfl rfl)
theorem dX6_holds_16 : decode cX6_holds 16 = .ok (.if_icmp .ge 24, 3) := dk_162 0 24 (dk_at dksX6_holds_0 16 rfl rfl)
theorem dX6_holds_19 : decode cX6_holds 19 = .ok (.iload_n 1, 1) := dk_27 (dk_at dksX6_holds_0 19 rfl rfl)
theorem dX6_holds_20 : decode cX6_holds 20 = .ok (.aload_n 0, 1) := dk_42 (dk_at dksX6_holds_0 20 rfl rfl)
theorem dX6_holds_21 : decode cX6_holds 21 = .ok (.getfield 38, 3) := dk_180 0 38 (dk_at dksX6_holds_0 21 rfl rfl)
theorem dX6_holds_24 : decode cX6_holds 24 = .ok (.if_icmp .lt 16, 3) := dk_161 0 16 (dk_at dksX6_holds_1 0 rfl rfl)
theorem dX6_holds_27 : decode cX6_holds 27 = .ok (.aload_n 0, 1) := dk_42 (dk_at dksX6_holds_1 3 rfl rfl)
theorem dX6_holds_28 : decode cX6_holds 28 = .ok (.getfield 78, 3) := dk_180 0 78 (dk_at dksX6_holds_1 4 rfl rfl)
theorem dX6_holds_31 : decode cX6_holds 31 = .ok (.iload_n 2, 1) := dk_28 (dk_at dksX6_holds_1 7 rfl rfl)
theorem dX6_holds_32 : decode cX6_holds 32 = .ok (.iconst 0, 1) := dk_3 (dk_at dksX6_holds_1 8 rfl rfl)
theorem dX6_holds_33 : decode cX6_holds 33 = .ok (.iastore, 1) := dk_79 (dk_at dksX6_holds_1 9 rfl rfl)
theorem dX6_holds_34 : decode cX6_holds 34 = .ok (.iinc 2 1, 3) := dk_132 2 1 (dk_at dksX6_holds_1 10 rfl rfl)
theorem dX6_holds_37 : decode cX6_holds 37 = .ok (.goto (-23), 3) := dk_167 255 233 (dk_at dksX6_holds_1 13 rfl rfl)
theorem dX6_holds_40 : decode cX6_holds 40 = .ok (.iload_n 1, 1) := dk_27 (dk_at dksX6_holds_1 16 rfl rfl)
theorem dX6_holds_41 : decode cX6_holds 41 = .ok (.aload_n 0, 1) := dk_42 (dk_at dksX6_holds_1 17 rfl rfl)
theorem dX6_holds_42 : decode cX6_holds 42 = .ok (.getfield 38, 3) := dk_180 0 38 (dk_at dksX6_holds_1 18 rfl rfl)
theorem dX6_holds_45 : decode cX6_holds 45 = .ok (.if_icmp .ge 8, 3) := dk_162 0 8 (dk_at dksX6_holds_1 21 rfl rfl)
theorem dX6_holds_48 : decode cX6_holds 48 = .ok (.aload_n 0, 1) := dk_42 (dk_at dksX6_holds_2 0 rfl rfl)
theorem dX6_holds_49 : decode cX6_holds 49 = .ok (.iload_n 1, 1) := dk_27 (dk_at dksX6_holds_2 1 rfl rfl)
theorem dX6_holds_50 : decode cX6_holds 50 = .ok (.invokevirtual 211, 3) := dk_182 0 211 (dk_at dksX6_holds_2 2 rfl rfl)
theorem dX6_holds_53 : decode cX6_holds 53 = .ok (.iconst 0, 1) := dk_3 (dk_at dksX6_holds_2 5 rfl rfl)
theorem dX6_holds_54 : decode cX6_holds 54 = .ok (.istore_n 2, 1) := dk_61 (dk_at dksX6_holds_2 6 rfl rfl)
theorem dX6_holds_55 : decode cX6_holds 55 = .ok (.iload_n 2, 1) := dk_28 (dk_at dksX6_holds_2 7 rfl rfl)
theorem dX6_holds_56 : decode cX6_holds 56 = .ok (.iconst 3, 1) := dk_6 (dk_at dksX6_holds_2 8 rfl rfl)
theorem dX6_holds_57 : decode cX6_holds 57 = .ok (.aload_n 0, 1) := dk_42 (dk_at dksX6_holds_2 9 rfl rfl)
theorem dX6_holds_58 : decode cX6_holds 58 = .ok (.getfield 268, 3) := dk_180 1 12 (dk_at dksX6_holds_2 10 rfl rfl)
theorem dX6_holds_61 : decode cX6_holds 61 = .ok (.imul, 1) := dk_104 (dk_at dksX6_holds_2 13 rfl rfl)
theorem dX6_holds_62 : decode cX6_holds 62 = .ok (.if_icmp .ge 62, 3) := dk_162 0 62 (dk_at dksX6_holds_2 14 rfl rfl)
theorem dX6_holds_65 : decode cX6_holds 65 = .ok (.aload_n 0, 1) := dk_42 (dk_at dksX6_holds_2 17 rfl rfl)
theorem dX6_holds_66 : decode cX6_holds 66 = .ok (.getfield 47, 3) := dk_180 0 47 (dk_at dksX6_holds_2 18 rfl rfl)
theorem dX6_holds_69 : decode cX6_holds 69 = .ok (.iload_n 2, 1) := dk_28 (dk_at dksX6_holds_2 21 rfl rfl)
theorem dX6_holds_70 : decode cX6_holds 70 = .ok (.iconst 1, 1) := dk_4 (dk_at dksX6_holds_2 22 rfl rfl)
theorem dX6_holds_71 : decode cX6_holds 71 = .ok (.iadd, 1) := dk_96 (dk_at dksX6_holds_2 23 rfl rfl)
theorem dX6_holds_72 : decode cX6_holds 72 = .ok (.iaload, 1) := dk_46 (dk_at dksX6_holds_3 0 rfl rfl)
theorem dX6_holds_73 : decode cX6_holds 73 = .ok (.istore_n 3, 1) := dk_62 (dk_at dksX6_holds_3 1 rfl rfl)
theorem dX6_holds_74 : decode cX6_holds 74 = .ok (.aload_n 0, 1) := dk_42 (dk_at dksX6_holds_3 2 rfl rfl)
theorem dX6_holds_75 : decode cX6_holds 75 = .ok (.getfield 47, 3) := dk_180 0 47 (dk_at dksX6_holds_3 3 rfl rfl)
theorem dX6_holds_78 : decode cX6_holds 78 = .ok (.iload_n 2, 1) := dk_28 (dk_at dksX6_holds_3 6 rfl rfl)
theorem dX6_holds_79 : decode cX6_holds 79 = .ok (.iaload, 1) := dk_46 (dk_at dksX6_holds_3 7 rfl rfl)
theorem dX6_holds_80 : decode cX6_holds 80 = .ok (.iload_n 1, 1) := dk_27 (dk_at dksX6_holds_3 8 rfl rfl)
theorem dX6_holds_81 : decode cX6_holds 81 = .ok (.if_icmp .ne 37, 3) := dk_160 0 37 (dk_at dksX6_holds_3 9 rfl rfl)
theorem dX6_holds_84 : decode cX6_holds 84 = .ok (.aload_n 0, 1) := dk_42 (dk_at dksX6_holds_3 12 rfl rfl)
theorem dX6_holds_85 : decode cX6_holds 85 = .ok (.getfield 47, 3) := dk_180 0 47 (dk_at dksX6_holds_3 13 rfl rfl)
theorem dX6_holds_88 : decode cX6_holds 88 = .ok (.iload_n 2, 1) := dk_28 (dk_at dksX6_holds_3 16 rfl rfl)
theorem dX6_holds_89 : decode cX6_holds 89 = .ok (.iconst 2, 1) := dk_5 (dk_at dksX6_holds_3 17 rfl rfl)
theorem dX6_holds_90 : decode cX6_holds 90 = .ok (.iadd, 1) := dk_96 (dk_at dksX6_holds_3 18 rfl rfl)
theorem dX6_holds_91 : decode cX6_holds 91 = .ok (.iaload, 1) := dk_46 (dk_at dksX6_holds_3 19 rfl rfl)
theorem dX6_holds_92 : decode cX6_holds 92 = .ok (.aload_n 0, 1) := dk_42 (dk_at dksX6_holds_3 20 rfl rfl)
theorem dX6_holds_93 : decode cX6_holds 93 = .ok (.getfield 144, 3) := dk_180 0 144 (dk_at dksX6_holds_3 21 rfl rfl)
theorem dX6_holds_96 : decode cX6_holds 96 = .ok (.iload_n 3, 1) := dk_29 (dk_at dksX6_holds_4 0 rfl rfl)
theorem dX6_holds_97 : decode cX6_holds 97 = .ok (.invokestatic 169, 3) := dk_184 0 169 (dk_at dksX6_holds_4 1 rfl rfl)
theorem dX6_holds_100 : decode cX6_holds 100 = .ok (.ifCond .eq 12, 3) := dk_153 0 12 (dk_at dksX6_holds_4 4 rfl rfl)
theorem dX6_holds_103 : decode cX6_holds 103 = .ok (.aload_n 0, 1) := dk_42 (dk_at dksX6_holds_4 7 rfl rfl)
theorem dX6_holds_104 : decode cX6_holds 104 = .ok (.getfield 78, 3) := dk_180 0 78 (dk_at dksX6_holds_4 8 rfl rfl)
theorem dX6_holds_107 : decode cX6_holds 107 = .ok (.iload_n 3, 1) := dk_29 (dk_at dksX6_holds_4 11 rfl rfl)
theorem dX6_holds_108 : decode cX6_holds 108 = .ok (.iaload, 1) := dk_46 (dk_at dksX6_holds_4 12 rfl rfl)
theorem dX6_holds_109 : decode cX6_holds 109 = .ok (.goto 4, 3) := dk_167 0 4 (dk_at dksX6_holds_4 13 rfl rfl)
theorem dX6_holds_112 : decode cX6_holds 112 = .ok (.iconst 0, 1) := dk_3 (dk_at dksX6_holds_4 16 rfl rfl)
theorem dX6_holds_113 : decode cX6_holds 113 = .ok (.if_icmp .eq 5, 3) := dk_159 0 5 (dk_at dksX6_holds_4 17 rfl rfl)
theorem dX6_holds_116 : decode cX6_holds 116 = .ok (.iconst 0, 1) := dk_3 (dk_at dksX6_holds_4 20 rfl rfl)
theorem dX6_holds_117 : decode cX6_holds 117 = .ok (.ireturn, 1) := dk_172 (dk_at dksX6_holds_4 21 rfl rfl)
theorem dX6_holds_118 : decode cX6_holds 118 = .ok (.iinc 2 3, 3) := dk_132 2 3 (dk_at dksX6_holds_5 0 rfl rfl)
theorem dX6_holds_121 : decode cX6_holds 121 = .ok (.goto (-66), 3) := dk_167 255 190 (dk_at dksX6_holds_5 3 rfl rfl)
theorem dX6_holds_124 : decode cX6_holds 124 = .ok (.iinc 1 1, 3) := dk_132 1 1 (dk_at dksX6_holds_5 6 rfl rfl)
theorem dX6_holds_127 : decode cX6_holds 127 = .ok (.goto (-121), 3) := dk_167 255 135 (dk_at dksX6_holds_5 9 rfl rfl)
theorem dX6_holds_130 : decode cX6_holds 130 = .ok (.iconst 1, 1) := dk_4 (dk_at dksX6_holds_5 12 rfl rfl)
theorem dX6_holds_131 : decode cX6_holds 131 = .ok (.ireturn, 1) := dk_172 (dk_at dksX6_holds_5 13 rfl rfl)
abbrev cX6_count : ByteArray := prog_12_method_60_code
def yX6_count : MethodName := ⟨RX6, "count", "(I)I"⟩
def dkwX6_count_4 : List UInt8 := [172, 42, 180, 1, 12, 172, 16, 253, 172]
abbrev dktX6_count_4 : List UInt8 := dkwX6_count_4 ++ []
def dkwX6_count_3 : List UInt8 := [42, 180, 0, 96, 172, 42, 180, 0, 153, 172, 42, 180, 0, 156, 172, 42, 180, 0, 34, 172, 42, 180, 0, 38]
abbrev dktX6_count_3 : List UInt8 := dkwX6_count_3 ++ dktX6_count_4
def dkwX6_count_2 : List UInt8 := [42, 180, 0, 144, 184, 1, 18, 172, 42, 180, 0, 147, 184, 1, 18, 172, 42, 180, 0, 150, 184, 1, 18, 172]
abbrev dktX6_count_2 : List UInt8 := dkwX6_count_2 ++ dktX6_count_3
def dkwX6_count_1 : List UInt8 := [170, 0, 0, 0, 0, 0, 105, 0, 0, 0, 0, 0, 0, 0, 8, 0, 0, 0, 51, 0, 0, 0, 59, 0, 0, 0, 67, 0, 0, 0, 75, 0, 0, 0, 80, 0, 0, 0, 85, 0, 0, 0, 90, 0, 0, 0, 95, 0, 0, 0, 100]
abbrev dktX6_count_1 : List UInt8 := dkwX6_count_1 ++ dktX6_count_2
def dkwX6_count_0 : List UInt8 := [27]
abbrev dktX6_count_0 : List UInt8 := dkwX6_count_0 ++ dktX6_count_1
theorem dksX6_count_0 : cX6_count.data.toList.drop 0 = dktX6_count_0 := by decide +kernel
theorem dksX6_count_1 : cX6_count.data.toList.drop 1 = dktX6_count_1 := dk_seg dksX6_count_0 1 rfl rfl
theorem dksX6_count_2 : cX6_count.data.toList.drop 52 = dktX6_count_2 := dk_seg dksX6_count_1 51 rfl rfl
theorem dksX6_count_3 : cX6_count.data.toList.drop 76 = dktX6_count_3 := dk_seg dksX6_count_2 24 rfl rfl
theorem dksX6_count_4 : cX6_count.data.toList.drop 100 = dktX6_count_4 := dk_seg dksX6_count_3 24 rfl rfl
theorem dX6_count_0 : decode cX6_count 0 = .ok (.iload_n 1, 1) := dk_27 (dk_at dksX6_count_0 0 rfl rfl)
theorem dX6_count_1 : decode cX6_count 1 = .ok (.tableswitch 105 0 8 #[51, 59, 67, 75, 80, 85, 90, 95, 100], 51) := by decide +kernel
theorem dX6_count_52 : decode cX6_count 52 = .ok (.aload_n 0, 1) := dk_42 (dk_at dksX6_count_2 0 rfl rfl)
theorem dX6_count_53 : decode cX6_count 53 = .ok (.getfield 144, 3) := dk_180 0 144 (dk_at dksX6_count_2 1 rfl rfl)
theorem dX6_count_56 : decode cX6_count 56 = .ok (.invokestatic 274, 3) := dk_184 1 18 (dk_at dksX6_count_2 4 rfl rfl)
theorem dX6_count_59 : decode cX6_count 59 = .ok (.ireturn, 1) := dk_172 (dk_at dksX6_count_2 7 rfl rfl)
theorem dX6_count_60 : decode cX6_count 60 = .ok (.aload_n 0, 1) := dk_42 (dk_at dksX6_count_2 8 rfl rfl)
theorem dX6_count_61 : decode cX6_count 61 = .ok (.getfield 147, 3) := dk_180 0 147 (dk_at dksX6_count_2 9 rfl rfl)
theorem dX6_count_64 : decode cX6_count 64 = .ok (.invokestatic 274, 3) := dk_184 1 18 (dk_at dksX6_count_2 12 rfl rfl)
theorem dX6_count_67 : decode cX6_count 67 = .ok (.ireturn, 1) := dk_172 (dk_at dksX6_count_2 15 rfl rfl)
theorem dX6_count_68 : decode cX6_count 68 = .ok (.aload_n 0, 1) := dk_42 (dk_at dksX6_count_2 16 rfl rfl)
theorem dX6_count_69 : decode cX6_count 69 = .ok (.getfield 150, 3) := dk_180 0 150 (dk_at dksX6_count_2 17 rfl rfl)
theorem dX6_count_72 : decode cX6_count 72 = .ok (.invokestatic 274, 3) := dk_184 1 18 (dk_at dksX6_count_2 20 rfl rfl)
theorem dX6_count_75 : decode cX6_count 75 = .ok (.ireturn, 1) := dk_172 (dk_at dksX6_count_2 23 rfl rfl)
theorem dX6_count_76 : decode cX6_count 76 = .ok (.aload_n 0, 1) := dk_42 (dk_at dksX6_count_3 0 rfl rfl)
theorem dX6_count_77 : decode cX6_count 77 = .ok (.getfield 96, 3) := dk_180 0 96 (dk_at dksX6_count_3 1 rfl rfl)
theorem dX6_count_80 : decode cX6_count 80 = .ok (.ireturn, 1) := dk_172 (dk_at dksX6_count_3 4 rfl rfl)
theorem dX6_count_81 : decode cX6_count 81 = .ok (.aload_n 0, 1) := dk_42 (dk_at dksX6_count_3 5 rfl rfl)
theorem dX6_count_82 : decode cX6_count 82 = .ok (.getfield 153, 3) := dk_180 0 153 (dk_at dksX6_count_3 6 rfl rfl)
theorem dX6_count_85 : decode cX6_count 85 = .ok (.ireturn, 1) := dk_172 (dk_at dksX6_count_3 9 rfl rfl)
theorem dX6_count_86 : decode cX6_count 86 = .ok (.aload_n 0, 1) := dk_42 (dk_at dksX6_count_3 10 rfl rfl)
theorem dX6_count_87 : decode cX6_count 87 = .ok (.getfield 156, 3) := dk_180 0 156 (dk_at dksX6_count_3 11 rfl rfl)
theorem dX6_count_90 : decode cX6_count 90 = .ok (.ireturn, 1) := dk_172 (dk_at dksX6_count_3 14 rfl rfl)
theorem dX6_count_91 : decode cX6_count 91 = .ok (.aload_n 0, 1) := dk_42 (dk_at dksX6_count_3 15 rfl rfl)
theorem dX6_count_92 : decode cX6_count 92 = .ok (.getfield 34, 3) := dk_180 0 34 (dk_at dksX6_count_3 16 rfl rfl)
theorem dX6_count_95 : decode cX6_count 95 = .ok (.ireturn, 1) := dk_172 (dk_at dksX6_count_3 19 rfl rfl)
theorem dX6_count_96 : decode cX6_count 96 = .ok (.aload_n 0, 1) := dk_42 (dk_at dksX6_count_3 20 rfl rfl)
theorem dX6_count_97 : decode cX6_count 97 = .ok (.getfield 38, 3) := dk_180 0 38 (dk_at dksX6_count_3 21 rfl rfl)
theorem dX6_count_100 : decode cX6_count 100 = .ok (.ireturn, 1) := dk_172 (dk_at dksX6_count_4 0 rfl rfl)
theorem dX6_count_101 : decode cX6_count 101 = .ok (.aload_n 0, 1) := dk_42 (dk_at dksX6_count_4 1 rfl rfl)
theorem dX6_count_102 : decode cX6_count 102 = .ok (.getfield 268, 3) := dk_180 1 12 (dk_at dksX6_count_4 2 rfl rfl)
theorem dX6_count_105 : decode cX6_count 105 = .ok (.ireturn, 1) := dk_172 (dk_at dksX6_count_4 5 rfl rfl)
theorem dX6_count_106 : decode cX6_count 106 = .ok (.bipush (-3), 2) := dk_16 253 (dk_at dksX6_count_4 6 rfl rfl)
theorem dX6_count_108 : decode cX6_count 108 = .ok (.ireturn, 1) := dk_172 (dk_at dksX6_count_4 8 rfl rfl)
abbrev cX6_many : ByteArray := prog_12_method_59_code
def yX6_many : MethodName := ⟨RX6, "many", "(I)I"⟩
def dkwX6_many_0 : List UInt8 := [26, 4, 126, 26, 4, 122, 4, 126, 96, 26, 5, 122, 4, 126, 96, 26, 6, 122, 4, 126, 96, 172]
abbrev dktX6_many_0 : List UInt8 := dkwX6_many_0 ++ []
theorem dksX6_many_0 : cX6_many.data.toList.drop 0 = dktX6_many_0 := by decide +kernel
theorem dX6_many_0 : decode cX6_many 0 = .ok (.iload_n 0, 1) := dk_26 (dk_at dksX6_many_0 0 rfl rfl)
theorem dX6_many_1 : decode cX6_many 1 = .ok (.iconst 1, 1) := dk_4 (dk_at dksX6_many_0 1 rfl rfl)
theorem dX6_many_2 : decode cX6_many 2 = .ok (.iand, 1) := dk_126 (dk_at dksX6_many_0 2 rfl rfl)
theorem dX6_many_3 : decode cX6_many 3 = .ok (.iload_n 0, 1) := dk_26 (dk_at dksX6_many_0 3 rfl rfl)
theorem dX6_many_4 : decode cX6_many 4 = .ok (.iconst 1, 1) := dk_4 (dk_at dksX6_many_0 4 rfl rfl)
theorem dX6_many_5 : decode cX6_many 5 = .ok (.ishr, 1) := dk_122 (dk_at dksX6_many_0 5 rfl rfl)
theorem dX6_many_6 : decode cX6_many 6 = .ok (.iconst 1, 1) := dk_4 (dk_at dksX6_many_0 6 rfl rfl)
theorem dX6_many_7 : decode cX6_many 7 = .ok (.iand, 1) := dk_126 (dk_at dksX6_many_0 7 rfl rfl)
theorem dX6_many_8 : decode cX6_many 8 = .ok (.iadd, 1) := dk_96 (dk_at dksX6_many_0 8 rfl rfl)
theorem dX6_many_9 : decode cX6_many 9 = .ok (.iload_n 0, 1) := dk_26 (dk_at dksX6_many_0 9 rfl rfl)
theorem dX6_many_10 : decode cX6_many 10 = .ok (.iconst 2, 1) := dk_5 (dk_at dksX6_many_0 10 rfl rfl)
theorem dX6_many_11 : decode cX6_many 11 = .ok (.ishr, 1) := dk_122 (dk_at dksX6_many_0 11 rfl rfl)
theorem dX6_many_12 : decode cX6_many 12 = .ok (.iconst 1, 1) := dk_4 (dk_at dksX6_many_0 12 rfl rfl)
theorem dX6_many_13 : decode cX6_many 13 = .ok (.iand, 1) := dk_126 (dk_at dksX6_many_0 13 rfl rfl)
theorem dX6_many_14 : decode cX6_many 14 = .ok (.iadd, 1) := dk_96 (dk_at dksX6_many_0 14 rfl rfl)
theorem dX6_many_15 : decode cX6_many 15 = .ok (.iload_n 0, 1) := dk_26 (dk_at dksX6_many_0 15 rfl rfl)
theorem dX6_many_16 : decode cX6_many 16 = .ok (.iconst 3, 1) := dk_6 (dk_at dksX6_many_0 16 rfl rfl)
theorem dX6_many_17 : decode cX6_many 17 = .ok (.ishr, 1) := dk_122 (dk_at dksX6_many_0 17 rfl rfl)
theorem dX6_many_18 : decode cX6_many 18 = .ok (.iconst 1, 1) := dk_4 (dk_at dksX6_many_0 18 rfl rfl)
theorem dX6_many_19 : decode cX6_many 19 = .ok (.iand, 1) := dk_126 (dk_at dksX6_many_0 19 rfl rfl)
theorem dX6_many_20 : decode cX6_many 20 = .ok (.iadd, 1) := dk_96 (dk_at dksX6_many_0 20 rfl rfl)
theorem dX6_many_21 : decode cX6_many 21 = .ok (.ireturn, 1) := dk_172 (dk_at dksX6_many_0 21 rfl rfl)
theorem q62 : (Jvm.Cond.initialized "StrawMenModel") ∈ lw_all := lw_g (lw_at lw_m1 11 rfl) rfl
theorem q1006 : (Jvm.Cond.selects "StrawMenModel" ({ cls := "java/lang/Object", name := "getClass", desc := "()Ljava/lang/Class;" } : Jvm.MethodName) ({ cls := "java/lang/Object", name := "getClass", desc := "()Ljava/lang/Class;" } : Jvm.MethodName)) ∈ lw_all := lw_g (lw_at lw_m4 235 rfl) rfl
theorem q1050 : (Jvm.Cond.instantiable "StrawMenModel" (40 : Nat)) ∈ lw_all := lw_g (lw_at lw_m5 39 rfl) rfl
theorem q1052 : (Jvm.Cond.instanceMethod ({ cls := "StrawMenModel", name := "<init>", desc := "()V" } : Jvm.MethodName)) ∈ lw_all := lw_g (lw_at lw_m5 41 rfl) rfl
theorem q1053 : (Jvm.Cond.code ({ cls := "StrawMenModel", name := "<init>", desc := "()V" } : Jvm.MethodName) prog_12_method_1_code (1 : Nat) (Option.none : Option Jvm.ClassFile.FieldType)) ∈ lw_all := lw_g (lw_at lw_m5 42 rfl) rfl
theorem q1054 : (Jvm.Cond.methodLink "StrawMenModel" (1 : Nat) ({ cls := "java/lang/Object", name := "<init>", desc := "()V" } : Jvm.MethodName)) ∈ lw_all := lw_g (lw_at lw_m5 43 rfl) rfl
theorem q1055 : (Jvm.Cond.constant "StrawMenModel" (62 : Nat) (268435456 : Int32)) ∈ lw_all := lw_g (lw_at lw_m5 44 rfl) rfl
theorem q1056 : (Jvm.Cond.fieldLink "StrawMenModel" (7 : Nat) "StrawMenModel" "text" "[I") ∈ lw_all := lw_g (lw_at lw_m5 45 rfl) rfl
theorem q1057 : (Jvm.Cond.fieldLink "StrawMenModel" (96 : Nat) "StrawMenModel" "length" "I") ∈ lw_all := lw_g (lw_at lw_m5 46 rfl) rfl
theorem q1058 : (Jvm.Cond.fieldLink "StrawMenModel" (13 : Nat) "StrawMenModel" "read" "[I") ∈ lw_all := lw_g (lw_at lw_m5 47 rfl) rfl
theorem q1059 : (Jvm.Cond.fieldLink "StrawMenModel" (114 : Nat) "StrawMenModel" "readMany" "I") ∈ lw_all := lw_g (lw_at lw_m5 48 rfl) rfl
theorem q1060 : (Jvm.Cond.fieldLink "StrawMenModel" (144 : Nat) "StrawMenModel" "fields" "I") ∈ lw_all := lw_g (lw_at lw_m5 49 rfl) rfl
theorem q1061 : (Jvm.Cond.fieldLink "StrawMenModel" (16 : Nat) "StrawMenModel" "seeds" "[I") ∈ lw_all := lw_g (lw_at lw_m5 50 rfl) rfl
theorem q1062 : (Jvm.Cond.fieldLink "StrawMenModel" (19 : Nat) "StrawMenModel" "ways" "[I") ∈ lw_all := lw_g (lw_at lw_m5 51 rfl) rfl
theorem q1063 : (Jvm.Cond.fieldLink "StrawMenModel" (22 : Nat) "StrawMenModel" "owners" "[I") ∈ lw_all := lw_g (lw_at lw_m5 52 rfl) rfl
theorem q1064 : (Jvm.Cond.fieldLink "StrawMenModel" (147 : Nat) "StrawMenModel" "flocks" "I") ∈ lw_all := lw_g (lw_at lw_m5 53 rfl) rfl
theorem q1065 : (Jvm.Cond.fieldLink "StrawMenModel" (25 : Nat) "StrawMenModel" "birds" "[I") ∈ lw_all := lw_g (lw_at lw_m5 54 rfl) rfl
theorem q1066 : (Jvm.Cond.fieldLink "StrawMenModel" (150 : Nat) "StrawMenModel" "coats" "I") ∈ lw_all := lw_g (lw_at lw_m5 55 rfl) rfl
theorem q1067 : (Jvm.Cond.fieldLink "StrawMenModel" (28 : Nat) "StrawMenModel" "frights" "[I") ∈ lw_all := lw_g (lw_at lw_m5 56 rfl) rfl
theorem q1068 : (Jvm.Cond.fieldLink "StrawMenModel" (31 : Nat) "StrawMenModel" "wanes" "[I") ∈ lw_all := lw_g (lw_at lw_m5 57 rfl) rfl
theorem q1069 : (Jvm.Cond.fieldLink "StrawMenModel" (153 : Nat) "StrawMenModel" "tell" "I") ∈ lw_all := lw_g (lw_at lw_m5 58 rfl) rfl
theorem q1070 : (Jvm.Cond.fieldLink "StrawMenModel" (156 : Nat) "StrawMenModel" "wage" "I") ∈ lw_all := lw_g (lw_at lw_m5 59 rfl) rfl
theorem q1071 : (Jvm.Cond.fieldLink "StrawMenModel" (34 : Nat) "StrawMenModel" "price" "I") ∈ lw_all := lw_g (lw_at lw_m5 60 rfl) rfl
theorem q1072 : (Jvm.Cond.fieldLink "StrawMenModel" (38 : Nat) "StrawMenModel" "days" "I") ∈ lw_all := lw_g (lw_at lw_m5 61 rfl) rfl
theorem q1073 : (Jvm.Cond.fieldLink "StrawMenModel" (41 : Nat) "StrawMenModel" "plan" "[I") ∈ lw_all := lw_g (lw_at lw_m5 62 rfl) rfl
theorem q1074 : (Jvm.Cond.fieldLink "StrawMenModel" (44 : Nat) "StrawMenModel" "reals" "[I") ∈ lw_all := lw_g (lw_at lw_m5 63 rfl) rfl
theorem q1075 : (Jvm.Cond.fieldLink "StrawMenModel" (47 : Nat) "StrawMenModel" "rows" "[I") ∈ lw_all := lw_g (lw_at lw_m5 64 rfl) rfl
theorem q1076 : (Jvm.Cond.fieldLink "StrawMenModel" (268 : Nat) "StrawMenModel" "rowMany" "I") ∈ lw_all := lw_g (lw_at lw_m5 65 rfl) rfl
theorem q1077 : (Jvm.Cond.fieldLink "StrawMenModel" (101 : Nat) "StrawMenModel" "at" "I") ∈ lw_all := lw_g (lw_at lw_m5 66 rfl) rfl
theorem q1078 : (Jvm.Cond.fieldLink "StrawMenModel" (104 : Nat) "StrawMenModel" "where" "I") ∈ lw_all := lw_g (lw_at lw_m5 67 rfl) rfl
theorem q1079 : (Jvm.Cond.fieldLink "StrawMenModel" (111 : Nat) "StrawMenModel" "end" "I") ∈ lw_all := lw_g (lw_at lw_m5 68 rfl) rfl
theorem q1080 : (Jvm.Cond.fieldLink "StrawMenModel" (50 : Nat) "StrawMenModel" "havers" "I") ∈ lw_all := lw_g (lw_at lw_m5 69 rfl) rfl
theorem q1081 : (Jvm.Cond.fieldLink "StrawMenModel" (53 : Nat) "StrawMenModel" "without" "I") ∈ lw_all := lw_g (lw_at lw_m5 70 rfl) rfl
theorem q1082 : (Jvm.Cond.fieldLink "StrawMenModel" (56 : Nat) "StrawMenModel" "fixed" "I") ∈ lw_all := lw_g (lw_at lw_m5 71 rfl) rfl
theorem q1083 : (Jvm.Cond.fieldLink "StrawMenModel" (185 : Nat) "StrawMenModel" "fixedAt" "I") ∈ lw_all := lw_g (lw_at lw_m5 72 rfl) rfl
theorem q1084 : (Jvm.Cond.fieldLink "StrawMenModel" (188 : Nat) "StrawMenModel" "every" "I") ∈ lw_all := lw_g (lw_at lw_m5 73 rfl) rfl
theorem q1085 : (Jvm.Cond.fieldLink "StrawMenModel" (59 : Nat) "StrawMenModel" "lawWane" "I") ∈ lw_all := lw_g (lw_at lw_m5 74 rfl) rfl
theorem q1086 : (Jvm.Cond.fieldLink "StrawMenModel" (195 : Nat) "StrawMenModel" "lawTell" "I") ∈ lw_all := lw_g (lw_at lw_m5 75 rfl) rfl
theorem q1087 : (Jvm.Cond.fieldLink "StrawMenModel" (63 : Nat) "StrawMenModel" "triedFrom" "I") ∈ lw_all := lw_g (lw_at lw_m5 76 rfl) rfl
theorem q1088 : (Jvm.Cond.fieldLink "StrawMenModel" (66 : Nat) "StrawMenModel" "tried" "[I") ∈ lw_all := lw_g (lw_at lw_m5 77 rfl) rfl
theorem q1089 : (Jvm.Cond.fieldLink "StrawMenModel" (69 : Nat) "StrawMenModel" "left" "[I") ∈ lw_all := lw_g (lw_at lw_m5 78 rfl) rfl
theorem q1090 : (Jvm.Cond.fieldLink "StrawMenModel" (72 : Nat) "StrawMenModel" "fears" "[I") ∈ lw_all := lw_g (lw_at lw_m5 79 rfl) rfl
theorem q1091 : (Jvm.Cond.fieldLink "StrawMenModel" (75 : Nat) "StrawMenModel" "flew" "[I") ∈ lw_all := lw_g (lw_at lw_m5 80 rfl) rfl
theorem q1092 : (Jvm.Cond.fieldLink "StrawMenModel" (78 : Nat) "StrawMenModel" "eaten" "[I") ∈ lw_all := lw_g (lw_at lw_m5 81 rfl) rfl
theorem q1093 : (Jvm.Cond.fieldLink "StrawMenModel" (81 : Nat) "StrawMenModel" "keptLeft" "[I") ∈ lw_all := lw_g (lw_at lw_m5 82 rfl) rfl
theorem q1094 : (Jvm.Cond.fieldLink "StrawMenModel" (84 : Nat) "StrawMenModel" "keptFears" "[I") ∈ lw_all := lw_g (lw_at lw_m5 83 rfl) rfl
theorem q1095 : (Jvm.Cond.fieldLink "StrawMenModel" (87 : Nat) "StrawMenModel" "losses" "[I") ∈ lw_all := lw_g (lw_at lw_m5 84 rfl) rfl
theorem q1096 : (Jvm.Cond.laysFinal "StrawMenModel" "StrawMenModel" "text" "[I") ∈ lw_all := lw_g (lw_at lw_m5 85 rfl) rfl
theorem q1097 : (Jvm.Cond.soleField "StrawMenModel" "text") ∈ lw_all := lw_g (lw_at lw_m5 86 rfl) rfl
theorem q1098 : (Jvm.Cond.lays "StrawMenModel" "StrawMenModel" "length" "I") ∈ lw_all := lw_g (lw_at lw_m5 87 rfl) rfl
theorem q1099 : (Jvm.Cond.soleField "StrawMenModel" "length") ∈ lw_all := lw_g (lw_at lw_m5 88 rfl) rfl
theorem q1100 : (Jvm.Cond.laysFinal "StrawMenModel" "StrawMenModel" "read" "[I") ∈ lw_all := lw_g (lw_at lw_m5 89 rfl) rfl
theorem q1101 : (Jvm.Cond.soleField "StrawMenModel" "read") ∈ lw_all := lw_g (lw_at lw_m5 90 rfl) rfl
theorem q1102 : (Jvm.Cond.lays "StrawMenModel" "StrawMenModel" "readMany" "I") ∈ lw_all := lw_g (lw_at lw_m5 91 rfl) rfl
theorem q1103 : (Jvm.Cond.soleField "StrawMenModel" "readMany") ∈ lw_all := lw_g (lw_at lw_m5 92 rfl) rfl
theorem q1104 : (Jvm.Cond.lays "StrawMenModel" "StrawMenModel" "fields" "I") ∈ lw_all := lw_g (lw_at lw_m5 93 rfl) rfl
theorem q1105 : (Jvm.Cond.soleField "StrawMenModel" "fields") ∈ lw_all := lw_g (lw_at lw_m5 94 rfl) rfl
theorem q1106 : (Jvm.Cond.laysFinal "StrawMenModel" "StrawMenModel" "seeds" "[I") ∈ lw_all := lw_g (lw_at lw_m5 95 rfl) rfl
theorem q1107 : (Jvm.Cond.soleField "StrawMenModel" "seeds") ∈ lw_all := lw_g (lw_at lw_m5 96 rfl) rfl
theorem q1108 : (Jvm.Cond.laysFinal "StrawMenModel" "StrawMenModel" "ways" "[I") ∈ lw_all := lw_g (lw_at lw_m5 97 rfl) rfl
theorem q1109 : (Jvm.Cond.soleField "StrawMenModel" "ways") ∈ lw_all := lw_g (lw_at lw_m5 98 rfl) rfl
theorem q1110 : (Jvm.Cond.laysFinal "StrawMenModel" "StrawMenModel" "owners" "[I") ∈ lw_all := lw_g (lw_at lw_m5 99 rfl) rfl
theorem q1111 : (Jvm.Cond.soleField "StrawMenModel" "owners") ∈ lw_all := lw_g (lw_at lw_m5 100 rfl) rfl
theorem q1112 : (Jvm.Cond.lays "StrawMenModel" "StrawMenModel" "flocks" "I") ∈ lw_all := lw_g (lw_at lw_m5 101 rfl) rfl
theorem q1113 : (Jvm.Cond.soleField "StrawMenModel" "flocks") ∈ lw_all := lw_g (lw_at lw_m5 102 rfl) rfl
theorem q1114 : (Jvm.Cond.laysFinal "StrawMenModel" "StrawMenModel" "birds" "[I") ∈ lw_all := lw_g (lw_at lw_m5 103 rfl) rfl
theorem q1115 : (Jvm.Cond.soleField "StrawMenModel" "birds") ∈ lw_all := lw_g (lw_at lw_m5 104 rfl) rfl
theorem q1116 : (Jvm.Cond.lays "StrawMenModel" "StrawMenModel" "coats" "I") ∈ lw_all := lw_g (lw_at lw_m5 105 rfl) rfl
theorem q1117 : (Jvm.Cond.soleField "StrawMenModel" "coats") ∈ lw_all := lw_g (lw_at lw_m5 106 rfl) rfl
theorem q1118 : (Jvm.Cond.laysFinal "StrawMenModel" "StrawMenModel" "frights" "[I") ∈ lw_all := lw_g (lw_at lw_m5 107 rfl) rfl
theorem q1119 : (Jvm.Cond.soleField "StrawMenModel" "frights") ∈ lw_all := lw_g (lw_at lw_m5 108 rfl) rfl
theorem q1120 : (Jvm.Cond.laysFinal "StrawMenModel" "StrawMenModel" "wanes" "[I") ∈ lw_all := lw_g (lw_at lw_m5 109 rfl) rfl
theorem q1121 : (Jvm.Cond.soleField "StrawMenModel" "wanes") ∈ lw_all := lw_g (lw_at lw_m5 110 rfl) rfl
theorem q1122 : (Jvm.Cond.lays "StrawMenModel" "StrawMenModel" "tell" "I") ∈ lw_all := lw_g (lw_at lw_m5 111 rfl) rfl
theorem q1123 : (Jvm.Cond.soleField "StrawMenModel" "tell") ∈ lw_all := lw_g (lw_at lw_m5 112 rfl) rfl
theorem q1124 : (Jvm.Cond.lays "StrawMenModel" "StrawMenModel" "wage" "I") ∈ lw_all := lw_g (lw_at lw_m5 113 rfl) rfl
theorem q1125 : (Jvm.Cond.soleField "StrawMenModel" "wage") ∈ lw_all := lw_g (lw_at lw_m5 114 rfl) rfl
theorem q1126 : (Jvm.Cond.lays "StrawMenModel" "StrawMenModel" "price" "I") ∈ lw_all := lw_g (lw_at lw_m5 115 rfl) rfl
theorem q1127 : (Jvm.Cond.soleField "StrawMenModel" "price") ∈ lw_all := lw_g (lw_at lw_m5 116 rfl) rfl
theorem q1128 : (Jvm.Cond.lays "StrawMenModel" "StrawMenModel" "days" "I") ∈ lw_all := lw_g (lw_at lw_m5 117 rfl) rfl
theorem q1129 : (Jvm.Cond.soleField "StrawMenModel" "days") ∈ lw_all := lw_g (lw_at lw_m5 118 rfl) rfl
theorem q1130 : (Jvm.Cond.laysFinal "StrawMenModel" "StrawMenModel" "plan" "[I") ∈ lw_all := lw_g (lw_at lw_m5 119 rfl) rfl
theorem q1131 : (Jvm.Cond.soleField "StrawMenModel" "plan") ∈ lw_all := lw_g (lw_at lw_m5 120 rfl) rfl
theorem q1132 : (Jvm.Cond.laysFinal "StrawMenModel" "StrawMenModel" "reals" "[I") ∈ lw_all := lw_g (lw_at lw_m5 121 rfl) rfl
theorem q1133 : (Jvm.Cond.soleField "StrawMenModel" "reals") ∈ lw_all := lw_g (lw_at lw_m5 122 rfl) rfl
theorem q1134 : (Jvm.Cond.laysFinal "StrawMenModel" "StrawMenModel" "rows" "[I") ∈ lw_all := lw_g (lw_at lw_m5 123 rfl) rfl
theorem q1135 : (Jvm.Cond.soleField "StrawMenModel" "rows") ∈ lw_all := lw_g (lw_at lw_m5 124 rfl) rfl
theorem q1136 : (Jvm.Cond.lays "StrawMenModel" "StrawMenModel" "rowMany" "I") ∈ lw_all := lw_g (lw_at lw_m5 125 rfl) rfl
theorem q1137 : (Jvm.Cond.soleField "StrawMenModel" "rowMany") ∈ lw_all := lw_g (lw_at lw_m5 126 rfl) rfl
theorem q1138 : (Jvm.Cond.lays "StrawMenModel" "StrawMenModel" "at" "I") ∈ lw_all := lw_g (lw_at lw_m5 127 rfl) rfl
theorem q1139 : (Jvm.Cond.soleField "StrawMenModel" "at") ∈ lw_all := lw_g (lw_at lw_m5 128 rfl) rfl
theorem q1140 : (Jvm.Cond.lays "StrawMenModel" "StrawMenModel" "where" "I") ∈ lw_all := lw_g (lw_at lw_m5 129 rfl) rfl
theorem q1141 : (Jvm.Cond.soleField "StrawMenModel" "where") ∈ lw_all := lw_g (lw_at lw_m5 130 rfl) rfl
theorem q1142 : (Jvm.Cond.lays "StrawMenModel" "StrawMenModel" "end" "I") ∈ lw_all := lw_g (lw_at lw_m5 131 rfl) rfl
theorem q1143 : (Jvm.Cond.soleField "StrawMenModel" "end") ∈ lw_all := lw_g (lw_at lw_m5 132 rfl) rfl
theorem q1144 : (Jvm.Cond.lays "StrawMenModel" "StrawMenModel" "havers" "I") ∈ lw_all := lw_g (lw_at lw_m5 133 rfl) rfl
theorem q1145 : (Jvm.Cond.soleField "StrawMenModel" "havers") ∈ lw_all := lw_g (lw_at lw_m5 134 rfl) rfl
theorem q1146 : (Jvm.Cond.lays "StrawMenModel" "StrawMenModel" "without" "I") ∈ lw_all := lw_g (lw_at lw_m5 135 rfl) rfl
theorem q1147 : (Jvm.Cond.soleField "StrawMenModel" "without") ∈ lw_all := lw_g (lw_at lw_m5 136 rfl) rfl
theorem q1148 : (Jvm.Cond.lays "StrawMenModel" "StrawMenModel" "fixed" "I") ∈ lw_all := lw_g (lw_at lw_m5 137 rfl) rfl
theorem q1149 : (Jvm.Cond.soleField "StrawMenModel" "fixed") ∈ lw_all := lw_g (lw_at lw_m5 138 rfl) rfl
theorem q1150 : (Jvm.Cond.lays "StrawMenModel" "StrawMenModel" "fixedAt" "I") ∈ lw_all := lw_g (lw_at lw_m5 139 rfl) rfl
theorem q1151 : (Jvm.Cond.soleField "StrawMenModel" "fixedAt") ∈ lw_all := lw_g (lw_at lw_m5 140 rfl) rfl
theorem q1152 : (Jvm.Cond.lays "StrawMenModel" "StrawMenModel" "every" "I") ∈ lw_all := lw_g (lw_at lw_m5 141 rfl) rfl
theorem q1153 : (Jvm.Cond.soleField "StrawMenModel" "every") ∈ lw_all := lw_g (lw_at lw_m5 142 rfl) rfl
theorem q1154 : (Jvm.Cond.lays "StrawMenModel" "StrawMenModel" "lawWane" "I") ∈ lw_all := lw_g (lw_at lw_m5 143 rfl) rfl
theorem q1155 : (Jvm.Cond.soleField "StrawMenModel" "lawWane") ∈ lw_all := lw_g (lw_at lw_m5 144 rfl) rfl
theorem q1156 : (Jvm.Cond.lays "StrawMenModel" "StrawMenModel" "lawTell" "I") ∈ lw_all := lw_g (lw_at lw_m5 145 rfl) rfl
theorem q1157 : (Jvm.Cond.soleField "StrawMenModel" "lawTell") ∈ lw_all := lw_g (lw_at lw_m5 146 rfl) rfl
theorem q1158 : (Jvm.Cond.lays "StrawMenModel" "StrawMenModel" "triedFrom" "I") ∈ lw_all := lw_g (lw_at lw_m5 147 rfl) rfl
theorem q1159 : (Jvm.Cond.soleField "StrawMenModel" "triedFrom") ∈ lw_all := lw_g (lw_at lw_m5 148 rfl) rfl
theorem q1160 : (Jvm.Cond.laysFinal "StrawMenModel" "StrawMenModel" "tried" "[I") ∈ lw_all := lw_g (lw_at lw_m5 149 rfl) rfl
theorem q1161 : (Jvm.Cond.soleField "StrawMenModel" "tried") ∈ lw_all := lw_g (lw_at lw_m5 150 rfl) rfl
theorem q1162 : (Jvm.Cond.laysFinal "StrawMenModel" "StrawMenModel" "left" "[I") ∈ lw_all := lw_g (lw_at lw_m5 151 rfl) rfl
theorem q1163 : (Jvm.Cond.soleField "StrawMenModel" "left") ∈ lw_all := lw_g (lw_at lw_m5 152 rfl) rfl
theorem q1164 : (Jvm.Cond.laysFinal "StrawMenModel" "StrawMenModel" "fears" "[I") ∈ lw_all := lw_g (lw_at lw_m5 153 rfl) rfl
theorem q1165 : (Jvm.Cond.soleField "StrawMenModel" "fears") ∈ lw_all := lw_g (lw_at lw_m5 154 rfl) rfl
theorem q1166 : (Jvm.Cond.laysFinal "StrawMenModel" "StrawMenModel" "flew" "[I") ∈ lw_all := lw_g (lw_at lw_m5 155 rfl) rfl
theorem q1167 : (Jvm.Cond.soleField "StrawMenModel" "flew") ∈ lw_all := lw_g (lw_at lw_m5 156 rfl) rfl
theorem q1168 : (Jvm.Cond.laysFinal "StrawMenModel" "StrawMenModel" "eaten" "[I") ∈ lw_all := lw_g (lw_at lw_m5 157 rfl) rfl
theorem q1169 : (Jvm.Cond.soleField "StrawMenModel" "eaten") ∈ lw_all := lw_g (lw_at lw_m5 158 rfl) rfl
theorem q1170 : (Jvm.Cond.laysFinal "StrawMenModel" "StrawMenModel" "keptLeft" "[I") ∈ lw_all := lw_g (lw_at lw_m5 159 rfl) rfl
theorem q1171 : (Jvm.Cond.soleField "StrawMenModel" "keptLeft") ∈ lw_all := lw_g (lw_at lw_m5 160 rfl) rfl
theorem q1172 : (Jvm.Cond.laysFinal "StrawMenModel" "StrawMenModel" "keptFears" "[I") ∈ lw_all := lw_g (lw_at lw_m5 161 rfl) rfl
theorem q1173 : (Jvm.Cond.soleField "StrawMenModel" "keptFears") ∈ lw_all := lw_g (lw_at lw_m5 162 rfl) rfl
theorem q1174 : (Jvm.Cond.laysFinal "StrawMenModel" "StrawMenModel" "losses" "[I") ∈ lw_all := lw_g (lw_at lw_m5 163 rfl) rfl
theorem q1175 : (Jvm.Cond.soleField "StrawMenModel" "losses") ∈ lw_all := lw_g (lw_at lw_m5 164 rfl) rfl
theorem q1176 : (Jvm.Cond.superclass "StrawMenModel" "java/lang/Object") ∈ lw_all := lw_g (lw_at lw_m5 165 rfl) rfl
theorem q1178 : (Jvm.Cond.instanceMethod ({ cls := "StrawMenModel", name := "write", desc := "(JI)I" } : Jvm.MethodName)) ∈ lw_all := lw_g (lw_at lw_m5 167 rfl) rfl
theorem q1179 : (Jvm.Cond.selects "StrawMenModel" ({ cls := "StrawMenModel", name := "write", desc := "(JI)I" } : Jvm.MethodName) ({ cls := "StrawMenModel", name := "write", desc := "(JI)I" } : Jvm.MethodName)) ∈ lw_all := lw_g (lw_at lw_m5 168 rfl) rfl
theorem q1180 : (Jvm.Cond.code ({ cls := "StrawMenModel", name := "write", desc := "(JI)I" } : Jvm.MethodName) prog_12_method_4_code (5 : Nat) (Option.some Jvm.ClassFile.FieldType.int)) ∈ lw_all := lw_g (lw_at lw_m5 169 rfl) rfl
theorem q1181 : (Jvm.Cond.constantLong "StrawMenModel" (90 : Nat) (8 : Int64)) ∈ lw_all := lw_g (lw_at lw_m5 170 rfl) rfl
theorem q1182 : (Jvm.Cond.methodLink "StrawMenModel" (92 : Nat) ({ cls := "StrawMenModel", name := "in", desc := "(JJJ)Z" } : Jvm.MethodName)) ∈ lw_all := lw_g (lw_at lw_m5 171 rfl) rfl
theorem q1183 : (Jvm.Cond.static ({ cls := "StrawMenModel", name := "in", desc := "(JJJ)Z" } : Jvm.MethodName)) ∈ lw_all := lw_g (lw_at lw_m5 172 rfl) rfl
theorem q1184 : (Jvm.Cond.code ({ cls := "StrawMenModel", name := "in", desc := "(JJJ)Z" } : Jvm.MethodName) prog_12_method_2_code (6 : Nat) (Option.some Jvm.ClassFile.FieldType.boolean)) ∈ lw_all := lw_g (lw_at lw_m5 173 rfl) rfl
theorem q1185 : (Jvm.Cond.constantLong "StrawMenModel" (99 : Nat) (255 : Int64)) ∈ lw_all := lw_g (lw_at lw_m5 174 rfl) rfl
theorem q1187 : (Jvm.Cond.instanceMethod ({ cls := "StrawMenModel", name := "erase", desc := "()I" } : Jvm.MethodName)) ∈ lw_all := lw_g (lw_at lw_m5 176 rfl) rfl
theorem q1188 : (Jvm.Cond.selects "StrawMenModel" ({ cls := "StrawMenModel", name := "erase", desc := "()I" } : Jvm.MethodName) ({ cls := "StrawMenModel", name := "erase", desc := "()I" } : Jvm.MethodName)) ∈ lw_all := lw_g (lw_at lw_m5 177 rfl) rfl
theorem q1189 : (Jvm.Cond.code ({ cls := "StrawMenModel", name := "erase", desc := "()I" } : Jvm.MethodName) prog_12_method_5_code (2 : Nat) (Option.some Jvm.ClassFile.FieldType.int)) ∈ lw_all := lw_g (lw_at lw_m5 178 rfl) rfl
theorem q1191 : (Jvm.Cond.instanceMethod ({ cls := "StrawMenModel", name := "fault", desc := "()I" } : Jvm.MethodName)) ∈ lw_all := lw_g (lw_at lw_m5 180 rfl) rfl
theorem q1192 : (Jvm.Cond.selects "StrawMenModel" ({ cls := "StrawMenModel", name := "fault", desc := "()I" } : Jvm.MethodName) ({ cls := "StrawMenModel", name := "fault", desc := "()I" } : Jvm.MethodName)) ∈ lw_all := lw_g (lw_at lw_m5 181 rfl) rfl
theorem q1193 : (Jvm.Cond.code ({ cls := "StrawMenModel", name := "fault", desc := "()I" } : Jvm.MethodName) prog_12_method_12_code (2 : Nat) (Option.some Jvm.ClassFile.FieldType.int)) ∈ lw_all := lw_g (lw_at lw_m5 182 rfl) rfl
theorem q1194 : (Jvm.Cond.methodLink "StrawMenModel" (117 : Nat) ({ cls := "StrawMenModel", name := "token", desc := "()V" } : Jvm.MethodName)) ∈ lw_all := lw_g (lw_at lw_m5 183 rfl) rfl
theorem q1195 : (Jvm.Cond.privateMethod ({ cls := "StrawMenModel", name := "token", desc := "()V" } : Jvm.MethodName)) ∈ lw_tbl := lw_at lw_m5 184 rfl
theorem q1196 : (Jvm.Cond.instanceMethod ({ cls := "StrawMenModel", name := "token", desc := "()V" } : Jvm.MethodName)) ∈ lw_all := lw_g (lw_at lw_m5 185 rfl) rfl
theorem q1197 : (Jvm.Cond.code ({ cls := "StrawMenModel", name := "token", desc := "()V" } : Jvm.MethodName) prog_12_method_7_code (1 : Nat) (Option.none : Option Jvm.ClassFile.FieldType)) ∈ lw_all := lw_g (lw_at lw_m5 186 rfl) rfl
theorem q1198 : (Jvm.Cond.methodLink "StrawMenModel" (107 : Nat) ({ cls := "StrawMenModel", name := "sort", desc := "(I)I" } : Jvm.MethodName)) ∈ lw_all := lw_g (lw_at lw_m5 187 rfl) rfl
theorem q1199 : (Jvm.Cond.static ({ cls := "StrawMenModel", name := "sort", desc := "(I)I" } : Jvm.MethodName)) ∈ lw_all := lw_g (lw_at lw_m5 188 rfl) rfl
theorem q1200 : (Jvm.Cond.code ({ cls := "StrawMenModel", name := "sort", desc := "(I)I" } : Jvm.MethodName) prog_12_method_6_code (1 : Nat) (Option.some Jvm.ClassFile.FieldType.int)) ∈ lw_all := lw_g (lw_at lw_m5 189 rfl) rfl
theorem q1201 : (Jvm.Cond.methodLink "StrawMenModel" (140 : Nat) ({ cls := "StrawMenModel", name := "readsLine", desc := "()Z" } : Jvm.MethodName)) ∈ lw_all := lw_g (lw_at lw_m5 190 rfl) rfl
theorem q1202 : (Jvm.Cond.privateMethod ({ cls := "StrawMenModel", name := "readsLine", desc := "()Z" } : Jvm.MethodName)) ∈ lw_tbl := lw_at lw_m5 191 rfl
theorem q1203 : (Jvm.Cond.instanceMethod ({ cls := "StrawMenModel", name := "readsLine", desc := "()Z" } : Jvm.MethodName)) ∈ lw_all := lw_g (lw_at lw_m5 192 rfl) rfl
theorem q1204 : (Jvm.Cond.code ({ cls := "StrawMenModel", name := "readsLine", desc := "()Z" } : Jvm.MethodName) prog_12_method_11_code (2 : Nat) (Option.some Jvm.ClassFile.FieldType.boolean)) ∈ lw_all := lw_g (lw_at lw_m5 193 rfl) rfl
theorem q1205 : (Jvm.Cond.constant "StrawMenModel" (124 : Nat) (4592934 : Int32)) ∈ lw_all := lw_g (lw_at lw_m5 194 rfl) rfl
theorem q1206 : (Jvm.Cond.methodLink "StrawMenModel" (125 : Nat) ({ cls := "StrawMenModel", name := "isWord", desc := "(II)Z" } : Jvm.MethodName)) ∈ lw_all := lw_g (lw_at lw_m5 195 rfl) rfl
theorem q1207 : (Jvm.Cond.privateMethod ({ cls := "StrawMenModel", name := "isWord", desc := "(II)Z" } : Jvm.MethodName)) ∈ lw_tbl := lw_at lw_m5 196 rfl
theorem q1208 : (Jvm.Cond.instanceMethod ({ cls := "StrawMenModel", name := "isWord", desc := "(II)Z" } : Jvm.MethodName)) ∈ lw_all := lw_g (lw_at lw_m5 197 rfl) rfl
theorem q1209 : (Jvm.Cond.code ({ cls := "StrawMenModel", name := "isWord", desc := "(II)Z" } : Jvm.MethodName) prog_12_method_8_code (5 : Nat) (Option.some Jvm.ClassFile.FieldType.boolean)) ∈ lw_all := lw_g (lw_at lw_m5 198 rfl) rfl
theorem q1210 : (Jvm.Cond.constant "StrawMenModel" (129 : Nat) (11648390 : Int32)) ∈ lw_all := lw_g (lw_at lw_m5 199 rfl) rfl
theorem q1211 : (Jvm.Cond.constant "StrawMenModel" (130 : Nat) (656867 : Int32)) ∈ lw_all := lw_g (lw_at lw_m5 200 rfl) rfl
theorem q1212 : (Jvm.Cond.constant "StrawMenModel" (131 : Nat) (405684 : Int32)) ∈ lw_all := lw_g (lw_at lw_m5 201 rfl) rfl
theorem q1213 : (Jvm.Cond.constant "StrawMenModel" (132 : Nat) (171063 : Int32)) ∈ lw_all := lw_g (lw_at lw_m5 202 rfl) rfl
theorem q1214 : (Jvm.Cond.constant "StrawMenModel" (133 : Nat) (5350992 : Int32)) ∈ lw_all := lw_g (lw_at lw_m5 203 rfl) rfl
theorem q1215 : (Jvm.Cond.constant "StrawMenModel" (134 : Nat) (648228 : Int32)) ∈ lw_all := lw_g (lw_at lw_m5 204 rfl) rfl
theorem q1216 : (Jvm.Cond.constant "StrawMenModel" (135 : Nat) (182306 : Int32)) ∈ lw_all := lw_g (lw_at lw_m5 205 rfl) rfl
theorem q1217 : (Jvm.Cond.methodLink "StrawMenModel" (136 : Nat) ({ cls := "StrawMenModel", name := "readsRest", desc := "(I)Z" } : Jvm.MethodName)) ∈ lw_all := lw_g (lw_at lw_m5 206 rfl) rfl
theorem q1218 : (Jvm.Cond.privateMethod ({ cls := "StrawMenModel", name := "readsRest", desc := "(I)Z" } : Jvm.MethodName)) ∈ lw_tbl := lw_at lw_m5 207 rfl
theorem q1219 : (Jvm.Cond.instanceMethod ({ cls := "StrawMenModel", name := "readsRest", desc := "(I)Z" } : Jvm.MethodName)) ∈ lw_all := lw_g (lw_at lw_m5 208 rfl) rfl
theorem q1220 : (Jvm.Cond.code ({ cls := "StrawMenModel", name := "readsRest", desc := "(I)Z" } : Jvm.MethodName) prog_12_method_10_code (2 : Nat) (Option.some Jvm.ClassFile.FieldType.boolean)) ∈ lw_all := lw_g (lw_at lw_m5 209 rfl) rfl
theorem q1221 : (Jvm.Cond.methodLink "StrawMenModel" (120 : Nat) ({ cls := "StrawMenModel", name := "reads", desc := "(III)Z" } : Jvm.MethodName)) ∈ lw_all := lw_g (lw_at lw_m5 210 rfl) rfl
theorem q1222 : (Jvm.Cond.privateMethod ({ cls := "StrawMenModel", name := "reads", desc := "(III)Z" } : Jvm.MethodName)) ∈ lw_tbl := lw_at lw_m5 211 rfl
theorem q1223 : (Jvm.Cond.instanceMethod ({ cls := "StrawMenModel", name := "reads", desc := "(III)Z" } : Jvm.MethodName)) ∈ lw_all := lw_g (lw_at lw_m5 212 rfl) rfl
theorem q1224 : (Jvm.Cond.code ({ cls := "StrawMenModel", name := "reads", desc := "(III)Z" } : Jvm.MethodName) prog_12_method_9_code (6 : Nat) (Option.some Jvm.ClassFile.FieldType.boolean)) ∈ lw_all := lw_g (lw_at lw_m5 213 rfl) rfl
theorem q1226 : (Jvm.Cond.instanceMethod ({ cls := "StrawMenModel", name := "farm", desc := "()I" } : Jvm.MethodName)) ∈ lw_all := lw_g (lw_at lw_m5 215 rfl) rfl
theorem q1227 : (Jvm.Cond.selects "StrawMenModel" ({ cls := "StrawMenModel", name := "farm", desc := "()I" } : Jvm.MethodName) ({ cls := "StrawMenModel", name := "farm", desc := "()I" } : Jvm.MethodName)) ∈ lw_all := lw_g (lw_at lw_m5 216 rfl) rfl
theorem q1228 : (Jvm.Cond.code ({ cls := "StrawMenModel", name := "farm", desc := "()I" } : Jvm.MethodName) prog_12_method_14_code (2 : Nat) (Option.some Jvm.ClassFile.FieldType.int)) ∈ lw_all := lw_g (lw_at lw_m5 217 rfl) rfl
theorem q1229 : (Jvm.Cond.methodLink "StrawMenModel" (159 : Nat) ({ cls := "StrawMenModel", name := "fault", desc := "()I" } : Jvm.MethodName)) ∈ lw_all := lw_g (lw_at lw_m5 218 rfl) rfl
theorem q1230 : (Jvm.Cond.methodLink "StrawMenModel" (163 : Nat) ({ cls := "StrawMenModel", name := "lay", desc := "(I)V" } : Jvm.MethodName)) ∈ lw_all := lw_g (lw_at lw_m5 219 rfl) rfl
theorem q1231 : (Jvm.Cond.privateMethod ({ cls := "StrawMenModel", name := "lay", desc := "(I)V" } : Jvm.MethodName)) ∈ lw_tbl := lw_at lw_m5 220 rfl
theorem q1232 : (Jvm.Cond.instanceMethod ({ cls := "StrawMenModel", name := "lay", desc := "(I)V" } : Jvm.MethodName)) ∈ lw_all := lw_g (lw_at lw_m5 221 rfl) rfl
theorem q1233 : (Jvm.Cond.code ({ cls := "StrawMenModel", name := "lay", desc := "(I)V" } : Jvm.MethodName) prog_12_method_13_code (5 : Nat) (Option.none : Option Jvm.ClassFile.FieldType)) ∈ lw_all := lw_g (lw_at lw_m5 222 rfl) rfl
theorem q1235 : (Jvm.Cond.instanceMethod ({ cls := "StrawMenModel", name := "field", desc := "(II)I" } : Jvm.MethodName)) ∈ lw_all := lw_g (lw_at lw_m5 224 rfl) rfl
theorem q1236 : (Jvm.Cond.selects "StrawMenModel" ({ cls := "StrawMenModel", name := "field", desc := "(II)I" } : Jvm.MethodName) ({ cls := "StrawMenModel", name := "field", desc := "(II)I" } : Jvm.MethodName)) ∈ lw_all := lw_g (lw_at lw_m5 225 rfl) rfl
theorem q1237 : (Jvm.Cond.code ({ cls := "StrawMenModel", name := "field", desc := "(II)I" } : Jvm.MethodName) prog_12_method_18_code (3 : Nat) (Option.some Jvm.ClassFile.FieldType.int)) ∈ lw_all := lw_g (lw_at lw_m5 226 rfl) rfl
theorem q1238 : (Jvm.Cond.methodLink "StrawMenModel" (172 : Nat) ({ cls := "StrawMenModel", name := "isField", desc := "(I)Z" } : Jvm.MethodName)) ∈ lw_all := lw_g (lw_at lw_m5 227 rfl) rfl
theorem q1239 : (Jvm.Cond.privateMethod ({ cls := "StrawMenModel", name := "isField", desc := "(I)Z" } : Jvm.MethodName)) ∈ lw_tbl := lw_at lw_m5 228 rfl
theorem q1240 : (Jvm.Cond.instanceMethod ({ cls := "StrawMenModel", name := "isField", desc := "(I)Z" } : Jvm.MethodName)) ∈ lw_all := lw_g (lw_at lw_m5 229 rfl) rfl
theorem q1241 : (Jvm.Cond.code ({ cls := "StrawMenModel", name := "isField", desc := "(I)Z" } : Jvm.MethodName) prog_12_method_15_code (2 : Nat) (Option.some Jvm.ClassFile.FieldType.boolean)) ∈ lw_all := lw_g (lw_at lw_m5 230 rfl) rfl
theorem q1242 : (Jvm.Cond.constantLong "StrawMenModel" (167 : Nat) (3 : Int64)) ∈ lw_all := lw_g (lw_at lw_m5 231 rfl) rfl
theorem q1243 : (Jvm.Cond.methodLink "StrawMenModel" (169 : Nat) ({ cls := "StrawMenModel", name := "has", desc := "(II)Z" } : Jvm.MethodName)) ∈ lw_all := lw_g (lw_at lw_m5 232 rfl) rfl
theorem q1244 : (Jvm.Cond.static ({ cls := "StrawMenModel", name := "has", desc := "(II)Z" } : Jvm.MethodName)) ∈ lw_all := lw_g (lw_at lw_m5 233 rfl) rfl
theorem q1245 : (Jvm.Cond.code ({ cls := "StrawMenModel", name := "has", desc := "(II)Z" } : Jvm.MethodName) prog_12_method_3_code (2 : Nat) (Option.some Jvm.ClassFile.FieldType.boolean)) ∈ lw_all := lw_g (lw_at lw_m5 234 rfl) rfl
theorem q1247 : (Jvm.Cond.instanceMethod ({ cls := "StrawMenModel", name := "flock", desc := "(I)I" } : Jvm.MethodName)) ∈ lw_all := lw_g (lw_at lw_m5 236 rfl) rfl
theorem q1248 : (Jvm.Cond.selects "StrawMenModel" ({ cls := "StrawMenModel", name := "flock", desc := "(I)I" } : Jvm.MethodName) ({ cls := "StrawMenModel", name := "flock", desc := "(I)I" } : Jvm.MethodName)) ∈ lw_all := lw_g (lw_at lw_m5 237 rfl) rfl
theorem q1249 : (Jvm.Cond.code ({ cls := "StrawMenModel", name := "flock", desc := "(I)I" } : Jvm.MethodName) prog_12_method_19_code (2 : Nat) (Option.some Jvm.ClassFile.FieldType.int)) ∈ lw_all := lw_g (lw_at lw_m5 238 rfl) rfl
theorem q1250 : (Jvm.Cond.methodLink "StrawMenModel" (175 : Nat) ({ cls := "StrawMenModel", name := "isFlock", desc := "(I)Z" } : Jvm.MethodName)) ∈ lw_all := lw_g (lw_at lw_m5 239 rfl) rfl
theorem q1251 : (Jvm.Cond.privateMethod ({ cls := "StrawMenModel", name := "isFlock", desc := "(I)Z" } : Jvm.MethodName)) ∈ lw_tbl := lw_at lw_m6 0 rfl
theorem q1252 : (Jvm.Cond.instanceMethod ({ cls := "StrawMenModel", name := "isFlock", desc := "(I)Z" } : Jvm.MethodName)) ∈ lw_all := lw_g (lw_at lw_m6 1 rfl) rfl
theorem q1253 : (Jvm.Cond.code ({ cls := "StrawMenModel", name := "isFlock", desc := "(I)Z" } : Jvm.MethodName) prog_12_method_16_code (2 : Nat) (Option.some Jvm.ClassFile.FieldType.boolean)) ∈ lw_all := lw_g (lw_at lw_m6 2 rfl) rfl
theorem q1255 : (Jvm.Cond.instanceMethod ({ cls := "StrawMenModel", name := "coat", desc := "(II)I" } : Jvm.MethodName)) ∈ lw_all := lw_g (lw_at lw_m6 4 rfl) rfl
theorem q1256 : (Jvm.Cond.selects "StrawMenModel" ({ cls := "StrawMenModel", name := "coat", desc := "(II)I" } : Jvm.MethodName) ({ cls := "StrawMenModel", name := "coat", desc := "(II)I" } : Jvm.MethodName)) ∈ lw_all := lw_g (lw_at lw_m6 5 rfl) rfl
theorem q1257 : (Jvm.Cond.code ({ cls := "StrawMenModel", name := "coat", desc := "(II)I" } : Jvm.MethodName) prog_12_method_20_code (3 : Nat) (Option.some Jvm.ClassFile.FieldType.int)) ∈ lw_all := lw_g (lw_at lw_m6 6 rfl) rfl
theorem q1258 : (Jvm.Cond.methodLink "StrawMenModel" (178 : Nat) ({ cls := "StrawMenModel", name := "isCoat", desc := "(I)Z" } : Jvm.MethodName)) ∈ lw_all := lw_g (lw_at lw_m6 7 rfl) rfl
theorem q1259 : (Jvm.Cond.privateMethod ({ cls := "StrawMenModel", name := "isCoat", desc := "(I)Z" } : Jvm.MethodName)) ∈ lw_tbl := lw_at lw_m6 8 rfl
theorem q1260 : (Jvm.Cond.instanceMethod ({ cls := "StrawMenModel", name := "isCoat", desc := "(I)Z" } : Jvm.MethodName)) ∈ lw_all := lw_g (lw_at lw_m6 9 rfl) rfl
theorem q1261 : (Jvm.Cond.code ({ cls := "StrawMenModel", name := "isCoat", desc := "(I)Z" } : Jvm.MethodName) prog_12_method_17_code (2 : Nat) (Option.some Jvm.ClassFile.FieldType.boolean)) ∈ lw_all := lw_g (lw_at lw_m6 10 rfl) rfl
theorem q1263 : (Jvm.Cond.instanceMethod ({ cls := "StrawMenModel", name := "place", desc := "(III)I" } : Jvm.MethodName)) ∈ lw_all := lw_g (lw_at lw_m6 12 rfl) rfl
theorem q1264 : (Jvm.Cond.selects "StrawMenModel" ({ cls := "StrawMenModel", name := "place", desc := "(III)I" } : Jvm.MethodName) ({ cls := "StrawMenModel", name := "place", desc := "(III)I" } : Jvm.MethodName)) ∈ lw_all := lw_g (lw_at lw_m6 13 rfl) rfl
theorem q1265 : (Jvm.Cond.code ({ cls := "StrawMenModel", name := "place", desc := "(III)I" } : Jvm.MethodName) prog_12_method_21_code (5 : Nat) (Option.some Jvm.ClassFile.FieldType.int)) ∈ lw_all := lw_g (lw_at lw_m6 14 rfl) rfl
theorem q1266 : (Jvm.Cond.constantLong "StrawMenModel" (181 : Nat) (20 : Int64)) ∈ lw_all := lw_g (lw_at lw_m6 15 rfl) rfl
theorem q1267 : (Jvm.Cond.constantLong "StrawMenModel" (183 : Nat) (-1 : Int64)) ∈ lw_all := lw_g (lw_at lw_m6 16 rfl) rfl
theorem q1269 : (Jvm.Cond.instanceMethod ({ cls := "StrawMenModel", name := "real", desc := "(IIZ)I" } : Jvm.MethodName)) ∈ lw_all := lw_g (lw_at lw_m6 18 rfl) rfl
theorem q1270 : (Jvm.Cond.selects "StrawMenModel" ({ cls := "StrawMenModel", name := "real", desc := "(IIZ)I" } : Jvm.MethodName) ({ cls := "StrawMenModel", name := "real", desc := "(IIZ)I" } : Jvm.MethodName)) ∈ lw_all := lw_g (lw_at lw_m6 19 rfl) rfl
theorem q1271 : (Jvm.Cond.code ({ cls := "StrawMenModel", name := "real", desc := "(IIZ)I" } : Jvm.MethodName) prog_12_method_22_code (5 : Nat) (Option.some Jvm.ClassFile.FieldType.int)) ∈ lw_all := lw_g (lw_at lw_m6 20 rfl) rfl
theorem q1273 : (Jvm.Cond.instanceMethod ({ cls := "StrawMenModel", name := "went", desc := "(II)I" } : Jvm.MethodName)) ∈ lw_all := lw_g (lw_at lw_m6 22 rfl) rfl
theorem q1274 : (Jvm.Cond.selects "StrawMenModel" ({ cls := "StrawMenModel", name := "went", desc := "(II)I" } : Jvm.MethodName) ({ cls := "StrawMenModel", name := "went", desc := "(II)I" } : Jvm.MethodName)) ∈ lw_all := lw_g (lw_at lw_m6 23 rfl) rfl
theorem q1275 : (Jvm.Cond.code ({ cls := "StrawMenModel", name := "went", desc := "(II)I" } : Jvm.MethodName) prog_12_method_35_code (3 : Nat) (Option.some Jvm.ClassFile.FieldType.int)) ∈ lw_all := lw_g (lw_at lw_m6 24 rfl) rfl
theorem q1276 : (Jvm.Cond.methodLink "StrawMenModel" (214 : Nat) ({ cls := "StrawMenModel", name := "isDay", desc := "(I)Z" } : Jvm.MethodName)) ∈ lw_all := lw_g (lw_at lw_m6 25 rfl) rfl
theorem q1277 : (Jvm.Cond.privateMethod ({ cls := "StrawMenModel", name := "isDay", desc := "(I)Z" } : Jvm.MethodName)) ∈ lw_tbl := lw_at lw_m6 26 rfl
theorem q1278 : (Jvm.Cond.instanceMethod ({ cls := "StrawMenModel", name := "isDay", desc := "(I)Z" } : Jvm.MethodName)) ∈ lw_all := lw_g (lw_at lw_m6 27 rfl) rfl
theorem q1279 : (Jvm.Cond.code ({ cls := "StrawMenModel", name := "isDay", desc := "(I)Z" } : Jvm.MethodName) prog_12_method_34_code (2 : Nat) (Option.some Jvm.ClassFile.FieldType.boolean)) ∈ lw_all := lw_g (lw_at lw_m6 28 rfl) rfl
theorem q1280 : (Jvm.Cond.methodLink "StrawMenModel" (217 : Nat) ({ cls := "StrawMenModel", name := "asPlanned", desc := "()V" } : Jvm.MethodName)) ∈ lw_all := lw_g (lw_at lw_m6 29 rfl) rfl
theorem q1281 : (Jvm.Cond.privateMethod ({ cls := "StrawMenModel", name := "asPlanned", desc := "()V" } : Jvm.MethodName)) ∈ lw_tbl := lw_at lw_m6 30 rfl
theorem q1282 : (Jvm.Cond.instanceMethod ({ cls := "StrawMenModel", name := "asPlanned", desc := "()V" } : Jvm.MethodName)) ∈ lw_all := lw_g (lw_at lw_m6 31 rfl) rfl
theorem q1283 : (Jvm.Cond.code ({ cls := "StrawMenModel", name := "asPlanned", desc := "()V" } : Jvm.MethodName) prog_12_method_23_code (1 : Nat) (Option.none : Option Jvm.ClassFile.FieldType)) ∈ lw_all := lw_g (lw_at lw_m6 32 rfl) rfl
theorem q1284 : (Jvm.Cond.methodLink "StrawMenModel" (220 : Nat) ({ cls := "StrawMenModel", name := "goTo", desc := "(I)V" } : Jvm.MethodName)) ∈ lw_all := lw_g (lw_at lw_m6 33 rfl) rfl
theorem q1285 : (Jvm.Cond.privateMethod ({ cls := "StrawMenModel", name := "goTo", desc := "(I)V" } : Jvm.MethodName)) ∈ lw_tbl := lw_at lw_m6 34 rfl
theorem q1286 : (Jvm.Cond.instanceMethod ({ cls := "StrawMenModel", name := "goTo", desc := "(I)V" } : Jvm.MethodName)) ∈ lw_all := lw_g (lw_at lw_m6 35 rfl) rfl
theorem q1287 : (Jvm.Cond.code ({ cls := "StrawMenModel", name := "goTo", desc := "(I)V" } : Jvm.MethodName) prog_12_method_31_code (3 : Nat) (Option.none : Option Jvm.ClassFile.FieldType)) ∈ lw_all := lw_g (lw_at lw_m6 36 rfl) rfl
theorem q1288 : (Jvm.Cond.methodLink "StrawMenModel" (208 : Nat) ({ cls := "StrawMenModel", name := "begin", desc := "()V" } : Jvm.MethodName)) ∈ lw_all := lw_g (lw_at lw_m6 37 rfl) rfl
theorem q1289 : (Jvm.Cond.privateMethod ({ cls := "StrawMenModel", name := "begin", desc := "()V" } : Jvm.MethodName)) ∈ lw_tbl := lw_at lw_m6 38 rfl
theorem q1290 : (Jvm.Cond.instanceMethod ({ cls := "StrawMenModel", name := "begin", desc := "()V" } : Jvm.MethodName)) ∈ lw_all := lw_g (lw_at lw_m6 39 rfl) rfl
theorem q1291 : (Jvm.Cond.code ({ cls := "StrawMenModel", name := "begin", desc := "()V" } : Jvm.MethodName) prog_12_method_26_code (2 : Nat) (Option.none : Option Jvm.ClassFile.FieldType)) ∈ lw_all := lw_g (lw_at lw_m6 40 rfl) rfl
theorem q1292 : (Jvm.Cond.methodLink "StrawMenModel" (211 : Nat) ({ cls := "StrawMenModel", name := "goDay", desc := "(I)V" } : Jvm.MethodName)) ∈ lw_all := lw_g (lw_at lw_m6 41 rfl) rfl
theorem q1293 : (Jvm.Cond.privateMethod ({ cls := "StrawMenModel", name := "goDay", desc := "(I)V" } : Jvm.MethodName)) ∈ lw_tbl := lw_at lw_m6 42 rfl
theorem q1294 : (Jvm.Cond.instanceMethod ({ cls := "StrawMenModel", name := "goDay", desc := "(I)V" } : Jvm.MethodName)) ∈ lw_all := lw_g (lw_at lw_m6 43 rfl) rfl
theorem q1295 : (Jvm.Cond.code ({ cls := "StrawMenModel", name := "goDay", desc := "(I)V" } : Jvm.MethodName) prog_12_method_29_code (5 : Nat) (Option.none : Option Jvm.ClassFile.FieldType)) ∈ lw_all := lw_g (lw_at lw_m6 44 rfl) rfl
theorem q1296 : (Jvm.Cond.methodLink "StrawMenModel" (198 : Nat) ({ cls := "StrawMenModel", name := "fly", desc := "(II)V" } : Jvm.MethodName)) ∈ lw_all := lw_g (lw_at lw_m6 45 rfl) rfl
theorem q1297 : (Jvm.Cond.privateMethod ({ cls := "StrawMenModel", name := "fly", desc := "(II)V" } : Jvm.MethodName)) ∈ lw_tbl := lw_at lw_m6 46 rfl
theorem q1298 : (Jvm.Cond.instanceMethod ({ cls := "StrawMenModel", name := "fly", desc := "(II)V" } : Jvm.MethodName)) ∈ lw_all := lw_g (lw_at lw_m6 47 rfl) rfl
theorem q1299 : (Jvm.Cond.code ({ cls := "StrawMenModel", name := "fly", desc := "(II)V" } : Jvm.MethodName) prog_12_method_27_code (9 : Nat) (Option.none : Option Jvm.ClassFile.FieldType)) ∈ lw_all := lw_g (lw_at lw_m6 48 rfl) rfl
theorem q1300 : (Jvm.Cond.methodLink "StrawMenModel" (191 : Nat) ({ cls := "StrawMenModel", name := "coatAt", desc := "(II)I" } : Jvm.MethodName)) ∈ lw_all := lw_g (lw_at lw_m6 49 rfl) rfl
theorem q1301 : (Jvm.Cond.privateMethod ({ cls := "StrawMenModel", name := "coatAt", desc := "(II)I" } : Jvm.MethodName)) ∈ lw_tbl := lw_at lw_m6 50 rfl
theorem q1302 : (Jvm.Cond.instanceMethod ({ cls := "StrawMenModel", name := "coatAt", desc := "(II)I" } : Jvm.MethodName)) ∈ lw_all := lw_g (lw_at lw_m6 51 rfl) rfl
theorem q1303 : (Jvm.Cond.code ({ cls := "StrawMenModel", name := "coatAt", desc := "(II)I" } : Jvm.MethodName) prog_12_method_24_code (4 : Nat) (Option.some Jvm.ClassFile.FieldType.int)) ∈ lw_all := lw_g (lw_at lw_m6 52 rfl) rfl
theorem q1304 : (Jvm.Cond.methodLink "StrawMenModel" (202 : Nat) ({ cls := "StrawMenModel", name := "isReal", desc := "(II)Z" } : Jvm.MethodName)) ∈ lw_all := lw_g (lw_at lw_m6 53 rfl) rfl
theorem q1305 : (Jvm.Cond.privateMethod ({ cls := "StrawMenModel", name := "isReal", desc := "(II)Z" } : Jvm.MethodName)) ∈ lw_tbl := lw_at lw_m6 54 rfl
theorem q1306 : (Jvm.Cond.instanceMethod ({ cls := "StrawMenModel", name := "isReal", desc := "(II)Z" } : Jvm.MethodName)) ∈ lw_all := lw_g (lw_at lw_m6 55 rfl) rfl
theorem q1307 : (Jvm.Cond.code ({ cls := "StrawMenModel", name := "isReal", desc := "(II)Z" } : Jvm.MethodName) prog_12_method_25_code (3 : Nat) (Option.some Jvm.ClassFile.FieldType.boolean)) ∈ lw_all := lw_g (lw_at lw_m6 56 rfl) rfl
theorem q1308 : (Jvm.Cond.methodLink "StrawMenModel" (205 : Nat) ({ cls := "StrawMenModel", name := "roost", desc := "()V" } : Jvm.MethodName)) ∈ lw_all := lw_g (lw_at lw_m6 57 rfl) rfl
theorem q1309 : (Jvm.Cond.privateMethod ({ cls := "StrawMenModel", name := "roost", desc := "()V" } : Jvm.MethodName)) ∈ lw_tbl := lw_at lw_m6 58 rfl
theorem q1310 : (Jvm.Cond.instanceMethod ({ cls := "StrawMenModel", name := "roost", desc := "()V" } : Jvm.MethodName)) ∈ lw_all := lw_g (lw_at lw_m6 59 rfl) rfl
theorem q1311 : (Jvm.Cond.code ({ cls := "StrawMenModel", name := "roost", desc := "()V" } : Jvm.MethodName) prog_12_method_28_code (6 : Nat) (Option.none : Option Jvm.ClassFile.FieldType)) ∈ lw_all := lw_g (lw_at lw_m6 60 rfl) rfl
theorem q1313 : (Jvm.Cond.instanceMethod ({ cls := "StrawMenModel", name := "eaten", desc := "(II)I" } : Jvm.MethodName)) ∈ lw_all := lw_g (lw_at lw_m6 62 rfl) rfl
theorem q1314 : (Jvm.Cond.selects "StrawMenModel" ({ cls := "StrawMenModel", name := "eaten", desc := "(II)I" } : Jvm.MethodName) ({ cls := "StrawMenModel", name := "eaten", desc := "(II)I" } : Jvm.MethodName)) ∈ lw_all := lw_g (lw_at lw_m6 63 rfl) rfl
theorem q1315 : (Jvm.Cond.code ({ cls := "StrawMenModel", name := "eaten", desc := "(II)I" } : Jvm.MethodName) prog_12_method_36_code (3 : Nat) (Option.some Jvm.ClassFile.FieldType.int)) ∈ lw_all := lw_g (lw_at lw_m6 64 rfl) rfl
theorem q1316 : (Jvm.Cond.methodLink "StrawMenModel" (223 : Nat) ({ cls := "StrawMenModel", name := "eatenAll", desc := "()I" } : Jvm.MethodName)) ∈ lw_all := lw_g (lw_at lw_m6 65 rfl) rfl
theorem q1317 : (Jvm.Cond.privateMethod ({ cls := "StrawMenModel", name := "eatenAll", desc := "()I" } : Jvm.MethodName)) ∈ lw_tbl := lw_at lw_m6 66 rfl
theorem q1318 : (Jvm.Cond.instanceMethod ({ cls := "StrawMenModel", name := "eatenAll", desc := "()I" } : Jvm.MethodName)) ∈ lw_all := lw_g (lw_at lw_m6 67 rfl) rfl
theorem q1319 : (Jvm.Cond.code ({ cls := "StrawMenModel", name := "eatenAll", desc := "()I" } : Jvm.MethodName) prog_12_method_30_code (1 : Nat) (Option.some Jvm.ClassFile.FieldType.int)) ∈ lw_all := lw_g (lw_at lw_m6 68 rfl) rfl
theorem q1321 : (Jvm.Cond.instanceMethod ({ cls := "StrawMenModel", name := "left", desc := "(II)I" } : Jvm.MethodName)) ∈ lw_all := lw_g (lw_at lw_m6 70 rfl) rfl
theorem q1322 : (Jvm.Cond.selects "StrawMenModel" ({ cls := "StrawMenModel", name := "left", desc := "(II)I" } : Jvm.MethodName) ({ cls := "StrawMenModel", name := "left", desc := "(II)I" } : Jvm.MethodName)) ∈ lw_all := lw_g (lw_at lw_m6 71 rfl) rfl
theorem q1323 : (Jvm.Cond.code ({ cls := "StrawMenModel", name := "left", desc := "(II)I" } : Jvm.MethodName) prog_12_method_37_code (3 : Nat) (Option.some Jvm.ClassFile.FieldType.int)) ∈ lw_all := lw_g (lw_at lw_m6 72 rfl) rfl
theorem q1325 : (Jvm.Cond.instanceMethod ({ cls := "StrawMenModel", name := "fear", desc := "(III)I" } : Jvm.MethodName)) ∈ lw_all := lw_g (lw_at lw_m6 74 rfl) rfl
theorem q1326 : (Jvm.Cond.selects "StrawMenModel" ({ cls := "StrawMenModel", name := "fear", desc := "(III)I" } : Jvm.MethodName) ({ cls := "StrawMenModel", name := "fear", desc := "(III)I" } : Jvm.MethodName)) ∈ lw_all := lw_g (lw_at lw_m6 75 rfl) rfl
theorem q1327 : (Jvm.Cond.code ({ cls := "StrawMenModel", name := "fear", desc := "(III)I" } : Jvm.MethodName) prog_12_method_38_code (4 : Nat) (Option.some Jvm.ClassFile.FieldType.int)) ∈ lw_all := lw_g (lw_at lw_m6 76 rfl) rfl
theorem q1329 : (Jvm.Cond.instanceMethod ({ cls := "StrawMenModel", name := "cost", desc := "(I)I" } : Jvm.MethodName)) ∈ lw_all := lw_g (lw_at lw_m6 78 rfl) rfl
theorem q1330 : (Jvm.Cond.selects "StrawMenModel" ({ cls := "StrawMenModel", name := "cost", desc := "(I)I" } : Jvm.MethodName) ({ cls := "StrawMenModel", name := "cost", desc := "(I)I" } : Jvm.MethodName)) ∈ lw_all := lw_g (lw_at lw_m6 79 rfl) rfl
theorem q1331 : (Jvm.Cond.code ({ cls := "StrawMenModel", name := "cost", desc := "(I)I" } : Jvm.MethodName) prog_12_method_39_code (2 : Nat) (Option.some Jvm.ClassFile.FieldType.int)) ∈ lw_all := lw_g (lw_at lw_m6 80 rfl) rfl
theorem q1332 : (Jvm.Cond.methodLink "StrawMenModel" (226 : Nat) ({ cls := "StrawMenModel", name := "lossOf", desc := "(I)I" } : Jvm.MethodName)) ∈ lw_all := lw_g (lw_at lw_m6 81 rfl) rfl
theorem q1333 : (Jvm.Cond.privateMethod ({ cls := "StrawMenModel", name := "lossOf", desc := "(I)I" } : Jvm.MethodName)) ∈ lw_tbl := lw_at lw_m6 82 rfl
theorem q1334 : (Jvm.Cond.instanceMethod ({ cls := "StrawMenModel", name := "lossOf", desc := "(I)I" } : Jvm.MethodName)) ∈ lw_all := lw_g (lw_at lw_m6 83 rfl) rfl
theorem q1335 : (Jvm.Cond.code ({ cls := "StrawMenModel", name := "lossOf", desc := "(I)I" } : Jvm.MethodName) prog_12_method_32_code (5 : Nat) (Option.some Jvm.ClassFile.FieldType.int)) ∈ lw_all := lw_g (lw_at lw_m6 84 rfl) rfl
theorem q1336 : (Jvm.Cond.methodLink "StrawMenModel" (229 : Nat) ({ cls := "StrawMenModel", name := "wages", desc := "()I" } : Jvm.MethodName)) ∈ lw_all := lw_g (lw_at lw_m6 85 rfl) rfl
theorem q1337 : (Jvm.Cond.privateMethod ({ cls := "StrawMenModel", name := "wages", desc := "()I" } : Jvm.MethodName)) ∈ lw_tbl := lw_at lw_m6 86 rfl
theorem q1338 : (Jvm.Cond.instanceMethod ({ cls := "StrawMenModel", name := "wages", desc := "()I" } : Jvm.MethodName)) ∈ lw_all := lw_g (lw_at lw_m6 87 rfl) rfl
theorem q1339 : (Jvm.Cond.code ({ cls := "StrawMenModel", name := "wages", desc := "()I" } : Jvm.MethodName) prog_12_method_33_code (4 : Nat) (Option.some Jvm.ClassFile.FieldType.int)) ∈ lw_all := lw_g (lw_at lw_m6 88 rfl) rfl
theorem q1341 : (Jvm.Cond.instanceMethod ({ cls := "StrawMenModel", name := "best", desc := "(III)I" } : Jvm.MethodName)) ∈ lw_all := lw_g (lw_at lw_m6 90 rfl) rfl
theorem q1342 : (Jvm.Cond.selects "StrawMenModel" ({ cls := "StrawMenModel", name := "best", desc := "(III)I" } : Jvm.MethodName) ({ cls := "StrawMenModel", name := "best", desc := "(III)I" } : Jvm.MethodName)) ∈ lw_all := lw_g (lw_at lw_m6 91 rfl) rfl
theorem q1343 : (Jvm.Cond.code ({ cls := "StrawMenModel", name := "best", desc := "(III)I" } : Jvm.MethodName) prog_12_method_43_code (9 : Nat) (Option.some Jvm.ClassFile.FieldType.int)) ∈ lw_all := lw_g (lw_at lw_m6 92 rfl) rfl
theorem q1344 : (Jvm.Cond.constantLong "StrawMenModel" (232 : Nat) (2 : Int64)) ∈ lw_all := lw_g (lw_at lw_m6 93 rfl) rfl
theorem q1345 : (Jvm.Cond.methodLink "StrawMenModel" (234 : Nat) ({ cls := "StrawMenModel", name := "keep", desc := "(I)V" } : Jvm.MethodName)) ∈ lw_all := lw_g (lw_at lw_m6 94 rfl) rfl
theorem q1346 : (Jvm.Cond.privateMethod ({ cls := "StrawMenModel", name := "keep", desc := "(I)V" } : Jvm.MethodName)) ∈ lw_tbl := lw_at lw_m6 95 rfl
theorem q1347 : (Jvm.Cond.instanceMethod ({ cls := "StrawMenModel", name := "keep", desc := "(I)V" } : Jvm.MethodName)) ∈ lw_all := lw_g (lw_at lw_m6 96 rfl) rfl
theorem q1348 : (Jvm.Cond.code ({ cls := "StrawMenModel", name := "keep", desc := "(I)V" } : Jvm.MethodName) prog_12_method_40_code (3 : Nat) (Option.none : Option Jvm.ClassFile.FieldType)) ∈ lw_all := lw_g (lw_at lw_m6 97 rfl) rfl
theorem q1349 : (Jvm.Cond.methodLink "StrawMenModel" (237 : Nat) ({ cls := "StrawMenModel", name := "layTried", desc := "(II)Z" } : Jvm.MethodName)) ∈ lw_all := lw_g (lw_at lw_m6 98 rfl) rfl
theorem q1350 : (Jvm.Cond.privateMethod ({ cls := "StrawMenModel", name := "layTried", desc := "(II)Z" } : Jvm.MethodName)) ∈ lw_tbl := lw_at lw_m6 99 rfl
theorem q1351 : (Jvm.Cond.instanceMethod ({ cls := "StrawMenModel", name := "layTried", desc := "(II)Z" } : Jvm.MethodName)) ∈ lw_all := lw_g (lw_at lw_m6 100 rfl) rfl
theorem q1352 : (Jvm.Cond.code ({ cls := "StrawMenModel", name := "layTried", desc := "(II)Z" } : Jvm.MethodName) prog_12_method_42_code (8 : Nat) (Option.some Jvm.ClassFile.FieldType.boolean)) ∈ lw_all := lw_g (lw_at lw_m6 101 rfl) rfl
theorem q1353 : (Jvm.Cond.methodLink "StrawMenModel" (240 : Nat) ({ cls := "StrawMenModel", name := "back", desc := "(I)V" } : Jvm.MethodName)) ∈ lw_all := lw_g (lw_at lw_m6 102 rfl) rfl
theorem q1354 : (Jvm.Cond.privateMethod ({ cls := "StrawMenModel", name := "back", desc := "(I)V" } : Jvm.MethodName)) ∈ lw_tbl := lw_at lw_m6 103 rfl
theorem q1355 : (Jvm.Cond.instanceMethod ({ cls := "StrawMenModel", name := "back", desc := "(I)V" } : Jvm.MethodName)) ∈ lw_all := lw_g (lw_at lw_m6 104 rfl) rfl
theorem q1356 : (Jvm.Cond.code ({ cls := "StrawMenModel", name := "back", desc := "(I)V" } : Jvm.MethodName) prog_12_method_41_code (3 : Nat) (Option.none : Option Jvm.ClassFile.FieldType)) ∈ lw_all := lw_g (lw_at lw_m6 105 rfl) rfl
theorem q1357 : (Jvm.Cond.methodLink "StrawMenModel" (243 : Nat) ({ cls := "StrawMenModel", name := "leastSecond", desc := "(I)I" } : Jvm.MethodName)) ∈ lw_all := lw_g (lw_at lw_m6 106 rfl) rfl
theorem q1358 : (Jvm.Cond.privateMethod ({ cls := "StrawMenModel", name := "leastSecond", desc := "(I)I" } : Jvm.MethodName)) ∈ lw_tbl := lw_at lw_m6 107 rfl
theorem q1359 : (Jvm.Cond.instanceMethod ({ cls := "StrawMenModel", name := "leastSecond", desc := "(I)I" } : Jvm.MethodName)) ∈ lw_all := lw_g (lw_at lw_m6 108 rfl) rfl
theorem q1360 : (Jvm.Cond.code ({ cls := "StrawMenModel", name := "leastSecond", desc := "(I)I" } : Jvm.MethodName) prog_12_method_44_code (4 : Nat) (Option.some Jvm.ClassFile.FieldType.int)) ∈ lw_all := lw_g (lw_at lw_m6 109 rfl) rfl
theorem q1362 : (Jvm.Cond.instanceMethod ({ cls := "StrawMenModel", name := "seldom", desc := "(II)I" } : Jvm.MethodName)) ∈ lw_all := lw_g (lw_at lw_m6 111 rfl) rfl
theorem q1363 : (Jvm.Cond.selects "StrawMenModel" ({ cls := "StrawMenModel", name := "seldom", desc := "(II)I" } : Jvm.MethodName) ({ cls := "StrawMenModel", name := "seldom", desc := "(II)I" } : Jvm.MethodName)) ∈ lw_all := lw_g (lw_at lw_m6 112 rfl) rfl
theorem q1364 : (Jvm.Cond.code ({ cls := "StrawMenModel", name := "seldom", desc := "(II)I" } : Jvm.MethodName) prog_12_method_46_code (6 : Nat) (Option.some Jvm.ClassFile.FieldType.int)) ∈ lw_all := lw_g (lw_at lw_m6 113 rfl) rfl
theorem q1365 : (Jvm.Cond.methodLink "StrawMenModel" (248 : Nat) ({ cls := "StrawMenModel", name := "isLevel", desc := "(I)Z" } : Jvm.MethodName)) ∈ lw_all := lw_g (lw_at lw_m6 114 rfl) rfl
theorem q1366 : (Jvm.Cond.static ({ cls := "StrawMenModel", name := "isLevel", desc := "(I)Z" } : Jvm.MethodName)) ∈ lw_all := lw_g (lw_at lw_m6 115 rfl) rfl
theorem q1367 : (Jvm.Cond.code ({ cls := "StrawMenModel", name := "isLevel", desc := "(I)Z" } : Jvm.MethodName) prog_12_method_45_code (1 : Nat) (Option.some Jvm.ClassFile.FieldType.boolean)) ∈ lw_all := lw_g (lw_at lw_m6 116 rfl) rfl
theorem q1368 : (Jvm.Cond.constantLong "StrawMenModel" (246 : Nat) (999 : Int64)) ∈ lw_all := lw_g (lw_at lw_m6 117 rfl) rfl
theorem q1370 : (Jvm.Cond.instanceMethod ({ cls := "StrawMenModel", name := "lasts", desc := "(II)I" } : Jvm.MethodName)) ∈ lw_all := lw_g (lw_at lw_m6 119 rfl) rfl
theorem q1371 : (Jvm.Cond.selects "StrawMenModel" ({ cls := "StrawMenModel", name := "lasts", desc := "(II)I" } : Jvm.MethodName) ({ cls := "StrawMenModel", name := "lasts", desc := "(II)I" } : Jvm.MethodName)) ∈ lw_all := lw_g (lw_at lw_m6 120 rfl) rfl
theorem q1372 : (Jvm.Cond.code ({ cls := "StrawMenModel", name := "lasts", desc := "(II)I" } : Jvm.MethodName) prog_12_method_47_code (5 : Nat) (Option.some Jvm.ClassFile.FieldType.int)) ∈ lw_all := lw_g (lw_at lw_m6 121 rfl) rfl
theorem q1374 : (Jvm.Cond.instanceMethod ({ cls := "StrawMenModel", name := "cheapest", desc := "(III)I" } : Jvm.MethodName)) ∈ lw_all := lw_g (lw_at lw_m6 123 rfl) rfl
theorem q1375 : (Jvm.Cond.selects "StrawMenModel" ({ cls := "StrawMenModel", name := "cheapest", desc := "(III)I" } : Jvm.MethodName) ({ cls := "StrawMenModel", name := "cheapest", desc := "(III)I" } : Jvm.MethodName)) ∈ lw_all := lw_g (lw_at lw_m6 124 rfl) rfl
theorem q1376 : (Jvm.Cond.code ({ cls := "StrawMenModel", name := "cheapest", desc := "(III)I" } : Jvm.MethodName) prog_12_method_48_code (8 : Nat) (Option.some Jvm.ClassFile.FieldType.int)) ∈ lw_all := lw_g (lw_at lw_m6 125 rfl) rfl
theorem q1378 : (Jvm.Cond.instanceMethod ({ cls := "StrawMenModel", name := "saved", desc := "(I)I" } : Jvm.MethodName)) ∈ lw_all := lw_g (lw_at lw_m6 127 rfl) rfl
theorem q1379 : (Jvm.Cond.selects "StrawMenModel" ({ cls := "StrawMenModel", name := "saved", desc := "(I)I" } : Jvm.MethodName) ({ cls := "StrawMenModel", name := "saved", desc := "(I)I" } : Jvm.MethodName)) ∈ lw_all := lw_g (lw_at lw_m6 128 rfl) rfl
theorem q1380 : (Jvm.Cond.code ({ cls := "StrawMenModel", name := "saved", desc := "(I)I" } : Jvm.MethodName) prog_12_method_50_code (2 : Nat) (Option.some Jvm.ClassFile.FieldType.int)) ∈ lw_all := lw_g (lw_at lw_m6 129 rfl) rfl
theorem q1381 : (Jvm.Cond.constantLong "StrawMenModel" (251 : Nat) (15 : Int64)) ∈ lw_all := lw_g (lw_at lw_m6 130 rfl) rfl
theorem q1382 : (Jvm.Cond.methodLink "StrawMenModel" (253 : Nat) ({ cls := "StrawMenModel", name := "alone", desc := "(I)I" } : Jvm.MethodName)) ∈ lw_all := lw_g (lw_at lw_m6 131 rfl) rfl
theorem q1383 : (Jvm.Cond.privateMethod ({ cls := "StrawMenModel", name := "alone", desc := "(I)I" } : Jvm.MethodName)) ∈ lw_tbl := lw_at lw_m6 132 rfl
theorem q1384 : (Jvm.Cond.instanceMethod ({ cls := "StrawMenModel", name := "alone", desc := "(I)I" } : Jvm.MethodName)) ∈ lw_all := lw_g (lw_at lw_m6 133 rfl) rfl
theorem q1385 : (Jvm.Cond.code ({ cls := "StrawMenModel", name := "alone", desc := "(I)I" } : Jvm.MethodName) prog_12_method_49_code (2 : Nat) (Option.some Jvm.ClassFile.FieldType.int)) ∈ lw_all := lw_g (lw_at lw_m6 134 rfl) rfl
theorem q1386 : (Jvm.Cond.constant "StrawMenModel" (256 : Nat) (100000 : Int32)) ∈ lw_all := lw_g (lw_at lw_m6 135 rfl) rfl
theorem q1388 : (Jvm.Cond.instanceMethod ({ cls := "StrawMenModel", name := "fair", desc := "(II)I" } : Jvm.MethodName)) ∈ lw_all := lw_g (lw_at lw_m6 137 rfl) rfl
theorem q1389 : (Jvm.Cond.selects "StrawMenModel" ({ cls := "StrawMenModel", name := "fair", desc := "(II)I" } : Jvm.MethodName) ({ cls := "StrawMenModel", name := "fair", desc := "(II)I" } : Jvm.MethodName)) ∈ lw_all := lw_g (lw_at lw_m6 138 rfl) rfl
theorem q1390 : (Jvm.Cond.code ({ cls := "StrawMenModel", name := "fair", desc := "(II)I" } : Jvm.MethodName) prog_12_method_53_code (8 : Nat) (Option.some Jvm.ClassFile.FieldType.int)) ∈ lw_all := lw_g (lw_at lw_m6 139 rfl) rfl
theorem q1391 : (Jvm.Cond.methodLink "StrawMenModel" (257 : Nat) ({ cls := "StrawMenModel", name := "orders", desc := "(I)I" } : Jvm.MethodName)) ∈ lw_all := lw_g (lw_at lw_m6 140 rfl) rfl
theorem q1392 : (Jvm.Cond.static ({ cls := "StrawMenModel", name := "orders", desc := "(I)I" } : Jvm.MethodName)) ∈ lw_all := lw_g (lw_at lw_m6 141 rfl) rfl
theorem q1393 : (Jvm.Cond.code ({ cls := "StrawMenModel", name := "orders", desc := "(I)I" } : Jvm.MethodName) prog_12_method_52_code (1 : Nat) (Option.some Jvm.ClassFile.FieldType.int)) ∈ lw_all := lw_g (lw_at lw_m6 142 rfl) rfl
theorem q1394 : (Jvm.Cond.constantLong "StrawMenModel" (260 : Nat) (2400000 : Int64)) ∈ lw_all := lw_g (lw_at lw_m6 143 rfl) rfl
theorem q1395 : (Jvm.Cond.constantLong "StrawMenModel" (262 : Nat) (24 : Int64)) ∈ lw_all := lw_g (lw_at lw_m6 144 rfl) rfl
theorem q1396 : (Jvm.Cond.methodLink "StrawMenModel" (264 : Nat) ({ cls := "StrawMenModel", name := "divisor", desc := "(JJ)J" } : Jvm.MethodName)) ∈ lw_all := lw_g (lw_at lw_m6 145 rfl) rfl
theorem q1397 : (Jvm.Cond.static ({ cls := "StrawMenModel", name := "divisor", desc := "(JJ)J" } : Jvm.MethodName)) ∈ lw_all := lw_g (lw_at lw_m6 146 rfl) rfl
theorem q1398 : (Jvm.Cond.code ({ cls := "StrawMenModel", name := "divisor", desc := "(JJ)J" } : Jvm.MethodName) prog_12_method_51_code (10 : Nat) (Option.some Jvm.ClassFile.FieldType.long)) ∈ lw_all := lw_g (lw_at lw_m6 147 rfl) rfl
theorem q1400 : (Jvm.Cond.instanceMethod ({ cls := "StrawMenModel", name := "free", desc := "(I)I" } : Jvm.MethodName)) ∈ lw_all := lw_g (lw_at lw_m6 149 rfl) rfl
theorem q1401 : (Jvm.Cond.selects "StrawMenModel" ({ cls := "StrawMenModel", name := "free", desc := "(I)I" } : Jvm.MethodName) ({ cls := "StrawMenModel", name := "free", desc := "(I)I" } : Jvm.MethodName)) ∈ lw_all := lw_g (lw_at lw_m6 150 rfl) rfl
theorem q1402 : (Jvm.Cond.code ({ cls := "StrawMenModel", name := "free", desc := "(I)I" } : Jvm.MethodName) prog_12_method_54_code (3 : Nat) (Option.some Jvm.ClassFile.FieldType.int)) ∈ lw_all := lw_g (lw_at lw_m6 151 rfl) rfl
theorem q1404 : (Jvm.Cond.instanceMethod ({ cls := "StrawMenModel", name := "matters", desc := "()I" } : Jvm.MethodName)) ∈ lw_all := lw_g (lw_at lw_m6 153 rfl) rfl
theorem q1405 : (Jvm.Cond.selects "StrawMenModel" ({ cls := "StrawMenModel", name := "matters", desc := "()I" } : Jvm.MethodName) ({ cls := "StrawMenModel", name := "matters", desc := "()I" } : Jvm.MethodName)) ∈ lw_all := lw_g (lw_at lw_m6 154 rfl) rfl
theorem q1406 : (Jvm.Cond.code ({ cls := "StrawMenModel", name := "matters", desc := "()I" } : Jvm.MethodName) prog_12_method_55_code (4 : Nat) (Option.some Jvm.ClassFile.FieldType.int)) ∈ lw_all := lw_g (lw_at lw_m6 155 rfl) rfl
theorem q1408 : (Jvm.Cond.instanceMethod ({ cls := "StrawMenModel", name := "counted", desc := "(III)I" } : Jvm.MethodName)) ∈ lw_all := lw_g (lw_at lw_m6 157 rfl) rfl
theorem q1409 : (Jvm.Cond.selects "StrawMenModel" ({ cls := "StrawMenModel", name := "counted", desc := "(III)I" } : Jvm.MethodName) ({ cls := "StrawMenModel", name := "counted", desc := "(III)I" } : Jvm.MethodName)) ∈ lw_all := lw_g (lw_at lw_m6 158 rfl) rfl
theorem q1410 : (Jvm.Cond.code ({ cls := "StrawMenModel", name := "counted", desc := "(III)I" } : Jvm.MethodName) prog_12_method_56_code (4 : Nat) (Option.some Jvm.ClassFile.FieldType.int)) ∈ lw_all := lw_g (lw_at lw_m6 159 rfl) rfl
theorem q1412 : (Jvm.Cond.instanceMethod ({ cls := "StrawMenModel", name := "learnt", desc := "(I)I" } : Jvm.MethodName)) ∈ lw_all := lw_g (lw_at lw_m6 161 rfl) rfl
theorem q1413 : (Jvm.Cond.selects "StrawMenModel" ({ cls := "StrawMenModel", name := "learnt", desc := "(I)I" } : Jvm.MethodName) ({ cls := "StrawMenModel", name := "learnt", desc := "(I)I" } : Jvm.MethodName)) ∈ lw_all := lw_g (lw_at lw_m6 162 rfl) rfl
theorem q1414 : (Jvm.Cond.code ({ cls := "StrawMenModel", name := "learnt", desc := "(I)I" } : Jvm.MethodName) prog_12_method_58_code (5 : Nat) (Option.some Jvm.ClassFile.FieldType.int)) ∈ lw_all := lw_g (lw_at lw_m6 163 rfl) rfl
theorem q1415 : (Jvm.Cond.methodLink "StrawMenModel" (271 : Nat) ({ cls := "StrawMenModel", name := "holds", desc := "()Z" } : Jvm.MethodName)) ∈ lw_all := lw_g (lw_at lw_m6 164 rfl) rfl
theorem q1416 : (Jvm.Cond.privateMethod ({ cls := "StrawMenModel", name := "holds", desc := "()Z" } : Jvm.MethodName)) ∈ lw_tbl := lw_at lw_m6 165 rfl
theorem q1417 : (Jvm.Cond.instanceMethod ({ cls := "StrawMenModel", name := "holds", desc := "()Z" } : Jvm.MethodName)) ∈ lw_all := lw_g (lw_at lw_m6 166 rfl) rfl
theorem q1418 : (Jvm.Cond.code ({ cls := "StrawMenModel", name := "holds", desc := "()Z" } : Jvm.MethodName) prog_12_method_57_code (4 : Nat) (Option.some Jvm.ClassFile.FieldType.boolean)) ∈ lw_all := lw_g (lw_at lw_m6 167 rfl) rfl
theorem q1420 : (Jvm.Cond.instanceMethod ({ cls := "StrawMenModel", name := "count", desc := "(I)I" } : Jvm.MethodName)) ∈ lw_all := lw_g (lw_at lw_m6 169 rfl) rfl
theorem q1421 : (Jvm.Cond.selects "StrawMenModel" ({ cls := "StrawMenModel", name := "count", desc := "(I)I" } : Jvm.MethodName) ({ cls := "StrawMenModel", name := "count", desc := "(I)I" } : Jvm.MethodName)) ∈ lw_all := lw_g (lw_at lw_m6 170 rfl) rfl
theorem q1422 : (Jvm.Cond.code ({ cls := "StrawMenModel", name := "count", desc := "(I)I" } : Jvm.MethodName) prog_12_method_60_code (2 : Nat) (Option.some Jvm.ClassFile.FieldType.int)) ∈ lw_all := lw_g (lw_at lw_m6 171 rfl) rfl
theorem q1423 : (Jvm.Cond.methodLink "StrawMenModel" (274 : Nat) ({ cls := "StrawMenModel", name := "many", desc := "(I)I" } : Jvm.MethodName)) ∈ lw_all := lw_g (lw_at lw_m6 172 rfl) rfl
theorem q1424 : (Jvm.Cond.static ({ cls := "StrawMenModel", name := "many", desc := "(I)I" } : Jvm.MethodName)) ∈ lw_all := lw_g (lw_at lw_m6 173 rfl) rfl
theorem q1425 : (Jvm.Cond.code ({ cls := "StrawMenModel", name := "many", desc := "(I)I" } : Jvm.MethodName) prog_12_method_59_code (1 : Nat) (Option.some Jvm.ClassFile.FieldType.int)) ∈ lw_all := lw_g (lw_at lw_m6 174 rfl) rfl
theorem q1443 : (Jvm.Cond.castable "StrawMenModel" "java/lang/Object") ∈ lw_tbl := lw_at lw_m6 192 rfl
theorem in_X6 : ∀ w ∈ wsX60, w ∈ lw_all := lw_in wsX60 [1096, 1098, 1100, 1102, 1104, 1106, 1108, 1110, 1112, 1114, 1116, 1118, 1120, 1122, 1124, 1126, 1128, 1130, 1132, 1134, 1136, 1138, 1140, 1142, 1144, 1146, 1148, 1150, 1152, 1154, 1156, 1158, 1160, 1162, 1164, 1166, 1168, 1170, 1172, 1174] (by decide +kernel) (by decide +kernel)
