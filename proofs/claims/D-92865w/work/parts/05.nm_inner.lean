/-! StrawMen$Coat -/
set_option maxRecDepth 100000
def RX1 : String := "StrawMen$Coat"
def TX1 : u_T := fun k => match k with
  | 0 => ("StrawMen$Coat", "fright", "I", true)
  | _ => ("StrawMen$Coat", "wane", "I", true)
def tyX1 : Nat → FieldType := fun k => match k with
  | 0 => .int
  | _ => .int
abbrev wsX10 : List Cond := u_ws RX1 TX1 2
theorem nmX1 : ∀ a, a < 2 → ∀ b, b < 2 → a ≠ b → (TX1 a).2.1 ≠ (TX1 b).2.1 := by decide +kernel
theorem tyX1_ok : ∀ k, k < 2 → parseFieldDescriptor (TX1 k).2.2.1 = some (tyX1 k) := by decide +kernel
abbrev cX1_init : ByteArray := prog_3_method_1_code
def yX1_init : MethodName := ⟨RX1, "<init>", "(II)V"⟩
def dkwX1_init_0 : List UInt8 := [42, 183, 0, 1, 42, 27, 181, 0, 7, 42, 28, 181, 0, 13, 177]
abbrev dktX1_init_0 : List UInt8 := dkwX1_init_0 ++ []
theorem dksX1_init_0 : cX1_init.data.toList.drop 0 = dktX1_init_0 := by decide +kernel
theorem dX1_init_0 : decode cX1_init 0 = .ok (.aload_n 0, 1) := dk_42 (dk_at dksX1_init_0 0 rfl rfl)
theorem dX1_init_1 : decode cX1_init 1 = .ok (.invokespecial 1, 3) := dk_183 0 1 (dk_at dksX1_init_0 1 rfl rfl)
theorem dX1_init_4 : decode cX1_init 4 = .ok (.aload_n 0, 1) := dk_42 (dk_at dksX1_init_0 4 rfl rfl)
theorem dX1_init_5 : decode cX1_init 5 = .ok (.iload_n 1, 1) := dk_27 (dk_at dksX1_init_0 5 rfl rfl)
theorem dX1_init_6 : decode cX1_init 6 = .ok (.putfield 7, 3) := dk_181 0 7 (dk_at dksX1_init_0 6 rfl rfl)
theorem dX1_init_9 : decode cX1_init 9 = .ok (.aload_n 0, 1) := dk_42 (dk_at dksX1_init_0 9 rfl rfl)
theorem dX1_init_10 : decode cX1_init 10 = .ok (.iload_n 2, 1) := dk_28 (dk_at dksX1_init_0 10 rfl rfl)
theorem dX1_init_11 : decode cX1_init 11 = .ok (.putfield 13, 3) := dk_181 0 13 (dk_at dksX1_init_0 11 rfl rfl)
theorem dX1_init_14 : decode cX1_init 14 = .ok (.return_, 1) := dk_177 (dk_at dksX1_init_0 14 rfl rfl)
abbrev cX1_after : ByteArray := prog_3_method_2_code
def yX1_after : MethodName := ⟨RX1, "after", "(II)I"⟩
def dkwX1_after_0 : List UInt8 := [27, 16, 100, 28, 100, 104, 16, 100, 108, 172]
abbrev dktX1_after_0 : List UInt8 := dkwX1_after_0 ++ []
theorem dksX1_after_0 : cX1_after.data.toList.drop 0 = dktX1_after_0 := by decide +kernel
theorem dX1_after_0 : decode cX1_after 0 = .ok (.iload_n 1, 1) := dk_27 (dk_at dksX1_after_0 0 rfl rfl)
theorem dX1_after_1 : decode cX1_after 1 = .ok (.bipush 100, 2) := dk_16 100 (dk_at dksX1_after_0 1 rfl rfl)
theorem dX1_after_3 : decode cX1_after 3 = .ok (.iload_n 2, 1) := dk_28 (dk_at dksX1_after_0 3 rfl rfl)
theorem dX1_after_4 : decode cX1_after 4 = .ok (.isub, 1) := dk_100 (dk_at dksX1_after_0 4 rfl rfl)
theorem dX1_after_5 : decode cX1_after 5 = .ok (.imul, 1) := dk_104 (dk_at dksX1_after_0 5 rfl rfl)
theorem dX1_after_6 : decode cX1_after 6 = .ok (.bipush 100, 2) := dk_16 100 (dk_at dksX1_after_0 6 rfl rfl)
theorem dX1_after_8 : decode cX1_after 8 = .ok (.idiv, 1) := dk_108 (dk_at dksX1_after_0 8 rfl rfl)
theorem dX1_after_9 : decode cX1_after 9 = .ok (.ireturn, 1) := dk_172 (dk_at dksX1_after_0 9 rfl rfl)
theorem q53 : (Jvm.Cond.initialized "StrawMen$Coat") ∈ lw_all := lw_g (lw_at lw_m1 2 rfl) rfl
theorem q105 : (Jvm.Cond.instanceMethod ({ cls := "StrawMen$Coat", name := "<init>", desc := "(II)V" } : Jvm.MethodName)) ∈ lw_all := lw_g (lw_at lw_m1 54 rfl) rfl
theorem q106 : (Jvm.Cond.code ({ cls := "StrawMen$Coat", name := "<init>", desc := "(II)V" } : Jvm.MethodName) prog_3_method_1_code (3 : Nat) (Option.none : Option Jvm.ClassFile.FieldType)) ∈ lw_all := lw_g (lw_at lw_m1 55 rfl) rfl
theorem q107 : (Jvm.Cond.methodLink "StrawMen$Coat" (1 : Nat) ({ cls := "java/lang/Object", name := "<init>", desc := "()V" } : Jvm.MethodName)) ∈ lw_all := lw_g (lw_at lw_m1 56 rfl) rfl
theorem q108 : (Jvm.Cond.fieldLink "StrawMen$Coat" (7 : Nat) "StrawMen$Coat" "fright" "I") ∈ lw_all := lw_g (lw_at lw_m1 57 rfl) rfl
theorem q113 : (Jvm.Cond.fieldLink "StrawMen$Coat" (13 : Nat) "StrawMen$Coat" "wane" "I") ∈ lw_all := lw_g (lw_at lw_m1 62 rfl) rfl
theorem q117 : (Jvm.Cond.soleField "StrawMen$Coat" "fright") ∈ lw_all := lw_g (lw_at lw_m1 66 rfl) rfl
theorem q119 : (Jvm.Cond.soleField "StrawMen$Coat" "wane") ∈ lw_all := lw_g (lw_at lw_m1 68 rfl) rfl
theorem q727 : (Jvm.Cond.instantiable "StrawMen$Coat" (2 : Nat)) ∈ lw_all := lw_g (lw_at lw_m3 196 rfl) rfl
theorem q729 : (Jvm.Cond.laysFinal "StrawMen$Coat" "StrawMen$Coat" "fright" "I") ∈ lw_all := lw_g (lw_at lw_m3 198 rfl) rfl
theorem q730 : (Jvm.Cond.laysFinal "StrawMen$Coat" "StrawMen$Coat" "wane" "I") ∈ lw_all := lw_g (lw_at lw_m3 199 rfl) rfl
theorem q731 : (Jvm.Cond.superclass "StrawMen$Coat" "java/lang/Object") ∈ lw_all := lw_g (lw_at lw_m3 200 rfl) rfl
theorem q812 : (Jvm.Cond.instanceMethod ({ cls := "StrawMen$Coat", name := "after", desc := "(II)I" } : Jvm.MethodName)) ∈ lw_all := lw_g (lw_at lw_m4 41 rfl) rfl
theorem q813 : (Jvm.Cond.selects "StrawMen$Coat" ({ cls := "StrawMen$Coat", name := "after", desc := "(II)I" } : Jvm.MethodName) ({ cls := "StrawMen$Coat", name := "after", desc := "(II)I" } : Jvm.MethodName)) ∈ lw_all := lw_g (lw_at lw_m4 42 rfl) rfl
theorem q814 : (Jvm.Cond.sameMethod "StrawMen$Coat" "StrawMen$Coat" "after" "(II)I") ∈ lw_all := lw_g (lw_at lw_m4 43 rfl) rfl
theorem q819 : (Jvm.Cond.code ({ cls := "StrawMen$Coat", name := "after", desc := "(II)I" } : Jvm.MethodName) prog_3_method_2_code (3 : Nat) (Option.some Jvm.ClassFile.FieldType.int)) ∈ lw_all := lw_g (lw_at lw_m4 48 rfl) rfl
theorem q998 : (Jvm.Cond.selects "StrawMen$Coat" ({ cls := "java/lang/Object", name := "getClass", desc := "()Ljava/lang/Class;" } : Jvm.MethodName) ({ cls := "java/lang/Object", name := "getClass", desc := "()Ljava/lang/Class;" } : Jvm.MethodName)) ∈ lw_all := lw_g (lw_at lw_m4 227 rfl) rfl
theorem q1435 : (Jvm.Cond.castable "StrawMen$Coat" "java/lang/Object") ∈ lw_tbl := lw_at lw_m6 184 rfl
theorem in_X1 : ∀ w ∈ wsX10, w ∈ lw_all := lw_in wsX10 [729, 730] (by decide +kernel) (by decide +kernel)
/-! StrawMen$Boy -/
set_option maxRecDepth 100000
def RX2 : String := "StrawMen$Boy"
def TX2 : u_T := fun k => match k with
  | 0 => ("StrawMen$Coat", "fright", "I", true)
  | _ => ("StrawMen$Coat", "wane", "I", true)
def tyX2 : Nat → FieldType := fun k => match k with
  | 0 => .int
  | _ => .int
abbrev wsX20 : List Cond := u_ws RX2 TX2 2
theorem nmX2 : ∀ a, a < 2 → ∀ b, b < 2 → a ≠ b → (TX2 a).2.1 ≠ (TX2 b).2.1 := by decide +kernel
theorem tyX2_ok : ∀ k, k < 2 → parseFieldDescriptor (TX2 k).2.2.1 = some (tyX2 k) := by decide +kernel
abbrev cX2_init : ByteArray := prog_2_method_1_code
def yX2_init : MethodName := ⟨RX2, "<init>", "()V"⟩
def dkwX2_init_0 : List UInt8 := [42, 17, 3, 231, 3, 183, 0, 3, 177]
abbrev dktX2_init_0 : List UInt8 := dkwX2_init_0 ++ []
theorem dksX2_init_0 : cX2_init.data.toList.drop 0 = dktX2_init_0 := by decide +kernel
theorem dX2_init_0 : decode cX2_init 0 = .ok (.aload_n 0, 1) := dk_42 (dk_at dksX2_init_0 0 rfl rfl)
theorem dX2_init_1 : decode cX2_init 1 = .ok (.sipush 999, 3) := dk_17 3 231 (dk_at dksX2_init_0 1 rfl rfl)
theorem dX2_init_4 : decode cX2_init 4 = .ok (.iconst 0, 1) := dk_3 (dk_at dksX2_init_0 4 rfl rfl)
theorem dX2_init_5 : decode cX2_init 5 = .ok (.invokespecial 3, 3) := dk_183 0 3 (dk_at dksX2_init_0 5 rfl rfl)
theorem dX2_init_8 : decode cX2_init 8 = .ok (.return_, 1) := dk_177 (dk_at dksX2_init_0 8 rfl rfl)
abbrev cX2_after : ByteArray := prog_2_method_2_code
def yX2_after : MethodName := ⟨RX2, "after", "(II)I"⟩
def dkwX2_after_0 : List UInt8 := [42, 27, 28, 183, 0, 9, 42, 180, 0, 13, 184, 0, 19, 172]
abbrev dktX2_after_0 : List UInt8 := dkwX2_after_0 ++ []
theorem dksX2_after_0 : cX2_after.data.toList.drop 0 = dktX2_after_0 := by decide +kernel
theorem dX2_after_0 : decode cX2_after 0 = .ok (.aload_n 0, 1) := dk_42 (dk_at dksX2_after_0 0 rfl rfl)
theorem dX2_after_1 : decode cX2_after 1 = .ok (.iload_n 1, 1) := dk_27 (dk_at dksX2_after_0 1 rfl rfl)
theorem dX2_after_2 : decode cX2_after 2 = .ok (.iload_n 2, 1) := dk_28 (dk_at dksX2_after_0 2 rfl rfl)
theorem dX2_after_3 : decode cX2_after 3 = .ok (.invokespecial 9, 3) := dk_183 0 9 (dk_at dksX2_after_0 3 rfl rfl)
theorem dX2_after_6 : decode cX2_after 6 = .ok (.aload_n 0, 1) := dk_42 (dk_at dksX2_after_0 6 rfl rfl)
theorem dX2_after_7 : decode cX2_after 7 = .ok (.getfield 13, 3) := dk_180 0 13 (dk_at dksX2_after_0 7 rfl rfl)
theorem dX2_after_10 : decode cX2_after 10 = .ok (.invokestatic 19, 3) := dk_184 0 19 (dk_at dksX2_after_0 10 rfl rfl)
theorem dX2_after_13 : decode cX2_after 13 = .ok (.ireturn, 1) := dk_172 (dk_at dksX2_after_0 13 rfl rfl)
theorem q54 : (Jvm.Cond.initialized "StrawMen$Boy") ∈ lw_all := lw_g (lw_at lw_m1 3 rfl) rfl
theorem q100 : (Jvm.Cond.instantiable "StrawMen$Boy" (2 : Nat)) ∈ lw_all := lw_g (lw_at lw_m1 49 rfl) rfl
theorem q102 : (Jvm.Cond.instanceMethod ({ cls := "StrawMen$Boy", name := "<init>", desc := "()V" } : Jvm.MethodName)) ∈ lw_all := lw_g (lw_at lw_m1 51 rfl) rfl
theorem q103 : (Jvm.Cond.code ({ cls := "StrawMen$Boy", name := "<init>", desc := "()V" } : Jvm.MethodName) prog_2_method_1_code (1 : Nat) (Option.none : Option Jvm.ClassFile.FieldType)) ∈ lw_all := lw_g (lw_at lw_m1 52 rfl) rfl
theorem q104 : (Jvm.Cond.methodLink "StrawMen$Boy" (3 : Nat) ({ cls := "StrawMen$Coat", name := "<init>", desc := "(II)V" } : Jvm.MethodName)) ∈ lw_all := lw_g (lw_at lw_m1 53 rfl) rfl
theorem q109 : (Jvm.Cond.fieldLink "StrawMen$Boy" (13 : Nat) "StrawMen$Boy" "fright" "I") ∈ lw_all := lw_g (lw_at lw_m1 58 rfl) rfl
theorem q110 : (Jvm.Cond.sameField "StrawMen$Boy" "StrawMen$Coat" "fright" "I") ∈ lw_all := lw_g (lw_at lw_m1 59 rfl) rfl
theorem q116 : (Jvm.Cond.laysFinal "StrawMen$Boy" "StrawMen$Coat" "fright" "I") ∈ lw_all := lw_g (lw_at lw_m1 65 rfl) rfl
theorem q118 : (Jvm.Cond.laysFinal "StrawMen$Boy" "StrawMen$Coat" "wane" "I") ∈ lw_all := lw_g (lw_at lw_m1 67 rfl) rfl
theorem q120 : (Jvm.Cond.superclass "StrawMen$Boy" "StrawMen$Coat") ∈ lw_all := lw_g (lw_at lw_m1 69 rfl) rfl
theorem q815 : (Jvm.Cond.selects "StrawMen$Boy" ({ cls := "StrawMen$Coat", name := "after", desc := "(II)I" } : Jvm.MethodName) ({ cls := "StrawMen$Boy", name := "after", desc := "(II)I" } : Jvm.MethodName)) ∈ lw_all := lw_g (lw_at lw_m4 44 rfl) rfl
theorem q816 : (Jvm.Cond.instanceMethod ({ cls := "StrawMen$Boy", name := "after", desc := "(II)I" } : Jvm.MethodName)) ∈ lw_all := lw_g (lw_at lw_m4 45 rfl) rfl
theorem q817 : (Jvm.Cond.code ({ cls := "StrawMen$Boy", name := "after", desc := "(II)I" } : Jvm.MethodName) prog_2_method_2_code (3 : Nat) (Option.some Jvm.ClassFile.FieldType.int)) ∈ lw_all := lw_g (lw_at lw_m4 46 rfl) rfl
theorem q818 : (Jvm.Cond.methodLink "StrawMen$Boy" (9 : Nat) ({ cls := "StrawMen$Coat", name := "after", desc := "(II)I" } : Jvm.MethodName)) ∈ lw_all := lw_g (lw_at lw_m4 47 rfl) rfl
theorem q820 : (Jvm.Cond.methodLink "StrawMen$Boy" (19 : Nat) ({ cls := "java/lang/Math", name := "max", desc := "(II)I" } : Jvm.MethodName)) ∈ lw_all := lw_g (lw_at lw_m4 49 rfl) rfl
theorem q997 : (Jvm.Cond.selects "StrawMen$Boy" ({ cls := "java/lang/Object", name := "getClass", desc := "()Ljava/lang/Class;" } : Jvm.MethodName) ({ cls := "java/lang/Object", name := "getClass", desc := "()Ljava/lang/Class;" } : Jvm.MethodName)) ∈ lw_all := lw_g (lw_at lw_m4 226 rfl) rfl
theorem q1438 : (Jvm.Cond.castable "StrawMen$Boy" "java/lang/Object") ∈ lw_tbl := lw_at lw_m6 187 rfl
theorem q1450 : (Jvm.Cond.castable "StrawMen$Boy" "StrawMen$Coat") ∈ lw_tbl := lw_at lw_m6 199 rfl
theorem in_X2 : ∀ w ∈ wsX20, w ∈ lw_all := lw_in wsX20 [116, 118] (by decide +kernel) (by decide +kernel)
/-! StrawMen$Plan -/
set_option maxRecDepth 100000
def RX3 : String := "StrawMen$Plan"
def TX3 : u_T := fun k => match k with
  | 0 => ("StrawMen$Plan", "stands", "[[B", true)
  | _ => ("StrawMen$Plan", "isReal", "[[Z", true)
def tyX3 : Nat → FieldType := fun k => match k with
  | 0 => .array (.array .byte)
  | _ => .array (.array .boolean)
abbrev wsX30 : List Cond := u_ws RX3 TX3 2
theorem nmX3 : ∀ a, a < 2 → ∀ b, b < 2 → a ≠ b → (TX3 a).2.1 ≠ (TX3 b).2.1 := by decide +kernel
theorem tyX3_ok : ∀ k, k < 2 → parseFieldDescriptor (TX3 k).2.2.1 = some (tyX3 k) := by decide +kernel
abbrev cX3_init : ByteArray := prog_7_method_1_code
def yX3_init : MethodName := ⟨RX3, "<init>", "()V"⟩
def dkwX3_init_2 : List UInt8 := [25, 4, 2, 184, 0, 21, 132, 3, 1, 167, 255, 237, 177]
abbrev dktX3_init_2 : List UInt8 := dkwX3_init_2 ++ []
def dkwX3_init_1 : List UInt8 := [181, 0, 18, 42, 180, 0, 11, 76, 43, 190, 61, 3, 62, 29, 28, 162, 0, 20, 43, 29, 50, 58, 4]
abbrev dktX3_init_1 : List UInt8 := dkwX3_init_1 ++ dktX3_init_2
def dkwX3_init_0 : List UInt8 := [42, 183, 0, 3, 42, 16, 21, 7, 197, 0, 9, 2, 181, 0, 11, 42, 16, 21, 7, 197, 0, 16, 2]
abbrev dktX3_init_0 : List UInt8 := dkwX3_init_0 ++ dktX3_init_1
theorem dksX3_init_0 : cX3_init.data.toList.drop 0 = dktX3_init_0 := by decide +kernel
theorem dksX3_init_1 : cX3_init.data.toList.drop 23 = dktX3_init_1 := dk_seg dksX3_init_0 23 rfl rfl
theorem dksX3_init_2 : cX3_init.data.toList.drop 46 = dktX3_init_2 := dk_seg dksX3_init_1 23 rfl rfl
theorem dX3_init_0 : decode cX3_init 0 = .ok (.aload_n 0, 1) := dk_42 (dk_at dksX3_init_0 0 rfl rfl)
theorem dX3_init_1 : decode cX3_init 1 = .ok (.invokespecial 3, 3) := dk_183 0 3 (dk_at dksX3_init_0 1 rfl rfl)
theorem dX3_init_4 : decode cX3_init 4 = .ok (.aload_n 0, 1) := dk_42 (dk_at dksX3_init_0 4 rfl rfl)
theorem dX3_init_5 : decode cX3_init 5 = .ok (.bipush 21, 2) := dk_16 21 (dk_at dksX3_init_0 5 rfl rfl)
theorem dX3_init_7 : decode cX3_init 7 = .ok (.iconst 4, 1) := dk_7 (dk_at dksX3_init_0 7 rfl rfl)
theorem dX3_init_8 : decode cX3_init 8 = .ok (.multianewarray 9 2, 4) := by decide +kernel
theorem dX3_init_12 : decode cX3_init 12 = .ok (.putfield 11, 3) := dk_181 0 11 (dk_at dksX3_init_0 12 rfl rfl)
theorem dX3_init_15 : decode cX3_init 15 = .ok (.aload_n 0, 1) := dk_42 (dk_at dksX3_init_0 15 rfl rfl)
theorem dX3_init_16 : decode cX3_init 16 = .ok (.bipush 21, 2) := dk_16 21 (dk_at dksX3_init_0 16 rfl rfl)
theorem dX3_init_18 : decode cX3_init 18 = .ok (.iconst 4, 1) := dk_7 (dk_at dksX3_init_0 18 rfl rfl)
theorem dX3_init_19 : decode cX3_init 19 = .ok (.multianewarray 16 2, 4) := by decide +kernel
theorem dX3_init_23 : decode cX3_init 23 = .ok (.putfield 18, 3) := dk_181 0 18 (dk_at dksX3_init_1 0 rfl rfl)
theorem dX3_init_26 : decode cX3_init 26 = .ok (.aload_n 0, 1) := dk_42 (dk_at dksX3_init_1 3 rfl rfl)
theorem dX3_init_27 : decode cX3_init 27 = .ok (.getfield 11, 3) := dk_180 0 11 (dk_at dksX3_init_1 4 rfl rfl)
theorem dX3_init_30 : decode cX3_init 30 = .ok (.astore_n 1, 1) := dk_76 (dk_at dksX3_init_1 7 rfl rfl)
theorem dX3_init_31 : decode cX3_init 31 = .ok (.aload_n 1, 1) := dk_43 (dk_at dksX3_init_1 8 rfl rfl)
theorem dX3_init_32 : decode cX3_init 32 = .ok (.arraylength, 1) := dk_190 (dk_at dksX3_init_1 9 rfl rfl)
theorem dX3_init_33 : decode cX3_init 33 = .ok (.istore_n 2, 1) := dk_61 (dk_at dksX3_init_1 10 rfl rfl)
theorem dX3_init_34 : decode cX3_init 34 = .ok (.iconst 0, 1) := dk_3 (dk_at dksX3_init_1 11 rfl rfl)
theorem dX3_init_35 : decode cX3_init 35 = .ok (.istore_n 3, 1) := dk_62 (dk_at dksX3_init_1 12 rfl rfl)
theorem dX3_init_36 : decode cX3_init 36 = .ok (.iload_n 3, 1) := dk_29 (dk_at dksX3_init_1 13 rfl rfl)
theorem dX3_init_37 : decode cX3_init 37 = .ok (.iload_n 2, 1) := dk_28 (dk_at dksX3_init_1 14 rfl rfl)
theorem dX3_init_38 : decode cX3_init 38 = .ok (.if_icmp .ge 20, 3) := dk_162 0 20 (dk_at dksX3_init_1 15 rfl rfl)
theorem dX3_init_41 : decode cX3_init 41 = .ok (.aload_n 1, 1) := dk_43 (dk_at dksX3_init_1 18 rfl rfl)
theorem dX3_init_42 : decode cX3_init 42 = .ok (.iload_n 3, 1) := dk_29 (dk_at dksX3_init_1 19 rfl rfl)
theorem dX3_init_43 : decode cX3_init 43 = .ok (.aaload, 1) := dk_50 (dk_at dksX3_init_1 20 rfl rfl)
theorem dX3_init_44 : decode cX3_init 44 = .ok (.astore 4, 2) := dk_58 4 (dk_at dksX3_init_1 21 rfl rfl)
theorem dX3_init_46 : decode cX3_init 46 = .ok (.aload 4, 2) := dk_25 4 (dk_at dksX3_init_2 0 rfl rfl)
theorem dX3_init_48 : decode cX3_init 48 = .ok (.iconst (-1), 1) := dk_2 (dk_at dksX3_init_2 2 rfl rfl)
theorem dX3_init_49 : decode cX3_init 49 = .ok (.invokestatic 21, 3) := dk_184 0 21 (dk_at dksX3_init_2 3 rfl rfl)
theorem dX3_init_52 : decode cX3_init 52 = .ok (.iinc 3 1, 3) := dk_132 3 1 (dk_at dksX3_init_2 6 rfl rfl)
theorem dX3_init_55 : decode cX3_init 55 = .ok (.goto (-19), 3) := dk_167 255 237 (dk_at dksX3_init_2 9 rfl rfl)
theorem dX3_init_58 : decode cX3_init 58 = .ok (.return_, 1) := dk_177 (dk_at dksX3_init_2 12 rfl rfl)
abbrev cX3_copy : ByteArray := prog_7_method_2_code
def yX3_copy : MethodName := ⟨RX3, "copy", "(LStrawMen$Plan;)V"⟩
def dkwX3_copy_2 : List UInt8 := [167, 255, 211, 177]
abbrev dktX3_copy_2 : List UInt8 := dkwX3_copy_2 ++ []
def dkwX3_copy_1 : List UInt8 := [184, 0, 27, 43, 180, 0, 18, 28, 50, 3, 42, 180, 0, 18, 28, 50, 3, 7, 184, 0, 27, 132, 2, 1]
abbrev dktX3_copy_1 : List UInt8 := dkwX3_copy_1 ++ dktX3_copy_2
def dkwX3_copy_0 : List UInt8 := [3, 61, 28, 16, 21, 162, 0, 45, 43, 180, 0, 11, 28, 50, 3, 42, 180, 0, 11, 28, 50, 3, 7]
abbrev dktX3_copy_0 : List UInt8 := dkwX3_copy_0 ++ dktX3_copy_1
theorem dksX3_copy_0 : cX3_copy.data.toList.drop 0 = dktX3_copy_0 := by decide +kernel
theorem dksX3_copy_1 : cX3_copy.data.toList.drop 23 = dktX3_copy_1 := dk_seg dksX3_copy_0 23 rfl rfl
theorem dksX3_copy_2 : cX3_copy.data.toList.drop 47 = dktX3_copy_2 := dk_seg dksX3_copy_1 24 rfl rfl
theorem dX3_copy_0 : decode cX3_copy 0 = .ok (.iconst 0, 1) := dk_3 (dk_at dksX3_copy_0 0 rfl rfl)
theorem dX3_copy_1 : decode cX3_copy 1 = .ok (.istore_n 2, 1) := dk_61 (dk_at dksX3_copy_0 1 rfl rfl)
theorem dX3_copy_2 : decode cX3_copy 2 = .ok (.iload_n 2, 1) := dk_28 (dk_at dksX3_copy_0 2 rfl rfl)
theorem dX3_copy_3 : decode cX3_copy 3 = .ok (.bipush 21, 2) := dk_16 21 (dk_at dksX3_copy_0 3 rfl rfl)
theorem dX3_copy_5 : decode cX3_copy 5 = .ok (.if_icmp .ge 45, 3) := dk_162 0 45 (dk_at dksX3_copy_0 5 rfl rfl)
theorem dX3_copy_8 : decode cX3_copy 8 = .ok (.aload_n 1, 1) := dk_43 (dk_at dksX3_copy_0 8 rfl rfl)
theorem dX3_copy_9 : decode cX3_copy 9 = .ok (.getfield 11, 3) := dk_180 0 11 (dk_at dksX3_copy_0 9 rfl rfl)
theorem dX3_copy_12 : decode cX3_copy 12 = .ok (.iload_n 2, 1) := dk_28 (dk_at dksX3_copy_0 12 rfl rfl)
theorem dX3_copy_13 : decode cX3_copy 13 = .ok (.aaload, 1) := dk_50 (dk_at dksX3_copy_0 13 rfl rfl)
theorem dX3_copy_14 : decode cX3_copy 14 = .ok (.iconst 0, 1) := dk_3 (dk_at dksX3_copy_0 14 rfl rfl)
theorem dX3_copy_15 : decode cX3_copy 15 = .ok (.aload_n 0, 1) := dk_42 (dk_at dksX3_copy_0 15 rfl rfl)
theorem dX3_copy_16 : decode cX3_copy 16 = .ok (.getfield 11, 3) := dk_180 0 11 (dk_at dksX3_copy_0 16 rfl rfl)
theorem dX3_copy_19 : decode cX3_copy 19 = .ok (.iload_n 2, 1) := dk_28 (dk_at dksX3_copy_0 19 rfl rfl)
theorem dX3_copy_20 : decode cX3_copy 20 = .ok (.aaload, 1) := dk_50 (dk_at dksX3_copy_0 20 rfl rfl)
theorem dX3_copy_21 : decode cX3_copy 21 = .ok (.iconst 0, 1) := dk_3 (dk_at dksX3_copy_0 21 rfl rfl)
theorem dX3_copy_22 : decode cX3_copy 22 = .ok (.iconst 4, 1) := dk_7 (dk_at dksX3_copy_0 22 rfl rfl)
theorem dX3_copy_23 : decode cX3_copy 23 = .ok (.invokestatic 27, 3) := dk_184 0 27 (dk_at dksX3_copy_1 0 rfl rfl)
theorem dX3_copy_26 : decode cX3_copy 26 = .ok (.aload_n 1, 1) := dk_43 (dk_at dksX3_copy_1 3 rfl rfl)
theorem dX3_copy_27 : decode cX3_copy 27 = .ok (.getfield 18, 3) := dk_180 0 18 (dk_at dksX3_copy_1 4 rfl rfl)
theorem dX3_copy_30 : decode cX3_copy 30 = .ok (.iload_n 2, 1) := dk_28 (dk_at dksX3_copy_1 7 rfl rfl)
theorem dX3_copy_31 : decode cX3_copy 31 = .ok (.aaload, 1) := dk_50 (dk_at dksX3_copy_1 8 rfl rfl)
theorem dX3_copy_32 : decode cX3_copy 32 = .ok (.iconst 0, 1) := dk_3 (dk_at dksX3_copy_1 9 rfl rfl)
theorem dX3_copy_33 : decode cX3_copy 33 = .ok (.aload_n 0, 1) := dk_42 (dk_at dksX3_copy_1 10 rfl rfl)
theorem dX3_copy_34 : decode cX3_copy 34 = .ok (.getfield 18, 3) := dk_180 0 18 (dk_at dksX3_copy_1 11 rfl rfl)
theorem dX3_copy_37 : decode cX3_copy 37 = .ok (.iload_n 2, 1) := dk_28 (dk_at dksX3_copy_1 14 rfl rfl)
theorem dX3_copy_38 : decode cX3_copy 38 = .ok (.aaload, 1) := dk_50 (dk_at dksX3_copy_1 15 rfl rfl)
theorem dX3_copy_39 : decode cX3_copy 39 = .ok (.iconst 0, 1) := dk_3 (dk_at dksX3_copy_1 16 rfl rfl)
theorem dX3_copy_40 : decode cX3_copy 40 = .ok (.iconst 4, 1) := dk_7 (dk_at dksX3_copy_1 17 rfl rfl)
theorem dX3_copy_41 : decode cX3_copy 41 = .ok (.invokestatic 27, 3) := dk_184 0 27 (dk_at dksX3_copy_1 18 rfl rfl)
theorem dX3_copy_44 : decode cX3_copy 44 = .ok (.iinc 2 1, 3) := dk_132 2 1 (dk_at dksX3_copy_1 21 rfl rfl)
theorem dX3_copy_47 : decode cX3_copy 47 = .ok (.goto (-45), 3) := dk_167 255 211 (dk_at dksX3_copy_2 0 rfl rfl)
theorem dX3_copy_50 : decode cX3_copy 50 = .ok (.return_, 1) := dk_177 (dk_at dksX3_copy_2 3 rfl rfl)
abbrev cX3_takeOff : ByteArray := prog_7_method_3_code
def yX3_takeOff : MethodName := ⟨RX3, "takeOff", "(II)V"⟩
def dkwX3_takeOff_1 : List UInt8 := [160, 0, 7, 2, 167, 0, 11, 42, 180, 0, 11, 27, 50, 29, 51, 84, 132, 3, 1, 167, 255, 216, 177]
abbrev dktX3_takeOff_1 : List UInt8 := dkwX3_takeOff_1 ++ []
def dkwX3_takeOff_0 : List UInt8 := [3, 62, 29, 7, 162, 0, 41, 42, 180, 0, 11, 27, 50, 29, 42, 180, 0, 11, 27, 50, 29, 51, 28]
abbrev dktX3_takeOff_0 : List UInt8 := dkwX3_takeOff_0 ++ dktX3_takeOff_1
theorem dksX3_takeOff_0 : cX3_takeOff.data.toList.drop 0 = dktX3_takeOff_0 := by decide +kernel
theorem dksX3_takeOff_1 : cX3_takeOff.data.toList.drop 23 = dktX3_takeOff_1 := dk_seg dksX3_takeOff_0 23 rfl rfl
theorem dX3_takeOff_0 : decode cX3_takeOff 0 = .ok (.iconst 0, 1) := dk_3 (dk_at dksX3_takeOff_0 0 rfl rfl)
theorem dX3_takeOff_1 : decode cX3_takeOff 1 = .ok (.istore_n 3, 1) := dk_62 (dk_at dksX3_takeOff_0 1 rfl rfl)
theorem dX3_takeOff_2 : decode cX3_takeOff 2 = .ok (.iload_n 3, 1) := dk_29 (dk_at dksX3_takeOff_0 2 rfl rfl)
theorem dX3_takeOff_3 : decode cX3_takeOff 3 = .ok (.iconst 4, 1) := dk_7 (dk_at dksX3_takeOff_0 3 rfl rfl)
theorem dX3_takeOff_4 : decode cX3_takeOff 4 = .ok (.if_icmp .ge 41, 3) := dk_162 0 41 (dk_at dksX3_takeOff_0 4 rfl rfl)
theorem dX3_takeOff_7 : decode cX3_takeOff 7 = .ok (.aload_n 0, 1) := dk_42 (dk_at dksX3_takeOff_0 7 rfl rfl)
theorem dX3_takeOff_8 : decode cX3_takeOff 8 = .ok (.getfield 11, 3) := dk_180 0 11 (dk_at dksX3_takeOff_0 8 rfl rfl)
theorem dX3_takeOff_11 : decode cX3_takeOff 11 = .ok (.iload_n 1, 1) := dk_27 (dk_at dksX3_takeOff_0 11 rfl rfl)
theorem dX3_takeOff_12 : decode cX3_takeOff 12 = .ok (.aaload, 1) := dk_50 (dk_at dksX3_takeOff_0 12 rfl rfl)
theorem dX3_takeOff_13 : decode cX3_takeOff 13 = .ok (.iload_n 3, 1) := dk_29 (dk_at dksX3_takeOff_0 13 rfl rfl)
theorem dX3_takeOff_14 : decode cX3_takeOff 14 = .ok (.aload_n 0, 1) := dk_42 (dk_at dksX3_takeOff_0 14 rfl rfl)
theorem dX3_takeOff_15 : decode cX3_takeOff 15 = .ok (.getfield 11, 3) := dk_180 0 11 (dk_at dksX3_takeOff_0 15 rfl rfl)
theorem dX3_takeOff_18 : decode cX3_takeOff 18 = .ok (.iload_n 1, 1) := dk_27 (dk_at dksX3_takeOff_0 18 rfl rfl)
theorem dX3_takeOff_19 : decode cX3_takeOff 19 = .ok (.aaload, 1) := dk_50 (dk_at dksX3_takeOff_0 19 rfl rfl)
theorem dX3_takeOff_20 : decode cX3_takeOff 20 = .ok (.iload_n 3, 1) := dk_29 (dk_at dksX3_takeOff_0 20 rfl rfl)
theorem dX3_takeOff_21 : decode cX3_takeOff 21 = .ok (.baload, 1) := dk_51 (dk_at dksX3_takeOff_0 21 rfl rfl)
theorem dX3_takeOff_22 : decode cX3_takeOff 22 = .ok (.iload_n 2, 1) := dk_28 (dk_at dksX3_takeOff_0 22 rfl rfl)
theorem dX3_takeOff_23 : decode cX3_takeOff 23 = .ok (.if_icmp .ne 7, 3) := dk_160 0 7 (dk_at dksX3_takeOff_1 0 rfl rfl)
theorem dX3_takeOff_26 : decode cX3_takeOff 26 = .ok (.iconst (-1), 1) := dk_2 (dk_at dksX3_takeOff_1 3 rfl rfl)
theorem dX3_takeOff_27 : decode cX3_takeOff 27 = .ok (.goto 11, 3) := dk_167 0 11 (dk_at dksX3_takeOff_1 4 rfl rfl)
theorem dX3_takeOff_30 : decode cX3_takeOff 30 = .ok (.aload_n 0, 1) := dk_42 (dk_at dksX3_takeOff_1 7 rfl rfl)
theorem dX3_takeOff_31 : decode cX3_takeOff 31 = .ok (.getfield 11, 3) := dk_180 0 11 (dk_at dksX3_takeOff_1 8 rfl rfl)
theorem dX3_takeOff_34 : decode cX3_takeOff 34 = .ok (.iload_n 1, 1) := dk_27 (dk_at dksX3_takeOff_1 11 rfl rfl)
theorem dX3_takeOff_35 : decode cX3_takeOff 35 = .ok (.aaload, 1) := dk_50 (dk_at dksX3_takeOff_1 12 rfl rfl)
theorem dX3_takeOff_36 : decode cX3_takeOff 36 = .ok (.iload_n 3, 1) := dk_29 (dk_at dksX3_takeOff_1 13 rfl rfl)
theorem dX3_takeOff_37 : decode cX3_takeOff 37 = .ok (.baload, 1) := dk_51 (dk_at dksX3_takeOff_1 14 rfl rfl)
theorem dX3_takeOff_38 : decode cX3_takeOff 38 = .ok (.bastore, 1) := dk_84 (dk_at dksX3_takeOff_1 15 rfl rfl)
theorem dX3_takeOff_39 : decode cX3_takeOff 39 = .ok (.iinc 3 1, 3) := dk_132 3 1 (dk_at dksX3_takeOff_1 16 rfl rfl)
theorem dX3_takeOff_42 : decode cX3_takeOff 42 = .ok (.goto (-40), 3) := dk_167 255 216 (dk_at dksX3_takeOff_1 19 rfl rfl)
theorem dX3_takeOff_45 : decode cX3_takeOff 45 = .ok (.return_, 1) := dk_177 (dk_at dksX3_takeOff_1 22 rfl rfl)
theorem q55 : (Jvm.Cond.initialized "StrawMen$Plan") ∈ lw_all := lw_g (lw_at lw_m1 4 rfl) rfl
theorem q122 : (Jvm.Cond.instantiable "StrawMen$Plan" (2 : Nat)) ∈ lw_all := lw_g (lw_at lw_m1 71 rfl) rfl
theorem q124 : (Jvm.Cond.instanceMethod ({ cls := "StrawMen$Plan", name := "<init>", desc := "()V" } : Jvm.MethodName)) ∈ lw_all := lw_g (lw_at lw_m1 73 rfl) rfl
theorem q125 : (Jvm.Cond.code ({ cls := "StrawMen$Plan", name := "<init>", desc := "()V" } : Jvm.MethodName) prog_7_method_1_code (5 : Nat) (Option.none : Option Jvm.ClassFile.FieldType)) ∈ lw_all := lw_g (lw_at lw_m1 74 rfl) rfl
theorem q126 : (Jvm.Cond.methodLink "StrawMen$Plan" (3 : Nat) ({ cls := "java/lang/Object", name := "<init>", desc := "()V" } : Jvm.MethodName)) ∈ lw_all := lw_g (lw_at lw_m1 75 rfl) rfl
theorem q127 : (Jvm.Cond.classLink "StrawMen$Plan" (9 : Nat) "[[B") ∈ lw_all := lw_g (lw_at lw_m1 76 rfl) rfl
theorem q129 : (Jvm.Cond.classLink "StrawMen$Plan" (16 : Nat) "[[Z") ∈ lw_all := lw_g (lw_at lw_m1 78 rfl) rfl
theorem q131 : (Jvm.Cond.methodLink "StrawMen$Plan" (21 : Nat) ({ cls := "java/util/Arrays", name := "fill", desc := "([BB)V" } : Jvm.MethodName)) ∈ lw_all := lw_g (lw_at lw_m1 80 rfl) rfl
theorem q134 : (Jvm.Cond.fieldLink "StrawMen$Plan" (11 : Nat) "StrawMen$Plan" "stands" "[[B") ∈ lw_all := lw_g (lw_at lw_m1 83 rfl) rfl
theorem q137 : (Jvm.Cond.fieldLink "StrawMen$Plan" (18 : Nat) "StrawMen$Plan" "isReal" "[[Z") ∈ lw_all := lw_g (lw_at lw_m1 86 rfl) rfl
theorem q140 : (Jvm.Cond.laysFinal "StrawMen$Plan" "StrawMen$Plan" "stands" "[[B") ∈ lw_all := lw_g (lw_at lw_m1 89 rfl) rfl
theorem q141 : (Jvm.Cond.soleField "StrawMen$Plan" "stands") ∈ lw_all := lw_g (lw_at lw_m1 90 rfl) rfl
theorem q142 : (Jvm.Cond.laysFinal "StrawMen$Plan" "StrawMen$Plan" "isReal" "[[Z") ∈ lw_all := lw_g (lw_at lw_m1 91 rfl) rfl
theorem q143 : (Jvm.Cond.soleField "StrawMen$Plan" "isReal") ∈ lw_all := lw_g (lw_at lw_m1 92 rfl) rfl
theorem q144 : (Jvm.Cond.superclass "StrawMen$Plan" "java/lang/Object") ∈ lw_all := lw_g (lw_at lw_m1 93 rfl) rfl
theorem q900 : (Jvm.Cond.instanceMethod ({ cls := "StrawMen$Plan", name := "copy", desc := "(LStrawMen$Plan;)V" } : Jvm.MethodName)) ∈ lw_all := lw_g (lw_at lw_m4 129 rfl) rfl
theorem q901 : (Jvm.Cond.selects "StrawMen$Plan" ({ cls := "StrawMen$Plan", name := "copy", desc := "(LStrawMen$Plan;)V" } : Jvm.MethodName) ({ cls := "StrawMen$Plan", name := "copy", desc := "(LStrawMen$Plan;)V" } : Jvm.MethodName)) ∈ lw_all := lw_g (lw_at lw_m4 130 rfl) rfl
theorem q902 : (Jvm.Cond.code ({ cls := "StrawMen$Plan", name := "copy", desc := "(LStrawMen$Plan;)V" } : Jvm.MethodName) prog_7_method_2_code (3 : Nat) (Option.none : Option Jvm.ClassFile.FieldType)) ∈ lw_all := lw_g (lw_at lw_m4 131 rfl) rfl
theorem q903 : (Jvm.Cond.methodLink "StrawMen$Plan" (27 : Nat) ({ cls := "java/lang/System", name := "arraycopy", desc := "(Ljava/lang/Object;ILjava/lang/Object;II)V" } : Jvm.MethodName)) ∈ lw_all := lw_g (lw_at lw_m4 132 rfl) rfl
theorem q905 : (Jvm.Cond.instanceMethod ({ cls := "StrawMen$Plan", name := "takeOff", desc := "(II)V" } : Jvm.MethodName)) ∈ lw_all := lw_g (lw_at lw_m4 134 rfl) rfl
theorem q906 : (Jvm.Cond.selects "StrawMen$Plan" ({ cls := "StrawMen$Plan", name := "takeOff", desc := "(II)V" } : Jvm.MethodName) ({ cls := "StrawMen$Plan", name := "takeOff", desc := "(II)V" } : Jvm.MethodName)) ∈ lw_all := lw_g (lw_at lw_m4 135 rfl) rfl
theorem q907 : (Jvm.Cond.code ({ cls := "StrawMen$Plan", name := "takeOff", desc := "(II)V" } : Jvm.MethodName) prog_7_method_3_code (4 : Nat) (Option.none : Option Jvm.ClassFile.FieldType)) ∈ lw_all := lw_g (lw_at lw_m4 136 rfl) rfl
theorem q1002 : (Jvm.Cond.selects "StrawMen$Plan" ({ cls := "java/lang/Object", name := "getClass", desc := "()Ljava/lang/Class;" } : Jvm.MethodName) ({ cls := "java/lang/Object", name := "getClass", desc := "()Ljava/lang/Class;" } : Jvm.MethodName)) ∈ lw_all := lw_g (lw_at lw_m4 231 rfl) rfl
theorem q1439 : (Jvm.Cond.castable "StrawMen$Plan" "java/lang/Object") ∈ lw_tbl := lw_at lw_m6 188 rfl
theorem in_X3 : ∀ w ∈ wsX30, w ∈ lw_all := lw_in wsX30 [140, 142] (by decide +kernel) (by decide +kernel)
/-! StrawMen$World -/
set_option maxRecDepth 100000
def RX4 : String := "StrawMen$World"
def TX4 : u_T := fun k => match k with
  | 0 => ("StrawMen$World", "seed", "[I", true)
  | 1 => ("StrawMen$World", "fear", "[[I", true)
  | 2 => ("StrawMen$World", "flown", "[I", true)
  | 3 => ("StrawMen$World", "taken", "[I", true)
  | 4 => ("StrawMen$World", "wane", "I", false)
  | 5 => ("StrawMen$World", "toTell", "I", false)
  | _ => ("StrawMen$World", "this$0", "LStrawMen;", true)
def tyX4 : Nat → FieldType := fun k => match k with
  | 0 => .array .int
  | 1 => .array (.array .int)
  | 2 => .array .int
  | 3 => .array .int
  | 4 => .int
  | 5 => .int
  | _ => .object "StrawMen"
abbrev wsX40 : List Cond := u_ws RX4 TX4 7
theorem nmX4 : ∀ a, a < 7 → ∀ b, b < 7 → a ≠ b → (TX4 a).2.1 ≠ (TX4 b).2.1 := by decide +kernel
theorem tyX4_ok : ∀ k, k < 7 → parseFieldDescriptor (TX4 k).2.2.1 = some (tyX4 k) := by decide +kernel
abbrev cX4_init : ByteArray := prog_10_method_1_code
def yX4_init : MethodName := ⟨RX4, "<init>", "(LStrawMen;)V"⟩
def dkwX4_init_1 : List UInt8 := [181, 0, 21, 42, 7, 188, 10, 181, 0, 24, 42, 7, 188, 10, 181, 0, 27, 42, 2, 181, 0, 30, 177]
abbrev dktX4_init_1 : List UInt8 := dkwX4_init_1 ++ []
def dkwX4_init_0 : List UInt8 := [42, 43, 181, 0, 3, 42, 183, 0, 9, 42, 7, 188, 10, 181, 0, 15, 42, 7, 7, 197, 0, 19, 2]
abbrev dktX4_init_0 : List UInt8 := dkwX4_init_0 ++ dktX4_init_1
theorem dksX4_init_0 : cX4_init.data.toList.drop 0 = dktX4_init_0 := by decide +kernel
theorem dksX4_init_1 : cX4_init.data.toList.drop 23 = dktX4_init_1 := dk_seg dksX4_init_0 23 rfl rfl
theorem dX4_init_0 : decode cX4_init 0 = .ok (.aload_n 0, 1) := dk_42 (dk_at dksX4_init_0 0 rfl rfl)
theorem dX4_init_1 : decode cX4_init 1 = .ok (.aload_n 1, 1) := dk_43 (dk_at dksX4_init_0 1 rfl rfl)
theorem dX4_init_2 : decode cX4_init 2 = .ok (.putfield 3, 3) := dk_181 0 3 (dk_at dksX4_init_0 2 rfl rfl)
theorem dX4_init_5 : decode cX4_init 5 = .ok (.aload_n 0, 1) := dk_42 (dk_at dksX4_init_0 5 rfl rfl)
theorem dX4_init_6 : decode cX4_init 6 = .ok (.invokespecial 9, 3) := dk_183 0 9 (dk_at dksX4_init_0 6 rfl rfl)
theorem dX4_init_9 : decode cX4_init 9 = .ok (.aload_n 0, 1) := dk_42 (dk_at dksX4_init_0 9 rfl rfl)
theorem dX4_init_10 : decode cX4_init 10 = .ok (.iconst 4, 1) := dk_7 (dk_at dksX4_init_0 10 rfl rfl)
theorem dX4_init_11 : decode cX4_init 11 = .ok (.newarray .int, 2) := dk_188_10 (dk_at dksX4_init_0 11 rfl rfl)
theorem dX4_init_13 : decode cX4_init 13 = .ok (.putfield 15, 3) := dk_181 0 15 (dk_at dksX4_init_0 13 rfl rfl)
theorem dX4_init_16 : decode cX4_init 16 = .ok (.aload_n 0, 1) := dk_42 (dk_at dksX4_init_0 16 rfl rfl)
theorem dX4_init_17 : decode cX4_init 17 = .ok (.iconst 4, 1) := dk_7 (dk_at dksX4_init_0 17 rfl rfl)
theorem dX4_init_18 : decode cX4_init 18 = .ok (.iconst 4, 1) := dk_7 (dk_at dksX4_init_0 18 rfl rfl)
theorem dX4_init_19 : decode cX4_init 19 = .ok (.multianewarray 19 2, 4) := by decide +kernel
theorem dX4_init_23 : decode cX4_init 23 = .ok (.putfield 21, 3) := dk_181 0 21 (dk_at dksX4_init_1 0 rfl rfl)
theorem dX4_init_26 : decode cX4_init 26 = .ok (.aload_n 0, 1) := dk_42 (dk_at dksX4_init_1 3 rfl rfl)
theorem dX4_init_27 : decode cX4_init 27 = .ok (.iconst 4, 1) := dk_7 (dk_at dksX4_init_1 4 rfl rfl)
theorem dX4_init_28 : decode cX4_init 28 = .ok (.newarray .int, 2) := dk_188_10 (dk_at dksX4_init_1 5 rfl rfl)
theorem dX4_init_30 : decode cX4_init 30 = .ok (.putfield 24, 3) := dk_181 0 24 (dk_at dksX4_init_1 7 rfl rfl)
theorem dX4_init_33 : decode cX4_init 33 = .ok (.aload_n 0, 1) := dk_42 (dk_at dksX4_init_1 10 rfl rfl)
theorem dX4_init_34 : decode cX4_init 34 = .ok (.iconst 4, 1) := dk_7 (dk_at dksX4_init_1 11 rfl rfl)
theorem dX4_init_35 : decode cX4_init 35 = .ok (.newarray .int, 2) := dk_188_10 (dk_at dksX4_init_1 12 rfl rfl)
theorem dX4_init_37 : decode cX4_init 37 = .ok (.putfield 27, 3) := dk_181 0 27 (dk_at dksX4_init_1 14 rfl rfl)
theorem dX4_init_40 : decode cX4_init 40 = .ok (.aload_n 0, 1) := dk_42 (dk_at dksX4_init_1 17 rfl rfl)
theorem dX4_init_41 : decode cX4_init 41 = .ok (.iconst (-1), 1) := dk_2 (dk_at dksX4_init_1 18 rfl rfl)
theorem dX4_init_42 : decode cX4_init 42 = .ok (.putfield 30, 3) := dk_181 0 30 (dk_at dksX4_init_1 19 rfl rfl)
theorem dX4_init_45 : decode cX4_init 45 = .ok (.return_, 1) := dk_177 (dk_at dksX4_init_1 22 rfl rfl)
abbrev cX4_run : ByteArray := prog_10_method_9_code
def yX4_run : MethodName := ⟨RX4, "run", "(LStrawMen$Plan;I)I"⟩
def dkwX4_run_1 : List UInt8 := [43, 180, 0, 129, 21, 4, 50, 182, 0, 133, 96, 62, 132, 4, 1, 167, 255, 226, 29, 172]
abbrev dktX4_run_1 : List UInt8 := dkwX4_run_1 ++ []
def dkwX4_run_0 : List UInt8 := [42, 182, 0, 121, 3, 62, 3, 54, 4, 21, 4, 28, 162, 0, 30, 29, 42, 43, 180, 0, 123, 21, 4, 50]
abbrev dktX4_run_0 : List UInt8 := dkwX4_run_0 ++ dktX4_run_1
theorem dksX4_run_0 : cX4_run.data.toList.drop 0 = dktX4_run_0 := by decide +kernel
theorem dksX4_run_1 : cX4_run.data.toList.drop 24 = dktX4_run_1 := dk_seg dksX4_run_0 24 rfl rfl
theorem dX4_run_0 : decode cX4_run 0 = .ok (.aload_n 0, 1) := dk_42 (dk_at dksX4_run_0 0 rfl rfl)
theorem dX4_run_1 : decode cX4_run 1 = .ok (.invokevirtual 121, 3) := dk_182 0 121 (dk_at dksX4_run_0 1 rfl rfl)
theorem dX4_run_4 : decode cX4_run 4 = .ok (.iconst 0, 1) := dk_3 (dk_at dksX4_run_0 4 rfl rfl)
theorem dX4_run_5 : decode cX4_run 5 = .ok (.istore_n 3, 1) := dk_62 (dk_at dksX4_run_0 5 rfl rfl)
theorem dX4_run_6 : decode cX4_run 6 = .ok (.iconst 0, 1) := dk_3 (dk_at dksX4_run_0 6 rfl rfl)
theorem dX4_run_7 : decode cX4_run 7 = .ok (.istore 4, 2) := dk_54 4 (dk_at dksX4_run_0 7 rfl rfl)
theorem dX4_run_9 : decode cX4_run 9 = .ok (.iload 4, 2) := dk_21 4 (dk_at dksX4_run_0 9 rfl rfl)
theorem dX4_run_11 : decode cX4_run 11 = .ok (.iload_n 2, 1) := dk_28 (dk_at dksX4_run_0 11 rfl rfl)
theorem dX4_run_12 : decode cX4_run 12 = .ok (.if_icmp .ge 30, 3) := dk_162 0 30 (dk_at dksX4_run_0 12 rfl rfl)
theorem dX4_run_15 : decode cX4_run 15 = .ok (.iload_n 3, 1) := dk_29 (dk_at dksX4_run_0 15 rfl rfl)
theorem dX4_run_16 : decode cX4_run 16 = .ok (.aload_n 0, 1) := dk_42 (dk_at dksX4_run_0 16 rfl rfl)
theorem dX4_run_17 : decode cX4_run 17 = .ok (.aload_n 1, 1) := dk_43 (dk_at dksX4_run_0 17 rfl rfl)
theorem dX4_run_18 : decode cX4_run 18 = .ok (.getfield 123, 3) := dk_180 0 123 (dk_at dksX4_run_0 18 rfl rfl)
theorem dX4_run_21 : decode cX4_run 21 = .ok (.iload 4, 2) := dk_21 4 (dk_at dksX4_run_0 21 rfl rfl)
theorem dX4_run_23 : decode cX4_run 23 = .ok (.aaload, 1) := dk_50 (dk_at dksX4_run_0 23 rfl rfl)
theorem dX4_run_24 : decode cX4_run 24 = .ok (.aload_n 1, 1) := dk_43 (dk_at dksX4_run_1 0 rfl rfl)
theorem dX4_run_25 : decode cX4_run 25 = .ok (.getfield 129, 3) := dk_180 0 129 (dk_at dksX4_run_1 1 rfl rfl)
theorem dX4_run_28 : decode cX4_run 28 = .ok (.iload 4, 2) := dk_21 4 (dk_at dksX4_run_1 4 rfl rfl)
theorem dX4_run_30 : decode cX4_run 30 = .ok (.aaload, 1) := dk_50 (dk_at dksX4_run_1 6 rfl rfl)
theorem dX4_run_31 : decode cX4_run 31 = .ok (.invokevirtual 133, 3) := dk_182 0 133 (dk_at dksX4_run_1 7 rfl rfl)
theorem dX4_run_34 : decode cX4_run 34 = .ok (.iadd, 1) := dk_96 (dk_at dksX4_run_1 10 rfl rfl)
theorem dX4_run_35 : decode cX4_run 35 = .ok (.istore_n 3, 1) := dk_62 (dk_at dksX4_run_1 11 rfl rfl)
theorem dX4_run_36 : decode cX4_run 36 = .ok (.iinc 4 1, 3) := dk_132 4 1 (dk_at dksX4_run_1 12 rfl rfl)
theorem dX4_run_39 : decode cX4_run 39 = .ok (.goto (-30), 3) := dk_167 255 226 (dk_at dksX4_run_1 15 rfl rfl)
theorem dX4_run_42 : decode cX4_run 42 = .ok (.iload_n 3, 1) := dk_29 (dk_at dksX4_run_1 18 rfl rfl)
theorem dX4_run_43 : decode cX4_run 43 = .ok (.ireturn, 1) := dk_172 (dk_at dksX4_run_1 19 rfl rfl)
abbrev cX4_begin : ByteArray := prog_10_method_3_code
def yX4_begin : MethodName := ⟨RX4, "begin", "()V"⟩
def dkwX4_begin_0 : List UInt8 := [42, 2, 42, 180, 0, 3, 180, 0, 61, 182, 0, 64, 177]
abbrev dktX4_begin_0 : List UInt8 := dkwX4_begin_0 ++ []
theorem dksX4_begin_0 : cX4_begin.data.toList.drop 0 = dktX4_begin_0 := by decide +kernel
theorem dX4_begin_0 : decode cX4_begin 0 = .ok (.aload_n 0, 1) := dk_42 (dk_at dksX4_begin_0 0 rfl rfl)
theorem dX4_begin_1 : decode cX4_begin 1 = .ok (.iconst (-1), 1) := dk_2 (dk_at dksX4_begin_0 1 rfl rfl)
theorem dX4_begin_2 : decode cX4_begin 2 = .ok (.aload_n 0, 1) := dk_42 (dk_at dksX4_begin_0 2 rfl rfl)
theorem dX4_begin_3 : decode cX4_begin 3 = .ok (.getfield 3, 3) := dk_180 0 3 (dk_at dksX4_begin_0 3 rfl rfl)
theorem dX4_begin_6 : decode cX4_begin 6 = .ok (.getfield 61, 3) := dk_180 0 61 (dk_at dksX4_begin_0 6 rfl rfl)
theorem dX4_begin_9 : decode cX4_begin 9 = .ok (.invokevirtual 64, 3) := dk_182 0 64 (dk_at dksX4_begin_0 9 rfl rfl)
theorem dX4_begin_12 : decode cX4_begin 12 = .ok (.return_, 1) := dk_177 (dk_at dksX4_begin_0 12 rfl rfl)
abbrev cX4_begin_2 : ByteArray := prog_10_method_2_code
def yX4_begin_2 : MethodName := ⟨RX4, "begin", "(II)V"⟩
def dkwX4_begin_2_5 : List UInt8 := [132, 3, 1, 167, 255, 195, 177]
abbrev dktX4_begin_2_5 : List UInt8 := dkwX4_begin_2_5 ++ []
def dkwX4_begin_2_4 : List UInt8 := [180, 0, 3, 180, 0, 52, 21, 4, 50, 180, 0, 56, 167, 0, 4, 3, 79, 132, 4, 1, 167, 255, 209]
abbrev dktX4_begin_2_4 : List UInt8 := dkwX4_begin_2_4 ++ dktX4_begin_2_5
def dkwX4_begin_2_3 : List UInt8 := [162, 0, 47, 42, 180, 0, 21, 29, 50, 21, 4, 42, 180, 0, 3, 21, 4, 182, 0, 49, 153, 0, 19, 42]
abbrev dktX4_begin_2_3 : List UInt8 := dkwX4_begin_2_3 ++ dktX4_begin_2_4
def dkwX4_begin_2_2 : List UInt8 := [167, 0, 4, 3, 79, 132, 3, 1, 167, 255, 215, 3, 62, 29, 7, 162, 0, 62, 3, 54, 4, 21, 4, 7]
abbrev dktX4_begin_2_2 : List UInt8 := dkwX4_begin_2_2 ++ dktX4_begin_2_3
def dkwX4_begin_2_1 : List UInt8 := [180, 0, 3, 29, 182, 0, 37, 153, 0, 18, 42, 180, 0, 3, 180, 0, 41, 29, 50, 180, 0, 45]
abbrev dktX4_begin_2_1 : List UInt8 := dkwX4_begin_2_1 ++ dktX4_begin_2_2
def dkwX4_begin_2_0 : List UInt8 := [42, 27, 181, 0, 30, 42, 28, 181, 0, 34, 3, 62, 29, 7, 162, 0, 42, 42, 180, 0, 15, 29, 42]
abbrev dktX4_begin_2_0 : List UInt8 := dkwX4_begin_2_0 ++ dktX4_begin_2_1
theorem dksX4_begin_2_0 : cX4_begin_2.data.toList.drop 0 = dktX4_begin_2_0 := by decide +kernel
theorem dksX4_begin_2_1 : cX4_begin_2.data.toList.drop 23 = dktX4_begin_2_1 := dk_seg dksX4_begin_2_0 23 rfl rfl
theorem dksX4_begin_2_2 : cX4_begin_2.data.toList.drop 45 = dktX4_begin_2_2 := dk_seg dksX4_begin_2_1 22 rfl rfl
theorem dksX4_begin_2_3 : cX4_begin_2.data.toList.drop 69 = dktX4_begin_2_3 := dk_seg dksX4_begin_2_2 24 rfl rfl
theorem dksX4_begin_2_4 : cX4_begin_2.data.toList.drop 93 = dktX4_begin_2_4 := dk_seg dksX4_begin_2_3 24 rfl rfl
theorem dksX4_begin_2_5 : cX4_begin_2.data.toList.drop 116 = dktX4_begin_2_5 := dk_seg dksX4_begin_2_4 23 rfl rfl
theorem dX4_begin_2_0 : decode cX4_begin_2 0 = .ok (.aload_n 0, 1) := dk_42 (dk_at dksX4_begin_2_0 0 rfl rfl)
theorem dX4_begin_2_1 : decode cX4_begin_2 1 = .ok (.iload_n 1, 1) := dk_27 (dk_at dksX4_begin_2_0 1 rfl rfl)
theorem dX4_begin_2_2 : decode cX4_begin_2 2 = .ok (.putfield 30, 3) := dk_181 0 30 (dk_at dksX4_begin_2_0 2 rfl rfl)
theorem dX4_begin_2_5 : decode cX4_begin_2 5 = .ok (.aload_n 0, 1) := dk_42 (dk_at dksX4_begin_2_0 5 rfl rfl)
theorem dX4_begin_2_6 : decode cX4_begin_2 6 = .ok (.iload_n 2, 1) := dk_28 (dk_at dksX4_begin_2_0 6 rfl rfl)
theorem dX4_begin_2_7 : decode cX4_begin_2 7 = .ok (.putfield 34, 3) := dk_181 0 34 (dk_at dksX4_begin_2_0 7 rfl rfl)
theorem dX4_begin_2_10 : decode cX4_begin_2 10 = .ok (.iconst 0, 1) := dk_3 (dk_at dksX4_begin_2_0 10 rfl rfl)
theorem dX4_begin_2_11 : decode cX4_begin_2 11 = .ok (.istore_n 3, 1) := dk_62 (dk_at dksX4_begin_2_0 11 rfl rfl)
theorem dX4_begin_2_12 : decode cX4_begin_2 12 = .ok (.iload_n 3, 1) := dk_29 (dk_at dksX4_begin_2_0 12 rfl rfl)
theorem dX4_begin_2_13 : decode cX4_begin_2 13 = .ok (.iconst 4, 1) := dk_7 (dk_at dksX4_begin_2_0 13 rfl rfl)
theorem dX4_begin_2_14 : decode cX4_begin_2 14 = .ok (.if_icmp .ge 42, 3) := dk_162 0 42 (dk_at dksX4_begin_2_0 14 rfl rfl)
theorem dX4_begin_2_17 : decode cX4_begin_2 17 = .ok (.aload_n 0, 1) := dk_42 (dk_at dksX4_begin_2_0 17 rfl rfl)
theorem dX4_begin_2_18 : decode cX4_begin_2 18 = .ok (.getfield 15, 3) := dk_180 0 15 (dk_at dksX4_begin_2_0 18 rfl rfl)
theorem dX4_begin_2_21 : decode cX4_begin_2 21 = .ok (.iload_n 3, 1) := dk_29 (dk_at dksX4_begin_2_0 21 rfl rfl)
theorem dX4_begin_2_22 : decode cX4_begin_2 22 = .ok (.aload_n 0, 1) := dk_42 (dk_at dksX4_begin_2_0 22 rfl rfl)
theorem dX4_begin_2_23 : decode cX4_begin_2 23 = .ok (.getfield 3, 3) := dk_180 0 3 (dk_at dksX4_begin_2_1 0 rfl rfl)
theorem dX4_begin_2_26 : decode cX4_begin_2 26 = .ok (.iload_n 3, 1) := dk_29 (dk_at dksX4_begin_2_1 3 rfl rfl)
theorem dX4_begin_2_27 : decode cX4_begin_2 27 = .ok (.invokevirtual 37, 3) := dk_182 0 37 (dk_at dksX4_begin_2_1 4 rfl rfl)
theorem dX4_begin_2_30 : decode cX4_begin_2 30 = .ok (.ifCond .eq 18, 3) := dk_153 0 18 (dk_at dksX4_begin_2_1 7 rfl rfl)
theorem dX4_begin_2_33 : decode cX4_begin_2 33 = .ok (.aload_n 0, 1) := dk_42 (dk_at dksX4_begin_2_1 10 rfl rfl)
theorem dX4_begin_2_34 : decode cX4_begin_2 34 = .ok (.getfield 3, 3) := dk_180 0 3 (dk_at dksX4_begin_2_1 11 rfl rfl)
theorem dX4_begin_2_37 : decode cX4_begin_2 37 = .ok (.getfield 41, 3) := dk_180 0 41 (dk_at dksX4_begin_2_1 14 rfl rfl)
theorem dX4_begin_2_40 : decode cX4_begin_2 40 = .ok (.iload_n 3, 1) := dk_29 (dk_at dksX4_begin_2_1 17 rfl rfl)
theorem dX4_begin_2_41 : decode cX4_begin_2 41 = .ok (.aaload, 1) := dk_50 (dk_at dksX4_begin_2_1 18 rfl rfl)
theorem dX4_begin_2_42 : decode cX4_begin_2 42 = .ok (.getfield 45, 3) := dk_180 0 45 (dk_at dksX4_begin_2_1 19 rfl rfl)
theorem dX4_begin_2_45 : decode cX4_begin_2 45 = .ok (.goto 4, 3) := dk_167 0 4 (dk_at dksX4_begin_2_2 0 rfl rfl)
theorem dX4_begin_2_48 : decode cX4_begin_2 48 = .ok (.iconst 0, 1) := dk_3 (dk_at dksX4_begin_2_2 3 rfl rfl)
theorem dX4_begin_2_49 : decode cX4_begin_2 49 = .ok (.iastore, 1) := dk_79 (dk_at dksX4_begin_2_2 4 rfl rfl)
theorem dX4_begin_2_50 : decode cX4_begin_2 50 = .ok (.iinc 3 1, 3) := dk_132 3 1 (dk_at dksX4_begin_2_2 5 rfl rfl)
theorem dX4_begin_2_53 : decode cX4_begin_2 53 = .ok (.goto (-41), 3) := dk_167 255 215 (dk_at dksX4_begin_2_2 8 rfl rfl)
theorem dX4_begin_2_56 : decode cX4_begin_2 56 = .ok (.iconst 0, 1) := dk_3 (dk_at dksX4_begin_2_2 11 rfl rfl)
theorem dX4_begin_2_57 : decode cX4_begin_2 57 = .ok (.istore_n 3, 1) := dk_62 (dk_at dksX4_begin_2_2 12 rfl rfl)
theorem dX4_begin_2_58 : decode cX4_begin_2 58 = .ok (.iload_n 3, 1) := dk_29 (dk_at dksX4_begin_2_2 13 rfl rfl)
theorem dX4_begin_2_59 : decode cX4_begin_2 59 = .ok (.iconst 4, 1) := dk_7 (dk_at dksX4_begin_2_2 14 rfl rfl)
theorem dX4_begin_2_60 : decode cX4_begin_2 60 = .ok (.if_icmp .ge 62, 3) := dk_162 0 62 (dk_at dksX4_begin_2_2 15 rfl rfl)
theorem dX4_begin_2_63 : decode cX4_begin_2 63 = .ok (.iconst 0, 1) := dk_3 (dk_at dksX4_begin_2_2 18 rfl rfl)
theorem dX4_begin_2_64 : decode cX4_begin_2 64 = .ok (.istore 4, 2) := dk_54 4 (dk_at dksX4_begin_2_2 19 rfl rfl)
theorem dX4_begin_2_66 : decode cX4_begin_2 66 = .ok (.iload 4, 2) := dk_21 4 (dk_at dksX4_begin_2_2 21 rfl rfl)
theorem dX4_begin_2_68 : decode cX4_begin_2 68 = .ok (.iconst 4, 1) := dk_7 (dk_at dksX4_begin_2_2 23 rfl rfl)
theorem dX4_begin_2_69 : decode cX4_begin_2 69 = .ok (.if_icmp .ge 47, 3) := dk_162 0 47 (dk_at dksX4_begin_2_3 0 rfl rfl)
theorem dX4_begin_2_72 : decode cX4_begin_2 72 = .ok (.aload_n 0, 1) := dk_42 (dk_at dksX4_begin_2_3 3 rfl rfl)
theorem dX4_begin_2_73 : decode cX4_begin_2 73 = .ok (.getfield 21, 3) := dk_180 0 21 (dk_at dksX4_begin_2_3 4 rfl rfl)
theorem dX4_begin_2_76 : decode cX4_begin_2 76 = .ok (.iload_n 3, 1) := dk_29 (dk_at dksX4_begin_2_3 7 rfl rfl)
theorem dX4_begin_2_77 : decode cX4_begin_2 77 = .ok (.aaload, 1) := dk_50 (dk_at dksX4_begin_2_3 8 rfl rfl)
theorem dX4_begin_2_78 : decode cX4_begin_2 78 = .ok (.iload 4, 2) := dk_21 4 (dk_at dksX4_begin_2_3 9 rfl rfl)
theorem dX4_begin_2_80 : decode cX4_begin_2 80 = .ok (.aload_n 0, 1) := dk_42 (dk_at dksX4_begin_2_3 11 rfl rfl)
theorem dX4_begin_2_81 : decode cX4_begin_2 81 = .ok (.getfield 3, 3) := dk_180 0 3 (dk_at dksX4_begin_2_3 12 rfl rfl)
theorem dX4_begin_2_84 : decode cX4_begin_2 84 = .ok (.iload 4, 2) := dk_21 4 (dk_at dksX4_begin_2_3 15 rfl rfl)
theorem dX4_begin_2_86 : decode cX4_begin_2 86 = .ok (.invokevirtual 49, 3) := dk_182 0 49 (dk_at dksX4_begin_2_3 17 rfl rfl)
theorem dX4_begin_2_89 : decode cX4_begin_2 89 = .ok (.ifCond .eq 19, 3) := dk_153 0 19 (dk_at dksX4_begin_2_3 20 rfl rfl)
theorem dX4_begin_2_92 : decode cX4_begin_2 92 = .ok (.aload_n 0, 1) := dk_42 (dk_at dksX4_begin_2_3 23 rfl rfl)
theorem dX4_begin_2_93 : decode cX4_begin_2 93 = .ok (.getfield 3, 3) := dk_180 0 3 (dk_at dksX4_begin_2_4 0 rfl rfl)
theorem dX4_begin_2_96 : decode cX4_begin_2 96 = .ok (.getfield 52, 3) := dk_180 0 52 (dk_at dksX4_begin_2_4 3 rfl rfl)
theorem dX4_begin_2_99 : decode cX4_begin_2 99 = .ok (.iload 4, 2) := dk_21 4 (dk_at dksX4_begin_2_4 6 rfl rfl)
theorem dX4_begin_2_101 : decode cX4_begin_2 101 = .ok (.aaload, 1) := dk_50 (dk_at dksX4_begin_2_4 8 rfl rfl)
theorem dX4_begin_2_102 : decode cX4_begin_2 102 = .ok (.getfield 56, 3) := dk_180 0 56 (dk_at dksX4_begin_2_4 9 rfl rfl)
theorem dX4_begin_2_105 : decode cX4_begin_2 105 = .ok (.goto 4, 3) := dk_167 0 4 (dk_at dksX4_begin_2_4 12 rfl rfl)
theorem dX4_begin_2_108 : decode cX4_begin_2 108 = .ok (.iconst 0, 1) := dk_3 (dk_at dksX4_begin_2_4 15 rfl rfl)
theorem dX4_begin_2_109 : decode cX4_begin_2 109 = .ok (.iastore, 1) := dk_79 (dk_at dksX4_begin_2_4 16 rfl rfl)
theorem dX4_begin_2_110 : decode cX4_begin_2 110 = .ok (.iinc 4 1, 3) := dk_132 4 1 (dk_at dksX4_begin_2_4 17 rfl rfl)
theorem dX4_begin_2_113 : decode cX4_begin_2 113 = .ok (.goto (-47), 3) := dk_167 255 209 (dk_at dksX4_begin_2_4 20 rfl rfl)
theorem dX4_begin_2_116 : decode cX4_begin_2 116 = .ok (.iinc 3 1, 3) := dk_132 3 1 (dk_at dksX4_begin_2_5 0 rfl rfl)
theorem dX4_begin_2_119 : decode cX4_begin_2 119 = .ok (.goto (-61), 3) := dk_167 255 195 (dk_at dksX4_begin_2_5 3 rfl rfl)
theorem dX4_begin_2_122 : decode cX4_begin_2 122 = .ok (.return_, 1) := dk_177 (dk_at dksX4_begin_2_5 6 rfl rfl)
abbrev cX4_go : ByteArray := prog_10_method_7_code
def yX4_go : MethodName := ⟨RX4, "go", "([B[Z)I"⟩
def dkwX4_go_14 : List UInt8 := [182, 0, 115, 79, 132, 4, 1, 167, 255, 130, 42, 182, 0, 118, 29, 172]
abbrev dktX4_go_14 : List UInt8 := dkwX4_go_14 ++ []
def dkwX4_go_13 : List UInt8 := [2, 160, 0, 19, 42, 180, 0, 3, 180, 0, 52, 21, 5, 50, 180, 0, 114, 167, 0, 7, 42, 180, 0, 30]
abbrev dktX4_go_13 : List UInt8 := dkwX4_go_13 ++ dktX4_go_14
def dkwX4_go_12 : List UInt8 := [180, 0, 21, 21, 4, 50, 21, 5, 25, 6, 42, 180, 0, 21, 21, 4, 50, 21, 5, 46, 42, 180, 0, 30]
abbrev dktX4_go_12 : List UInt8 := dkwX4_go_12 ++ dktX4_go_13
def dkwX4_go_11 : List UInt8 := [180, 0, 3, 180, 0, 110, 167, 0, 13, 42, 180, 0, 3, 180, 0, 52, 21, 5, 50, 58, 6, 42]
abbrev dktX4_go_11 : List UInt8 := dkwX4_go_11 ++ dktX4_go_12
def dkwX4_go_10 : List UInt8 := [21, 4, 46, 182, 0, 74, 54, 5, 21, 5, 2, 159, 0, 85, 44, 21, 5, 51, 153, 0, 13, 42]
abbrev dktX4_go_10 : List UInt8 := dkwX4_go_10 ++ dktX4_go_11
def dkwX4_go_9 : List UInt8 := [162, 0, 126, 42, 180, 0, 24, 21, 4, 46, 2, 160, 0, 7, 2, 167, 0, 15, 42, 43, 42, 180, 0, 24]
abbrev dktX4_go_9 : List UInt8 := dkwX4_go_9 ++ dktX4_go_10
def dkwX4_go_8 : List UInt8 := [46, 21, 5, 96, 79, 29, 21, 5, 96, 62, 132, 4, 1, 167, 255, 70, 3, 54, 4, 21, 4, 7]
abbrev dktX4_go_8 : List UInt8 := dkwX4_go_8 ++ dktX4_go_9
def dkwX4_go_7 : List UInt8 := [180, 0, 24, 21, 4, 46, 92, 46, 21, 5, 100, 79, 42, 180, 0, 27, 42, 180, 0, 24, 21, 4, 46, 92]
abbrev dktX4_go_7 : List UInt8 := dkwX4_go_7 ++ dktX4_go_8
def dkwX4_go_6 : List UInt8 := [180, 0, 3, 180, 0, 78, 21, 4, 50, 182, 0, 82, 184, 0, 88, 54, 5, 42, 180, 0, 15, 42]
abbrev dktX4_go_6 : List UInt8 := dkwX4_go_6 ++ dktX4_go_7
def dkwX4_go_5 : List UInt8 := [42, 180, 0, 24, 21, 4, 46, 2, 159, 0, 72, 42, 180, 0, 15, 42, 180, 0, 24, 21, 4, 46, 46, 42]
abbrev dktX4_go_5 : List UInt8 := dkwX4_go_5 ++ dktX4_go_6
def dkwX4_go_4 : List UInt8 := [21, 4, 46, 182, 0, 106, 164, 0, 12, 42, 180, 0, 24, 21, 4, 21, 5, 79, 132, 5, 1, 167, 255, 173]
abbrev dktX4_go_4 : List UInt8 := dkwX4_go_4 ++ dktX4_go_5
def dkwX4_go_3 : List UInt8 := [42, 180, 0, 24, 21, 4, 46, 2, 160, 0, 7, 3, 167, 0, 17, 42, 43, 21, 4, 42, 180, 0, 24]
abbrev dktX4_go_3 : List UInt8 := dkwX4_go_3 ++ dktX4_go_4
def dkwX4_go_2 : List UInt8 := [153, 0, 71, 42, 180, 0, 3, 21, 5, 182, 0, 37, 153, 0, 53, 42, 43, 21, 4, 21, 5, 182, 0, 106]
abbrev dktX4_go_2 : List UInt8 := dkwX4_go_2 ++ dktX4_go_3
def dkwX4_go_1 : List UInt8 := [21, 4, 2, 79, 3, 54, 5, 21, 5, 7, 162, 0, 83, 42, 180, 0, 3, 21, 4, 182, 0, 103]
abbrev dktX4_go_1 : List UInt8 := dkwX4_go_1 ++ dktX4_go_2
def dkwX4_go_0 : List UInt8 := [3, 62, 42, 180, 0, 27, 3, 184, 0, 97, 3, 54, 4, 21, 4, 7, 162, 0, 186, 42, 180, 0, 24]
abbrev dktX4_go_0 : List UInt8 := dkwX4_go_0 ++ dktX4_go_1
theorem dksX4_go_0 : cX4_go.data.toList.drop 0 = dktX4_go_0 := by decide +kernel
theorem dksX4_go_1 : cX4_go.data.toList.drop 23 = dktX4_go_1 := dk_seg dksX4_go_0 23 rfl rfl
theorem dksX4_go_2 : cX4_go.data.toList.drop 45 = dktX4_go_2 := dk_seg dksX4_go_1 22 rfl rfl
theorem dksX4_go_3 : cX4_go.data.toList.drop 69 = dktX4_go_3 := dk_seg dksX4_go_2 24 rfl rfl
theorem dksX4_go_4 : cX4_go.data.toList.drop 92 = dktX4_go_4 := dk_seg dksX4_go_3 23 rfl rfl
theorem dksX4_go_5 : cX4_go.data.toList.drop 116 = dktX4_go_5 := dk_seg dksX4_go_4 24 rfl rfl
theorem dksX4_go_6 : cX4_go.data.toList.drop 140 = dktX4_go_6 := dk_seg dksX4_go_5 24 rfl rfl
theorem dksX4_go_7 : cX4_go.data.toList.drop 162 = dktX4_go_7 := dk_seg dksX4_go_6 22 rfl rfl
theorem dksX4_go_8 : cX4_go.data.toList.drop 186 = dktX4_go_8 := dk_seg dksX4_go_7 24 rfl rfl
theorem dksX4_go_9 : cX4_go.data.toList.drop 208 = dktX4_go_9 := dk_seg dksX4_go_8 22 rfl rfl
theorem dksX4_go_10 : cX4_go.data.toList.drop 232 = dktX4_go_10 := dk_seg dksX4_go_9 24 rfl rfl
theorem dksX4_go_11 : cX4_go.data.toList.drop 254 = dktX4_go_11 := dk_seg dksX4_go_10 22 rfl rfl
theorem dksX4_go_12 : cX4_go.data.toList.drop 276 = dktX4_go_12 := dk_seg dksX4_go_11 22 rfl rfl
theorem dksX4_go_13 : cX4_go.data.toList.drop 300 = dktX4_go_13 := dk_seg dksX4_go_12 24 rfl rfl
theorem dksX4_go_14 : cX4_go.data.toList.drop 324 = dktX4_go_14 := dk_seg dksX4_go_13 24 rfl rfl
theorem dX4_go_0 : decode cX4_go 0 = .ok (.iconst 0, 1) := dk_3 (dk_at dksX4_go_0 0 rfl rfl)
theorem dX4_go_1 : decode cX4_go 1 = .ok (.istore_n 3, 1) := dk_62 (dk_at dksX4_go_0 1 rfl rfl)
theorem dX4_go_2 : decode cX4_go 2 = .ok (.aload_n 0, 1) := dk_42 (dk_at dksX4_go_0 2 rfl rfl)
theorem dX4_go_3 : decode cX4_go 3 = .ok (.getfield 27, 3) := dk_180 0 27 (dk_at dksX4_go_0 3 rfl rfl)
theorem dX4_go_6 : decode cX4_go 6 = .ok (.iconst 0, 1) := dk_3 (dk_at dksX4_go_0 6 rfl rfl)
theorem dX4_go_7 : decode cX4_go 7 = .ok (.invokestatic 97, 3) := dk_184 0 97 (dk_at dksX4_go_0 7 rfl rfl)
theorem dX4_go_10 : decode cX4_go 10 = .ok (.iconst 0, 1) := dk_3 (dk_at dksX4_go_0 10 rfl rfl)
theorem dX4_go_11 : decode cX4_go 11 = .ok (.istore 4, 2) := dk_54 4 (dk_at dksX4_go_0 11 rfl rfl)
theorem dX4_go_13 : decode cX4_go 13 = .ok (.iload 4, 2) := dk_21 4 (dk_at dksX4_go_0 13 rfl rfl)
theorem dX4_go_15 : decode cX4_go 15 = .ok (.iconst 4, 1) := dk_7 (dk_at dksX4_go_0 15 rfl rfl)
theorem dX4_go_16 : decode cX4_go 16 = .ok (.if_icmp .ge 186, 3) := dk_162 0 186 (dk_at dksX4_go_0 16 rfl rfl)
theorem dX4_go_19 : decode cX4_go 19 = .ok (.aload_n 0, 1) := dk_42 (dk_at dksX4_go_0 19 rfl rfl)
theorem dX4_go_20 : decode cX4_go 20 = .ok (.getfield 24, 3) := dk_180 0 24 (dk_at dksX4_go_0 20 rfl rfl)
theorem dX4_go_23 : decode cX4_go 23 = .ok (.iload 4, 2) := dk_21 4 (dk_at dksX4_go_1 0 rfl rfl)
theorem dX4_go_25 : decode cX4_go 25 = .ok (.iconst (-1), 1) := dk_2 (dk_at dksX4_go_1 2 rfl rfl)
theorem dX4_go_26 : decode cX4_go 26 = .ok (.iastore, 1) := dk_79 (dk_at dksX4_go_1 3 rfl rfl)
theorem dX4_go_27 : decode cX4_go 27 = .ok (.iconst 0, 1) := dk_3 (dk_at dksX4_go_1 4 rfl rfl)
theorem dX4_go_28 : decode cX4_go 28 = .ok (.istore 5, 2) := dk_54 5 (dk_at dksX4_go_1 5 rfl rfl)
theorem dX4_go_30 : decode cX4_go 30 = .ok (.iload 5, 2) := dk_21 5 (dk_at dksX4_go_1 7 rfl rfl)
theorem dX4_go_32 : decode cX4_go 32 = .ok (.iconst 4, 1) := dk_7 (dk_at dksX4_go_1 9 rfl rfl)
theorem dX4_go_33 : decode cX4_go 33 = .ok (.if_icmp .ge 83, 3) := dk_162 0 83 (dk_at dksX4_go_1 10 rfl rfl)
theorem dX4_go_36 : decode cX4_go 36 = .ok (.aload_n 0, 1) := dk_42 (dk_at dksX4_go_1 13 rfl rfl)
theorem dX4_go_37 : decode cX4_go 37 = .ok (.getfield 3, 3) := dk_180 0 3 (dk_at dksX4_go_1 14 rfl rfl)
theorem dX4_go_40 : decode cX4_go 40 = .ok (.iload 4, 2) := dk_21 4 (dk_at dksX4_go_1 17 rfl rfl)
theorem dX4_go_42 : decode cX4_go 42 = .ok (.invokevirtual 103, 3) := dk_182 0 103 (dk_at dksX4_go_1 19 rfl rfl)
theorem dX4_go_45 : decode cX4_go 45 = .ok (.ifCond .eq 71, 3) := dk_153 0 71 (dk_at dksX4_go_2 0 rfl rfl)
theorem dX4_go_48 : decode cX4_go 48 = .ok (.aload_n 0, 1) := dk_42 (dk_at dksX4_go_2 3 rfl rfl)
theorem dX4_go_49 : decode cX4_go 49 = .ok (.getfield 3, 3) := dk_180 0 3 (dk_at dksX4_go_2 4 rfl rfl)
theorem dX4_go_52 : decode cX4_go 52 = .ok (.iload 5, 2) := dk_21 5 (dk_at dksX4_go_2 7 rfl rfl)
theorem dX4_go_54 : decode cX4_go 54 = .ok (.invokevirtual 37, 3) := dk_182 0 37 (dk_at dksX4_go_2 9 rfl rfl)
theorem dX4_go_57 : decode cX4_go 57 = .ok (.ifCond .eq 53, 3) := dk_153 0 53 (dk_at dksX4_go_2 12 rfl rfl)
theorem dX4_go_60 : decode cX4_go 60 = .ok (.aload_n 0, 1) := dk_42 (dk_at dksX4_go_2 15 rfl rfl)
theorem dX4_go_61 : decode cX4_go 61 = .ok (.aload_n 1, 1) := dk_43 (dk_at dksX4_go_2 16 rfl rfl)
theorem dX4_go_62 : decode cX4_go 62 = .ok (.iload 4, 2) := dk_21 4 (dk_at dksX4_go_2 17 rfl rfl)
theorem dX4_go_64 : decode cX4_go 64 = .ok (.iload 5, 2) := dk_21 5 (dk_at dksX4_go_2 19 rfl rfl)
theorem dX4_go_66 : decode cX4_go 66 = .ok (.invokevirtual 106, 3) := dk_182 0 106 (dk_at dksX4_go_2 21 rfl rfl)
theorem dX4_go_69 : decode cX4_go 69 = .ok (.aload_n 0, 1) := dk_42 (dk_at dksX4_go_3 0 rfl rfl)
theorem dX4_go_70 : decode cX4_go 70 = .ok (.getfield 24, 3) := dk_180 0 24 (dk_at dksX4_go_3 1 rfl rfl)
theorem dX4_go_73 : decode cX4_go 73 = .ok (.iload 4, 2) := dk_21 4 (dk_at dksX4_go_3 4 rfl rfl)
theorem dX4_go_75 : decode cX4_go 75 = .ok (.iaload, 1) := dk_46 (dk_at dksX4_go_3 6 rfl rfl)
theorem dX4_go_76 : decode cX4_go 76 = .ok (.iconst (-1), 1) := dk_2 (dk_at dksX4_go_3 7 rfl rfl)
theorem dX4_go_77 : decode cX4_go 77 = .ok (.if_icmp .ne 7, 3) := dk_160 0 7 (dk_at dksX4_go_3 8 rfl rfl)
theorem dX4_go_80 : decode cX4_go 80 = .ok (.iconst 0, 1) := dk_3 (dk_at dksX4_go_3 11 rfl rfl)
theorem dX4_go_81 : decode cX4_go 81 = .ok (.goto 17, 3) := dk_167 0 17 (dk_at dksX4_go_3 12 rfl rfl)
theorem dX4_go_84 : decode cX4_go 84 = .ok (.aload_n 0, 1) := dk_42 (dk_at dksX4_go_3 15 rfl rfl)
theorem dX4_go_85 : decode cX4_go 85 = .ok (.aload_n 1, 1) := dk_43 (dk_at dksX4_go_3 16 rfl rfl)
theorem dX4_go_86 : decode cX4_go 86 = .ok (.iload 4, 2) := dk_21 4 (dk_at dksX4_go_3 17 rfl rfl)
theorem dX4_go_88 : decode cX4_go 88 = .ok (.aload_n 0, 1) := dk_42 (dk_at dksX4_go_3 19 rfl rfl)
theorem dX4_go_89 : decode cX4_go 89 = .ok (.getfield 24, 3) := dk_180 0 24 (dk_at dksX4_go_3 20 rfl rfl)
theorem dX4_go_92 : decode cX4_go 92 = .ok (.iload 4, 2) := dk_21 4 (dk_at dksX4_go_4 0 rfl rfl)
theorem dX4_go_94 : decode cX4_go 94 = .ok (.iaload, 1) := dk_46 (dk_at dksX4_go_4 2 rfl rfl)
theorem dX4_go_95 : decode cX4_go 95 = .ok (.invokevirtual 106, 3) := dk_182 0 106 (dk_at dksX4_go_4 3 rfl rfl)
theorem dX4_go_98 : decode cX4_go 98 = .ok (.if_icmp .le 12, 3) := dk_164 0 12 (dk_at dksX4_go_4 6 rfl rfl)
theorem dX4_go_101 : decode cX4_go 101 = .ok (.aload_n 0, 1) := dk_42 (dk_at dksX4_go_4 9 rfl rfl)
theorem dX4_go_102 : decode cX4_go 102 = .ok (.getfield 24, 3) := dk_180 0 24 (dk_at dksX4_go_4 10 rfl rfl)
theorem dX4_go_105 : decode cX4_go 105 = .ok (.iload 4, 2) := dk_21 4 (dk_at dksX4_go_4 13 rfl rfl)
theorem dX4_go_107 : decode cX4_go 107 = .ok (.iload 5, 2) := dk_21 5 (dk_at dksX4_go_4 15 rfl rfl)
theorem dX4_go_109 : decode cX4_go 109 = .ok (.iastore, 1) := dk_79 (dk_at dksX4_go_4 17 rfl rfl)
theorem dX4_go_110 : decode cX4_go 110 = .ok (.iinc 5 1, 3) := dk_132 5 1 (dk_at dksX4_go_4 18 rfl rfl)
theorem dX4_go_113 : decode cX4_go 113 = .ok (.goto (-83), 3) := dk_167 255 173 (dk_at dksX4_go_4 21 rfl rfl)
theorem dX4_go_116 : decode cX4_go 116 = .ok (.aload_n 0, 1) := dk_42 (dk_at dksX4_go_5 0 rfl rfl)
theorem dX4_go_117 : decode cX4_go 117 = .ok (.getfield 24, 3) := dk_180 0 24 (dk_at dksX4_go_5 1 rfl rfl)
theorem dX4_go_120 : decode cX4_go 120 = .ok (.iload 4, 2) := dk_21 4 (dk_at dksX4_go_5 4 rfl rfl)
theorem dX4_go_122 : decode cX4_go 122 = .ok (.iaload, 1) := dk_46 (dk_at dksX4_go_5 6 rfl rfl)
theorem dX4_go_123 : decode cX4_go 123 = .ok (.iconst (-1), 1) := dk_2 (dk_at dksX4_go_5 7 rfl rfl)
theorem dX4_go_124 : decode cX4_go 124 = .ok (.if_icmp .eq 72, 3) := dk_159 0 72 (dk_at dksX4_go_5 8 rfl rfl)
theorem dX4_go_127 : decode cX4_go 127 = .ok (.aload_n 0, 1) := dk_42 (dk_at dksX4_go_5 11 rfl rfl)
theorem dX4_go_128 : decode cX4_go 128 = .ok (.getfield 15, 3) := dk_180 0 15 (dk_at dksX4_go_5 12 rfl rfl)
theorem dX4_go_131 : decode cX4_go 131 = .ok (.aload_n 0, 1) := dk_42 (dk_at dksX4_go_5 15 rfl rfl)
theorem dX4_go_132 : decode cX4_go 132 = .ok (.getfield 24, 3) := dk_180 0 24 (dk_at dksX4_go_5 16 rfl rfl)
theorem dX4_go_135 : decode cX4_go 135 = .ok (.iload 4, 2) := dk_21 4 (dk_at dksX4_go_5 19 rfl rfl)
theorem dX4_go_137 : decode cX4_go 137 = .ok (.iaload, 1) := dk_46 (dk_at dksX4_go_5 21 rfl rfl)
theorem dX4_go_138 : decode cX4_go 138 = .ok (.iaload, 1) := dk_46 (dk_at dksX4_go_5 22 rfl rfl)
theorem dX4_go_139 : decode cX4_go 139 = .ok (.aload_n 0, 1) := dk_42 (dk_at dksX4_go_5 23 rfl rfl)
theorem dX4_go_140 : decode cX4_go 140 = .ok (.getfield 3, 3) := dk_180 0 3 (dk_at dksX4_go_6 0 rfl rfl)
theorem dX4_go_143 : decode cX4_go 143 = .ok (.getfield 78, 3) := dk_180 0 78 (dk_at dksX4_go_6 3 rfl rfl)
theorem dX4_go_146 : decode cX4_go 146 = .ok (.iload 4, 2) := dk_21 4 (dk_at dksX4_go_6 6 rfl rfl)
theorem dX4_go_148 : decode cX4_go 148 = .ok (.aaload, 1) := dk_50 (dk_at dksX4_go_6 8 rfl rfl)
theorem dX4_go_149 : decode cX4_go 149 = .ok (.invokevirtual 82, 3) := dk_182 0 82 (dk_at dksX4_go_6 9 rfl rfl)
theorem dX4_go_152 : decode cX4_go 152 = .ok (.invokestatic 88, 3) := dk_184 0 88 (dk_at dksX4_go_6 12 rfl rfl)
theorem dX4_go_155 : decode cX4_go 155 = .ok (.istore 5, 2) := dk_54 5 (dk_at dksX4_go_6 15 rfl rfl)
theorem dX4_go_157 : decode cX4_go 157 = .ok (.aload_n 0, 1) := dk_42 (dk_at dksX4_go_6 17 rfl rfl)
theorem dX4_go_158 : decode cX4_go 158 = .ok (.getfield 15, 3) := dk_180 0 15 (dk_at dksX4_go_6 18 rfl rfl)
theorem dX4_go_161 : decode cX4_go 161 = .ok (.aload_n 0, 1) := dk_42 (dk_at dksX4_go_6 21 rfl rfl)
theorem dX4_go_162 : decode cX4_go 162 = .ok (.getfield 24, 3) := dk_180 0 24 (dk_at dksX4_go_7 0 rfl rfl)
theorem dX4_go_165 : decode cX4_go 165 = .ok (.iload 4, 2) := dk_21 4 (dk_at dksX4_go_7 3 rfl rfl)
theorem dX4_go_167 : decode cX4_go 167 = .ok (.iaload, 1) := dk_46 (dk_at dksX4_go_7 5 rfl rfl)
theorem dX4_go_168 : decode cX4_go 168 = .ok (.dup2, 1) := dk_92 (dk_at dksX4_go_7 6 rfl rfl)
theorem dX4_go_169 : decode cX4_go 169 = .ok (.iaload, 1) := dk_46 (dk_at dksX4_go_7 7 rfl rfl)
theorem dX4_go_170 : decode cX4_go 170 = .ok (.iload 5, 2) := dk_21 5 (dk_at dksX4_go_7 8 rfl rfl)
theorem dX4_go_172 : decode cX4_go 172 = .ok (.isub, 1) := dk_100 (dk_at dksX4_go_7 10 rfl rfl)
theorem dX4_go_173 : decode cX4_go 173 = .ok (.iastore, 1) := dk_79 (dk_at dksX4_go_7 11 rfl rfl)
theorem dX4_go_174 : decode cX4_go 174 = .ok (.aload_n 0, 1) := dk_42 (dk_at dksX4_go_7 12 rfl rfl)
theorem dX4_go_175 : decode cX4_go 175 = .ok (.getfield 27, 3) := dk_180 0 27 (dk_at dksX4_go_7 13 rfl rfl)
theorem dX4_go_178 : decode cX4_go 178 = .ok (.aload_n 0, 1) := dk_42 (dk_at dksX4_go_7 16 rfl rfl)
theorem dX4_go_179 : decode cX4_go 179 = .ok (.getfield 24, 3) := dk_180 0 24 (dk_at dksX4_go_7 17 rfl rfl)
theorem dX4_go_182 : decode cX4_go 182 = .ok (.iload 4, 2) := dk_21 4 (dk_at dksX4_go_7 20 rfl rfl)
theorem dX4_go_184 : decode cX4_go 184 = .ok (.iaload, 1) := dk_46 (dk_at dksX4_go_7 22 rfl rfl)
theorem dX4_go_185 : decode cX4_go 185 = .ok (.dup2, 1) := dk_92 (dk_at dksX4_go_7 23 rfl rfl)
theorem dX4_go_186 : decode cX4_go 186 = .ok (.iaload, 1) := dk_46 (dk_at dksX4_go_8 0 rfl rfl)
theorem dX4_go_187 : decode cX4_go 187 = .ok (.iload 5, 2) := dk_21 5 (dk_at dksX4_go_8 1 rfl rfl)
theorem dX4_go_189 : decode cX4_go 189 = .ok (.iadd, 1) := dk_96 (dk_at dksX4_go_8 3 rfl rfl)
theorem dX4_go_190 : decode cX4_go 190 = .ok (.iastore, 1) := dk_79 (dk_at dksX4_go_8 4 rfl rfl)
theorem dX4_go_191 : decode cX4_go 191 = .ok (.iload_n 3, 1) := dk_29 (dk_at dksX4_go_8 5 rfl rfl)
theorem dX4_go_192 : decode cX4_go 192 = .ok (.iload 5, 2) := dk_21 5 (dk_at dksX4_go_8 6 rfl rfl)
theorem dX4_go_194 : decode cX4_go 194 = .ok (.iadd, 1) := dk_96 (dk_at dksX4_go_8 8 rfl rfl)
theorem dX4_go_195 : decode cX4_go 195 = .ok (.istore_n 3, 1) := dk_62 (dk_at dksX4_go_8 9 rfl rfl)
theorem dX4_go_196 : decode cX4_go 196 = .ok (.iinc 4 1, 3) := dk_132 4 1 (dk_at dksX4_go_8 10 rfl rfl)
theorem dX4_go_199 : decode cX4_go 199 = .ok (.goto (-186), 3) := dk_167 255 70 (dk_at dksX4_go_8 13 rfl rfl)
theorem dX4_go_202 : decode cX4_go 202 = .ok (.iconst 0, 1) := dk_3 (dk_at dksX4_go_8 16 rfl rfl)
theorem dX4_go_203 : decode cX4_go 203 = .ok (.istore 4, 2) := dk_54 4 (dk_at dksX4_go_8 17 rfl rfl)
theorem dX4_go_205 : decode cX4_go 205 = .ok (.iload 4, 2) := dk_21 4 (dk_at dksX4_go_8 19 rfl rfl)
theorem dX4_go_207 : decode cX4_go 207 = .ok (.iconst 4, 1) := dk_7 (dk_at dksX4_go_8 21 rfl rfl)
theorem dX4_go_208 : decode cX4_go 208 = .ok (.if_icmp .ge 126, 3) := dk_162 0 126 (dk_at dksX4_go_9 0 rfl rfl)
theorem dX4_go_211 : decode cX4_go 211 = .ok (.aload_n 0, 1) := dk_42 (dk_at dksX4_go_9 3 rfl rfl)
theorem dX4_go_212 : decode cX4_go 212 = .ok (.getfield 24, 3) := dk_180 0 24 (dk_at dksX4_go_9 4 rfl rfl)
theorem dX4_go_215 : decode cX4_go 215 = .ok (.iload 4, 2) := dk_21 4 (dk_at dksX4_go_9 7 rfl rfl)
theorem dX4_go_217 : decode cX4_go 217 = .ok (.iaload, 1) := dk_46 (dk_at dksX4_go_9 9 rfl rfl)
theorem dX4_go_218 : decode cX4_go 218 = .ok (.iconst (-1), 1) := dk_2 (dk_at dksX4_go_9 10 rfl rfl)
theorem dX4_go_219 : decode cX4_go 219 = .ok (.if_icmp .ne 7, 3) := dk_160 0 7 (dk_at dksX4_go_9 11 rfl rfl)
theorem dX4_go_222 : decode cX4_go 222 = .ok (.iconst (-1), 1) := dk_2 (dk_at dksX4_go_9 14 rfl rfl)
theorem dX4_go_223 : decode cX4_go 223 = .ok (.goto 15, 3) := dk_167 0 15 (dk_at dksX4_go_9 15 rfl rfl)
theorem dX4_go_226 : decode cX4_go 226 = .ok (.aload_n 0, 1) := dk_42 (dk_at dksX4_go_9 18 rfl rfl)
theorem dX4_go_227 : decode cX4_go 227 = .ok (.aload_n 1, 1) := dk_43 (dk_at dksX4_go_9 19 rfl rfl)
theorem dX4_go_228 : decode cX4_go 228 = .ok (.aload_n 0, 1) := dk_42 (dk_at dksX4_go_9 20 rfl rfl)
theorem dX4_go_229 : decode cX4_go 229 = .ok (.getfield 24, 3) := dk_180 0 24 (dk_at dksX4_go_9 21 rfl rfl)
theorem dX4_go_232 : decode cX4_go 232 = .ok (.iload 4, 2) := dk_21 4 (dk_at dksX4_go_10 0 rfl rfl)
theorem dX4_go_234 : decode cX4_go 234 = .ok (.iaload, 1) := dk_46 (dk_at dksX4_go_10 2 rfl rfl)
theorem dX4_go_235 : decode cX4_go 235 = .ok (.invokevirtual 74, 3) := dk_182 0 74 (dk_at dksX4_go_10 3 rfl rfl)
theorem dX4_go_238 : decode cX4_go 238 = .ok (.istore 5, 2) := dk_54 5 (dk_at dksX4_go_10 6 rfl rfl)
theorem dX4_go_240 : decode cX4_go 240 = .ok (.iload 5, 2) := dk_21 5 (dk_at dksX4_go_10 8 rfl rfl)
theorem dX4_go_242 : decode cX4_go 242 = .ok (.iconst (-1), 1) := dk_2 (dk_at dksX4_go_10 10 rfl rfl)
theorem dX4_go_243 : decode cX4_go 243 = .ok (.if_icmp .eq 85, 3) := dk_159 0 85 (dk_at dksX4_go_10 11 rfl rfl)
theorem dX4_go_246 : decode cX4_go 246 = .ok (.aload_n 2, 1) := dk_44 (dk_at dksX4_go_10 14 rfl rfl)
theorem dX4_go_247 : decode cX4_go 247 = .ok (.iload 5, 2) := dk_21 5 (dk_at dksX4_go_10 15 rfl rfl)
theorem dX4_go_249 : decode cX4_go 249 = .ok (.baload, 1) := dk_51 (dk_at dksX4_go_10 17 rfl rfl)
theorem dX4_go_250 : decode cX4_go 250 = .ok (.ifCond .eq 13, 3) := dk_153 0 13 (dk_at dksX4_go_10 18 rfl rfl)
theorem dX4_go_253 : decode cX4_go 253 = .ok (.aload_n 0, 1) := dk_42 (dk_at dksX4_go_10 21 rfl rfl)
theorem dX4_go_254 : decode cX4_go 254 = .ok (.getfield 3, 3) := dk_180 0 3 (dk_at dksX4_go_11 0 rfl rfl)
theorem dX4_go_257 : decode cX4_go 257 = .ok (.getfield 110, 3) := dk_180 0 110 (dk_at dksX4_go_11 3 rfl rfl)
theorem dX4_go_260 : decode cX4_go 260 = .ok (.goto 13, 3) := dk_167 0 13 (dk_at dksX4_go_11 6 rfl rfl)
theorem dX4_go_263 : decode cX4_go 263 = .ok (.aload_n 0, 1) := dk_42 (dk_at dksX4_go_11 9 rfl rfl)
theorem dX4_go_264 : decode cX4_go 264 = .ok (.getfield 3, 3) := dk_180 0 3 (dk_at dksX4_go_11 10 rfl rfl)
theorem dX4_go_267 : decode cX4_go 267 = .ok (.getfield 52, 3) := dk_180 0 52 (dk_at dksX4_go_11 13 rfl rfl)
theorem dX4_go_270 : decode cX4_go 270 = .ok (.iload 5, 2) := dk_21 5 (dk_at dksX4_go_11 16 rfl rfl)
theorem dX4_go_272 : decode cX4_go 272 = .ok (.aaload, 1) := dk_50 (dk_at dksX4_go_11 18 rfl rfl)
theorem dX4_go_273 : decode cX4_go 273 = .ok (.astore 6, 2) := dk_58 6 (dk_at dksX4_go_11 19 rfl rfl)
theorem dX4_go_275 : decode cX4_go 275 = .ok (.aload_n 0, 1) := dk_42 (dk_at dksX4_go_11 21 rfl rfl)
theorem dX4_go_276 : decode cX4_go 276 = .ok (.getfield 21, 3) := dk_180 0 21 (dk_at dksX4_go_12 0 rfl rfl)
theorem dX4_go_279 : decode cX4_go 279 = .ok (.iload 4, 2) := dk_21 4 (dk_at dksX4_go_12 3 rfl rfl)
theorem dX4_go_281 : decode cX4_go 281 = .ok (.aaload, 1) := dk_50 (dk_at dksX4_go_12 5 rfl rfl)
theorem dX4_go_282 : decode cX4_go 282 = .ok (.iload 5, 2) := dk_21 5 (dk_at dksX4_go_12 6 rfl rfl)
theorem dX4_go_284 : decode cX4_go 284 = .ok (.aload 6, 2) := dk_25 6 (dk_at dksX4_go_12 8 rfl rfl)
theorem dX4_go_286 : decode cX4_go 286 = .ok (.aload_n 0, 1) := dk_42 (dk_at dksX4_go_12 10 rfl rfl)
theorem dX4_go_287 : decode cX4_go 287 = .ok (.getfield 21, 3) := dk_180 0 21 (dk_at dksX4_go_12 11 rfl rfl)
theorem dX4_go_290 : decode cX4_go 290 = .ok (.iload 4, 2) := dk_21 4 (dk_at dksX4_go_12 14 rfl rfl)
theorem dX4_go_292 : decode cX4_go 292 = .ok (.aaload, 1) := dk_50 (dk_at dksX4_go_12 16 rfl rfl)
theorem dX4_go_293 : decode cX4_go 293 = .ok (.iload 5, 2) := dk_21 5 (dk_at dksX4_go_12 17 rfl rfl)
theorem dX4_go_295 : decode cX4_go 295 = .ok (.iaload, 1) := dk_46 (dk_at dksX4_go_12 19 rfl rfl)
theorem dX4_go_296 : decode cX4_go 296 = .ok (.aload_n 0, 1) := dk_42 (dk_at dksX4_go_12 20 rfl rfl)
theorem dX4_go_297 : decode cX4_go 297 = .ok (.getfield 30, 3) := dk_180 0 30 (dk_at dksX4_go_12 21 rfl rfl)
theorem dX4_go_300 : decode cX4_go 300 = .ok (.iconst (-1), 1) := dk_2 (dk_at dksX4_go_13 0 rfl rfl)
theorem dX4_go_301 : decode cX4_go 301 = .ok (.if_icmp .ne 19, 3) := dk_160 0 19 (dk_at dksX4_go_13 1 rfl rfl)
theorem dX4_go_304 : decode cX4_go 304 = .ok (.aload_n 0, 1) := dk_42 (dk_at dksX4_go_13 4 rfl rfl)
theorem dX4_go_305 : decode cX4_go 305 = .ok (.getfield 3, 3) := dk_180 0 3 (dk_at dksX4_go_13 5 rfl rfl)
theorem dX4_go_308 : decode cX4_go 308 = .ok (.getfield 52, 3) := dk_180 0 52 (dk_at dksX4_go_13 8 rfl rfl)
theorem dX4_go_311 : decode cX4_go 311 = .ok (.iload 5, 2) := dk_21 5 (dk_at dksX4_go_13 11 rfl rfl)
theorem dX4_go_313 : decode cX4_go 313 = .ok (.aaload, 1) := dk_50 (dk_at dksX4_go_13 13 rfl rfl)
theorem dX4_go_314 : decode cX4_go 314 = .ok (.getfield 114, 3) := dk_180 0 114 (dk_at dksX4_go_13 14 rfl rfl)
theorem dX4_go_317 : decode cX4_go 317 = .ok (.goto 7, 3) := dk_167 0 7 (dk_at dksX4_go_13 17 rfl rfl)
theorem dX4_go_320 : decode cX4_go 320 = .ok (.aload_n 0, 1) := dk_42 (dk_at dksX4_go_13 20 rfl rfl)
theorem dX4_go_321 : decode cX4_go 321 = .ok (.getfield 30, 3) := dk_180 0 30 (dk_at dksX4_go_13 21 rfl rfl)
theorem dX4_go_324 : decode cX4_go 324 = .ok (.invokevirtual 115, 3) := dk_182 0 115 (dk_at dksX4_go_14 0 rfl rfl)
theorem dX4_go_327 : decode cX4_go 327 = .ok (.iastore, 1) := dk_79 (dk_at dksX4_go_14 3 rfl rfl)
theorem dX4_go_328 : decode cX4_go 328 = .ok (.iinc 4 1, 3) := dk_132 4 1 (dk_at dksX4_go_14 4 rfl rfl)
theorem dX4_go_331 : decode cX4_go 331 = .ok (.goto (-126), 3) := dk_167 255 130 (dk_at dksX4_go_14 7 rfl rfl)
theorem dX4_go_334 : decode cX4_go 334 = .ok (.aload_n 0, 1) := dk_42 (dk_at dksX4_go_14 10 rfl rfl)
theorem dX4_go_335 : decode cX4_go 335 = .ok (.invokevirtual 118, 3) := dk_182 0 118 (dk_at dksX4_go_14 11 rfl rfl)
theorem dX4_go_338 : decode cX4_go 338 = .ok (.iload_n 3, 1) := dk_29 (dk_at dksX4_go_14 14 rfl rfl)
theorem dX4_go_339 : decode cX4_go 339 = .ok (.ireturn, 1) := dk_172 (dk_at dksX4_go_14 15 rfl rfl)
abbrev cX4_worth : ByteArray := prog_10_method_6_code
def yX4_worth : MethodName := ⟨RX4, "worth", "([BII)I"⟩
def dkwX4_worth_2 : List UInt8 := [160, 0, 7, 3, 167, 0, 12, 42, 180, 0, 21, 28, 50, 21, 4, 46, 100, 172]
abbrev dktX4_worth_2 : List UInt8 := dkwX4_worth_2 ++ []
def dkwX4_worth_1 : List UInt8 := [50, 182, 0, 82, 184, 0, 88, 104, 42, 180, 0, 3, 180, 0, 41, 29, 50, 180, 0, 94, 100, 21, 4, 2]
abbrev dktX4_worth_1 : List UInt8 := dkwX4_worth_1 ++ dktX4_worth_2
def dkwX4_worth_0 : List UInt8 := [42, 43, 29, 182, 0, 74, 54, 4, 16, 10, 42, 180, 0, 15, 29, 46, 42, 180, 0, 3, 180, 0, 78, 28]
abbrev dktX4_worth_0 : List UInt8 := dkwX4_worth_0 ++ dktX4_worth_1
theorem dksX4_worth_0 : cX4_worth.data.toList.drop 0 = dktX4_worth_0 := by decide +kernel
theorem dksX4_worth_1 : cX4_worth.data.toList.drop 24 = dktX4_worth_1 := dk_seg dksX4_worth_0 24 rfl rfl
theorem dksX4_worth_2 : cX4_worth.data.toList.drop 48 = dktX4_worth_2 := dk_seg dksX4_worth_1 24 rfl rfl
theorem dX4_worth_0 : decode cX4_worth 0 = .ok (.aload_n 0, 1) := dk_42 (dk_at dksX4_worth_0 0 rfl rfl)
theorem dX4_worth_1 : decode cX4_worth 1 = .ok (.aload_n 1, 1) := dk_43 (dk_at dksX4_worth_0 1 rfl rfl)
theorem dX4_worth_2 : decode cX4_worth 2 = .ok (.iload_n 3, 1) := dk_29 (dk_at dksX4_worth_0 2 rfl rfl)
theorem dX4_worth_3 : decode cX4_worth 3 = .ok (.invokevirtual 74, 3) := dk_182 0 74 (dk_at dksX4_worth_0 3 rfl rfl)
theorem dX4_worth_6 : decode cX4_worth 6 = .ok (.istore 4, 2) := dk_54 4 (dk_at dksX4_worth_0 6 rfl rfl)
theorem dX4_worth_8 : decode cX4_worth 8 = .ok (.bipush 10, 2) := dk_16 10 (dk_at dksX4_worth_0 8 rfl rfl)
theorem dX4_worth_10 : decode cX4_worth 10 = .ok (.aload_n 0, 1) := dk_42 (dk_at dksX4_worth_0 10 rfl rfl)
theorem dX4_worth_11 : decode cX4_worth 11 = .ok (.getfield 15, 3) := dk_180 0 15 (dk_at dksX4_worth_0 11 rfl rfl)
theorem dX4_worth_14 : decode cX4_worth 14 = .ok (.iload_n 3, 1) := dk_29 (dk_at dksX4_worth_0 14 rfl rfl)
theorem dX4_worth_15 : decode cX4_worth 15 = .ok (.iaload, 1) := dk_46 (dk_at dksX4_worth_0 15 rfl rfl)
theorem dX4_worth_16 : decode cX4_worth 16 = .ok (.aload_n 0, 1) := dk_42 (dk_at dksX4_worth_0 16 rfl rfl)
theorem dX4_worth_17 : decode cX4_worth 17 = .ok (.getfield 3, 3) := dk_180 0 3 (dk_at dksX4_worth_0 17 rfl rfl)
theorem dX4_worth_20 : decode cX4_worth 20 = .ok (.getfield 78, 3) := dk_180 0 78 (dk_at dksX4_worth_0 20 rfl rfl)
theorem dX4_worth_23 : decode cX4_worth 23 = .ok (.iload_n 2, 1) := dk_28 (dk_at dksX4_worth_0 23 rfl rfl)
theorem dX4_worth_24 : decode cX4_worth 24 = .ok (.aaload, 1) := dk_50 (dk_at dksX4_worth_1 0 rfl rfl)
theorem dX4_worth_25 : decode cX4_worth 25 = .ok (.invokevirtual 82, 3) := dk_182 0 82 (dk_at dksX4_worth_1 1 rfl rfl)
theorem dX4_worth_28 : decode cX4_worth 28 = .ok (.invokestatic 88, 3) := dk_184 0 88 (dk_at dksX4_worth_1 4 rfl rfl)
theorem dX4_worth_31 : decode cX4_worth 31 = .ok (.imul, 1) := dk_104 (dk_at dksX4_worth_1 7 rfl rfl)
theorem dX4_worth_32 : decode cX4_worth 32 = .ok (.aload_n 0, 1) := dk_42 (dk_at dksX4_worth_1 8 rfl rfl)
theorem dX4_worth_33 : decode cX4_worth 33 = .ok (.getfield 3, 3) := dk_180 0 3 (dk_at dksX4_worth_1 9 rfl rfl)
theorem dX4_worth_36 : decode cX4_worth 36 = .ok (.getfield 41, 3) := dk_180 0 41 (dk_at dksX4_worth_1 12 rfl rfl)
theorem dX4_worth_39 : decode cX4_worth 39 = .ok (.iload_n 3, 1) := dk_29 (dk_at dksX4_worth_1 15 rfl rfl)
theorem dX4_worth_40 : decode cX4_worth 40 = .ok (.aaload, 1) := dk_50 (dk_at dksX4_worth_1 16 rfl rfl)
theorem dX4_worth_41 : decode cX4_worth 41 = .ok (.getfield 94, 3) := dk_180 0 94 (dk_at dksX4_worth_1 17 rfl rfl)
theorem dX4_worth_44 : decode cX4_worth 44 = .ok (.isub, 1) := dk_100 (dk_at dksX4_worth_1 20 rfl rfl)
theorem dX4_worth_45 : decode cX4_worth 45 = .ok (.iload 4, 2) := dk_21 4 (dk_at dksX4_worth_1 21 rfl rfl)
theorem dX4_worth_47 : decode cX4_worth 47 = .ok (.iconst (-1), 1) := dk_2 (dk_at dksX4_worth_1 23 rfl rfl)
theorem dX4_worth_48 : decode cX4_worth 48 = .ok (.if_icmp .ne 7, 3) := dk_160 0 7 (dk_at dksX4_worth_2 0 rfl rfl)
theorem dX4_worth_51 : decode cX4_worth 51 = .ok (.iconst 0, 1) := dk_3 (dk_at dksX4_worth_2 3 rfl rfl)
theorem dX4_worth_52 : decode cX4_worth 52 = .ok (.goto 12, 3) := dk_167 0 12 (dk_at dksX4_worth_2 4 rfl rfl)
theorem dX4_worth_55 : decode cX4_worth 55 = .ok (.aload_n 0, 1) := dk_42 (dk_at dksX4_worth_2 7 rfl rfl)
theorem dX4_worth_56 : decode cX4_worth 56 = .ok (.getfield 21, 3) := dk_180 0 21 (dk_at dksX4_worth_2 8 rfl rfl)
theorem dX4_worth_59 : decode cX4_worth 59 = .ok (.iload_n 2, 1) := dk_28 (dk_at dksX4_worth_2 11 rfl rfl)
theorem dX4_worth_60 : decode cX4_worth 60 = .ok (.aaload, 1) := dk_50 (dk_at dksX4_worth_2 12 rfl rfl)
theorem dX4_worth_61 : decode cX4_worth 61 = .ok (.iload 4, 2) := dk_21 4 (dk_at dksX4_worth_2 13 rfl rfl)
theorem dX4_worth_63 : decode cX4_worth 63 = .ok (.iaload, 1) := dk_46 (dk_at dksX4_worth_2 15 rfl rfl)
theorem dX4_worth_64 : decode cX4_worth 64 = .ok (.isub, 1) := dk_100 (dk_at dksX4_worth_2 16 rfl rfl)
theorem dX4_worth_65 : decode cX4_worth 65 = .ok (.ireturn, 1) := dk_172 (dk_at dksX4_worth_2 17 rfl rfl)
abbrev cX4_coatAt : ByteArray := prog_10_method_5_code
def yX4_coatAt : MethodName := ⟨RX4, "coatAt", "([BI)I"⟩
def dkwX4_coatAt_0 : List UInt8 := [42, 180, 0, 3, 43, 28, 51, 182, 0, 49, 153, 0, 9, 43, 28, 51, 167, 0, 4, 2, 172]
abbrev dktX4_coatAt_0 : List UInt8 := dkwX4_coatAt_0 ++ []
theorem dksX4_coatAt_0 : cX4_coatAt.data.toList.drop 0 = dktX4_coatAt_0 := by decide +kernel
theorem dX4_coatAt_0 : decode cX4_coatAt 0 = .ok (.aload_n 0, 1) := dk_42 (dk_at dksX4_coatAt_0 0 rfl rfl)
theorem dX4_coatAt_1 : decode cX4_coatAt 1 = .ok (.getfield 3, 3) := dk_180 0 3 (dk_at dksX4_coatAt_0 1 rfl rfl)
theorem dX4_coatAt_4 : decode cX4_coatAt 4 = .ok (.aload_n 1, 1) := dk_43 (dk_at dksX4_coatAt_0 4 rfl rfl)
theorem dX4_coatAt_5 : decode cX4_coatAt 5 = .ok (.iload_n 2, 1) := dk_28 (dk_at dksX4_coatAt_0 5 rfl rfl)
theorem dX4_coatAt_6 : decode cX4_coatAt 6 = .ok (.baload, 1) := dk_51 (dk_at dksX4_coatAt_0 6 rfl rfl)
theorem dX4_coatAt_7 : decode cX4_coatAt 7 = .ok (.invokevirtual 49, 3) := dk_182 0 49 (dk_at dksX4_coatAt_0 7 rfl rfl)
theorem dX4_coatAt_10 : decode cX4_coatAt 10 = .ok (.ifCond .eq 9, 3) := dk_153 0 9 (dk_at dksX4_coatAt_0 10 rfl rfl)
theorem dX4_coatAt_13 : decode cX4_coatAt 13 = .ok (.aload_n 1, 1) := dk_43 (dk_at dksX4_coatAt_0 13 rfl rfl)
theorem dX4_coatAt_14 : decode cX4_coatAt 14 = .ok (.iload_n 2, 1) := dk_28 (dk_at dksX4_coatAt_0 14 rfl rfl)
theorem dX4_coatAt_15 : decode cX4_coatAt 15 = .ok (.baload, 1) := dk_51 (dk_at dksX4_coatAt_0 15 rfl rfl)
theorem dX4_coatAt_16 : decode cX4_coatAt 16 = .ok (.goto 4, 3) := dk_167 0 4 (dk_at dksX4_coatAt_0 16 rfl rfl)
theorem dX4_coatAt_19 : decode cX4_coatAt 19 = .ok (.iconst (-1), 1) := dk_2 (dk_at dksX4_coatAt_0 19 rfl rfl)
theorem dX4_coatAt_20 : decode cX4_coatAt 20 = .ok (.ireturn, 1) := dk_172 (dk_at dksX4_coatAt_0 20 rfl rfl)
abbrev cX4_roost : ByteArray := prog_10_method_8_code
def yX4_roost : MethodName := ⟨RX4, "roost", "()V"⟩
def dkwX4_roost_7 : List UInt8 := [132, 4, 1, 167, 255, 194, 132, 1, 1, 167, 255, 87, 177]
abbrev dktX4_roost_7 : List UInt8 := dkwX4_roost_7 ++ []
def dkwX4_roost_6 : List UInt8 := [180, 0, 21, 21, 4, 50, 27, 46, 100, 42, 180, 0, 34, 104, 16, 100, 108, 167, 0, 4, 3, 96, 79]
abbrev dktX4_roost_6 : List UInt8 := dkwX4_roost_6 ++ dktX4_roost_7
def dkwX4_roost_5 : List UInt8 := [21, 4, 50, 27, 92, 46, 42, 180, 0, 3, 21, 4, 182, 0, 103, 153, 0, 27, 28, 29, 108, 42]
abbrev dktX4_roost_5 : List UInt8 := dkwX4_roost_5 ++ dktX4_roost_6
def dkwX4_roost_4 : List UInt8 := [62, 132, 4, 1, 167, 255, 173, 3, 54, 4, 21, 4, 7, 162, 0, 62, 29, 158, 0, 58, 42, 180, 0, 21]
abbrev dktX4_roost_4 : List UInt8 := dkwX4_roost_4 ++ dktX4_roost_5
def dkwX4_roost_3 : List UInt8 := [182, 0, 103, 153, 0, 19, 42, 180, 0, 3, 180, 0, 78, 21, 4, 50, 182, 0, 82, 167, 0, 4, 3, 96]
abbrev dktX4_roost_3 : List UInt8 := dkwX4_roost_3 ++ dktX4_roost_4
def dkwX4_roost_2 : List UInt8 := [180, 0, 78, 21, 4, 50, 182, 0, 82, 104, 167, 0, 4, 3, 96, 61, 29, 42, 180, 0, 3, 21, 4]
abbrev dktX4_roost_2 : List UInt8 := dkwX4_roost_2 ++ dktX4_roost_3
def dkwX4_roost_1 : List UInt8 := [180, 0, 3, 21, 4, 182, 0, 103, 153, 0, 29, 42, 180, 0, 21, 21, 4, 50, 27, 46, 42, 180, 0, 3]
abbrev dktX4_roost_1 : List UInt8 := dkwX4_roost_1 ++ dktX4_roost_2
def dkwX4_roost_0 : List UInt8 := [3, 60, 27, 7, 162, 0, 170, 3, 61, 3, 62, 3, 54, 4, 21, 4, 7, 162, 0, 83, 28, 42]
abbrev dktX4_roost_0 : List UInt8 := dkwX4_roost_0 ++ dktX4_roost_1
theorem dksX4_roost_0 : cX4_roost.data.toList.drop 0 = dktX4_roost_0 := by decide +kernel
theorem dksX4_roost_1 : cX4_roost.data.toList.drop 22 = dktX4_roost_1 := dk_seg dksX4_roost_0 22 rfl rfl
theorem dksX4_roost_2 : cX4_roost.data.toList.drop 46 = dktX4_roost_2 := dk_seg dksX4_roost_1 24 rfl rfl
theorem dksX4_roost_3 : cX4_roost.data.toList.drop 69 = dktX4_roost_3 := dk_seg dksX4_roost_2 23 rfl rfl
theorem dksX4_roost_4 : cX4_roost.data.toList.drop 93 = dktX4_roost_4 := dk_seg dksX4_roost_3 24 rfl rfl
theorem dksX4_roost_5 : cX4_roost.data.toList.drop 117 = dktX4_roost_5 := dk_seg dksX4_roost_4 24 rfl rfl
theorem dksX4_roost_6 : cX4_roost.data.toList.drop 139 = dktX4_roost_6 := dk_seg dksX4_roost_5 22 rfl rfl
theorem dksX4_roost_7 : cX4_roost.data.toList.drop 162 = dktX4_roost_7 := dk_seg dksX4_roost_6 23 rfl rfl
theorem dX4_roost_0 : decode cX4_roost 0 = .ok (.iconst 0, 1) := dk_3 (dk_at dksX4_roost_0 0 rfl rfl)
theorem dX4_roost_1 : decode cX4_roost 1 = .ok (.istore_n 1, 1) := dk_60 (dk_at dksX4_roost_0 1 rfl rfl)
theorem dX4_roost_2 : decode cX4_roost 2 = .ok (.iload_n 1, 1) := dk_27 (dk_at dksX4_roost_0 2 rfl rfl)
theorem dX4_roost_3 : decode cX4_roost 3 = .ok (.iconst 4, 1) := dk_7 (dk_at dksX4_roost_0 3 rfl rfl)
theorem dX4_roost_4 : decode cX4_roost 4 = .ok (.if_icmp .ge 170, 3) := dk_162 0 170 (dk_at dksX4_roost_0 4 rfl rfl)
theorem dX4_roost_7 : decode cX4_roost 7 = .ok (.iconst 0, 1) := dk_3 (dk_at dksX4_roost_0 7 rfl rfl)
theorem dX4_roost_8 : decode cX4_roost 8 = .ok (.istore_n 2, 1) := dk_61 (dk_at dksX4_roost_0 8 rfl rfl)
theorem dX4_roost_9 : decode cX4_roost 9 = .ok (.iconst 0, 1) := dk_3 (dk_at dksX4_roost_0 9 rfl rfl)
theorem dX4_roost_10 : decode cX4_roost 10 = .ok (.istore_n 3, 1) := dk_62 (dk_at dksX4_roost_0 10 rfl rfl)
theorem dX4_roost_11 : decode cX4_roost 11 = .ok (.iconst 0, 1) := dk_3 (dk_at dksX4_roost_0 11 rfl rfl)
theorem dX4_roost_12 : decode cX4_roost 12 = .ok (.istore 4, 2) := dk_54 4 (dk_at dksX4_roost_0 12 rfl rfl)
theorem dX4_roost_14 : decode cX4_roost 14 = .ok (.iload 4, 2) := dk_21 4 (dk_at dksX4_roost_0 14 rfl rfl)
theorem dX4_roost_16 : decode cX4_roost 16 = .ok (.iconst 4, 1) := dk_7 (dk_at dksX4_roost_0 16 rfl rfl)
theorem dX4_roost_17 : decode cX4_roost 17 = .ok (.if_icmp .ge 83, 3) := dk_162 0 83 (dk_at dksX4_roost_0 17 rfl rfl)
theorem dX4_roost_20 : decode cX4_roost 20 = .ok (.iload_n 2, 1) := dk_28 (dk_at dksX4_roost_0 20 rfl rfl)
theorem dX4_roost_21 : decode cX4_roost 21 = .ok (.aload_n 0, 1) := dk_42 (dk_at dksX4_roost_0 21 rfl rfl)
theorem dX4_roost_22 : decode cX4_roost 22 = .ok (.getfield 3, 3) := dk_180 0 3 (dk_at dksX4_roost_1 0 rfl rfl)
theorem dX4_roost_25 : decode cX4_roost 25 = .ok (.iload 4, 2) := dk_21 4 (dk_at dksX4_roost_1 3 rfl rfl)
theorem dX4_roost_27 : decode cX4_roost 27 = .ok (.invokevirtual 103, 3) := dk_182 0 103 (dk_at dksX4_roost_1 5 rfl rfl)
theorem dX4_roost_30 : decode cX4_roost 30 = .ok (.ifCond .eq 29, 3) := dk_153 0 29 (dk_at dksX4_roost_1 8 rfl rfl)
theorem dX4_roost_33 : decode cX4_roost 33 = .ok (.aload_n 0, 1) := dk_42 (dk_at dksX4_roost_1 11 rfl rfl)
theorem dX4_roost_34 : decode cX4_roost 34 = .ok (.getfield 21, 3) := dk_180 0 21 (dk_at dksX4_roost_1 12 rfl rfl)
theorem dX4_roost_37 : decode cX4_roost 37 = .ok (.iload 4, 2) := dk_21 4 (dk_at dksX4_roost_1 15 rfl rfl)
theorem dX4_roost_39 : decode cX4_roost 39 = .ok (.aaload, 1) := dk_50 (dk_at dksX4_roost_1 17 rfl rfl)
theorem dX4_roost_40 : decode cX4_roost 40 = .ok (.iload_n 1, 1) := dk_27 (dk_at dksX4_roost_1 18 rfl rfl)
theorem dX4_roost_41 : decode cX4_roost 41 = .ok (.iaload, 1) := dk_46 (dk_at dksX4_roost_1 19 rfl rfl)
theorem dX4_roost_42 : decode cX4_roost 42 = .ok (.aload_n 0, 1) := dk_42 (dk_at dksX4_roost_1 20 rfl rfl)
theorem dX4_roost_43 : decode cX4_roost 43 = .ok (.getfield 3, 3) := dk_180 0 3 (dk_at dksX4_roost_1 21 rfl rfl)
theorem dX4_roost_46 : decode cX4_roost 46 = .ok (.getfield 78, 3) := dk_180 0 78 (dk_at dksX4_roost_2 0 rfl rfl)
theorem dX4_roost_49 : decode cX4_roost 49 = .ok (.iload 4, 2) := dk_21 4 (dk_at dksX4_roost_2 3 rfl rfl)
theorem dX4_roost_51 : decode cX4_roost 51 = .ok (.aaload, 1) := dk_50 (dk_at dksX4_roost_2 5 rfl rfl)
theorem dX4_roost_52 : decode cX4_roost 52 = .ok (.invokevirtual 82, 3) := dk_182 0 82 (dk_at dksX4_roost_2 6 rfl rfl)
theorem dX4_roost_55 : decode cX4_roost 55 = .ok (.imul, 1) := dk_104 (dk_at dksX4_roost_2 9 rfl rfl)
theorem dX4_roost_56 : decode cX4_roost 56 = .ok (.goto 4, 3) := dk_167 0 4 (dk_at dksX4_roost_2 10 rfl rfl)
theorem dX4_roost_59 : decode cX4_roost 59 = .ok (.iconst 0, 1) := dk_3 (dk_at dksX4_roost_2 13 rfl rfl)
theorem dX4_roost_60 : decode cX4_roost 60 = .ok (.iadd, 1) := dk_96 (dk_at dksX4_roost_2 14 rfl rfl)
theorem dX4_roost_61 : decode cX4_roost 61 = .ok (.istore_n 2, 1) := dk_61 (dk_at dksX4_roost_2 15 rfl rfl)
theorem dX4_roost_62 : decode cX4_roost 62 = .ok (.iload_n 3, 1) := dk_29 (dk_at dksX4_roost_2 16 rfl rfl)
theorem dX4_roost_63 : decode cX4_roost 63 = .ok (.aload_n 0, 1) := dk_42 (dk_at dksX4_roost_2 17 rfl rfl)
theorem dX4_roost_64 : decode cX4_roost 64 = .ok (.getfield 3, 3) := dk_180 0 3 (dk_at dksX4_roost_2 18 rfl rfl)
theorem dX4_roost_67 : decode cX4_roost 67 = .ok (.iload 4, 2) := dk_21 4 (dk_at dksX4_roost_2 21 rfl rfl)
theorem dX4_roost_69 : decode cX4_roost 69 = .ok (.invokevirtual 103, 3) := dk_182 0 103 (dk_at dksX4_roost_3 0 rfl rfl)
theorem dX4_roost_72 : decode cX4_roost 72 = .ok (.ifCond .eq 19, 3) := dk_153 0 19 (dk_at dksX4_roost_3 3 rfl rfl)
theorem dX4_roost_75 : decode cX4_roost 75 = .ok (.aload_n 0, 1) := dk_42 (dk_at dksX4_roost_3 6 rfl rfl)
theorem dX4_roost_76 : decode cX4_roost 76 = .ok (.getfield 3, 3) := dk_180 0 3 (dk_at dksX4_roost_3 7 rfl rfl)
theorem dX4_roost_79 : decode cX4_roost 79 = .ok (.getfield 78, 3) := dk_180 0 78 (dk_at dksX4_roost_3 10 rfl rfl)
theorem dX4_roost_82 : decode cX4_roost 82 = .ok (.iload 4, 2) := dk_21 4 (dk_at dksX4_roost_3 13 rfl rfl)
theorem dX4_roost_84 : decode cX4_roost 84 = .ok (.aaload, 1) := dk_50 (dk_at dksX4_roost_3 15 rfl rfl)
theorem dX4_roost_85 : decode cX4_roost 85 = .ok (.invokevirtual 82, 3) := dk_182 0 82 (dk_at dksX4_roost_3 16 rfl rfl)
theorem dX4_roost_88 : decode cX4_roost 88 = .ok (.goto 4, 3) := dk_167 0 4 (dk_at dksX4_roost_3 19 rfl rfl)
theorem dX4_roost_91 : decode cX4_roost 91 = .ok (.iconst 0, 1) := dk_3 (dk_at dksX4_roost_3 22 rfl rfl)
theorem dX4_roost_92 : decode cX4_roost 92 = .ok (.iadd, 1) := dk_96 (dk_at dksX4_roost_3 23 rfl rfl)
theorem dX4_roost_93 : decode cX4_roost 93 = .ok (.istore_n 3, 1) := dk_62 (dk_at dksX4_roost_4 0 rfl rfl)
theorem dX4_roost_94 : decode cX4_roost 94 = .ok (.iinc 4 1, 3) := dk_132 4 1 (dk_at dksX4_roost_4 1 rfl rfl)
theorem dX4_roost_97 : decode cX4_roost 97 = .ok (.goto (-83), 3) := dk_167 255 173 (dk_at dksX4_roost_4 4 rfl rfl)
theorem dX4_roost_100 : decode cX4_roost 100 = .ok (.iconst 0, 1) := dk_3 (dk_at dksX4_roost_4 7 rfl rfl)
theorem dX4_roost_101 : decode cX4_roost 101 = .ok (.istore 4, 2) := dk_54 4 (dk_at dksX4_roost_4 8 rfl rfl)
theorem dX4_roost_103 : decode cX4_roost 103 = .ok (.iload 4, 2) := dk_21 4 (dk_at dksX4_roost_4 10 rfl rfl)
theorem dX4_roost_105 : decode cX4_roost 105 = .ok (.iconst 4, 1) := dk_7 (dk_at dksX4_roost_4 12 rfl rfl)
theorem dX4_roost_106 : decode cX4_roost 106 = .ok (.if_icmp .ge 62, 3) := dk_162 0 62 (dk_at dksX4_roost_4 13 rfl rfl)
theorem dX4_roost_109 : decode cX4_roost 109 = .ok (.iload_n 3, 1) := dk_29 (dk_at dksX4_roost_4 16 rfl rfl)
theorem dX4_roost_110 : decode cX4_roost 110 = .ok (.ifCond .le 58, 3) := dk_158 0 58 (dk_at dksX4_roost_4 17 rfl rfl)
theorem dX4_roost_113 : decode cX4_roost 113 = .ok (.aload_n 0, 1) := dk_42 (dk_at dksX4_roost_4 20 rfl rfl)
theorem dX4_roost_114 : decode cX4_roost 114 = .ok (.getfield 21, 3) := dk_180 0 21 (dk_at dksX4_roost_4 21 rfl rfl)
theorem dX4_roost_117 : decode cX4_roost 117 = .ok (.iload 4, 2) := dk_21 4 (dk_at dksX4_roost_5 0 rfl rfl)
theorem dX4_roost_119 : decode cX4_roost 119 = .ok (.aaload, 1) := dk_50 (dk_at dksX4_roost_5 2 rfl rfl)
theorem dX4_roost_120 : decode cX4_roost 120 = .ok (.iload_n 1, 1) := dk_27 (dk_at dksX4_roost_5 3 rfl rfl)
theorem dX4_roost_121 : decode cX4_roost 121 = .ok (.dup2, 1) := dk_92 (dk_at dksX4_roost_5 4 rfl rfl)
theorem dX4_roost_122 : decode cX4_roost 122 = .ok (.iaload, 1) := dk_46 (dk_at dksX4_roost_5 5 rfl rfl)
theorem dX4_roost_123 : decode cX4_roost 123 = .ok (.aload_n 0, 1) := dk_42 (dk_at dksX4_roost_5 6 rfl rfl)
theorem dX4_roost_124 : decode cX4_roost 124 = .ok (.getfield 3, 3) := dk_180 0 3 (dk_at dksX4_roost_5 7 rfl rfl)
theorem dX4_roost_127 : decode cX4_roost 127 = .ok (.iload 4, 2) := dk_21 4 (dk_at dksX4_roost_5 10 rfl rfl)
theorem dX4_roost_129 : decode cX4_roost 129 = .ok (.invokevirtual 103, 3) := dk_182 0 103 (dk_at dksX4_roost_5 12 rfl rfl)
theorem dX4_roost_132 : decode cX4_roost 132 = .ok (.ifCond .eq 27, 3) := dk_153 0 27 (dk_at dksX4_roost_5 15 rfl rfl)
theorem dX4_roost_135 : decode cX4_roost 135 = .ok (.iload_n 2, 1) := dk_28 (dk_at dksX4_roost_5 18 rfl rfl)
theorem dX4_roost_136 : decode cX4_roost 136 = .ok (.iload_n 3, 1) := dk_29 (dk_at dksX4_roost_5 19 rfl rfl)
theorem dX4_roost_137 : decode cX4_roost 137 = .ok (.idiv, 1) := dk_108 (dk_at dksX4_roost_5 20 rfl rfl)
theorem dX4_roost_138 : decode cX4_roost 138 = .ok (.aload_n 0, 1) := dk_42 (dk_at dksX4_roost_5 21 rfl rfl)
theorem dX4_roost_139 : decode cX4_roost 139 = .ok (.getfield 21, 3) := dk_180 0 21 (dk_at dksX4_roost_6 0 rfl rfl)
theorem dX4_roost_142 : decode cX4_roost 142 = .ok (.iload 4, 2) := dk_21 4 (dk_at dksX4_roost_6 3 rfl rfl)
theorem dX4_roost_144 : decode cX4_roost 144 = .ok (.aaload, 1) := dk_50 (dk_at dksX4_roost_6 5 rfl rfl)
theorem dX4_roost_145 : decode cX4_roost 145 = .ok (.iload_n 1, 1) := dk_27 (dk_at dksX4_roost_6 6 rfl rfl)
theorem dX4_roost_146 : decode cX4_roost 146 = .ok (.iaload, 1) := dk_46 (dk_at dksX4_roost_6 7 rfl rfl)
theorem dX4_roost_147 : decode cX4_roost 147 = .ok (.isub, 1) := dk_100 (dk_at dksX4_roost_6 8 rfl rfl)
theorem dX4_roost_148 : decode cX4_roost 148 = .ok (.aload_n 0, 1) := dk_42 (dk_at dksX4_roost_6 9 rfl rfl)
theorem dX4_roost_149 : decode cX4_roost 149 = .ok (.getfield 34, 3) := dk_180 0 34 (dk_at dksX4_roost_6 10 rfl rfl)
theorem dX4_roost_152 : decode cX4_roost 152 = .ok (.imul, 1) := dk_104 (dk_at dksX4_roost_6 13 rfl rfl)
theorem dX4_roost_153 : decode cX4_roost 153 = .ok (.bipush 100, 2) := dk_16 100 (dk_at dksX4_roost_6 14 rfl rfl)
theorem dX4_roost_155 : decode cX4_roost 155 = .ok (.idiv, 1) := dk_108 (dk_at dksX4_roost_6 16 rfl rfl)
theorem dX4_roost_156 : decode cX4_roost 156 = .ok (.goto 4, 3) := dk_167 0 4 (dk_at dksX4_roost_6 17 rfl rfl)
theorem dX4_roost_159 : decode cX4_roost 159 = .ok (.iconst 0, 1) := dk_3 (dk_at dksX4_roost_6 20 rfl rfl)
theorem dX4_roost_160 : decode cX4_roost 160 = .ok (.iadd, 1) := dk_96 (dk_at dksX4_roost_6 21 rfl rfl)
theorem dX4_roost_161 : decode cX4_roost 161 = .ok (.iastore, 1) := dk_79 (dk_at dksX4_roost_6 22 rfl rfl)
theorem dX4_roost_162 : decode cX4_roost 162 = .ok (.iinc 4 1, 3) := dk_132 4 1 (dk_at dksX4_roost_7 0 rfl rfl)
theorem dX4_roost_165 : decode cX4_roost 165 = .ok (.goto (-62), 3) := dk_167 255 194 (dk_at dksX4_roost_7 3 rfl rfl)
theorem dX4_roost_168 : decode cX4_roost 168 = .ok (.iinc 1 1, 3) := dk_132 1 1 (dk_at dksX4_roost_7 6 rfl rfl)
theorem dX4_roost_171 : decode cX4_roost 171 = .ok (.goto (-169), 3) := dk_167 255 87 (dk_at dksX4_roost_7 9 rfl rfl)
theorem dX4_roost_174 : decode cX4_roost 174 = .ok (.return_, 1) := dk_177 (dk_at dksX4_roost_7 12 rfl rfl)
abbrev cX4_copy : ByteArray := prog_10_method_4_code
def yX4_copy : MethodName := ⟨RX4, "copy", "(LStrawMen$World;)V"⟩
def dkwX4_copy_2 : List UInt8 := [180, 0, 21, 28, 50, 3, 7, 184, 0, 68, 132, 2, 1, 167, 255, 230, 177]
abbrev dktX4_copy_2 : List UInt8 := dkwX4_copy_2 ++ []
def dkwX4_copy_1 : List UInt8 := [180, 0, 15, 3, 7, 184, 0, 68, 3, 61, 28, 7, 162, 0, 27, 43, 180, 0, 21, 28, 50, 3, 42]
abbrev dktX4_copy_1 : List UInt8 := dkwX4_copy_1 ++ dktX4_copy_2
def dkwX4_copy_0 : List UInt8 := [42, 43, 180, 0, 30, 181, 0, 30, 42, 43, 180, 0, 34, 181, 0, 34, 43, 180, 0, 15, 3, 42]
abbrev dktX4_copy_0 : List UInt8 := dkwX4_copy_0 ++ dktX4_copy_1
theorem dksX4_copy_0 : cX4_copy.data.toList.drop 0 = dktX4_copy_0 := by decide +kernel
theorem dksX4_copy_1 : cX4_copy.data.toList.drop 22 = dktX4_copy_1 := dk_seg dksX4_copy_0 22 rfl rfl
theorem dksX4_copy_2 : cX4_copy.data.toList.drop 45 = dktX4_copy_2 := dk_seg dksX4_copy_1 23 rfl rfl
theorem dX4_copy_0 : decode cX4_copy 0 = .ok (.aload_n 0, 1) := dk_42 (dk_at dksX4_copy_0 0 rfl rfl)
theorem dX4_copy_1 : decode cX4_copy 1 = .ok (.aload_n 1, 1) := dk_43 (dk_at dksX4_copy_0 1 rfl rfl)
theorem dX4_copy_2 : decode cX4_copy 2 = .ok (.getfield 30, 3) := dk_180 0 30 (dk_at dksX4_copy_0 2 rfl rfl)
theorem dX4_copy_5 : decode cX4_copy 5 = .ok (.putfield 30, 3) := dk_181 0 30 (dk_at dksX4_copy_0 5 rfl rfl)
theorem dX4_copy_8 : decode cX4_copy 8 = .ok (.aload_n 0, 1) := dk_42 (dk_at dksX4_copy_0 8 rfl rfl)
theorem dX4_copy_9 : decode cX4_copy 9 = .ok (.aload_n 1, 1) := dk_43 (dk_at dksX4_copy_0 9 rfl rfl)
theorem dX4_copy_10 : decode cX4_copy 10 = .ok (.getfield 34, 3) := dk_180 0 34 (dk_at dksX4_copy_0 10 rfl rfl)
theorem dX4_copy_13 : decode cX4_copy 13 = .ok (.putfield 34, 3) := dk_181 0 34 (dk_at dksX4_copy_0 13 rfl rfl)
theorem dX4_copy_16 : decode cX4_copy 16 = .ok (.aload_n 1, 1) := dk_43 (dk_at dksX4_copy_0 16 rfl rfl)
theorem dX4_copy_17 : decode cX4_copy 17 = .ok (.getfield 15, 3) := dk_180 0 15 (dk_at dksX4_copy_0 17 rfl rfl)
theorem dX4_copy_20 : decode cX4_copy 20 = .ok (.iconst 0, 1) := dk_3 (dk_at dksX4_copy_0 20 rfl rfl)
theorem dX4_copy_21 : decode cX4_copy 21 = .ok (.aload_n 0, 1) := dk_42 (dk_at dksX4_copy_0 21 rfl rfl)
theorem dX4_copy_22 : decode cX4_copy 22 = .ok (.getfield 15, 3) := dk_180 0 15 (dk_at dksX4_copy_1 0 rfl rfl)
theorem dX4_copy_25 : decode cX4_copy 25 = .ok (.iconst 0, 1) := dk_3 (dk_at dksX4_copy_1 3 rfl rfl)
theorem dX4_copy_26 : decode cX4_copy 26 = .ok (.iconst 4, 1) := dk_7 (dk_at dksX4_copy_1 4 rfl rfl)
theorem dX4_copy_27 : decode cX4_copy 27 = .ok (.invokestatic 68, 3) := dk_184 0 68 (dk_at dksX4_copy_1 5 rfl rfl)
theorem dX4_copy_30 : decode cX4_copy 30 = .ok (.iconst 0, 1) := dk_3 (dk_at dksX4_copy_1 8 rfl rfl)
theorem dX4_copy_31 : decode cX4_copy 31 = .ok (.istore_n 2, 1) := dk_61 (dk_at dksX4_copy_1 9 rfl rfl)
theorem dX4_copy_32 : decode cX4_copy 32 = .ok (.iload_n 2, 1) := dk_28 (dk_at dksX4_copy_1 10 rfl rfl)
theorem dX4_copy_33 : decode cX4_copy 33 = .ok (.iconst 4, 1) := dk_7 (dk_at dksX4_copy_1 11 rfl rfl)
theorem dX4_copy_34 : decode cX4_copy 34 = .ok (.if_icmp .ge 27, 3) := dk_162 0 27 (dk_at dksX4_copy_1 12 rfl rfl)
theorem dX4_copy_37 : decode cX4_copy 37 = .ok (.aload_n 1, 1) := dk_43 (dk_at dksX4_copy_1 15 rfl rfl)
theorem dX4_copy_38 : decode cX4_copy 38 = .ok (.getfield 21, 3) := dk_180 0 21 (dk_at dksX4_copy_1 16 rfl rfl)
theorem dX4_copy_41 : decode cX4_copy 41 = .ok (.iload_n 2, 1) := dk_28 (dk_at dksX4_copy_1 19 rfl rfl)
theorem dX4_copy_42 : decode cX4_copy 42 = .ok (.aaload, 1) := dk_50 (dk_at dksX4_copy_1 20 rfl rfl)
theorem dX4_copy_43 : decode cX4_copy 43 = .ok (.iconst 0, 1) := dk_3 (dk_at dksX4_copy_1 21 rfl rfl)
theorem dX4_copy_44 : decode cX4_copy 44 = .ok (.aload_n 0, 1) := dk_42 (dk_at dksX4_copy_1 22 rfl rfl)
theorem dX4_copy_45 : decode cX4_copy 45 = .ok (.getfield 21, 3) := dk_180 0 21 (dk_at dksX4_copy_2 0 rfl rfl)
theorem dX4_copy_48 : decode cX4_copy 48 = .ok (.iload_n 2, 1) := dk_28 (dk_at dksX4_copy_2 3 rfl rfl)
theorem dX4_copy_49 : decode cX4_copy 49 = .ok (.aaload, 1) := dk_50 (dk_at dksX4_copy_2 4 rfl rfl)
theorem dX4_copy_50 : decode cX4_copy 50 = .ok (.iconst 0, 1) := dk_3 (dk_at dksX4_copy_2 5 rfl rfl)
theorem dX4_copy_51 : decode cX4_copy 51 = .ok (.iconst 4, 1) := dk_7 (dk_at dksX4_copy_2 6 rfl rfl)
theorem dX4_copy_52 : decode cX4_copy 52 = .ok (.invokestatic 68, 3) := dk_184 0 68 (dk_at dksX4_copy_2 7 rfl rfl)
theorem dX4_copy_55 : decode cX4_copy 55 = .ok (.iinc 2 1, 3) := dk_132 2 1 (dk_at dksX4_copy_2 10 rfl rfl)
theorem dX4_copy_58 : decode cX4_copy 58 = .ok (.goto (-26), 3) := dk_167 255 230 (dk_at dksX4_copy_2 13 rfl rfl)
theorem dX4_copy_61 : decode cX4_copy 61 = .ok (.return_, 1) := dk_177 (dk_at dksX4_copy_2 16 rfl rfl)
theorem q57 : (Jvm.Cond.initialized "StrawMen$World") ∈ lw_all := lw_g (lw_at lw_m1 6 rfl) rfl
theorem q111 : (Jvm.Cond.fieldLink "StrawMen$World" (56 : Nat) "StrawMen$Coat" "fright" "I") ∈ lw_all := lw_g (lw_at lw_m1 60 rfl) rfl
theorem q114 : (Jvm.Cond.fieldLink "StrawMen$World" (114 : Nat) "StrawMen$Coat" "wane" "I") ∈ lw_all := lw_g (lw_at lw_m1 63 rfl) rfl
theorem q136 : (Jvm.Cond.fieldLink "StrawMen$World" (123 : Nat) "StrawMen$Plan" "stands" "[[B") ∈ lw_all := lw_g (lw_at lw_m1 85 rfl) rfl
theorem q139 : (Jvm.Cond.fieldLink "StrawMen$World" (129 : Nat) "StrawMen$Plan" "isReal" "[[Z") ∈ lw_all := lw_g (lw_at lw_m1 88 rfl) rfl
theorem q148 : (Jvm.Cond.instantiable "StrawMen$World" (7 : Nat)) ∈ lw_all := lw_g (lw_at lw_m1 97 rfl) rfl
theorem q150 : (Jvm.Cond.instanceMethod ({ cls := "StrawMen$World", name := "<init>", desc := "(LStrawMen;)V" } : Jvm.MethodName)) ∈ lw_all := lw_g (lw_at lw_m1 99 rfl) rfl
theorem q151 : (Jvm.Cond.code ({ cls := "StrawMen$World", name := "<init>", desc := "(LStrawMen;)V" } : Jvm.MethodName) prog_10_method_1_code (2 : Nat) (Option.none : Option Jvm.ClassFile.FieldType)) ∈ lw_all := lw_g (lw_at lw_m1 100 rfl) rfl
theorem q152 : (Jvm.Cond.methodLink "StrawMen$World" (9 : Nat) ({ cls := "java/lang/Object", name := "<init>", desc := "()V" } : Jvm.MethodName)) ∈ lw_all := lw_g (lw_at lw_m1 101 rfl) rfl
theorem q153 : (Jvm.Cond.classLink "StrawMen$World" (19 : Nat) "[[I") ∈ lw_all := lw_g (lw_at lw_m1 102 rfl) rfl
theorem q155 : (Jvm.Cond.fieldLink "StrawMen$World" (15 : Nat) "StrawMen$World" "seed" "[I") ∈ lw_all := lw_g (lw_at lw_m1 104 rfl) rfl
theorem q157 : (Jvm.Cond.fieldLink "StrawMen$World" (21 : Nat) "StrawMen$World" "fear" "[[I") ∈ lw_all := lw_g (lw_at lw_m1 106 rfl) rfl
theorem q159 : (Jvm.Cond.fieldLink "StrawMen$World" (24 : Nat) "StrawMen$World" "flown" "[I") ∈ lw_all := lw_g (lw_at lw_m1 108 rfl) rfl
theorem q161 : (Jvm.Cond.fieldLink "StrawMen$World" (27 : Nat) "StrawMen$World" "taken" "[I") ∈ lw_all := lw_g (lw_at lw_m1 110 rfl) rfl
theorem q163 : (Jvm.Cond.fieldLink "StrawMen$World" (30 : Nat) "StrawMen$World" "wane" "I") ∈ lw_all := lw_g (lw_at lw_m1 112 rfl) rfl
theorem q164 : (Jvm.Cond.fieldLink "StrawMen$World" (34 : Nat) "StrawMen$World" "toTell" "I") ∈ lw_all := lw_g (lw_at lw_m1 113 rfl) rfl
theorem q165 : (Jvm.Cond.fieldLink "StrawMen$World" (3 : Nat) "StrawMen$World" "this$0" "LStrawMen;") ∈ lw_all := lw_g (lw_at lw_m1 114 rfl) rfl
theorem q166 : (Jvm.Cond.laysFinal "StrawMen$World" "StrawMen$World" "seed" "[I") ∈ lw_all := lw_g (lw_at lw_m1 115 rfl) rfl
theorem q167 : (Jvm.Cond.soleField "StrawMen$World" "seed") ∈ lw_all := lw_g (lw_at lw_m1 116 rfl) rfl
theorem q168 : (Jvm.Cond.laysFinal "StrawMen$World" "StrawMen$World" "fear" "[[I") ∈ lw_all := lw_g (lw_at lw_m1 117 rfl) rfl
theorem q169 : (Jvm.Cond.soleField "StrawMen$World" "fear") ∈ lw_all := lw_g (lw_at lw_m1 118 rfl) rfl
theorem q170 : (Jvm.Cond.laysFinal "StrawMen$World" "StrawMen$World" "flown" "[I") ∈ lw_all := lw_g (lw_at lw_m1 119 rfl) rfl
theorem q171 : (Jvm.Cond.soleField "StrawMen$World" "flown") ∈ lw_all := lw_g (lw_at lw_m1 120 rfl) rfl
theorem q172 : (Jvm.Cond.laysFinal "StrawMen$World" "StrawMen$World" "taken" "[I") ∈ lw_all := lw_g (lw_at lw_m1 121 rfl) rfl
theorem q173 : (Jvm.Cond.soleField "StrawMen$World" "taken") ∈ lw_all := lw_g (lw_at lw_m1 122 rfl) rfl
theorem q174 : (Jvm.Cond.lays "StrawMen$World" "StrawMen$World" "wane" "I") ∈ lw_all := lw_g (lw_at lw_m1 123 rfl) rfl
theorem q175 : (Jvm.Cond.soleField "StrawMen$World" "wane") ∈ lw_all := lw_g (lw_at lw_m1 124 rfl) rfl
theorem q176 : (Jvm.Cond.lays "StrawMen$World" "StrawMen$World" "toTell" "I") ∈ lw_all := lw_g (lw_at lw_m1 125 rfl) rfl
theorem q177 : (Jvm.Cond.soleField "StrawMen$World" "toTell") ∈ lw_all := lw_g (lw_at lw_m1 126 rfl) rfl
theorem q178 : (Jvm.Cond.laysFinal "StrawMen$World" "StrawMen$World" "this$0" "LStrawMen;") ∈ lw_all := lw_g (lw_at lw_m1 127 rfl) rfl
theorem q179 : (Jvm.Cond.soleField "StrawMen$World" "this$0") ∈ lw_all := lw_g (lw_at lw_m1 128 rfl) rfl
theorem q180 : (Jvm.Cond.superclass "StrawMen$World" "java/lang/Object") ∈ lw_all := lw_g (lw_at lw_m1 129 rfl) rfl
theorem q223 : (Jvm.Cond.fieldLinkNest "StrawMen$World" (41 : Nat) "StrawMen" "fields" "[LStrawMen$Field;" "StrawMen") ∈ lw_tbl := lw_at lw_m1 172 rfl
theorem q225 : (Jvm.Cond.fieldLinkNest "StrawMen$World" (78 : Nat) "StrawMen" "flocks" "[Ljava/lang/Integer;" "StrawMen") ∈ lw_tbl := lw_at lw_m1 174 rfl
theorem q226 : (Jvm.Cond.fieldLinkNest "StrawMen$World" (52 : Nat) "StrawMen" "coats" "[LStrawMen$Coat;" "StrawMen") ∈ lw_tbl := lw_at lw_m1 175 rfl
theorem q228 : (Jvm.Cond.fieldLinkNest "StrawMen$World" (110 : Nat) "StrawMen" "boy" "LStrawMen$Coat;" "StrawMen") ∈ lw_tbl := lw_at lw_m1 177 rfl
theorem q230 : (Jvm.Cond.fieldLinkNest "StrawMen$World" (61 : Nat) "StrawMen" "tell" "I" "StrawMen") ∈ lw_tbl := lw_at lw_m1 179 rfl
theorem q693 : (Jvm.Cond.fieldLink "StrawMen$World" (45 : Nat) "StrawMen$Field" "seed" "I") ∈ lw_all := lw_g (lw_at lw_m3 162 rfl) rfl
theorem q696 : (Jvm.Cond.fieldLink "StrawMen$World" (94 : Nat) "StrawMen$Field" "way" "I") ∈ lw_all := lw_g (lw_at lw_m3 165 rfl) rfl
theorem q780 : (Jvm.Cond.instanceMethod ({ cls := "StrawMen$World", name := "run", desc := "(LStrawMen$Plan;I)I" } : Jvm.MethodName)) ∈ lw_all := lw_g (lw_at lw_m4 9 rfl) rfl
theorem q781 : (Jvm.Cond.selects "StrawMen$World" ({ cls := "StrawMen$World", name := "run", desc := "(LStrawMen$Plan;I)I" } : Jvm.MethodName) ({ cls := "StrawMen$World", name := "run", desc := "(LStrawMen$Plan;I)I" } : Jvm.MethodName)) ∈ lw_all := lw_g (lw_at lw_m4 10 rfl) rfl
theorem q782 : (Jvm.Cond.code ({ cls := "StrawMen$World", name := "run", desc := "(LStrawMen$Plan;I)I" } : Jvm.MethodName) prog_10_method_9_code (5 : Nat) (Option.some Jvm.ClassFile.FieldType.int)) ∈ lw_all := lw_g (lw_at lw_m4 11 rfl) rfl
theorem q783 : (Jvm.Cond.methodLink "StrawMen$World" (121 : Nat) ({ cls := "StrawMen$World", name := "begin", desc := "()V" } : Jvm.MethodName)) ∈ lw_all := lw_g (lw_at lw_m4 12 rfl) rfl
theorem q784 : (Jvm.Cond.instanceMethod ({ cls := "StrawMen$World", name := "begin", desc := "()V" } : Jvm.MethodName)) ∈ lw_all := lw_g (lw_at lw_m4 13 rfl) rfl
theorem q785 : (Jvm.Cond.selects "StrawMen$World" ({ cls := "StrawMen$World", name := "begin", desc := "()V" } : Jvm.MethodName) ({ cls := "StrawMen$World", name := "begin", desc := "()V" } : Jvm.MethodName)) ∈ lw_all := lw_g (lw_at lw_m4 14 rfl) rfl
theorem q786 : (Jvm.Cond.code ({ cls := "StrawMen$World", name := "begin", desc := "()V" } : Jvm.MethodName) prog_10_method_3_code (1 : Nat) (Option.none : Option Jvm.ClassFile.FieldType)) ∈ lw_all := lw_g (lw_at lw_m4 15 rfl) rfl
theorem q787 : (Jvm.Cond.methodLink "StrawMen$World" (64 : Nat) ({ cls := "StrawMen$World", name := "begin", desc := "(II)V" } : Jvm.MethodName)) ∈ lw_all := lw_g (lw_at lw_m4 16 rfl) rfl
theorem q788 : (Jvm.Cond.instanceMethod ({ cls := "StrawMen$World", name := "begin", desc := "(II)V" } : Jvm.MethodName)) ∈ lw_all := lw_g (lw_at lw_m4 17 rfl) rfl
theorem q789 : (Jvm.Cond.selects "StrawMen$World" ({ cls := "StrawMen$World", name := "begin", desc := "(II)V" } : Jvm.MethodName) ({ cls := "StrawMen$World", name := "begin", desc := "(II)V" } : Jvm.MethodName)) ∈ lw_all := lw_g (lw_at lw_m4 18 rfl) rfl
theorem q790 : (Jvm.Cond.code ({ cls := "StrawMen$World", name := "begin", desc := "(II)V" } : Jvm.MethodName) prog_10_method_2_code (5 : Nat) (Option.none : Option Jvm.ClassFile.FieldType)) ∈ lw_all := lw_g (lw_at lw_m4 19 rfl) rfl
theorem q791 : (Jvm.Cond.methodLinkNest "StrawMen$World" (37 : Nat) ({ cls := "StrawMen", name := "isField", desc := "(I)Z" } : Jvm.MethodName) "StrawMen") ∈ lw_tbl := lw_at lw_m4 20 rfl
theorem q792 : (Jvm.Cond.methodLinkNest "StrawMen$World" (49 : Nat) ({ cls := "StrawMen", name := "isCoat", desc := "(I)Z" } : Jvm.MethodName) "StrawMen") ∈ lw_tbl := lw_at lw_m4 21 rfl
theorem q793 : (Jvm.Cond.methodLink "StrawMen$World" (133 : Nat) ({ cls := "StrawMen$World", name := "go", desc := "([B[Z)I" } : Jvm.MethodName)) ∈ lw_all := lw_g (lw_at lw_m4 22 rfl) rfl
theorem q794 : (Jvm.Cond.instanceMethod ({ cls := "StrawMen$World", name := "go", desc := "([B[Z)I" } : Jvm.MethodName)) ∈ lw_all := lw_g (lw_at lw_m4 23 rfl) rfl
theorem q795 : (Jvm.Cond.selects "StrawMen$World" ({ cls := "StrawMen$World", name := "go", desc := "([B[Z)I" } : Jvm.MethodName) ({ cls := "StrawMen$World", name := "go", desc := "([B[Z)I" } : Jvm.MethodName)) ∈ lw_all := lw_g (lw_at lw_m4 24 rfl) rfl
theorem q796 : (Jvm.Cond.code ({ cls := "StrawMen$World", name := "go", desc := "([B[Z)I" } : Jvm.MethodName) prog_10_method_7_code (7 : Nat) (Option.some Jvm.ClassFile.FieldType.int)) ∈ lw_all := lw_g (lw_at lw_m4 25 rfl) rfl
theorem q797 : (Jvm.Cond.methodLink "StrawMen$World" (97 : Nat) ({ cls := "java/util/Arrays", name := "fill", desc := "([II)V" } : Jvm.MethodName)) ∈ lw_all := lw_g (lw_at lw_m4 26 rfl) rfl
theorem q800 : (Jvm.Cond.methodLinkNest "StrawMen$World" (103 : Nat) ({ cls := "StrawMen", name := "isFlock", desc := "(I)Z" } : Jvm.MethodName) "StrawMen") ∈ lw_tbl := lw_at lw_m4 29 rfl
theorem q801 : (Jvm.Cond.methodLink "StrawMen$World" (106 : Nat) ({ cls := "StrawMen$World", name := "worth", desc := "([BII)I" } : Jvm.MethodName)) ∈ lw_all := lw_g (lw_at lw_m4 30 rfl) rfl
theorem q802 : (Jvm.Cond.privateMethod ({ cls := "StrawMen$World", name := "worth", desc := "([BII)I" } : Jvm.MethodName)) ∈ lw_tbl := lw_at lw_m4 31 rfl
theorem q803 : (Jvm.Cond.instanceMethod ({ cls := "StrawMen$World", name := "worth", desc := "([BII)I" } : Jvm.MethodName)) ∈ lw_all := lw_g (lw_at lw_m4 32 rfl) rfl
theorem q804 : (Jvm.Cond.code ({ cls := "StrawMen$World", name := "worth", desc := "([BII)I" } : Jvm.MethodName) prog_10_method_6_code (5 : Nat) (Option.some Jvm.ClassFile.FieldType.int)) ∈ lw_all := lw_g (lw_at lw_m4 33 rfl) rfl
theorem q805 : (Jvm.Cond.methodLink "StrawMen$World" (74 : Nat) ({ cls := "StrawMen$World", name := "coatAt", desc := "([BI)I" } : Jvm.MethodName)) ∈ lw_all := lw_g (lw_at lw_m4 34 rfl) rfl
theorem q806 : (Jvm.Cond.privateMethod ({ cls := "StrawMen$World", name := "coatAt", desc := "([BI)I" } : Jvm.MethodName)) ∈ lw_tbl := lw_at lw_m4 35 rfl
theorem q807 : (Jvm.Cond.instanceMethod ({ cls := "StrawMen$World", name := "coatAt", desc := "([BI)I" } : Jvm.MethodName)) ∈ lw_all := lw_g (lw_at lw_m4 36 rfl) rfl
theorem q808 : (Jvm.Cond.code ({ cls := "StrawMen$World", name := "coatAt", desc := "([BI)I" } : Jvm.MethodName) prog_10_method_5_code (3 : Nat) (Option.some Jvm.ClassFile.FieldType.int)) ∈ lw_all := lw_g (lw_at lw_m4 37 rfl) rfl
theorem q809 : (Jvm.Cond.methodLink "StrawMen$World" (82 : Nat) ({ cls := "java/lang/Integer", name := "intValue", desc := "()I" } : Jvm.MethodName)) ∈ lw_all := lw_g (lw_at lw_m4 38 rfl) rfl
theorem q810 : (Jvm.Cond.methodLink "StrawMen$World" (88 : Nat) ({ cls := "java/lang/Math", name := "min", desc := "(II)I" } : Jvm.MethodName)) ∈ lw_all := lw_g (lw_at lw_m4 39 rfl) rfl
theorem q811 : (Jvm.Cond.methodLink "StrawMen$World" (115 : Nat) ({ cls := "StrawMen$Coat", name := "after", desc := "(II)I" } : Jvm.MethodName)) ∈ lw_all := lw_g (lw_at lw_m4 40 rfl) rfl
theorem q821 : (Jvm.Cond.methodLink "StrawMen$World" (118 : Nat) ({ cls := "StrawMen$World", name := "roost", desc := "()V" } : Jvm.MethodName)) ∈ lw_all := lw_g (lw_at lw_m4 50 rfl) rfl
theorem q822 : (Jvm.Cond.privateMethod ({ cls := "StrawMen$World", name := "roost", desc := "()V" } : Jvm.MethodName)) ∈ lw_tbl := lw_at lw_m4 51 rfl
theorem q823 : (Jvm.Cond.instanceMethod ({ cls := "StrawMen$World", name := "roost", desc := "()V" } : Jvm.MethodName)) ∈ lw_all := lw_g (lw_at lw_m4 52 rfl) rfl
theorem q824 : (Jvm.Cond.code ({ cls := "StrawMen$World", name := "roost", desc := "()V" } : Jvm.MethodName) prog_10_method_8_code (5 : Nat) (Option.none : Option Jvm.ClassFile.FieldType)) ∈ lw_all := lw_g (lw_at lw_m4 53 rfl) rfl
theorem q864 : (Jvm.Cond.instanceMethod ({ cls := "StrawMen$World", name := "copy", desc := "(LStrawMen$World;)V" } : Jvm.MethodName)) ∈ lw_all := lw_g (lw_at lw_m4 93 rfl) rfl
theorem q865 : (Jvm.Cond.selects "StrawMen$World" ({ cls := "StrawMen$World", name := "copy", desc := "(LStrawMen$World;)V" } : Jvm.MethodName) ({ cls := "StrawMen$World", name := "copy", desc := "(LStrawMen$World;)V" } : Jvm.MethodName)) ∈ lw_all := lw_g (lw_at lw_m4 94 rfl) rfl
theorem q866 : (Jvm.Cond.code ({ cls := "StrawMen$World", name := "copy", desc := "(LStrawMen$World;)V" } : Jvm.MethodName) prog_10_method_4_code (3 : Nat) (Option.none : Option Jvm.ClassFile.FieldType)) ∈ lw_all := lw_g (lw_at lw_m4 95 rfl) rfl
theorem q867 : (Jvm.Cond.methodLink "StrawMen$World" (68 : Nat) ({ cls := "java/lang/System", name := "arraycopy", desc := "(Ljava/lang/Object;ILjava/lang/Object;II)V" } : Jvm.MethodName)) ∈ lw_all := lw_g (lw_at lw_m4 96 rfl) rfl
theorem q1005 : (Jvm.Cond.selects "StrawMen$World" ({ cls := "java/lang/Object", name := "getClass", desc := "()Ljava/lang/Class;" } : Jvm.MethodName) ({ cls := "java/lang/Object", name := "getClass", desc := "()Ljava/lang/Class;" } : Jvm.MethodName)) ∈ lw_all := lw_g (lw_at lw_m4 234 rfl) rfl
theorem q1440 : (Jvm.Cond.castable "StrawMen$World" "java/lang/Object") ∈ lw_tbl := lw_at lw_m6 189 rfl
theorem in_X4 : ∀ w ∈ wsX40, w ∈ lw_all := lw_in wsX40 [166, 168, 170, 172, 174, 176, 178] (by decide +kernel) (by decide +kernel)
/-! StrawMen$Places -/
set_option maxRecDepth 100000
def RX5 : String := "StrawMen$Places"
def TX5 : u_T := fun k => match k with
  | 0 => ("StrawMen$Places", "stands", "[B", true)
  | _ => ("StrawMen$Places", "this$0", "LStrawMen;", true)
def tyX5 : Nat → FieldType := fun k => match k with
  | 0 => .array .byte
  | _ => .object "StrawMen"
abbrev wsX50 : List Cond := u_ws RX5 TX5 2
theorem nmX5 : ∀ a, a < 2 → ∀ b, b < 2 → a ≠ b → (TX5 a).2.1 ≠ (TX5 b).2.1 := by decide +kernel
theorem tyX5_ok : ∀ k, k < 2 → parseFieldDescriptor (TX5 k).2.2.1 = some (tyX5 k) := by decide +kernel
abbrev cX5_init : ByteArray := prog_6_method_1_code
def yX5_init : MethodName := ⟨RX5, "<init>", "(LStrawMen;)V"⟩
def dkwX5_init_0 : List UInt8 := [42, 43, 181, 0, 3, 42, 183, 0, 9, 42, 7, 188, 8, 181, 0, 15, 177]
abbrev dktX5_init_0 : List UInt8 := dkwX5_init_0 ++ []
theorem dksX5_init_0 : cX5_init.data.toList.drop 0 = dktX5_init_0 := by decide +kernel
theorem dX5_init_0 : decode cX5_init 0 = .ok (.aload_n 0, 1) := dk_42 (dk_at dksX5_init_0 0 rfl rfl)
theorem dX5_init_1 : decode cX5_init 1 = .ok (.aload_n 1, 1) := dk_43 (dk_at dksX5_init_0 1 rfl rfl)
theorem dX5_init_2 : decode cX5_init 2 = .ok (.putfield 3, 3) := dk_181 0 3 (dk_at dksX5_init_0 2 rfl rfl)
theorem dX5_init_5 : decode cX5_init 5 = .ok (.aload_n 0, 1) := dk_42 (dk_at dksX5_init_0 5 rfl rfl)
theorem dX5_init_6 : decode cX5_init 6 = .ok (.invokespecial 9, 3) := dk_183 0 9 (dk_at dksX5_init_0 6 rfl rfl)
theorem dX5_init_9 : decode cX5_init 9 = .ok (.aload_n 0, 1) := dk_42 (dk_at dksX5_init_0 9 rfl rfl)
theorem dX5_init_10 : decode cX5_init 10 = .ok (.iconst 4, 1) := dk_7 (dk_at dksX5_init_0 10 rfl rfl)
theorem dX5_init_11 : decode cX5_init 11 = .ok (.newarray .byte, 2) := dk_188_8 (dk_at dksX5_init_0 11 rfl rfl)
theorem dX5_init_13 : decode cX5_init 13 = .ok (.putfield 15, 3) := dk_181 0 15 (dk_at dksX5_init_0 13 rfl rfl)
theorem dX5_init_16 : decode cX5_init 16 = .ok (.return_, 1) := dk_177 (dk_at dksX5_init_0 16 rfl rfl)
abbrev cX5_first : ByteArray := prog_6_method_2_code
def yX5_first : MethodName := ⟨RX5, "first", "()V"⟩
def dkwX5_first_0 : List UInt8 := [42, 180, 0, 15, 2, 184, 0, 19, 177]
abbrev dktX5_first_0 : List UInt8 := dkwX5_first_0 ++ []
theorem dksX5_first_0 : cX5_first.data.toList.drop 0 = dktX5_first_0 := by decide +kernel
theorem dX5_first_0 : decode cX5_first 0 = .ok (.aload_n 0, 1) := dk_42 (dk_at dksX5_first_0 0 rfl rfl)
theorem dX5_first_1 : decode cX5_first 1 = .ok (.getfield 15, 3) := dk_180 0 15 (dk_at dksX5_first_0 1 rfl rfl)
theorem dX5_first_4 : decode cX5_first 4 = .ok (.iconst (-1), 1) := dk_2 (dk_at dksX5_first_0 4 rfl rfl)
theorem dX5_first_5 : decode cX5_first 5 = .ok (.invokestatic 19, 3) := dk_184 0 19 (dk_at dksX5_first_0 5 rfl rfl)
theorem dX5_first_8 : decode cX5_first 8 = .ok (.return_, 1) := dk_177 (dk_at dksX5_first_0 8 rfl rfl)
abbrev cX5_next : ByteArray := prog_6_method_4_code
def yX5_next : MethodName := ⟨RX5, "next", "()Z"⟩
def dkwX5_next_4 : List UInt8 := [172]
abbrev dktX5_next_4 : List UInt8 := dkwX5_next_4 ++ []
def dkwX5_next_3 : List UInt8 := [29, 2, 84, 132, 3, 1, 167, 255, 241, 4, 172, 132, 2, 1, 167, 255, 185, 132, 1, 255, 167, 255, 166, 3]
abbrev dktX5_next_3 : List UInt8 := dkwX5_next_3 ++ dktX5_next_4
def dkwX5_next_2 : List UInt8 := [154, 0, 35, 42, 180, 0, 15, 27, 28, 145, 84, 27, 4, 96, 62, 29, 7, 162, 0, 16, 42, 180, 0, 15]
abbrev dktX5_next_2 : List UInt8 := dkwX5_next_2 ++ dktX5_next_3
def dkwX5_next_1 : List UInt8 := [27, 182, 0, 25, 153, 0, 61, 42, 180, 0, 3, 28, 182, 0, 29, 153, 0, 44, 42, 27, 28, 182, 0, 32]
abbrev dktX5_next_1 : List UInt8 := dkwX5_next_1 ++ dktX5_next_2
def dkwX5_next_0 : List UInt8 := [6, 60, 27, 155, 0, 92, 42, 180, 0, 15, 27, 51, 4, 96, 61, 28, 7, 162, 0, 72, 42, 180, 0, 3]
abbrev dktX5_next_0 : List UInt8 := dkwX5_next_0 ++ dktX5_next_1
theorem dksX5_next_0 : cX5_next.data.toList.drop 0 = dktX5_next_0 := by decide +kernel
theorem dksX5_next_1 : cX5_next.data.toList.drop 24 = dktX5_next_1 := dk_seg dksX5_next_0 24 rfl rfl
theorem dksX5_next_2 : cX5_next.data.toList.drop 48 = dktX5_next_2 := dk_seg dksX5_next_1 24 rfl rfl
theorem dksX5_next_3 : cX5_next.data.toList.drop 72 = dktX5_next_3 := dk_seg dksX5_next_2 24 rfl rfl
theorem dksX5_next_4 : cX5_next.data.toList.drop 96 = dktX5_next_4 := dk_seg dksX5_next_3 24 rfl rfl
theorem dX5_next_0 : decode cX5_next 0 = .ok (.iconst 3, 1) := dk_6 (dk_at dksX5_next_0 0 rfl rfl)
theorem dX5_next_1 : decode cX5_next 1 = .ok (.istore_n 1, 1) := dk_60 (dk_at dksX5_next_0 1 rfl rfl)
theorem dX5_next_2 : decode cX5_next 2 = .ok (.iload_n 1, 1) := dk_27 (dk_at dksX5_next_0 2 rfl rfl)
theorem dX5_next_3 : decode cX5_next 3 = .ok (.ifCond .lt 92, 3) := dk_155 0 92 (dk_at dksX5_next_0 3 rfl rfl)
theorem dX5_next_6 : decode cX5_next 6 = .ok (.aload_n 0, 1) := dk_42 (dk_at dksX5_next_0 6 rfl rfl)
theorem dX5_next_7 : decode cX5_next 7 = .ok (.getfield 15, 3) := dk_180 0 15 (dk_at dksX5_next_0 7 rfl rfl)
theorem dX5_next_10 : decode cX5_next 10 = .ok (.iload_n 1, 1) := dk_27 (dk_at dksX5_next_0 10 rfl rfl)
theorem dX5_next_11 : decode cX5_next 11 = .ok (.baload, 1) := dk_51 (dk_at dksX5_next_0 11 rfl rfl)
theorem dX5_next_12 : decode cX5_next 12 = .ok (.iconst 1, 1) := dk_4 (dk_at dksX5_next_0 12 rfl rfl)
theorem dX5_next_13 : decode cX5_next 13 = .ok (.iadd, 1) := dk_96 (dk_at dksX5_next_0 13 rfl rfl)
theorem dX5_next_14 : decode cX5_next 14 = .ok (.istore_n 2, 1) := dk_61 (dk_at dksX5_next_0 14 rfl rfl)
theorem dX5_next_15 : decode cX5_next 15 = .ok (.iload_n 2, 1) := dk_28 (dk_at dksX5_next_0 15 rfl rfl)
theorem dX5_next_16 : decode cX5_next 16 = .ok (.iconst 4, 1) := dk_7 (dk_at dksX5_next_0 16 rfl rfl)
theorem dX5_next_17 : decode cX5_next 17 = .ok (.if_icmp .ge 72, 3) := dk_162 0 72 (dk_at dksX5_next_0 17 rfl rfl)
theorem dX5_next_20 : decode cX5_next 20 = .ok (.aload_n 0, 1) := dk_42 (dk_at dksX5_next_0 20 rfl rfl)
theorem dX5_next_21 : decode cX5_next 21 = .ok (.getfield 3, 3) := dk_180 0 3 (dk_at dksX5_next_0 21 rfl rfl)
theorem dX5_next_24 : decode cX5_next 24 = .ok (.iload_n 1, 1) := dk_27 (dk_at dksX5_next_1 0 rfl rfl)
theorem dX5_next_25 : decode cX5_next 25 = .ok (.invokevirtual 25, 3) := dk_182 0 25 (dk_at dksX5_next_1 1 rfl rfl)
theorem dX5_next_28 : decode cX5_next 28 = .ok (.ifCond .eq 61, 3) := dk_153 0 61 (dk_at dksX5_next_1 4 rfl rfl)
theorem dX5_next_31 : decode cX5_next 31 = .ok (.aload_n 0, 1) := dk_42 (dk_at dksX5_next_1 7 rfl rfl)
theorem dX5_next_32 : decode cX5_next 32 = .ok (.getfield 3, 3) := dk_180 0 3 (dk_at dksX5_next_1 8 rfl rfl)
theorem dX5_next_35 : decode cX5_next 35 = .ok (.iload_n 2, 1) := dk_28 (dk_at dksX5_next_1 11 rfl rfl)
theorem dX5_next_36 : decode cX5_next 36 = .ok (.invokevirtual 29, 3) := dk_182 0 29 (dk_at dksX5_next_1 12 rfl rfl)
theorem dX5_next_39 : decode cX5_next 39 = .ok (.ifCond .eq 44, 3) := dk_153 0 44 (dk_at dksX5_next_1 15 rfl rfl)
theorem dX5_next_42 : decode cX5_next 42 = .ok (.aload_n 0, 1) := dk_42 (dk_at dksX5_next_1 18 rfl rfl)
theorem dX5_next_43 : decode cX5_next 43 = .ok (.iload_n 1, 1) := dk_27 (dk_at dksX5_next_1 19 rfl rfl)
theorem dX5_next_44 : decode cX5_next 44 = .ok (.iload_n 2, 1) := dk_28 (dk_at dksX5_next_1 20 rfl rfl)
theorem dX5_next_45 : decode cX5_next 45 = .ok (.invokevirtual 32, 3) := dk_182 0 32 (dk_at dksX5_next_1 21 rfl rfl)
theorem dX5_next_48 : decode cX5_next 48 = .ok (.ifCond .ne 35, 3) := dk_154 0 35 (dk_at dksX5_next_2 0 rfl rfl)
theorem dX5_next_51 : decode cX5_next 51 = .ok (.aload_n 0, 1) := dk_42 (dk_at dksX5_next_2 3 rfl rfl)
theorem dX5_next_52 : decode cX5_next 52 = .ok (.getfield 15, 3) := dk_180 0 15 (dk_at dksX5_next_2 4 rfl rfl)
theorem dX5_next_55 : decode cX5_next 55 = .ok (.iload_n 1, 1) := dk_27 (dk_at dksX5_next_2 7 rfl rfl)
theorem dX5_next_56 : decode cX5_next 56 = .ok (.iload_n 2, 1) := dk_28 (dk_at dksX5_next_2 8 rfl rfl)
theorem dX5_next_57 : decode cX5_next 57 = .ok (.i2b, 1) := dk_145 (dk_at dksX5_next_2 9 rfl rfl)
theorem dX5_next_58 : decode cX5_next 58 = .ok (.bastore, 1) := dk_84 (dk_at dksX5_next_2 10 rfl rfl)
theorem dX5_next_59 : decode cX5_next 59 = .ok (.iload_n 1, 1) := dk_27 (dk_at dksX5_next_2 11 rfl rfl)
theorem dX5_next_60 : decode cX5_next 60 = .ok (.iconst 1, 1) := dk_4 (dk_at dksX5_next_2 12 rfl rfl)
theorem dX5_next_61 : decode cX5_next 61 = .ok (.iadd, 1) := dk_96 (dk_at dksX5_next_2 13 rfl rfl)
theorem dX5_next_62 : decode cX5_next 62 = .ok (.istore_n 3, 1) := dk_62 (dk_at dksX5_next_2 14 rfl rfl)
theorem dX5_next_63 : decode cX5_next 63 = .ok (.iload_n 3, 1) := dk_29 (dk_at dksX5_next_2 15 rfl rfl)
theorem dX5_next_64 : decode cX5_next 64 = .ok (.iconst 4, 1) := dk_7 (dk_at dksX5_next_2 16 rfl rfl)
theorem dX5_next_65 : decode cX5_next 65 = .ok (.if_icmp .ge 16, 3) := dk_162 0 16 (dk_at dksX5_next_2 17 rfl rfl)
theorem dX5_next_68 : decode cX5_next 68 = .ok (.aload_n 0, 1) := dk_42 (dk_at dksX5_next_2 20 rfl rfl)
theorem dX5_next_69 : decode cX5_next 69 = .ok (.getfield 15, 3) := dk_180 0 15 (dk_at dksX5_next_2 21 rfl rfl)
theorem dX5_next_72 : decode cX5_next 72 = .ok (.iload_n 3, 1) := dk_29 (dk_at dksX5_next_3 0 rfl rfl)
theorem dX5_next_73 : decode cX5_next 73 = .ok (.iconst (-1), 1) := dk_2 (dk_at dksX5_next_3 1 rfl rfl)
theorem dX5_next_74 : decode cX5_next 74 = .ok (.bastore, 1) := dk_84 (dk_at dksX5_next_3 2 rfl rfl)
theorem dX5_next_75 : decode cX5_next 75 = .ok (.iinc 3 1, 3) := dk_132 3 1 (dk_at dksX5_next_3 3 rfl rfl)
theorem dX5_next_78 : decode cX5_next 78 = .ok (.goto (-15), 3) := dk_167 255 241 (dk_at dksX5_next_3 6 rfl rfl)
theorem dX5_next_81 : decode cX5_next 81 = .ok (.iconst 1, 1) := dk_4 (dk_at dksX5_next_3 9 rfl rfl)
theorem dX5_next_82 : decode cX5_next 82 = .ok (.ireturn, 1) := dk_172 (dk_at dksX5_next_3 10 rfl rfl)
theorem dX5_next_83 : decode cX5_next 83 = .ok (.iinc 2 1, 3) := dk_132 2 1 (dk_at dksX5_next_3 11 rfl rfl)
theorem dX5_next_86 : decode cX5_next 86 = .ok (.goto (-71), 3) := dk_167 255 185 (dk_at dksX5_next_3 14 rfl rfl)
theorem dX5_next_89 : decode cX5_next 89 = .ok (.iinc 1 (-1), 3) := dk_132 1 255 (dk_at dksX5_next_3 17 rfl rfl)
theorem dX5_next_92 : decode cX5_next 92 = .ok (.goto (-90), 3) := dk_167 255 166 (dk_at dksX5_next_3 20 rfl rfl)
theorem dX5_next_95 : decode cX5_next 95 = .ok (.iconst 0, 1) := dk_3 (dk_at dksX5_next_3 23 rfl rfl)
theorem dX5_next_96 : decode cX5_next 96 = .ok (.ireturn, 1) := dk_172 (dk_at dksX5_next_4 0 rfl rfl)
abbrev cX5_isUsed : ByteArray := prog_6_method_3_code
def yX5_isUsed : MethodName := ⟨RX5, "isUsed", "(II)Z"⟩
def dkwX5_isUsed_1 : List UInt8 := [167, 0, 4, 3, 128, 62, 132, 4, 1, 167, 255, 228, 29, 172]
abbrev dktX5_isUsed_1 : List UInt8 := dkwX5_isUsed_1 ++ []
def dkwX5_isUsed_0 : List UInt8 := [3, 62, 3, 54, 4, 21, 4, 27, 162, 0, 28, 29, 42, 180, 0, 15, 21, 4, 51, 28, 160, 0, 7, 4]
abbrev dktX5_isUsed_0 : List UInt8 := dkwX5_isUsed_0 ++ dktX5_isUsed_1
theorem dksX5_isUsed_0 : cX5_isUsed.data.toList.drop 0 = dktX5_isUsed_0 := by decide +kernel
theorem dksX5_isUsed_1 : cX5_isUsed.data.toList.drop 24 = dktX5_isUsed_1 := dk_seg dksX5_isUsed_0 24 rfl rfl
theorem dX5_isUsed_0 : decode cX5_isUsed 0 = .ok (.iconst 0, 1) := dk_3 (dk_at dksX5_isUsed_0 0 rfl rfl)
theorem dX5_isUsed_1 : decode cX5_isUsed 1 = .ok (.istore_n 3, 1) := dk_62 (dk_at dksX5_isUsed_0 1 rfl rfl)
theorem dX5_isUsed_2 : decode cX5_isUsed 2 = .ok (.iconst 0, 1) := dk_3 (dk_at dksX5_isUsed_0 2 rfl rfl)
theorem dX5_isUsed_3 : decode cX5_isUsed 3 = .ok (.istore 4, 2) := dk_54 4 (dk_at dksX5_isUsed_0 3 rfl rfl)
theorem dX5_isUsed_5 : decode cX5_isUsed 5 = .ok (.iload 4, 2) := dk_21 4 (dk_at dksX5_isUsed_0 5 rfl rfl)
theorem dX5_isUsed_7 : decode cX5_isUsed 7 = .ok (.iload_n 1, 1) := dk_27 (dk_at dksX5_isUsed_0 7 rfl rfl)
theorem dX5_isUsed_8 : decode cX5_isUsed 8 = .ok (.if_icmp .ge 28, 3) := dk_162 0 28 (dk_at dksX5_isUsed_0 8 rfl rfl)
theorem dX5_isUsed_11 : decode cX5_isUsed 11 = .ok (.iload_n 3, 1) := dk_29 (dk_at dksX5_isUsed_0 11 rfl rfl)
theorem dX5_isUsed_12 : decode cX5_isUsed 12 = .ok (.aload_n 0, 1) := dk_42 (dk_at dksX5_isUsed_0 12 rfl rfl)
theorem dX5_isUsed_13 : decode cX5_isUsed 13 = .ok (.getfield 15, 3) := dk_180 0 15 (dk_at dksX5_isUsed_0 13 rfl rfl)
theorem dX5_isUsed_16 : decode cX5_isUsed 16 = .ok (.iload 4, 2) := dk_21 4 (dk_at dksX5_isUsed_0 16 rfl rfl)
theorem dX5_isUsed_18 : decode cX5_isUsed 18 = .ok (.baload, 1) := dk_51 (dk_at dksX5_isUsed_0 18 rfl rfl)
theorem dX5_isUsed_19 : decode cX5_isUsed 19 = .ok (.iload_n 2, 1) := dk_28 (dk_at dksX5_isUsed_0 19 rfl rfl)
theorem dX5_isUsed_20 : decode cX5_isUsed 20 = .ok (.if_icmp .ne 7, 3) := dk_160 0 7 (dk_at dksX5_isUsed_0 20 rfl rfl)
theorem dX5_isUsed_23 : decode cX5_isUsed 23 = .ok (.iconst 1, 1) := dk_4 (dk_at dksX5_isUsed_0 23 rfl rfl)
theorem dX5_isUsed_24 : decode cX5_isUsed 24 = .ok (.goto 4, 3) := dk_167 0 4 (dk_at dksX5_isUsed_1 0 rfl rfl)
theorem dX5_isUsed_27 : decode cX5_isUsed 27 = .ok (.iconst 0, 1) := dk_3 (dk_at dksX5_isUsed_1 3 rfl rfl)
theorem dX5_isUsed_28 : decode cX5_isUsed 28 = .ok (.ior, 1) := dk_128 (dk_at dksX5_isUsed_1 4 rfl rfl)
theorem dX5_isUsed_29 : decode cX5_isUsed 29 = .ok (.istore_n 3, 1) := dk_62 (dk_at dksX5_isUsed_1 5 rfl rfl)
theorem dX5_isUsed_30 : decode cX5_isUsed 30 = .ok (.iinc 4 1, 3) := dk_132 4 1 (dk_at dksX5_isUsed_1 6 rfl rfl)
theorem dX5_isUsed_33 : decode cX5_isUsed 33 = .ok (.goto (-28), 3) := dk_167 255 228 (dk_at dksX5_isUsed_1 9 rfl rfl)
theorem dX5_isUsed_36 : decode cX5_isUsed 36 = .ok (.iload_n 3, 1) := dk_29 (dk_at dksX5_isUsed_1 12 rfl rfl)
theorem dX5_isUsed_37 : decode cX5_isUsed 37 = .ok (.ireturn, 1) := dk_172 (dk_at dksX5_isUsed_1 13 rfl rfl)
theorem q58 : (Jvm.Cond.initialized "StrawMen$Places") ∈ lw_all := lw_g (lw_at lw_m1 7 rfl) rfl
theorem q183 : (Jvm.Cond.instantiable "StrawMen$Places" (2 : Nat)) ∈ lw_all := lw_g (lw_at lw_m1 132 rfl) rfl
theorem q185 : (Jvm.Cond.instanceMethod ({ cls := "StrawMen$Places", name := "<init>", desc := "(LStrawMen;)V" } : Jvm.MethodName)) ∈ lw_all := lw_g (lw_at lw_m1 134 rfl) rfl
theorem q186 : (Jvm.Cond.code ({ cls := "StrawMen$Places", name := "<init>", desc := "(LStrawMen;)V" } : Jvm.MethodName) prog_6_method_1_code (2 : Nat) (Option.none : Option Jvm.ClassFile.FieldType)) ∈ lw_all := lw_g (lw_at lw_m1 135 rfl) rfl
theorem q187 : (Jvm.Cond.methodLink "StrawMen$Places" (9 : Nat) ({ cls := "java/lang/Object", name := "<init>", desc := "()V" } : Jvm.MethodName)) ∈ lw_all := lw_g (lw_at lw_m1 136 rfl) rfl
theorem q188 : (Jvm.Cond.fieldLink "StrawMen$Places" (15 : Nat) "StrawMen$Places" "stands" "[B") ∈ lw_all := lw_g (lw_at lw_m1 137 rfl) rfl
theorem q190 : (Jvm.Cond.fieldLink "StrawMen$Places" (3 : Nat) "StrawMen$Places" "this$0" "LStrawMen;") ∈ lw_all := lw_g (lw_at lw_m1 139 rfl) rfl
theorem q191 : (Jvm.Cond.laysFinal "StrawMen$Places" "StrawMen$Places" "stands" "[B") ∈ lw_all := lw_g (lw_at lw_m1 140 rfl) rfl
theorem q192 : (Jvm.Cond.soleField "StrawMen$Places" "stands") ∈ lw_all := lw_g (lw_at lw_m1 141 rfl) rfl
theorem q193 : (Jvm.Cond.laysFinal "StrawMen$Places" "StrawMen$Places" "this$0" "LStrawMen;") ∈ lw_all := lw_g (lw_at lw_m1 142 rfl) rfl
theorem q194 : (Jvm.Cond.soleField "StrawMen$Places" "this$0") ∈ lw_all := lw_g (lw_at lw_m1 143 rfl) rfl
theorem q195 : (Jvm.Cond.superclass "StrawMen$Places" "java/lang/Object") ∈ lw_all := lw_g (lw_at lw_m1 144 rfl) rfl
theorem q859 : (Jvm.Cond.instanceMethod ({ cls := "StrawMen$Places", name := "first", desc := "()V" } : Jvm.MethodName)) ∈ lw_all := lw_g (lw_at lw_m4 88 rfl) rfl
theorem q860 : (Jvm.Cond.selects "StrawMen$Places" ({ cls := "StrawMen$Places", name := "first", desc := "()V" } : Jvm.MethodName) ({ cls := "StrawMen$Places", name := "first", desc := "()V" } : Jvm.MethodName)) ∈ lw_all := lw_g (lw_at lw_m4 89 rfl) rfl
theorem q861 : (Jvm.Cond.code ({ cls := "StrawMen$Places", name := "first", desc := "()V" } : Jvm.MethodName) prog_6_method_2_code (1 : Nat) (Option.none : Option Jvm.ClassFile.FieldType)) ∈ lw_all := lw_g (lw_at lw_m4 90 rfl) rfl
theorem q862 : (Jvm.Cond.methodLink "StrawMen$Places" (19 : Nat) ({ cls := "java/util/Arrays", name := "fill", desc := "([BB)V" } : Jvm.MethodName)) ∈ lw_all := lw_g (lw_at lw_m4 91 rfl) rfl
theorem q875 : (Jvm.Cond.instanceMethod ({ cls := "StrawMen$Places", name := "next", desc := "()Z" } : Jvm.MethodName)) ∈ lw_all := lw_g (lw_at lw_m4 104 rfl) rfl
theorem q876 : (Jvm.Cond.selects "StrawMen$Places" ({ cls := "StrawMen$Places", name := "next", desc := "()Z" } : Jvm.MethodName) ({ cls := "StrawMen$Places", name := "next", desc := "()Z" } : Jvm.MethodName)) ∈ lw_all := lw_g (lw_at lw_m4 105 rfl) rfl
theorem q877 : (Jvm.Cond.code ({ cls := "StrawMen$Places", name := "next", desc := "()Z" } : Jvm.MethodName) prog_6_method_4_code (4 : Nat) (Option.some Jvm.ClassFile.FieldType.boolean)) ∈ lw_all := lw_g (lw_at lw_m4 106 rfl) rfl
theorem q878 : (Jvm.Cond.methodLinkNest "StrawMen$Places" (25 : Nat) ({ cls := "StrawMen", name := "isField", desc := "(I)Z" } : Jvm.MethodName) "StrawMen") ∈ lw_tbl := lw_at lw_m4 107 rfl
theorem q879 : (Jvm.Cond.methodLinkNest "StrawMen$Places" (29 : Nat) ({ cls := "StrawMen", name := "isCoat", desc := "(I)Z" } : Jvm.MethodName) "StrawMen") ∈ lw_tbl := lw_at lw_m4 108 rfl
theorem q880 : (Jvm.Cond.methodLink "StrawMen$Places" (32 : Nat) ({ cls := "StrawMen$Places", name := "isUsed", desc := "(II)Z" } : Jvm.MethodName)) ∈ lw_all := lw_g (lw_at lw_m4 109 rfl) rfl
theorem q881 : (Jvm.Cond.privateMethod ({ cls := "StrawMen$Places", name := "isUsed", desc := "(II)Z" } : Jvm.MethodName)) ∈ lw_tbl := lw_at lw_m4 110 rfl
theorem q882 : (Jvm.Cond.instanceMethod ({ cls := "StrawMen$Places", name := "isUsed", desc := "(II)Z" } : Jvm.MethodName)) ∈ lw_all := lw_g (lw_at lw_m4 111 rfl) rfl
theorem q883 : (Jvm.Cond.code ({ cls := "StrawMen$Places", name := "isUsed", desc := "(II)Z" } : Jvm.MethodName) prog_6_method_3_code (5 : Nat) (Option.some Jvm.ClassFile.FieldType.boolean)) ∈ lw_all := lw_g (lw_at lw_m4 112 rfl) rfl
theorem q1001 : (Jvm.Cond.selects "StrawMen$Places" ({ cls := "java/lang/Object", name := "getClass", desc := "()Ljava/lang/Class;" } : Jvm.MethodName) ({ cls := "java/lang/Object", name := "getClass", desc := "()Ljava/lang/Class;" } : Jvm.MethodName)) ∈ lw_all := lw_g (lw_at lw_m4 230 rfl) rfl
theorem q1441 : (Jvm.Cond.castable "StrawMen$Places" "java/lang/Object") ∈ lw_tbl := lw_at lw_m6 190 rfl
theorem in_X5 : ∀ w ∈ wsX50, w ∈ lw_all := lw_in wsX50 [191, 193] (by decide +kernel) (by decide +kernel)
/-! StrawMen$Reader -/
set_option maxRecDepth 100000
def RX7 : String := "StrawMen$Reader"
def TX7 : u_T := fun k => match k with
  | 0 => ("StrawMen$Reader", "at", "I", false)
  | 1 => ("StrawMen$Reader", "first", "I", false)
  | 2 => ("StrawMen$Reader", "word", "Ljava/lang/String;", false)
  | 3 => ("StrawMen$Reader", "told", "[[I", true)
  | 4 => ("StrawMen$Reader", "many", "I", false)
  | _ => ("StrawMen$Reader", "this$0", "LStrawMen;", true)
def tyX7 : Nat → FieldType := fun k => match k with
  | 0 => .int
  | 1 => .int
  | 2 => .object "java/lang/String"
  | 3 => .array (.array .int)
  | 4 => .int
  | _ => .object "StrawMen"
abbrev wsX70 : List Cond := u_ws RX7 TX7 6
theorem nmX7 : ∀ a, a < 6 → ∀ b, b < 6 → a ≠ b → (TX7 a).2.1 ≠ (TX7 b).2.1 := by decide +kernel
theorem tyX7_ok : ∀ k, k < 6 → parseFieldDescriptor (TX7 k).2.2.1 = some (tyX7 k) := by decide +kernel
abbrev cX7_init : ByteArray := prog_8_method_1_code
def yX7_init : MethodName := ⟨RX7, "<init>", "(LStrawMen;)V"⟩
def dkwX7_init_1 : List UInt8 := [181, 0, 23, 177]
abbrev dktX7_init_1 : List UInt8 := dkwX7_init_1 ++ []
def dkwX7_init_0 : List UInt8 := [42, 43, 181, 0, 3, 42, 183, 0, 9, 42, 18, 15, 181, 0, 17, 42, 16, 10, 8, 197, 0, 21, 2]
abbrev dktX7_init_0 : List UInt8 := dkwX7_init_0 ++ dktX7_init_1
theorem dksX7_init_0 : cX7_init.data.toList.drop 0 = dktX7_init_0 := by decide +kernel
theorem dksX7_init_1 : cX7_init.data.toList.drop 23 = dktX7_init_1 := dk_seg dksX7_init_0 23 rfl rfl
theorem dX7_init_0 : decode cX7_init 0 = .ok (.aload_n 0, 1) := dk_42 (dk_at dksX7_init_0 0 rfl rfl)
theorem dX7_init_1 : decode cX7_init 1 = .ok (.aload_n 1, 1) := dk_43 (dk_at dksX7_init_0 1 rfl rfl)
theorem dX7_init_2 : decode cX7_init 2 = .ok (.putfield 3, 3) := dk_181 0 3 (dk_at dksX7_init_0 2 rfl rfl)
theorem dX7_init_5 : decode cX7_init 5 = .ok (.aload_n 0, 1) := dk_42 (dk_at dksX7_init_0 5 rfl rfl)
theorem dX7_init_6 : decode cX7_init 6 = .ok (.invokespecial 9, 3) := dk_183 0 9 (dk_at dksX7_init_0 6 rfl rfl)
theorem dX7_init_9 : decode cX7_init 9 = .ok (.aload_n 0, 1) := dk_42 (dk_at dksX7_init_0 9 rfl rfl)
theorem dX7_init_10 : decode cX7_init 10 = .ok (.ldc 15, 2) := dk_18 15 (dk_at dksX7_init_0 10 rfl rfl)
theorem dX7_init_12 : decode cX7_init 12 = .ok (.putfield 17, 3) := dk_181 0 17 (dk_at dksX7_init_0 12 rfl rfl)
theorem dX7_init_15 : decode cX7_init 15 = .ok (.aload_n 0, 1) := dk_42 (dk_at dksX7_init_0 15 rfl rfl)
theorem dX7_init_16 : decode cX7_init 16 = .ok (.bipush 10, 2) := dk_16 10 (dk_at dksX7_init_0 16 rfl rfl)
theorem dX7_init_18 : decode cX7_init 18 = .ok (.iconst 5, 1) := dk_8 (dk_at dksX7_init_0 18 rfl rfl)
theorem dX7_init_19 : decode cX7_init 19 = .ok (.multianewarray 21 2, 4) := by decide +kernel
theorem dX7_init_23 : decode cX7_init 23 = .ok (.putfield 23, 3) := dk_181 0 23 (dk_at dksX7_init_1 0 rfl rfl)
theorem dX7_init_26 : decode cX7_init 26 = .ok (.return_, 1) := dk_177 (dk_at dksX7_init_1 3 rfl rfl)
abbrev cX7_read : ByteArray := prog_8_method_6_code
def yX7_read : MethodName := ⟨RX7, "read", "()LStrawMen$Reader;"⟩
def dkwX7_read_3 : List UInt8 := [167, 0, 4, 3, 182, 0, 85, 167, 255, 182, 42, 176]
abbrev dktX7_read_3 : List UInt8 := dkwX7_read_3 ++ []
def dkwX7_read_2 : List UInt8 := [4, 167, 0, 4, 3, 60, 42, 27, 154, 0, 13, 42, 180, 0, 17, 182, 0, 92, 153, 0, 7, 4]
abbrev dktX7_read_2 : List UInt8 := dkwX7_read_2 ++ dktX7_read_3
def dkwX7_read_1 : List UInt8 := [182, 0, 116, 42, 180, 0, 17, 18, 120, 182, 0, 79, 153, 0, 16, 42, 180, 0, 113, 16, 10, 162, 0, 7]
abbrev dktX7_read_1 : List UInt8 := dkwX7_read_1 ++ dktX7_read_2
def dkwX7_read_0 : List UInt8 := [4, 60, 27, 153, 0, 76, 42, 42, 180, 0, 23, 42, 89, 180, 0, 113, 90, 4, 96, 181, 0, 113, 50]
abbrev dktX7_read_0 : List UInt8 := dkwX7_read_0 ++ dktX7_read_1
theorem dksX7_read_0 : cX7_read.data.toList.drop 0 = dktX7_read_0 := by decide +kernel
theorem dksX7_read_1 : cX7_read.data.toList.drop 23 = dktX7_read_1 := dk_seg dksX7_read_0 23 rfl rfl
theorem dksX7_read_2 : cX7_read.data.toList.drop 47 = dktX7_read_2 := dk_seg dksX7_read_1 24 rfl rfl
theorem dksX7_read_3 : cX7_read.data.toList.drop 69 = dktX7_read_3 := dk_seg dksX7_read_2 22 rfl rfl
theorem dX7_read_0 : decode cX7_read 0 = .ok (.iconst 1, 1) := dk_4 (dk_at dksX7_read_0 0 rfl rfl)
theorem dX7_read_1 : decode cX7_read 1 = .ok (.istore_n 1, 1) := dk_60 (dk_at dksX7_read_0 1 rfl rfl)
theorem dX7_read_2 : decode cX7_read 2 = .ok (.iload_n 1, 1) := dk_27 (dk_at dksX7_read_0 2 rfl rfl)
theorem dX7_read_3 : decode cX7_read 3 = .ok (.ifCond .eq 76, 3) := dk_153 0 76 (dk_at dksX7_read_0 3 rfl rfl)
theorem dX7_read_6 : decode cX7_read 6 = .ok (.aload_n 0, 1) := dk_42 (dk_at dksX7_read_0 6 rfl rfl)
theorem dX7_read_7 : decode cX7_read 7 = .ok (.aload_n 0, 1) := dk_42 (dk_at dksX7_read_0 7 rfl rfl)
theorem dX7_read_8 : decode cX7_read 8 = .ok (.getfield 23, 3) := dk_180 0 23 (dk_at dksX7_read_0 8 rfl rfl)
theorem dX7_read_11 : decode cX7_read 11 = .ok (.aload_n 0, 1) := dk_42 (dk_at dksX7_read_0 11 rfl rfl)
theorem dX7_read_12 : decode cX7_read 12 = .ok (.dup, 1) := dk_89 (dk_at dksX7_read_0 12 rfl rfl)
theorem dX7_read_13 : decode cX7_read 13 = .ok (.getfield 113, 3) := dk_180 0 113 (dk_at dksX7_read_0 13 rfl rfl)
theorem dX7_read_16 : decode cX7_read 16 = .ok (.dup_x1, 1) := dk_90 (dk_at dksX7_read_0 16 rfl rfl)
theorem dX7_read_17 : decode cX7_read 17 = .ok (.iconst 1, 1) := dk_4 (dk_at dksX7_read_0 17 rfl rfl)
theorem dX7_read_18 : decode cX7_read 18 = .ok (.iadd, 1) := dk_96 (dk_at dksX7_read_0 18 rfl rfl)
theorem dX7_read_19 : decode cX7_read 19 = .ok (.putfield 113, 3) := dk_181 0 113 (dk_at dksX7_read_0 19 rfl rfl)
theorem dX7_read_22 : decode cX7_read 22 = .ok (.aaload, 1) := dk_50 (dk_at dksX7_read_0 22 rfl rfl)
theorem dX7_read_23 : decode cX7_read 23 = .ok (.invokevirtual 116, 3) := dk_182 0 116 (dk_at dksX7_read_1 0 rfl rfl)
theorem dX7_read_26 : decode cX7_read 26 = .ok (.aload_n 0, 1) := dk_42 (dk_at dksX7_read_1 3 rfl rfl)
theorem dX7_read_27 : decode cX7_read 27 = .ok (.getfield 17, 3) := dk_180 0 17 (dk_at dksX7_read_1 4 rfl rfl)
theorem dX7_read_30 : decode cX7_read 30 = .ok (.ldc 120, 2) := dk_18 120 (dk_at dksX7_read_1 7 rfl rfl)
theorem dX7_read_32 : decode cX7_read 32 = .ok (.invokevirtual 79, 3) := dk_182 0 79 (dk_at dksX7_read_1 9 rfl rfl)
theorem dX7_read_35 : decode cX7_read 35 = .ok (.ifCond .eq 16, 3) := dk_153 0 16 (dk_at dksX7_read_1 12 rfl rfl)
theorem dX7_read_38 : decode cX7_read 38 = .ok (.aload_n 0, 1) := dk_42 (dk_at dksX7_read_1 15 rfl rfl)
theorem dX7_read_39 : decode cX7_read 39 = .ok (.getfield 113, 3) := dk_180 0 113 (dk_at dksX7_read_1 16 rfl rfl)
theorem dX7_read_42 : decode cX7_read 42 = .ok (.bipush 10, 2) := dk_16 10 (dk_at dksX7_read_1 19 rfl rfl)
theorem dX7_read_44 : decode cX7_read 44 = .ok (.if_icmp .ge 7, 3) := dk_162 0 7 (dk_at dksX7_read_1 21 rfl rfl)
theorem dX7_read_47 : decode cX7_read 47 = .ok (.iconst 1, 1) := dk_4 (dk_at dksX7_read_2 0 rfl rfl)
theorem dX7_read_48 : decode cX7_read 48 = .ok (.goto 4, 3) := dk_167 0 4 (dk_at dksX7_read_2 1 rfl rfl)
theorem dX7_read_51 : decode cX7_read 51 = .ok (.iconst 0, 1) := dk_3 (dk_at dksX7_read_2 4 rfl rfl)
theorem dX7_read_52 : decode cX7_read 52 = .ok (.istore_n 1, 1) := dk_60 (dk_at dksX7_read_2 5 rfl rfl)
theorem dX7_read_53 : decode cX7_read 53 = .ok (.aload_n 0, 1) := dk_42 (dk_at dksX7_read_2 6 rfl rfl)
theorem dX7_read_54 : decode cX7_read 54 = .ok (.iload_n 1, 1) := dk_27 (dk_at dksX7_read_2 7 rfl rfl)
theorem dX7_read_55 : decode cX7_read 55 = .ok (.ifCond .ne 13, 3) := dk_154 0 13 (dk_at dksX7_read_2 8 rfl rfl)
theorem dX7_read_58 : decode cX7_read 58 = .ok (.aload_n 0, 1) := dk_42 (dk_at dksX7_read_2 11 rfl rfl)
theorem dX7_read_59 : decode cX7_read 59 = .ok (.getfield 17, 3) := dk_180 0 17 (dk_at dksX7_read_2 12 rfl rfl)
theorem dX7_read_62 : decode cX7_read 62 = .ok (.invokevirtual 92, 3) := dk_182 0 92 (dk_at dksX7_read_2 15 rfl rfl)
theorem dX7_read_65 : decode cX7_read 65 = .ok (.ifCond .eq 7, 3) := dk_153 0 7 (dk_at dksX7_read_2 18 rfl rfl)
theorem dX7_read_68 : decode cX7_read 68 = .ok (.iconst 1, 1) := dk_4 (dk_at dksX7_read_2 21 rfl rfl)
theorem dX7_read_69 : decode cX7_read 69 = .ok (.goto 4, 3) := dk_167 0 4 (dk_at dksX7_read_3 0 rfl rfl)
theorem dX7_read_72 : decode cX7_read 72 = .ok (.iconst 0, 1) := dk_3 (dk_at dksX7_read_3 3 rfl rfl)
theorem dX7_read_73 : decode cX7_read 73 = .ok (.invokevirtual 85, 3) := dk_182 0 85 (dk_at dksX7_read_3 4 rfl rfl)
theorem dX7_read_76 : decode cX7_read 76 = .ok (.goto (-74), 3) := dk_167 255 182 (dk_at dksX7_read_3 7 rfl rfl)
theorem dX7_read_79 : decode cX7_read 79 = .ok (.aload_n 0, 1) := dk_42 (dk_at dksX7_read_3 10 rfl rfl)
theorem dX7_read_80 : decode cX7_read 80 = .ok (.areturn, 1) := dk_176 (dk_at dksX7_read_3 11 rfl rfl)
abbrev cX7_line : ByteArray := prog_8_method_5_code
def yX7_line : MethodName := ⟨RX7, "line", "([I)V"⟩
def dkwX7_line_7 : List UInt8 := [43, 3, 46, 50, 28, 46, 133, 184, 0, 30, 182, 0, 85, 132, 2, 1, 167, 255, 146, 42, 182, 0, 72, 177]
abbrev dktX7_line_7 : List UInt8 := dkwX7_line_7 ++ []
def dkwX7_line_6 : List UInt8 := [184, 0, 104, 79, 42, 43, 28, 4, 96, 46, 133, 178, 0, 110, 43, 3, 46, 50, 28, 46, 133, 178, 0, 89]
abbrev dktX7_line_6 : List UInt8 := dkwX7_line_6 ++ dktX7_line_7
def dkwX7_line_5 : List UInt8 := [182, 0, 100, 7, 162, 0, 7, 4, 167, 0, 4, 3, 182, 0, 85, 43, 28, 4, 96, 42, 180, 0, 17]
abbrev dktX7_line_5 : List UInt8 := dkwX7_line_5 ++ dktX7_line_6
def dkwX7_line_4 : List UInt8 := [154, 0, 34, 42, 42, 180, 0, 17, 3, 182, 0, 96, 182, 0, 52, 5, 160, 0, 18, 42, 180, 0, 17]
abbrev dktX7_line_4 : List UInt8 := dkwX7_line_4 ++ dktX7_line_5
def dkwX7_line_3 : List UInt8 := [178, 0, 89, 43, 3, 46, 50, 190, 162, 0, 104, 42, 182, 0, 72, 42, 42, 180, 0, 17, 182, 0, 92]
abbrev dktX7_line_3 : List UInt8 := dkwX7_line_3 ++ dktX7_line_4
def dkwX7_line_2 : List UInt8 := [167, 255, 220, 42, 43, 3, 46, 2, 159, 0, 7, 4, 167, 0, 4, 3, 182, 0, 85, 3, 61, 28]
abbrev dktX7_line_2 : List UInt8 := dkwX7_line_2 ++ dktX7_line_3
def dkwX7_line_1 : List UInt8 := [178, 0, 75, 28, 50, 182, 0, 79, 153, 0, 7, 28, 167, 0, 6, 43, 3, 46, 79, 132, 2, 1]
abbrev dktX7_line_1 : List UInt8 := dkwX7_line_1 ++ dktX7_line_2
def dkwX7_line_0 : List UInt8 := [42, 182, 0, 72, 43, 3, 2, 79, 3, 61, 28, 178, 0, 75, 190, 162, 0, 34, 43, 3, 42, 180, 0, 17]
abbrev dktX7_line_0 : List UInt8 := dkwX7_line_0 ++ dktX7_line_1
theorem dksX7_line_0 : cX7_line.data.toList.drop 0 = dktX7_line_0 := by decide +kernel
theorem dksX7_line_1 : cX7_line.data.toList.drop 24 = dktX7_line_1 := dk_seg dksX7_line_0 24 rfl rfl
theorem dksX7_line_2 : cX7_line.data.toList.drop 46 = dktX7_line_2 := dk_seg dksX7_line_1 22 rfl rfl
theorem dksX7_line_3 : cX7_line.data.toList.drop 68 = dktX7_line_3 := dk_seg dksX7_line_2 22 rfl rfl
theorem dksX7_line_4 : cX7_line.data.toList.drop 91 = dktX7_line_4 := dk_seg dksX7_line_3 23 rfl rfl
theorem dksX7_line_5 : cX7_line.data.toList.drop 114 = dktX7_line_5 := dk_seg dksX7_line_4 23 rfl rfl
theorem dksX7_line_6 : cX7_line.data.toList.drop 137 = dktX7_line_6 := dk_seg dksX7_line_5 23 rfl rfl
theorem dksX7_line_7 : cX7_line.data.toList.drop 161 = dktX7_line_7 := dk_seg dksX7_line_6 24 rfl rfl
theorem dX7_line_0 : decode cX7_line 0 = .ok (.aload_n 0, 1) := dk_42 (dk_at dksX7_line_0 0 rfl rfl)
theorem dX7_line_1 : decode cX7_line 1 = .ok (.invokevirtual 72, 3) := dk_182 0 72 (dk_at dksX7_line_0 1 rfl rfl)
theorem dX7_line_4 : decode cX7_line 4 = .ok (.aload_n 1, 1) := dk_43 (dk_at dksX7_line_0 4 rfl rfl)
theorem dX7_line_5 : decode cX7_line 5 = .ok (.iconst 0, 1) := dk_3 (dk_at dksX7_line_0 5 rfl rfl)
theorem dX7_line_6 : decode cX7_line 6 = .ok (.iconst (-1), 1) := dk_2 (dk_at dksX7_line_0 6 rfl rfl)
theorem dX7_line_7 : decode cX7_line 7 = .ok (.iastore, 1) := dk_79 (dk_at dksX7_line_0 7 rfl rfl)
theorem dX7_line_8 : decode cX7_line 8 = .ok (.iconst 0, 1) := dk_3 (dk_at dksX7_line_0 8 rfl rfl)
theorem dX7_line_9 : decode cX7_line 9 = .ok (.istore_n 2, 1) := dk_61 (dk_at dksX7_line_0 9 rfl rfl)
theorem dX7_line_10 : decode cX7_line 10 = .ok (.iload_n 2, 1) := dk_28 (dk_at dksX7_line_0 10 rfl rfl)
theorem dX7_line_11 : decode cX7_line 11 = .ok (.getstatic 75, 3) := dk_178 0 75 (dk_at dksX7_line_0 11 rfl rfl)
theorem dX7_line_14 : decode cX7_line 14 = .ok (.arraylength, 1) := dk_190 (dk_at dksX7_line_0 14 rfl rfl)
theorem dX7_line_15 : decode cX7_line 15 = .ok (.if_icmp .ge 34, 3) := dk_162 0 34 (dk_at dksX7_line_0 15 rfl rfl)
theorem dX7_line_18 : decode cX7_line 18 = .ok (.aload_n 1, 1) := dk_43 (dk_at dksX7_line_0 18 rfl rfl)
theorem dX7_line_19 : decode cX7_line 19 = .ok (.iconst 0, 1) := dk_3 (dk_at dksX7_line_0 19 rfl rfl)
theorem dX7_line_20 : decode cX7_line 20 = .ok (.aload_n 0, 1) := dk_42 (dk_at dksX7_line_0 20 rfl rfl)
theorem dX7_line_21 : decode cX7_line 21 = .ok (.getfield 17, 3) := dk_180 0 17 (dk_at dksX7_line_0 21 rfl rfl)
theorem dX7_line_24 : decode cX7_line 24 = .ok (.getstatic 75, 3) := dk_178 0 75 (dk_at dksX7_line_1 0 rfl rfl)
theorem dX7_line_27 : decode cX7_line 27 = .ok (.iload_n 2, 1) := dk_28 (dk_at dksX7_line_1 3 rfl rfl)
theorem dX7_line_28 : decode cX7_line 28 = .ok (.aaload, 1) := dk_50 (dk_at dksX7_line_1 4 rfl rfl)
theorem dX7_line_29 : decode cX7_line 29 = .ok (.invokevirtual 79, 3) := dk_182 0 79 (dk_at dksX7_line_1 5 rfl rfl)
theorem dX7_line_32 : decode cX7_line 32 = .ok (.ifCond .eq 7, 3) := dk_153 0 7 (dk_at dksX7_line_1 8 rfl rfl)
theorem dX7_line_35 : decode cX7_line 35 = .ok (.iload_n 2, 1) := dk_28 (dk_at dksX7_line_1 11 rfl rfl)
theorem dX7_line_36 : decode cX7_line 36 = .ok (.goto 6, 3) := dk_167 0 6 (dk_at dksX7_line_1 12 rfl rfl)
theorem dX7_line_39 : decode cX7_line 39 = .ok (.aload_n 1, 1) := dk_43 (dk_at dksX7_line_1 15 rfl rfl)
theorem dX7_line_40 : decode cX7_line 40 = .ok (.iconst 0, 1) := dk_3 (dk_at dksX7_line_1 16 rfl rfl)
theorem dX7_line_41 : decode cX7_line 41 = .ok (.iaload, 1) := dk_46 (dk_at dksX7_line_1 17 rfl rfl)
theorem dX7_line_42 : decode cX7_line 42 = .ok (.iastore, 1) := dk_79 (dk_at dksX7_line_1 18 rfl rfl)
theorem dX7_line_43 : decode cX7_line 43 = .ok (.iinc 2 1, 3) := dk_132 2 1 (dk_at dksX7_line_1 19 rfl rfl)
theorem dX7_line_46 : decode cX7_line 46 = .ok (.goto (-36), 3) := dk_167 255 220 (dk_at dksX7_line_2 0 rfl rfl)
theorem dX7_line_49 : decode cX7_line 49 = .ok (.aload_n 0, 1) := dk_42 (dk_at dksX7_line_2 3 rfl rfl)
theorem dX7_line_50 : decode cX7_line 50 = .ok (.aload_n 1, 1) := dk_43 (dk_at dksX7_line_2 4 rfl rfl)
theorem dX7_line_51 : decode cX7_line 51 = .ok (.iconst 0, 1) := dk_3 (dk_at dksX7_line_2 5 rfl rfl)
theorem dX7_line_52 : decode cX7_line 52 = .ok (.iaload, 1) := dk_46 (dk_at dksX7_line_2 6 rfl rfl)
theorem dX7_line_53 : decode cX7_line 53 = .ok (.iconst (-1), 1) := dk_2 (dk_at dksX7_line_2 7 rfl rfl)
theorem dX7_line_54 : decode cX7_line 54 = .ok (.if_icmp .eq 7, 3) := dk_159 0 7 (dk_at dksX7_line_2 8 rfl rfl)
theorem dX7_line_57 : decode cX7_line 57 = .ok (.iconst 1, 1) := dk_4 (dk_at dksX7_line_2 11 rfl rfl)
theorem dX7_line_58 : decode cX7_line 58 = .ok (.goto 4, 3) := dk_167 0 4 (dk_at dksX7_line_2 12 rfl rfl)
theorem dX7_line_61 : decode cX7_line 61 = .ok (.iconst 0, 1) := dk_3 (dk_at dksX7_line_2 15 rfl rfl)
theorem dX7_line_62 : decode cX7_line 62 = .ok (.invokevirtual 85, 3) := dk_182 0 85 (dk_at dksX7_line_2 16 rfl rfl)
theorem dX7_line_65 : decode cX7_line 65 = .ok (.iconst 0, 1) := dk_3 (dk_at dksX7_line_2 19 rfl rfl)
theorem dX7_line_66 : decode cX7_line 66 = .ok (.istore_n 2, 1) := dk_61 (dk_at dksX7_line_2 20 rfl rfl)
theorem dX7_line_67 : decode cX7_line 67 = .ok (.iload_n 2, 1) := dk_28 (dk_at dksX7_line_2 21 rfl rfl)
theorem dX7_line_68 : decode cX7_line 68 = .ok (.getstatic 89, 3) := dk_178 0 89 (dk_at dksX7_line_3 0 rfl rfl)
theorem dX7_line_71 : decode cX7_line 71 = .ok (.aload_n 1, 1) := dk_43 (dk_at dksX7_line_3 3 rfl rfl)
theorem dX7_line_72 : decode cX7_line 72 = .ok (.iconst 0, 1) := dk_3 (dk_at dksX7_line_3 4 rfl rfl)
theorem dX7_line_73 : decode cX7_line 73 = .ok (.iaload, 1) := dk_46 (dk_at dksX7_line_3 5 rfl rfl)
theorem dX7_line_74 : decode cX7_line 74 = .ok (.aaload, 1) := dk_50 (dk_at dksX7_line_3 6 rfl rfl)
theorem dX7_line_75 : decode cX7_line 75 = .ok (.arraylength, 1) := dk_190 (dk_at dksX7_line_3 7 rfl rfl)
theorem dX7_line_76 : decode cX7_line 76 = .ok (.if_icmp .ge 104, 3) := dk_162 0 104 (dk_at dksX7_line_3 8 rfl rfl)
theorem dX7_line_79 : decode cX7_line 79 = .ok (.aload_n 0, 1) := dk_42 (dk_at dksX7_line_3 11 rfl rfl)
theorem dX7_line_80 : decode cX7_line 80 = .ok (.invokevirtual 72, 3) := dk_182 0 72 (dk_at dksX7_line_3 12 rfl rfl)
theorem dX7_line_83 : decode cX7_line 83 = .ok (.aload_n 0, 1) := dk_42 (dk_at dksX7_line_3 15 rfl rfl)
theorem dX7_line_84 : decode cX7_line 84 = .ok (.aload_n 0, 1) := dk_42 (dk_at dksX7_line_3 16 rfl rfl)
theorem dX7_line_85 : decode cX7_line 85 = .ok (.getfield 17, 3) := dk_180 0 17 (dk_at dksX7_line_3 17 rfl rfl)
theorem dX7_line_88 : decode cX7_line 88 = .ok (.invokevirtual 92, 3) := dk_182 0 92 (dk_at dksX7_line_3 20 rfl rfl)
theorem dX7_line_91 : decode cX7_line 91 = .ok (.ifCond .ne 34, 3) := dk_154 0 34 (dk_at dksX7_line_4 0 rfl rfl)
theorem dX7_line_94 : decode cX7_line 94 = .ok (.aload_n 0, 1) := dk_42 (dk_at dksX7_line_4 3 rfl rfl)
theorem dX7_line_95 : decode cX7_line 95 = .ok (.aload_n 0, 1) := dk_42 (dk_at dksX7_line_4 4 rfl rfl)
theorem dX7_line_96 : decode cX7_line 96 = .ok (.getfield 17, 3) := dk_180 0 17 (dk_at dksX7_line_4 5 rfl rfl)
theorem dX7_line_99 : decode cX7_line 99 = .ok (.iconst 0, 1) := dk_3 (dk_at dksX7_line_4 8 rfl rfl)
theorem dX7_line_100 : decode cX7_line 100 = .ok (.invokevirtual 96, 3) := dk_182 0 96 (dk_at dksX7_line_4 9 rfl rfl)
theorem dX7_line_103 : decode cX7_line 103 = .ok (.invokevirtual 52, 3) := dk_182 0 52 (dk_at dksX7_line_4 12 rfl rfl)
theorem dX7_line_106 : decode cX7_line 106 = .ok (.iconst 2, 1) := dk_5 (dk_at dksX7_line_4 15 rfl rfl)
theorem dX7_line_107 : decode cX7_line 107 = .ok (.if_icmp .ne 18, 3) := dk_160 0 18 (dk_at dksX7_line_4 16 rfl rfl)
theorem dX7_line_110 : decode cX7_line 110 = .ok (.aload_n 0, 1) := dk_42 (dk_at dksX7_line_4 19 rfl rfl)
theorem dX7_line_111 : decode cX7_line 111 = .ok (.getfield 17, 3) := dk_180 0 17 (dk_at dksX7_line_4 20 rfl rfl)
theorem dX7_line_114 : decode cX7_line 114 = .ok (.invokevirtual 100, 3) := dk_182 0 100 (dk_at dksX7_line_5 0 rfl rfl)
theorem dX7_line_117 : decode cX7_line 117 = .ok (.iconst 4, 1) := dk_7 (dk_at dksX7_line_5 3 rfl rfl)
theorem dX7_line_118 : decode cX7_line 118 = .ok (.if_icmp .ge 7, 3) := dk_162 0 7 (dk_at dksX7_line_5 4 rfl rfl)
theorem dX7_line_121 : decode cX7_line 121 = .ok (.iconst 1, 1) := dk_4 (dk_at dksX7_line_5 7 rfl rfl)
theorem dX7_line_122 : decode cX7_line 122 = .ok (.goto 4, 3) := dk_167 0 4 (dk_at dksX7_line_5 8 rfl rfl)
theorem dX7_line_125 : decode cX7_line 125 = .ok (.iconst 0, 1) := dk_3 (dk_at dksX7_line_5 11 rfl rfl)
theorem dX7_line_126 : decode cX7_line 126 = .ok (.invokevirtual 85, 3) := dk_182 0 85 (dk_at dksX7_line_5 12 rfl rfl)
theorem dX7_line_129 : decode cX7_line 129 = .ok (.aload_n 1, 1) := dk_43 (dk_at dksX7_line_5 15 rfl rfl)
theorem dX7_line_130 : decode cX7_line 130 = .ok (.iload_n 2, 1) := dk_28 (dk_at dksX7_line_5 16 rfl rfl)
theorem dX7_line_131 : decode cX7_line 131 = .ok (.iconst 1, 1) := dk_4 (dk_at dksX7_line_5 17 rfl rfl)
theorem dX7_line_132 : decode cX7_line 132 = .ok (.iadd, 1) := dk_96 (dk_at dksX7_line_5 18 rfl rfl)
theorem dX7_line_133 : decode cX7_line 133 = .ok (.aload_n 0, 1) := dk_42 (dk_at dksX7_line_5 19 rfl rfl)
theorem dX7_line_134 : decode cX7_line 134 = .ok (.getfield 17, 3) := dk_180 0 17 (dk_at dksX7_line_5 20 rfl rfl)
theorem dX7_line_137 : decode cX7_line 137 = .ok (.invokestatic 104, 3) := dk_184 0 104 (dk_at dksX7_line_6 0 rfl rfl)
theorem dX7_line_140 : decode cX7_line 140 = .ok (.iastore, 1) := dk_79 (dk_at dksX7_line_6 3 rfl rfl)
theorem dX7_line_141 : decode cX7_line 141 = .ok (.aload_n 0, 1) := dk_42 (dk_at dksX7_line_6 4 rfl rfl)
theorem dX7_line_142 : decode cX7_line 142 = .ok (.aload_n 1, 1) := dk_43 (dk_at dksX7_line_6 5 rfl rfl)
theorem dX7_line_143 : decode cX7_line 143 = .ok (.iload_n 2, 1) := dk_28 (dk_at dksX7_line_6 6 rfl rfl)
theorem dX7_line_144 : decode cX7_line 144 = .ok (.iconst 1, 1) := dk_4 (dk_at dksX7_line_6 7 rfl rfl)
theorem dX7_line_145 : decode cX7_line 145 = .ok (.iadd, 1) := dk_96 (dk_at dksX7_line_6 8 rfl rfl)
theorem dX7_line_146 : decode cX7_line 146 = .ok (.iaload, 1) := dk_46 (dk_at dksX7_line_6 9 rfl rfl)
theorem dX7_line_147 : decode cX7_line 147 = .ok (.i2l, 1) := dk_133 (dk_at dksX7_line_6 10 rfl rfl)
theorem dX7_line_148 : decode cX7_line 148 = .ok (.getstatic 110, 3) := dk_178 0 110 (dk_at dksX7_line_6 11 rfl rfl)
theorem dX7_line_151 : decode cX7_line 151 = .ok (.aload_n 1, 1) := dk_43 (dk_at dksX7_line_6 14 rfl rfl)
theorem dX7_line_152 : decode cX7_line 152 = .ok (.iconst 0, 1) := dk_3 (dk_at dksX7_line_6 15 rfl rfl)
theorem dX7_line_153 : decode cX7_line 153 = .ok (.iaload, 1) := dk_46 (dk_at dksX7_line_6 16 rfl rfl)
theorem dX7_line_154 : decode cX7_line 154 = .ok (.aaload, 1) := dk_50 (dk_at dksX7_line_6 17 rfl rfl)
theorem dX7_line_155 : decode cX7_line 155 = .ok (.iload_n 2, 1) := dk_28 (dk_at dksX7_line_6 18 rfl rfl)
theorem dX7_line_156 : decode cX7_line 156 = .ok (.iaload, 1) := dk_46 (dk_at dksX7_line_6 19 rfl rfl)
theorem dX7_line_157 : decode cX7_line 157 = .ok (.i2l, 1) := dk_133 (dk_at dksX7_line_6 20 rfl rfl)
theorem dX7_line_158 : decode cX7_line 158 = .ok (.getstatic 89, 3) := dk_178 0 89 (dk_at dksX7_line_6 21 rfl rfl)
theorem dX7_line_161 : decode cX7_line 161 = .ok (.aload_n 1, 1) := dk_43 (dk_at dksX7_line_7 0 rfl rfl)
theorem dX7_line_162 : decode cX7_line 162 = .ok (.iconst 0, 1) := dk_3 (dk_at dksX7_line_7 1 rfl rfl)
theorem dX7_line_163 : decode cX7_line 163 = .ok (.iaload, 1) := dk_46 (dk_at dksX7_line_7 2 rfl rfl)
theorem dX7_line_164 : decode cX7_line 164 = .ok (.aaload, 1) := dk_50 (dk_at dksX7_line_7 3 rfl rfl)
theorem dX7_line_165 : decode cX7_line 165 = .ok (.iload_n 2, 1) := dk_28 (dk_at dksX7_line_7 4 rfl rfl)
theorem dX7_line_166 : decode cX7_line 166 = .ok (.iaload, 1) := dk_46 (dk_at dksX7_line_7 5 rfl rfl)
theorem dX7_line_167 : decode cX7_line 167 = .ok (.i2l, 1) := dk_133 (dk_at dksX7_line_7 6 rfl rfl)
theorem dX7_line_168 : decode cX7_line 168 = .ok (.invokestatic 30, 3) := dk_184 0 30 (dk_at dksX7_line_7 7 rfl rfl)
theorem dX7_line_171 : decode cX7_line 171 = .ok (.invokevirtual 85, 3) := dk_182 0 85 (dk_at dksX7_line_7 10 rfl rfl)
theorem dX7_line_174 : decode cX7_line 174 = .ok (.iinc 2 1, 3) := dk_132 2 1 (dk_at dksX7_line_7 13 rfl rfl)
theorem dX7_line_177 : decode cX7_line 177 = .ok (.goto (-110), 3) := dk_167 255 146 (dk_at dksX7_line_7 16 rfl rfl)
theorem dX7_line_180 : decode cX7_line 180 = .ok (.aload_n 0, 1) := dk_42 (dk_at dksX7_line_7 19 rfl rfl)
theorem dX7_line_181 : decode cX7_line 181 = .ok (.invokevirtual 72, 3) := dk_182 0 72 (dk_at dksX7_line_7 20 rfl rfl)
theorem dX7_line_184 : decode cX7_line 184 = .ok (.return_, 1) := dk_177 (dk_at dksX7_line_7 23 rfl rfl)
abbrev cX7_take : ByteArray := prog_8_method_3_code
def yX7_take : MethodName := ⟨RX7, "take", "()V"⟩
def dkwX7_take_8 : List UInt8 := [177]
abbrev dktX7_take_8 : List UInt8 := dkwX7_take_8 ++ []
def dkwX7_take_7 : List UInt8 := [181, 0, 38, 51, 17, 0, 255, 126, 146, 182, 0, 59, 87, 167, 255, 178, 42, 44, 182, 0, 63, 181, 0, 17]
abbrev dktX7_take_7 : List UInt8 := dkwX7_take_7 ++ dktX7_take_8
def dkwX7_take_6 : List UInt8 := [182, 0, 52, 27, 160, 0, 35, 44, 42, 180, 0, 3, 180, 0, 45, 42, 89, 180, 0, 38, 90, 4, 96]
abbrev dktX7_take_6 : List UInt8 := dkwX7_take_6 ++ dktX7_take_7
def dkwX7_take_5 : List UInt8 := [180, 0, 38, 159, 0, 27, 27, 158, 0, 55, 42, 42, 180, 0, 3, 180, 0, 45, 42, 180, 0, 38, 51]
abbrev dktX7_take_5 : List UInt8 := dkwX7_take_5 ++ dktX7_take_6
def dkwX7_take_4 : List UInt8 := [183, 0, 58, 77, 42, 180, 0, 38, 42, 180, 0, 3, 180, 0, 42, 162, 0, 70, 42, 180, 0, 49, 42]
abbrev dktX7_take_4 : List UInt8 := dkwX7_take_4 ++ dktX7_take_5
def dkwX7_take_3 : List UInt8 := [180, 0, 3, 180, 0, 45, 42, 180, 0, 38, 51, 182, 0, 52, 167, 0, 4, 3, 60, 187, 0, 56, 89]
abbrev dktX7_take_3 : List UInt8 := dkwX7_take_3 ++ dktX7_take_4
def dkwX7_take_2 : List UInt8 := [180, 0, 38, 181, 0, 49, 42, 180, 0, 38, 42, 180, 0, 3, 180, 0, 42, 162, 0, 22, 42, 42]
abbrev dktX7_take_2 : List UInt8 := dkwX7_take_2 ++ dktX7_take_3
def dkwX7_take_1 : List UInt8 := [180, 0, 38, 51, 16, 32, 160, 0, 16, 42, 89, 180, 0, 38, 4, 96, 181, 0, 38, 167, 255, 215, 42, 42]
abbrev dktX7_take_1 : List UInt8 := dkwX7_take_1 ++ dktX7_take_2
def dkwX7_take_0 : List UInt8 := [42, 180, 0, 38, 42, 180, 0, 3, 180, 0, 42, 162, 0, 33, 42, 180, 0, 3, 180, 0, 45, 42]
abbrev dktX7_take_0 : List UInt8 := dkwX7_take_0 ++ dktX7_take_1
theorem dksX7_take_0 : cX7_take.data.toList.drop 0 = dktX7_take_0 := by decide +kernel
theorem dksX7_take_1 : cX7_take.data.toList.drop 22 = dktX7_take_1 := dk_seg dksX7_take_0 22 rfl rfl
theorem dksX7_take_2 : cX7_take.data.toList.drop 46 = dktX7_take_2 := dk_seg dksX7_take_1 24 rfl rfl
theorem dksX7_take_3 : cX7_take.data.toList.drop 68 = dktX7_take_3 := dk_seg dksX7_take_2 22 rfl rfl
theorem dksX7_take_4 : cX7_take.data.toList.drop 91 = dktX7_take_4 := dk_seg dksX7_take_3 23 rfl rfl
theorem dksX7_take_5 : cX7_take.data.toList.drop 114 = dktX7_take_5 := dk_seg dksX7_take_4 23 rfl rfl
theorem dksX7_take_6 : cX7_take.data.toList.drop 137 = dktX7_take_6 := dk_seg dksX7_take_5 23 rfl rfl
theorem dksX7_take_7 : cX7_take.data.toList.drop 160 = dktX7_take_7 := dk_seg dksX7_take_6 23 rfl rfl
theorem dksX7_take_8 : cX7_take.data.toList.drop 184 = dktX7_take_8 := dk_seg dksX7_take_7 24 rfl rfl
theorem dX7_take_0 : decode cX7_take 0 = .ok (.aload_n 0, 1) := dk_42 (dk_at dksX7_take_0 0 rfl rfl)
theorem dX7_take_1 : decode cX7_take 1 = .ok (.getfield 38, 3) := dk_180 0 38 (dk_at dksX7_take_0 1 rfl rfl)
theorem dX7_take_4 : decode cX7_take 4 = .ok (.aload_n 0, 1) := dk_42 (dk_at dksX7_take_0 4 rfl rfl)
theorem dX7_take_5 : decode cX7_take 5 = .ok (.getfield 3, 3) := dk_180 0 3 (dk_at dksX7_take_0 5 rfl rfl)
theorem dX7_take_8 : decode cX7_take 8 = .ok (.getfield 42, 3) := dk_180 0 42 (dk_at dksX7_take_0 8 rfl rfl)
theorem dX7_take_11 : decode cX7_take 11 = .ok (.if_icmp .ge 33, 3) := dk_162 0 33 (dk_at dksX7_take_0 11 rfl rfl)
theorem dX7_take_14 : decode cX7_take 14 = .ok (.aload_n 0, 1) := dk_42 (dk_at dksX7_take_0 14 rfl rfl)
theorem dX7_take_15 : decode cX7_take 15 = .ok (.getfield 3, 3) := dk_180 0 3 (dk_at dksX7_take_0 15 rfl rfl)
theorem dX7_take_18 : decode cX7_take 18 = .ok (.getfield 45, 3) := dk_180 0 45 (dk_at dksX7_take_0 18 rfl rfl)
theorem dX7_take_21 : decode cX7_take 21 = .ok (.aload_n 0, 1) := dk_42 (dk_at dksX7_take_0 21 rfl rfl)
theorem dX7_take_22 : decode cX7_take 22 = .ok (.getfield 38, 3) := dk_180 0 38 (dk_at dksX7_take_1 0 rfl rfl)
theorem dX7_take_25 : decode cX7_take 25 = .ok (.baload, 1) := dk_51 (dk_at dksX7_take_1 3 rfl rfl)
theorem dX7_take_26 : decode cX7_take 26 = .ok (.bipush 32, 2) := dk_16 32 (dk_at dksX7_take_1 4 rfl rfl)
theorem dX7_take_28 : decode cX7_take 28 = .ok (.if_icmp .ne 16, 3) := dk_160 0 16 (dk_at dksX7_take_1 6 rfl rfl)
theorem dX7_take_31 : decode cX7_take 31 = .ok (.aload_n 0, 1) := dk_42 (dk_at dksX7_take_1 9 rfl rfl)
theorem dX7_take_32 : decode cX7_take 32 = .ok (.dup, 1) := dk_89 (dk_at dksX7_take_1 10 rfl rfl)
theorem dX7_take_33 : decode cX7_take 33 = .ok (.getfield 38, 3) := dk_180 0 38 (dk_at dksX7_take_1 11 rfl rfl)
theorem dX7_take_36 : decode cX7_take 36 = .ok (.iconst 1, 1) := dk_4 (dk_at dksX7_take_1 14 rfl rfl)
theorem dX7_take_37 : decode cX7_take 37 = .ok (.iadd, 1) := dk_96 (dk_at dksX7_take_1 15 rfl rfl)
theorem dX7_take_38 : decode cX7_take 38 = .ok (.putfield 38, 3) := dk_181 0 38 (dk_at dksX7_take_1 16 rfl rfl)
theorem dX7_take_41 : decode cX7_take 41 = .ok (.goto (-41), 3) := dk_167 255 215 (dk_at dksX7_take_1 19 rfl rfl)
theorem dX7_take_44 : decode cX7_take 44 = .ok (.aload_n 0, 1) := dk_42 (dk_at dksX7_take_1 22 rfl rfl)
theorem dX7_take_45 : decode cX7_take 45 = .ok (.aload_n 0, 1) := dk_42 (dk_at dksX7_take_1 23 rfl rfl)
theorem dX7_take_46 : decode cX7_take 46 = .ok (.getfield 38, 3) := dk_180 0 38 (dk_at dksX7_take_2 0 rfl rfl)
theorem dX7_take_49 : decode cX7_take 49 = .ok (.putfield 49, 3) := dk_181 0 49 (dk_at dksX7_take_2 3 rfl rfl)
theorem dX7_take_52 : decode cX7_take 52 = .ok (.aload_n 0, 1) := dk_42 (dk_at dksX7_take_2 6 rfl rfl)
theorem dX7_take_53 : decode cX7_take 53 = .ok (.getfield 38, 3) := dk_180 0 38 (dk_at dksX7_take_2 7 rfl rfl)
theorem dX7_take_56 : decode cX7_take 56 = .ok (.aload_n 0, 1) := dk_42 (dk_at dksX7_take_2 10 rfl rfl)
theorem dX7_take_57 : decode cX7_take 57 = .ok (.getfield 3, 3) := dk_180 0 3 (dk_at dksX7_take_2 11 rfl rfl)
theorem dX7_take_60 : decode cX7_take 60 = .ok (.getfield 42, 3) := dk_180 0 42 (dk_at dksX7_take_2 14 rfl rfl)
theorem dX7_take_63 : decode cX7_take 63 = .ok (.if_icmp .ge 22, 3) := dk_162 0 22 (dk_at dksX7_take_2 17 rfl rfl)
theorem dX7_take_66 : decode cX7_take 66 = .ok (.aload_n 0, 1) := dk_42 (dk_at dksX7_take_2 20 rfl rfl)
theorem dX7_take_67 : decode cX7_take 67 = .ok (.aload_n 0, 1) := dk_42 (dk_at dksX7_take_2 21 rfl rfl)
theorem dX7_take_68 : decode cX7_take 68 = .ok (.getfield 3, 3) := dk_180 0 3 (dk_at dksX7_take_3 0 rfl rfl)
theorem dX7_take_71 : decode cX7_take 71 = .ok (.getfield 45, 3) := dk_180 0 45 (dk_at dksX7_take_3 3 rfl rfl)
theorem dX7_take_74 : decode cX7_take 74 = .ok (.aload_n 0, 1) := dk_42 (dk_at dksX7_take_3 6 rfl rfl)
theorem dX7_take_75 : decode cX7_take 75 = .ok (.getfield 38, 3) := dk_180 0 38 (dk_at dksX7_take_3 7 rfl rfl)
theorem dX7_take_78 : decode cX7_take 78 = .ok (.baload, 1) := dk_51 (dk_at dksX7_take_3 10 rfl rfl)
theorem dX7_take_79 : decode cX7_take 79 = .ok (.invokevirtual 52, 3) := dk_182 0 52 (dk_at dksX7_take_3 11 rfl rfl)
theorem dX7_take_82 : decode cX7_take 82 = .ok (.goto 4, 3) := dk_167 0 4 (dk_at dksX7_take_3 14 rfl rfl)
theorem dX7_take_85 : decode cX7_take 85 = .ok (.iconst 0, 1) := dk_3 (dk_at dksX7_take_3 17 rfl rfl)
theorem dX7_take_86 : decode cX7_take 86 = .ok (.istore_n 1, 1) := dk_60 (dk_at dksX7_take_3 18 rfl rfl)
theorem dX7_take_87 : decode cX7_take 87 = .ok (.new 56, 3) := dk_187 0 56 (dk_at dksX7_take_3 19 rfl rfl)
theorem dX7_take_90 : decode cX7_take 90 = .ok (.dup, 1) := dk_89 (dk_at dksX7_take_3 22 rfl rfl)
theorem dX7_take_91 : decode cX7_take 91 = .ok (.invokespecial 58, 3) := dk_183 0 58 (dk_at dksX7_take_4 0 rfl rfl)
theorem dX7_take_94 : decode cX7_take 94 = .ok (.astore_n 2, 1) := dk_77 (dk_at dksX7_take_4 3 rfl rfl)
theorem dX7_take_95 : decode cX7_take 95 = .ok (.aload_n 0, 1) := dk_42 (dk_at dksX7_take_4 4 rfl rfl)
theorem dX7_take_96 : decode cX7_take 96 = .ok (.getfield 38, 3) := dk_180 0 38 (dk_at dksX7_take_4 5 rfl rfl)
theorem dX7_take_99 : decode cX7_take 99 = .ok (.aload_n 0, 1) := dk_42 (dk_at dksX7_take_4 8 rfl rfl)
theorem dX7_take_100 : decode cX7_take 100 = .ok (.getfield 3, 3) := dk_180 0 3 (dk_at dksX7_take_4 9 rfl rfl)
theorem dX7_take_103 : decode cX7_take 103 = .ok (.getfield 42, 3) := dk_180 0 42 (dk_at dksX7_take_4 12 rfl rfl)
theorem dX7_take_106 : decode cX7_take 106 = .ok (.if_icmp .ge 70, 3) := dk_162 0 70 (dk_at dksX7_take_4 15 rfl rfl)
theorem dX7_take_109 : decode cX7_take 109 = .ok (.aload_n 0, 1) := dk_42 (dk_at dksX7_take_4 18 rfl rfl)
theorem dX7_take_110 : decode cX7_take 110 = .ok (.getfield 49, 3) := dk_180 0 49 (dk_at dksX7_take_4 19 rfl rfl)
theorem dX7_take_113 : decode cX7_take 113 = .ok (.aload_n 0, 1) := dk_42 (dk_at dksX7_take_4 22 rfl rfl)
theorem dX7_take_114 : decode cX7_take 114 = .ok (.getfield 38, 3) := dk_180 0 38 (dk_at dksX7_take_5 0 rfl rfl)
theorem dX7_take_117 : decode cX7_take 117 = .ok (.if_icmp .eq 27, 3) := dk_159 0 27 (dk_at dksX7_take_5 3 rfl rfl)
theorem dX7_take_120 : decode cX7_take 120 = .ok (.iload_n 1, 1) := dk_27 (dk_at dksX7_take_5 6 rfl rfl)
theorem dX7_take_121 : decode cX7_take 121 = .ok (.ifCond .le 55, 3) := dk_158 0 55 (dk_at dksX7_take_5 7 rfl rfl)
theorem dX7_take_124 : decode cX7_take 124 = .ok (.aload_n 0, 1) := dk_42 (dk_at dksX7_take_5 10 rfl rfl)
theorem dX7_take_125 : decode cX7_take 125 = .ok (.aload_n 0, 1) := dk_42 (dk_at dksX7_take_5 11 rfl rfl)
theorem dX7_take_126 : decode cX7_take 126 = .ok (.getfield 3, 3) := dk_180 0 3 (dk_at dksX7_take_5 12 rfl rfl)
theorem dX7_take_129 : decode cX7_take 129 = .ok (.getfield 45, 3) := dk_180 0 45 (dk_at dksX7_take_5 15 rfl rfl)
theorem dX7_take_132 : decode cX7_take 132 = .ok (.aload_n 0, 1) := dk_42 (dk_at dksX7_take_5 18 rfl rfl)
theorem dX7_take_133 : decode cX7_take 133 = .ok (.getfield 38, 3) := dk_180 0 38 (dk_at dksX7_take_5 19 rfl rfl)
theorem dX7_take_136 : decode cX7_take 136 = .ok (.baload, 1) := dk_51 (dk_at dksX7_take_5 22 rfl rfl)
theorem dX7_take_137 : decode cX7_take 137 = .ok (.invokevirtual 52, 3) := dk_182 0 52 (dk_at dksX7_take_6 0 rfl rfl)
theorem dX7_take_140 : decode cX7_take 140 = .ok (.iload_n 1, 1) := dk_27 (dk_at dksX7_take_6 3 rfl rfl)
theorem dX7_take_141 : decode cX7_take 141 = .ok (.if_icmp .ne 35, 3) := dk_160 0 35 (dk_at dksX7_take_6 4 rfl rfl)
theorem dX7_take_144 : decode cX7_take 144 = .ok (.aload_n 2, 1) := dk_44 (dk_at dksX7_take_6 7 rfl rfl)
theorem dX7_take_145 : decode cX7_take 145 = .ok (.aload_n 0, 1) := dk_42 (dk_at dksX7_take_6 8 rfl rfl)
theorem dX7_take_146 : decode cX7_take 146 = .ok (.getfield 3, 3) := dk_180 0 3 (dk_at dksX7_take_6 9 rfl rfl)
theorem dX7_take_149 : decode cX7_take 149 = .ok (.getfield 45, 3) := dk_180 0 45 (dk_at dksX7_take_6 12 rfl rfl)
theorem dX7_take_152 : decode cX7_take 152 = .ok (.aload_n 0, 1) := dk_42 (dk_at dksX7_take_6 15 rfl rfl)
theorem dX7_take_153 : decode cX7_take 153 = .ok (.dup, 1) := dk_89 (dk_at dksX7_take_6 16 rfl rfl)
theorem dX7_take_154 : decode cX7_take 154 = .ok (.getfield 38, 3) := dk_180 0 38 (dk_at dksX7_take_6 17 rfl rfl)
theorem dX7_take_157 : decode cX7_take 157 = .ok (.dup_x1, 1) := dk_90 (dk_at dksX7_take_6 20 rfl rfl)
theorem dX7_take_158 : decode cX7_take 158 = .ok (.iconst 1, 1) := dk_4 (dk_at dksX7_take_6 21 rfl rfl)
theorem dX7_take_159 : decode cX7_take 159 = .ok (.iadd, 1) := dk_96 (dk_at dksX7_take_6 22 rfl rfl)
theorem dX7_take_160 : decode cX7_take 160 = .ok (.putfield 38, 3) := dk_181 0 38 (dk_at dksX7_take_7 0 rfl rfl)
theorem dX7_take_163 : decode cX7_take 163 = .ok (.baload, 1) := dk_51 (dk_at dksX7_take_7 3 rfl rfl)
theorem dX7_take_164 : decode cX7_take 164 = .ok (.sipush 255, 3) := dk_17 0 255 (dk_at dksX7_take_7 4 rfl rfl)
theorem dX7_take_167 : decode cX7_take 167 = .ok (.iand, 1) := dk_126 (dk_at dksX7_take_7 7 rfl rfl)
theorem dX7_take_168 : decode cX7_take 168 = .ok (.i2c, 1) := dk_146 (dk_at dksX7_take_7 8 rfl rfl)
theorem dX7_take_169 : decode cX7_take 169 = .ok (.invokevirtual 59, 3) := dk_182 0 59 (dk_at dksX7_take_7 9 rfl rfl)
theorem dX7_take_172 : decode cX7_take 172 = .ok (.pop, 1) := dk_87 (dk_at dksX7_take_7 12 rfl rfl)
theorem dX7_take_173 : decode cX7_take 173 = .ok (.goto (-78), 3) := dk_167 255 178 (dk_at dksX7_take_7 13 rfl rfl)
theorem dX7_take_176 : decode cX7_take 176 = .ok (.aload_n 0, 1) := dk_42 (dk_at dksX7_take_7 16 rfl rfl)
theorem dX7_take_177 : decode cX7_take 177 = .ok (.aload_n 2, 1) := dk_44 (dk_at dksX7_take_7 17 rfl rfl)
theorem dX7_take_178 : decode cX7_take 178 = .ok (.invokevirtual 63, 3) := dk_182 0 63 (dk_at dksX7_take_7 18 rfl rfl)
theorem dX7_take_181 : decode cX7_take 181 = .ok (.putfield 17, 3) := dk_181 0 17 (dk_at dksX7_take_7 21 rfl rfl)
theorem dX7_take_184 : decode cX7_take 184 = .ok (.return_, 1) := dk_177 (dk_at dksX7_take_8 0 rfl rfl)
abbrev cX7_kindOf : ByteArray := prog_8_method_2_code
def yX7_kindOf : MethodName := ⟨RX7, "kindOf", "(I)I"⟩
def dkwX7_kindOf_1 : List UInt8 := [20, 0, 36, 184, 0, 30, 153, 0, 7, 5, 167, 0, 4, 3, 172]
abbrev dktX7_kindOf_1 : List UInt8 := dkwX7_kindOf_1 ++ []
def dkwX7_kindOf_0 : List UInt8 := [27, 133, 20, 0, 26, 20, 0, 28, 184, 0, 30, 153, 0, 7, 4, 167, 0, 22, 27, 133, 20, 0, 34]
abbrev dktX7_kindOf_0 : List UInt8 := dkwX7_kindOf_0 ++ dktX7_kindOf_1
theorem dksX7_kindOf_0 : cX7_kindOf.data.toList.drop 0 = dktX7_kindOf_0 := by decide +kernel
theorem dksX7_kindOf_1 : cX7_kindOf.data.toList.drop 23 = dktX7_kindOf_1 := dk_seg dksX7_kindOf_0 23 rfl rfl
theorem dX7_kindOf_0 : decode cX7_kindOf 0 = .ok (.iload_n 1, 1) := dk_27 (dk_at dksX7_kindOf_0 0 rfl rfl)
theorem dX7_kindOf_1 : decode cX7_kindOf 1 = .ok (.i2l, 1) := dk_133 (dk_at dksX7_kindOf_0 1 rfl rfl)
theorem dX7_kindOf_2 : decode cX7_kindOf 2 = .ok (.ldc2_w 26, 3) := dk_20 0 26 (dk_at dksX7_kindOf_0 2 rfl rfl)
theorem dX7_kindOf_5 : decode cX7_kindOf 5 = .ok (.ldc2_w 28, 3) := dk_20 0 28 (dk_at dksX7_kindOf_0 5 rfl rfl)
theorem dX7_kindOf_8 : decode cX7_kindOf 8 = .ok (.invokestatic 30, 3) := dk_184 0 30 (dk_at dksX7_kindOf_0 8 rfl rfl)
theorem dX7_kindOf_11 : decode cX7_kindOf 11 = .ok (.ifCond .eq 7, 3) := dk_153 0 7 (dk_at dksX7_kindOf_0 11 rfl rfl)
theorem dX7_kindOf_14 : decode cX7_kindOf 14 = .ok (.iconst 1, 1) := dk_4 (dk_at dksX7_kindOf_0 14 rfl rfl)
theorem dX7_kindOf_15 : decode cX7_kindOf 15 = .ok (.goto 22, 3) := dk_167 0 22 (dk_at dksX7_kindOf_0 15 rfl rfl)
theorem dX7_kindOf_18 : decode cX7_kindOf 18 = .ok (.iload_n 1, 1) := dk_27 (dk_at dksX7_kindOf_0 18 rfl rfl)
theorem dX7_kindOf_19 : decode cX7_kindOf 19 = .ok (.i2l, 1) := dk_133 (dk_at dksX7_kindOf_0 19 rfl rfl)
theorem dX7_kindOf_20 : decode cX7_kindOf 20 = .ok (.ldc2_w 34, 3) := dk_20 0 34 (dk_at dksX7_kindOf_0 20 rfl rfl)
theorem dX7_kindOf_23 : decode cX7_kindOf 23 = .ok (.ldc2_w 36, 3) := dk_20 0 36 (dk_at dksX7_kindOf_1 0 rfl rfl)
theorem dX7_kindOf_26 : decode cX7_kindOf 26 = .ok (.invokestatic 30, 3) := dk_184 0 30 (dk_at dksX7_kindOf_1 3 rfl rfl)
theorem dX7_kindOf_29 : decode cX7_kindOf 29 = .ok (.ifCond .eq 7, 3) := dk_153 0 7 (dk_at dksX7_kindOf_1 6 rfl rfl)
theorem dX7_kindOf_32 : decode cX7_kindOf 32 = .ok (.iconst 2, 1) := dk_5 (dk_at dksX7_kindOf_1 9 rfl rfl)
theorem dX7_kindOf_33 : decode cX7_kindOf 33 = .ok (.goto 4, 3) := dk_167 0 4 (dk_at dksX7_kindOf_1 10 rfl rfl)
theorem dX7_kindOf_36 : decode cX7_kindOf 36 = .ok (.iconst 0, 1) := dk_3 (dk_at dksX7_kindOf_1 13 rfl rfl)
theorem dX7_kindOf_37 : decode cX7_kindOf 37 = .ok (.ireturn, 1) := dk_172 (dk_at dksX7_kindOf_1 14 rfl rfl)
abbrev cX7_want : ByteArray := prog_8_method_4_code
def yX7_want : MethodName := ⟨RX7, "want", "(Z)V"⟩
def dkwX7_want_0 : List UInt8 := [27, 154, 0, 15, 187, 0, 67, 89, 42, 180, 0, 49, 183, 0, 69, 191, 177]
abbrev dktX7_want_0 : List UInt8 := dkwX7_want_0 ++ []
theorem dksX7_want_0 : cX7_want.data.toList.drop 0 = dktX7_want_0 := by decide +kernel
theorem dX7_want_0 : decode cX7_want 0 = .ok (.iload_n 1, 1) := dk_27 (dk_at dksX7_want_0 0 rfl rfl)
theorem dX7_want_1 : decode cX7_want 1 = .ok (.ifCond .ne 15, 3) := dk_154 0 15 (dk_at dksX7_want_0 1 rfl rfl)
theorem dX7_want_4 : decode cX7_want 4 = .ok (.new 67, 3) := dk_187 0 67 (dk_at dksX7_want_0 4 rfl rfl)
theorem dX7_want_7 : decode cX7_want 7 = .ok (.dup, 1) := dk_89 (dk_at dksX7_want_0 7 rfl rfl)
theorem dX7_want_8 : decode cX7_want 8 = .ok (.aload_n 0, 1) := dk_42 (dk_at dksX7_want_0 8 rfl rfl)
theorem dX7_want_9 : decode cX7_want 9 = .ok (.getfield 49, 3) := dk_180 0 49 (dk_at dksX7_want_0 9 rfl rfl)
theorem dX7_want_12 : decode cX7_want 12 = .ok (.invokespecial 69, 3) := dk_183 0 69 (dk_at dksX7_want_0 12 rfl rfl)
theorem dX7_want_15 : decode cX7_want 15 = .ok (.athrow, 1) := dk_191 (dk_at dksX7_want_0 15 rfl rfl)
theorem dX7_want_16 : decode cX7_want 16 = .ok (.return_, 1) := dk_177 (dk_at dksX7_want_0 16 rfl rfl)
theorem q63 : (Jvm.Cond.initialized "StrawMen$Reader") ∈ lw_all := lw_g (lw_at lw_m1 12 rfl) rfl
theorem q240 : (Jvm.Cond.fieldLinkNest "StrawMen$Reader" (45 : Nat) "StrawMen" "text" "[B" "StrawMen") ∈ lw_tbl := lw_at lw_m1 189 rfl
theorem q242 : (Jvm.Cond.fieldLinkNest "StrawMen$Reader" (42 : Nat) "StrawMen" "bytes" "I" "StrawMen") ∈ lw_tbl := lw_at lw_m1 191 rfl
theorem q305 : (Jvm.Cond.instantiable "StrawMen$Reader" (6 : Nat)) ∈ lw_all := lw_g (lw_at lw_m2 14 rfl) rfl
theorem q307 : (Jvm.Cond.instanceMethod ({ cls := "StrawMen$Reader", name := "<init>", desc := "(LStrawMen;)V" } : Jvm.MethodName)) ∈ lw_all := lw_g (lw_at lw_m2 16 rfl) rfl
theorem q308 : (Jvm.Cond.code ({ cls := "StrawMen$Reader", name := "<init>", desc := "(LStrawMen;)V" } : Jvm.MethodName) prog_8_method_1_code (2 : Nat) (Option.none : Option Jvm.ClassFile.FieldType)) ∈ lw_all := lw_g (lw_at lw_m2 17 rfl) rfl
theorem q309 : (Jvm.Cond.methodLink "StrawMen$Reader" (9 : Nat) ({ cls := "java/lang/Object", name := "<init>", desc := "()V" } : Jvm.MethodName)) ∈ lw_all := lw_g (lw_at lw_m2 18 rfl) rfl
theorem q310 : (Jvm.Cond.stringRef "StrawMen$Reader" (15 : Nat) "") ∈ lw_tbl := lw_at lw_m2 19 rfl
theorem q311 : (Jvm.Cond.classLink "StrawMen$Reader" (21 : Nat) "[[I") ∈ lw_all := lw_g (lw_at lw_m2 20 rfl) rfl
theorem q312 : (Jvm.Cond.fieldLink "StrawMen$Reader" (38 : Nat) "StrawMen$Reader" "at" "I") ∈ lw_all := lw_g (lw_at lw_m2 21 rfl) rfl
theorem q313 : (Jvm.Cond.fieldLink "StrawMen$Reader" (49 : Nat) "StrawMen$Reader" "first" "I") ∈ lw_all := lw_g (lw_at lw_m2 22 rfl) rfl
theorem q314 : (Jvm.Cond.fieldLink "StrawMen$Reader" (17 : Nat) "StrawMen$Reader" "word" "Ljava/lang/String;") ∈ lw_all := lw_g (lw_at lw_m2 23 rfl) rfl
theorem q315 : (Jvm.Cond.fieldLink "StrawMen$Reader" (23 : Nat) "StrawMen$Reader" "told" "[[I") ∈ lw_all := lw_g (lw_at lw_m2 24 rfl) rfl
theorem q317 : (Jvm.Cond.fieldLink "StrawMen$Reader" (113 : Nat) "StrawMen$Reader" "many" "I") ∈ lw_all := lw_g (lw_at lw_m2 26 rfl) rfl
theorem q319 : (Jvm.Cond.fieldLink "StrawMen$Reader" (3 : Nat) "StrawMen$Reader" "this$0" "LStrawMen;") ∈ lw_all := lw_g (lw_at lw_m2 28 rfl) rfl
theorem q320 : (Jvm.Cond.lays "StrawMen$Reader" "StrawMen$Reader" "at" "I") ∈ lw_all := lw_g (lw_at lw_m2 29 rfl) rfl
theorem q321 : (Jvm.Cond.soleField "StrawMen$Reader" "at") ∈ lw_all := lw_g (lw_at lw_m2 30 rfl) rfl
theorem q322 : (Jvm.Cond.lays "StrawMen$Reader" "StrawMen$Reader" "first" "I") ∈ lw_all := lw_g (lw_at lw_m2 31 rfl) rfl
theorem q323 : (Jvm.Cond.soleField "StrawMen$Reader" "first") ∈ lw_all := lw_g (lw_at lw_m2 32 rfl) rfl
theorem q324 : (Jvm.Cond.lays "StrawMen$Reader" "StrawMen$Reader" "word" "Ljava/lang/String;") ∈ lw_all := lw_g (lw_at lw_m2 33 rfl) rfl
theorem q325 : (Jvm.Cond.soleField "StrawMen$Reader" "word") ∈ lw_all := lw_g (lw_at lw_m2 34 rfl) rfl
theorem q326 : (Jvm.Cond.laysFinal "StrawMen$Reader" "StrawMen$Reader" "told" "[[I") ∈ lw_all := lw_g (lw_at lw_m2 35 rfl) rfl
theorem q327 : (Jvm.Cond.soleField "StrawMen$Reader" "told") ∈ lw_all := lw_g (lw_at lw_m2 36 rfl) rfl
theorem q328 : (Jvm.Cond.lays "StrawMen$Reader" "StrawMen$Reader" "many" "I") ∈ lw_all := lw_g (lw_at lw_m2 37 rfl) rfl
theorem q329 : (Jvm.Cond.soleField "StrawMen$Reader" "many") ∈ lw_all := lw_g (lw_at lw_m2 38 rfl) rfl
theorem q330 : (Jvm.Cond.laysFinal "StrawMen$Reader" "StrawMen$Reader" "this$0" "LStrawMen;") ∈ lw_all := lw_g (lw_at lw_m2 39 rfl) rfl
theorem q331 : (Jvm.Cond.soleField "StrawMen$Reader" "this$0") ∈ lw_all := lw_g (lw_at lw_m2 40 rfl) rfl
theorem q332 : (Jvm.Cond.superclass "StrawMen$Reader" "java/lang/Object") ∈ lw_all := lw_g (lw_at lw_m2 41 rfl) rfl
theorem q334 : (Jvm.Cond.instanceMethod ({ cls := "StrawMen$Reader", name := "read", desc := "()LStrawMen$Reader;" } : Jvm.MethodName)) ∈ lw_all := lw_g (lw_at lw_m2 43 rfl) rfl
theorem q335 : (Jvm.Cond.selects "StrawMen$Reader" ({ cls := "StrawMen$Reader", name := "read", desc := "()LStrawMen$Reader;" } : Jvm.MethodName) ({ cls := "StrawMen$Reader", name := "read", desc := "()LStrawMen$Reader;" } : Jvm.MethodName)) ∈ lw_all := lw_g (lw_at lw_m2 44 rfl) rfl
theorem q336 : (Jvm.Cond.code ({ cls := "StrawMen$Reader", name := "read", desc := "()LStrawMen$Reader;" } : Jvm.MethodName) prog_8_method_6_code (2 : Nat) (Option.some (Jvm.ClassFile.FieldType.object "StrawMen$Reader"))) ∈ lw_all := lw_g (lw_at lw_m2 45 rfl) rfl
theorem q337 : (Jvm.Cond.methodLink "StrawMen$Reader" (116 : Nat) ({ cls := "StrawMen$Reader", name := "line", desc := "([I)V" } : Jvm.MethodName)) ∈ lw_all := lw_g (lw_at lw_m2 46 rfl) rfl
theorem q338 : (Jvm.Cond.privateMethod ({ cls := "StrawMen$Reader", name := "line", desc := "([I)V" } : Jvm.MethodName)) ∈ lw_tbl := lw_at lw_m2 47 rfl
theorem q339 : (Jvm.Cond.instanceMethod ({ cls := "StrawMen$Reader", name := "line", desc := "([I)V" } : Jvm.MethodName)) ∈ lw_all := lw_g (lw_at lw_m2 48 rfl) rfl
theorem q340 : (Jvm.Cond.code ({ cls := "StrawMen$Reader", name := "line", desc := "([I)V" } : Jvm.MethodName) prog_8_method_5_code (3 : Nat) (Option.none : Option Jvm.ClassFile.FieldType)) ∈ lw_all := lw_g (lw_at lw_m2 49 rfl) rfl
theorem q341 : (Jvm.Cond.methodLink "StrawMen$Reader" (72 : Nat) ({ cls := "StrawMen$Reader", name := "take", desc := "()V" } : Jvm.MethodName)) ∈ lw_all := lw_g (lw_at lw_m2 50 rfl) rfl
theorem q342 : (Jvm.Cond.privateMethod ({ cls := "StrawMen$Reader", name := "take", desc := "()V" } : Jvm.MethodName)) ∈ lw_tbl := lw_at lw_m2 51 rfl
theorem q343 : (Jvm.Cond.instanceMethod ({ cls := "StrawMen$Reader", name := "take", desc := "()V" } : Jvm.MethodName)) ∈ lw_all := lw_g (lw_at lw_m2 52 rfl) rfl
theorem q344 : (Jvm.Cond.code ({ cls := "StrawMen$Reader", name := "take", desc := "()V" } : Jvm.MethodName) prog_8_method_3_code (3 : Nat) (Option.none : Option Jvm.ClassFile.FieldType)) ∈ lw_all := lw_g (lw_at lw_m2 53 rfl) rfl
theorem q345 : (Jvm.Cond.methodLink "StrawMen$Reader" (52 : Nat) ({ cls := "StrawMen$Reader", name := "kindOf", desc := "(I)I" } : Jvm.MethodName)) ∈ lw_all := lw_g (lw_at lw_m2 54 rfl) rfl
theorem q346 : (Jvm.Cond.privateMethod ({ cls := "StrawMen$Reader", name := "kindOf", desc := "(I)I" } : Jvm.MethodName)) ∈ lw_tbl := lw_at lw_m2 55 rfl
theorem q347 : (Jvm.Cond.instanceMethod ({ cls := "StrawMen$Reader", name := "kindOf", desc := "(I)I" } : Jvm.MethodName)) ∈ lw_all := lw_g (lw_at lw_m2 56 rfl) rfl
theorem q348 : (Jvm.Cond.code ({ cls := "StrawMen$Reader", name := "kindOf", desc := "(I)I" } : Jvm.MethodName) prog_8_method_2_code (2 : Nat) (Option.some Jvm.ClassFile.FieldType.int)) ∈ lw_all := lw_g (lw_at lw_m2 57 rfl) rfl
theorem q349 : (Jvm.Cond.constantLong "StrawMen$Reader" (26 : Nat) (97 : Int64)) ∈ lw_all := lw_g (lw_at lw_m2 58 rfl) rfl
theorem q350 : (Jvm.Cond.constantLong "StrawMen$Reader" (28 : Nat) (122 : Int64)) ∈ lw_all := lw_g (lw_at lw_m2 59 rfl) rfl
theorem q351 : (Jvm.Cond.methodLinkNest "StrawMen$Reader" (30 : Nat) ({ cls := "StrawMen", name := "in", desc := "(JJJ)Z" } : Jvm.MethodName) "StrawMen") ∈ lw_tbl := lw_at lw_m2 60 rfl
theorem q352 : (Jvm.Cond.constantLong "StrawMen$Reader" (34 : Nat) (48 : Int64)) ∈ lw_all := lw_g (lw_at lw_m2 61 rfl) rfl
theorem q353 : (Jvm.Cond.constantLong "StrawMen$Reader" (36 : Nat) (57 : Int64)) ∈ lw_all := lw_g (lw_at lw_m2 62 rfl) rfl
theorem q354 : (Jvm.Cond.classLink "StrawMen$Reader" (56 : Nat) "java/lang/StringBuilder") ∈ lw_all := lw_g (lw_at lw_m2 63 rfl) rfl
theorem q356 : (Jvm.Cond.methodLink "StrawMen$Reader" (58 : Nat) ({ cls := "java/lang/StringBuilder", name := "<init>", desc := "()V" } : Jvm.MethodName)) ∈ lw_all := lw_g (lw_at lw_m2 65 rfl) rfl
theorem q385 : (Jvm.Cond.methodLink "StrawMen$Reader" (59 : Nat) ({ cls := "java/lang/StringBuilder", name := "append", desc := "(C)Ljava/lang/StringBuilder;" } : Jvm.MethodName)) ∈ lw_all := lw_g (lw_at lw_m2 94 rfl) rfl
theorem q480 : (Jvm.Cond.methodLink "StrawMen$Reader" (63 : Nat) ({ cls := "java/lang/StringBuilder", name := "toString", desc := "()Ljava/lang/String;" } : Jvm.MethodName)) ∈ lw_all := lw_g (lw_at lw_m2 189 rfl) rfl
theorem q541 : (Jvm.Cond.fieldLinkNest "StrawMen$Reader" (75 : Nat) "StrawMen" "WORDS" "[Ljava/lang/String;" "StrawMen") ∈ lw_tbl := lw_at lw_m3 10 rfl
theorem q543 : (Jvm.Cond.methodLink "StrawMen$Reader" (79 : Nat) ({ cls := "java/lang/String", name := "equals", desc := "(Ljava/lang/Object;)Z" } : Jvm.MethodName)) ∈ lw_all := lw_g (lw_at lw_m3 12 rfl) rfl
theorem q551 : (Jvm.Cond.methodLink "StrawMen$Reader" (85 : Nat) ({ cls := "StrawMen$Reader", name := "want", desc := "(Z)V" } : Jvm.MethodName)) ∈ lw_all := lw_g (lw_at lw_m3 20 rfl) rfl
theorem q552 : (Jvm.Cond.privateMethod ({ cls := "StrawMen$Reader", name := "want", desc := "(Z)V" } : Jvm.MethodName)) ∈ lw_tbl := lw_at lw_m3 21 rfl
theorem q553 : (Jvm.Cond.instanceMethod ({ cls := "StrawMen$Reader", name := "want", desc := "(Z)V" } : Jvm.MethodName)) ∈ lw_all := lw_g (lw_at lw_m3 22 rfl) rfl
theorem q554 : (Jvm.Cond.code ({ cls := "StrawMen$Reader", name := "want", desc := "(Z)V" } : Jvm.MethodName) prog_8_method_4_code (2 : Nat) (Option.none : Option Jvm.ClassFile.FieldType)) ∈ lw_all := lw_g (lw_at lw_m3 23 rfl) rfl
theorem q555 : (Jvm.Cond.classLink "StrawMen$Reader" (67 : Nat) "StrawMen$Fault") ∈ lw_all := lw_g (lw_at lw_m3 24 rfl) rfl
theorem q592 : (Jvm.Cond.methodLink "StrawMen$Reader" (69 : Nat) ({ cls := "StrawMen$Fault", name := "<init>", desc := "(I)V" } : Jvm.MethodName)) ∈ lw_all := lw_g (lw_at lw_m3 61 rfl) rfl
theorem q618 : (Jvm.Cond.fieldLinkNest "StrawMen$Reader" (89 : Nat) "StrawMen" "MOST" "[[I" "StrawMen") ∈ lw_tbl := lw_at lw_m3 87 rfl
theorem q620 : (Jvm.Cond.methodLink "StrawMen$Reader" (92 : Nat) ({ cls := "java/lang/String", name := "isEmpty", desc := "()Z" } : Jvm.MethodName)) ∈ lw_all := lw_g (lw_at lw_m3 89 rfl) rfl
theorem q624 : (Jvm.Cond.methodLink "StrawMen$Reader" (96 : Nat) ({ cls := "java/lang/String", name := "charAt", desc := "(I)C" } : Jvm.MethodName)) ∈ lw_all := lw_g (lw_at lw_m3 93 rfl) rfl
theorem q639 : (Jvm.Cond.methodLink "StrawMen$Reader" (100 : Nat) ({ cls := "java/lang/String", name := "length", desc := "()I" } : Jvm.MethodName)) ∈ lw_all := lw_g (lw_at lw_m3 108 rfl) rfl
theorem q647 : (Jvm.Cond.methodLink "StrawMen$Reader" (104 : Nat) ({ cls := "java/lang/Integer", name := "parseInt", desc := "(Ljava/lang/String;)I" } : Jvm.MethodName)) ∈ lw_all := lw_g (lw_at lw_m3 116 rfl) rfl
theorem q676 : (Jvm.Cond.fieldLinkNest "StrawMen$Reader" (110 : Nat) "StrawMen" "LEAST" "[[I" "StrawMen") ∈ lw_tbl := lw_at lw_m3 145 rfl
theorem q678 : (Jvm.Cond.stringRef "StrawMen$Reader" (120 : Nat) ";") ∈ lw_tbl := lw_at lw_m3 147 rfl
theorem q1003 : (Jvm.Cond.selects "StrawMen$Reader" ({ cls := "java/lang/Object", name := "getClass", desc := "()Ljava/lang/Class;" } : Jvm.MethodName) ({ cls := "java/lang/Object", name := "getClass", desc := "()Ljava/lang/Class;" } : Jvm.MethodName)) ∈ lw_all := lw_g (lw_at lw_m4 232 rfl) rfl
theorem q1444 : (Jvm.Cond.castable "StrawMen$Reader" "java/lang/Object") ∈ lw_tbl := lw_at lw_m6 193 rfl
theorem in_X7 : ∀ w ∈ wsX70, w ∈ lw_all := lw_in wsX70 [320, 322, 324, 326, 328, 330] (by decide +kernel) (by decide +kernel)
/-! StrawMen$Fault -/
set_option maxRecDepth 100000
def RX8 : String := "StrawMen$Fault"
def TX8 : u_T := fun k => match k with
  | 0 => ("java/lang/Throwable", "cause", "Ljava/lang/Throwable;", false)
  | 1 => ("java/lang/Throwable", "stackTrace", "[Ljava/lang/StackTraceElement;", false)
  | 2 => ("java/lang/Throwable", "suppressedExceptions", "Ljava/util/List;", false)
  | 3 => ("java/lang/Throwable", "detailMessage", "Ljava/lang/String;", false)
  | 4 => ("java/lang/Throwable", "backtrace", "Ljava/lang/Object;", false)
  | 5 => ("java/lang/Throwable", "depth", "I", false)
  | _ => ("StrawMen$Fault", "at", "I", true)
def tyX8 : Nat → FieldType := fun k => match k with
  | 0 => .object "java/lang/Throwable"
  | 1 => .array (.object "java/lang/StackTraceElement")
  | 2 => .object "java/util/List"
  | 3 => .object "java/lang/String"
  | 4 => .object "java/lang/Object"
  | 5 => .int
  | _ => .int
abbrev wsX80 : List Cond := u_ws RX8 TX8 7
theorem nmX8 : ∀ a, a < 7 → ∀ b, b < 7 → a ≠ b → (TX8 a).2.1 ≠ (TX8 b).2.1 := by decide +kernel
theorem tyX8_ok : ∀ k, k < 7 → parseFieldDescriptor (TX8 k).2.2.1 = some (tyX8 k) := by decide +kernel
abbrev cX8_init : ByteArray := prog_4_method_1_code
def yX8_init : MethodName := ⟨RX8, "<init>", "(I)V"⟩
def dkwX8_init_0 : List UInt8 := [42, 1, 1, 3, 3, 183, 0, 1, 42, 27, 181, 0, 7, 177]
abbrev dktX8_init_0 : List UInt8 := dkwX8_init_0 ++ []
theorem dksX8_init_0 : cX8_init.data.toList.drop 0 = dktX8_init_0 := by decide +kernel
theorem dX8_init_0 : decode cX8_init 0 = .ok (.aload_n 0, 1) := dk_42 (dk_at dksX8_init_0 0 rfl rfl)
theorem dX8_init_1 : decode cX8_init 1 = .ok (.aconst_null, 1) := dk_1 (dk_at dksX8_init_0 1 rfl rfl)
theorem dX8_init_2 : decode cX8_init 2 = .ok (.aconst_null, 1) := dk_1 (dk_at dksX8_init_0 2 rfl rfl)
theorem dX8_init_3 : decode cX8_init 3 = .ok (.iconst 0, 1) := dk_3 (dk_at dksX8_init_0 3 rfl rfl)
theorem dX8_init_4 : decode cX8_init 4 = .ok (.iconst 0, 1) := dk_3 (dk_at dksX8_init_0 4 rfl rfl)
theorem dX8_init_5 : decode cX8_init 5 = .ok (.invokespecial 1, 3) := dk_183 0 1 (dk_at dksX8_init_0 5 rfl rfl)
theorem dX8_init_8 : decode cX8_init 8 = .ok (.aload_n 0, 1) := dk_42 (dk_at dksX8_init_0 8 rfl rfl)
theorem dX8_init_9 : decode cX8_init 9 = .ok (.iload_n 1, 1) := dk_27 (dk_at dksX8_init_0 9 rfl rfl)
theorem dX8_init_10 : decode cX8_init 10 = .ok (.putfield 7, 3) := dk_181 0 7 (dk_at dksX8_init_0 10 rfl rfl)
theorem dX8_init_13 : decode cX8_init 13 = .ok (.return_, 1) := dk_177 (dk_at dksX8_init_0 13 rfl rfl)
theorem q75 : (Jvm.Cond.initialized "StrawMen$Fault") ∈ lw_all := lw_g (lw_at lw_m1 24 rfl) rfl
theorem q556 : (Jvm.Cond.instantiable "StrawMen$Fault" (7 : Nat)) ∈ lw_all := lw_g (lw_at lw_m3 25 rfl) rfl
theorem q557 : (Jvm.Cond.castable "StrawMen$Fault" "StrawMen$Fault") ∈ lw_tbl := lw_at lw_m3 26 rfl
theorem q562 : (Jvm.Cond.selects "StrawMen$Fault" ({ cls := "java/lang/Throwable", name := "fillInStackTrace", desc := "(I)Ljava/lang/Throwable;" } : Jvm.MethodName) ({ cls := "java/lang/Throwable", name := "fillInStackTrace", desc := "(I)Ljava/lang/Throwable;" } : Jvm.MethodName)) ∈ lw_all := lw_g (lw_at lw_m3 31 rfl) rfl
theorem q563 : (Jvm.Cond.selects "StrawMen$Fault" ({ cls := "java/lang/Throwable", name := "fillInStackTrace", desc := "()Ljava/lang/Throwable;" } : Jvm.MethodName) ({ cls := "java/lang/Throwable", name := "fillInStackTrace", desc := "()Ljava/lang/Throwable;" } : Jvm.MethodName)) ∈ lw_all := lw_g (lw_at lw_m3 32 rfl) rfl
theorem q564 : (Jvm.Cond.lays "StrawMen$Fault" "java/lang/Throwable" "cause" "Ljava/lang/Throwable;") ∈ lw_all := lw_g (lw_at lw_m3 33 rfl) rfl
theorem q566 : (Jvm.Cond.lays "StrawMen$Fault" "java/lang/Throwable" "stackTrace" "[Ljava/lang/StackTraceElement;") ∈ lw_all := lw_g (lw_at lw_m3 35 rfl) rfl
theorem q568 : (Jvm.Cond.lays "StrawMen$Fault" "java/lang/Throwable" "suppressedExceptions" "Ljava/util/List;") ∈ lw_all := lw_g (lw_at lw_m3 37 rfl) rfl
theorem q570 : (Jvm.Cond.lays "StrawMen$Fault" "java/lang/Throwable" "detailMessage" "Ljava/lang/String;") ∈ lw_all := lw_g (lw_at lw_m3 39 rfl) rfl
theorem q572 : (Jvm.Cond.lays "StrawMen$Fault" "java/lang/Throwable" "backtrace" "Ljava/lang/Object;") ∈ lw_all := lw_g (lw_at lw_m3 41 rfl) rfl
theorem q593 : (Jvm.Cond.instanceMethod ({ cls := "StrawMen$Fault", name := "<init>", desc := "(I)V" } : Jvm.MethodName)) ∈ lw_all := lw_g (lw_at lw_m3 62 rfl) rfl
theorem q594 : (Jvm.Cond.code ({ cls := "StrawMen$Fault", name := "<init>", desc := "(I)V" } : Jvm.MethodName) prog_4_method_1_code (2 : Nat) (Option.none : Option Jvm.ClassFile.FieldType)) ∈ lw_all := lw_g (lw_at lw_m3 63 rfl) rfl
theorem q595 : (Jvm.Cond.methodLink "StrawMen$Fault" (1 : Nat) ({ cls := "java/lang/Exception", name := "<init>", desc := "(Ljava/lang/String;Ljava/lang/Throwable;ZZ)V" } : Jvm.MethodName)) ∈ lw_all := lw_g (lw_at lw_m3 64 rfl) rfl
theorem q601 : (Jvm.Cond.fieldLink "StrawMen$Fault" (7 : Nat) "StrawMen$Fault" "at" "I") ∈ lw_all := lw_g (lw_at lw_m3 70 rfl) rfl
theorem q608 : (Jvm.Cond.laysFinal "StrawMen$Fault" "StrawMen$Fault" "at" "I") ∈ lw_all := lw_g (lw_at lw_m3 77 rfl) rfl
theorem q609 : (Jvm.Cond.soleField "StrawMen$Fault" "at") ∈ lw_all := lw_g (lw_at lw_m3 78 rfl) rfl
theorem q614 : (Jvm.Cond.lays "StrawMen$Fault" "java/lang/Throwable" "depth" "I") ∈ lw_all := lw_g (lw_at lw_m3 83 rfl) rfl
theorem q617 : (Jvm.Cond.superclass "StrawMen$Fault" "java/lang/Exception") ∈ lw_all := lw_g (lw_at lw_m3 86 rfl) rfl
theorem q999 : (Jvm.Cond.selects "StrawMen$Fault" ({ cls := "java/lang/Object", name := "getClass", desc := "()Ljava/lang/Class;" } : Jvm.MethodName) ({ cls := "java/lang/Object", name := "getClass", desc := "()Ljava/lang/Class;" } : Jvm.MethodName)) ∈ lw_all := lw_g (lw_at lw_m4 228 rfl) rfl
theorem q1446 : (Jvm.Cond.castable "StrawMen$Fault" "java/lang/Object") ∈ lw_tbl := lw_at lw_m6 195 rfl
theorem in_X8 : ∀ w ∈ wsX80, w ∈ lw_all := lw_in wsX80 [564, 566, 568, 570, 572, 614, 608] (by decide +kernel) (by decide +kernel)
/-! StrawMen$Field -/
set_option maxRecDepth 100000
def RX9 : String := "StrawMen$Field"
def TX9 : u_T := fun k => match k with
  | 0 => ("StrawMen$Field", "seed", "I", true)
  | 1 => ("StrawMen$Field", "way", "I", true)
  | _ => ("StrawMen$Field", "owner", "I", true)
def tyX9 : Nat → FieldType := fun k => match k with
  | 0 => .int
  | 1 => .int
  | _ => .int
abbrev wsX90 : List Cond := u_ws RX9 TX9 3
theorem nmX9 : ∀ a, a < 3 → ∀ b, b < 3 → a ≠ b → (TX9 a).2.1 ≠ (TX9 b).2.1 := by decide +kernel
theorem tyX9_ok : ∀ k, k < 3 → parseFieldDescriptor (TX9 k).2.2.1 = some (tyX9 k) := by decide +kernel
abbrev cX9_init : ByteArray := prog_5_method_1_code
def yX9_init : MethodName := ⟨RX9, "<init>", "(III)V"⟩
def dkwX9_init_0 : List UInt8 := [42, 183, 0, 1, 42, 27, 181, 0, 7, 42, 28, 181, 0, 13, 42, 29, 181, 0, 16, 177]
abbrev dktX9_init_0 : List UInt8 := dkwX9_init_0 ++ []
theorem dksX9_init_0 : cX9_init.data.toList.drop 0 = dktX9_init_0 := by decide +kernel
theorem dX9_init_0 : decode cX9_init 0 = .ok (.aload_n 0, 1) := dk_42 (dk_at dksX9_init_0 0 rfl rfl)
theorem dX9_init_1 : decode cX9_init 1 = .ok (.invokespecial 1, 3) := dk_183 0 1 (dk_at dksX9_init_0 1 rfl rfl)
theorem dX9_init_4 : decode cX9_init 4 = .ok (.aload_n 0, 1) := dk_42 (dk_at dksX9_init_0 4 rfl rfl)
theorem dX9_init_5 : decode cX9_init 5 = .ok (.iload_n 1, 1) := dk_27 (dk_at dksX9_init_0 5 rfl rfl)
theorem dX9_init_6 : decode cX9_init 6 = .ok (.putfield 7, 3) := dk_181 0 7 (dk_at dksX9_init_0 6 rfl rfl)
theorem dX9_init_9 : decode cX9_init 9 = .ok (.aload_n 0, 1) := dk_42 (dk_at dksX9_init_0 9 rfl rfl)
theorem dX9_init_10 : decode cX9_init 10 = .ok (.iload_n 2, 1) := dk_28 (dk_at dksX9_init_0 10 rfl rfl)
theorem dX9_init_11 : decode cX9_init 11 = .ok (.putfield 13, 3) := dk_181 0 13 (dk_at dksX9_init_0 11 rfl rfl)
theorem dX9_init_14 : decode cX9_init 14 = .ok (.aload_n 0, 1) := dk_42 (dk_at dksX9_init_0 14 rfl rfl)
theorem dX9_init_15 : decode cX9_init 15 = .ok (.iload_n 3, 1) := dk_29 (dk_at dksX9_init_0 15 rfl rfl)
theorem dX9_init_16 : decode cX9_init 16 = .ok (.putfield 16, 3) := dk_181 0 16 (dk_at dksX9_init_0 16 rfl rfl)
theorem dX9_init_19 : decode cX9_init 19 = .ok (.return_, 1) := dk_177 (dk_at dksX9_init_0 19 rfl rfl)
theorem q81 : (Jvm.Cond.initialized "StrawMen$Field") ∈ lw_all := lw_g (lw_at lw_m1 30 rfl) rfl
theorem q687 : (Jvm.Cond.instantiable "StrawMen$Field" (3 : Nat)) ∈ lw_all := lw_g (lw_at lw_m3 156 rfl) rfl
theorem q689 : (Jvm.Cond.instanceMethod ({ cls := "StrawMen$Field", name := "<init>", desc := "(III)V" } : Jvm.MethodName)) ∈ lw_all := lw_g (lw_at lw_m3 158 rfl) rfl
theorem q690 : (Jvm.Cond.code ({ cls := "StrawMen$Field", name := "<init>", desc := "(III)V" } : Jvm.MethodName) prog_5_method_1_code (4 : Nat) (Option.none : Option Jvm.ClassFile.FieldType)) ∈ lw_all := lw_g (lw_at lw_m3 159 rfl) rfl
theorem q691 : (Jvm.Cond.methodLink "StrawMen$Field" (1 : Nat) ({ cls := "java/lang/Object", name := "<init>", desc := "()V" } : Jvm.MethodName)) ∈ lw_all := lw_g (lw_at lw_m3 160 rfl) rfl
theorem q692 : (Jvm.Cond.fieldLink "StrawMen$Field" (7 : Nat) "StrawMen$Field" "seed" "I") ∈ lw_all := lw_g (lw_at lw_m3 161 rfl) rfl
theorem q695 : (Jvm.Cond.fieldLink "StrawMen$Field" (13 : Nat) "StrawMen$Field" "way" "I") ∈ lw_all := lw_g (lw_at lw_m3 164 rfl) rfl
theorem q698 : (Jvm.Cond.fieldLink "StrawMen$Field" (16 : Nat) "StrawMen$Field" "owner" "I") ∈ lw_all := lw_g (lw_at lw_m3 167 rfl) rfl
theorem q700 : (Jvm.Cond.laysFinal "StrawMen$Field" "StrawMen$Field" "seed" "I") ∈ lw_all := lw_g (lw_at lw_m3 169 rfl) rfl
theorem q701 : (Jvm.Cond.soleField "StrawMen$Field" "seed") ∈ lw_all := lw_g (lw_at lw_m3 170 rfl) rfl
theorem q702 : (Jvm.Cond.laysFinal "StrawMen$Field" "StrawMen$Field" "way" "I") ∈ lw_all := lw_g (lw_at lw_m3 171 rfl) rfl
theorem q703 : (Jvm.Cond.soleField "StrawMen$Field" "way") ∈ lw_all := lw_g (lw_at lw_m3 172 rfl) rfl
theorem q704 : (Jvm.Cond.laysFinal "StrawMen$Field" "StrawMen$Field" "owner" "I") ∈ lw_all := lw_g (lw_at lw_m3 173 rfl) rfl
theorem q705 : (Jvm.Cond.soleField "StrawMen$Field" "owner") ∈ lw_all := lw_g (lw_at lw_m3 174 rfl) rfl
theorem q706 : (Jvm.Cond.superclass "StrawMen$Field" "java/lang/Object") ∈ lw_all := lw_g (lw_at lw_m3 175 rfl) rfl
theorem q1000 : (Jvm.Cond.selects "StrawMen$Field" ({ cls := "java/lang/Object", name := "getClass", desc := "()Ljava/lang/Class;" } : Jvm.MethodName) ({ cls := "java/lang/Object", name := "getClass", desc := "()Ljava/lang/Class;" } : Jvm.MethodName)) ∈ lw_all := lw_g (lw_at lw_m4 229 rfl) rfl
theorem q1433 : (Jvm.Cond.castable "StrawMen$Field" "java/lang/Object") ∈ lw_tbl := lw_at lw_m6 182 rfl
theorem in_X9 : ∀ w ∈ wsX90, w ∈ lw_all := lw_in wsX90 [700, 702, 704] (by decide +kernel) (by decide +kernel)
/-! StrawMen$Row -/
set_option maxRecDepth 100000
def RX10 : String := "StrawMen$Row"
def TX10 : u_T := fun k => match k with
  | 0 => ("StrawMen$Row", "day", "I", true)
  | 1 => ("StrawMen$Row", "field", "I", true)
  | _ => ("StrawMen$Row", "eaten", "I", true)
def tyX10 : Nat → FieldType := fun k => match k with
  | 0 => .int
  | 1 => .int
  | _ => .int
abbrev wsX100 : List Cond := u_ws RX10 TX10 3
theorem nmX10 : ∀ a, a < 3 → ∀ b, b < 3 → a ≠ b → (TX10 a).2.1 ≠ (TX10 b).2.1 := by decide +kernel
theorem tyX10_ok : ∀ k, k < 3 → parseFieldDescriptor (TX10 k).2.2.1 = some (tyX10 k) := by decide +kernel
abbrev cX10_init : ByteArray := prog_9_method_1_code
def yX10_init : MethodName := ⟨RX10, "<init>", "(III)V"⟩
def dkwX10_init_0 : List UInt8 := [42, 183, 0, 1, 42, 27, 181, 0, 7, 42, 28, 181, 0, 13, 42, 29, 181, 0, 16, 177]
abbrev dktX10_init_0 : List UInt8 := dkwX10_init_0 ++ []
theorem dksX10_init_0 : cX10_init.data.toList.drop 0 = dktX10_init_0 := by decide +kernel
theorem dX10_init_0 : decode cX10_init 0 = .ok (.aload_n 0, 1) := dk_42 (dk_at dksX10_init_0 0 rfl rfl)
theorem dX10_init_1 : decode cX10_init 1 = .ok (.invokespecial 1, 3) := dk_183 0 1 (dk_at dksX10_init_0 1 rfl rfl)
theorem dX10_init_4 : decode cX10_init 4 = .ok (.aload_n 0, 1) := dk_42 (dk_at dksX10_init_0 4 rfl rfl)
theorem dX10_init_5 : decode cX10_init 5 = .ok (.iload_n 1, 1) := dk_27 (dk_at dksX10_init_0 5 rfl rfl)
theorem dX10_init_6 : decode cX10_init 6 = .ok (.putfield 7, 3) := dk_181 0 7 (dk_at dksX10_init_0 6 rfl rfl)
theorem dX10_init_9 : decode cX10_init 9 = .ok (.aload_n 0, 1) := dk_42 (dk_at dksX10_init_0 9 rfl rfl)
theorem dX10_init_10 : decode cX10_init 10 = .ok (.iload_n 2, 1) := dk_28 (dk_at dksX10_init_0 10 rfl rfl)
theorem dX10_init_11 : decode cX10_init 11 = .ok (.putfield 13, 3) := dk_181 0 13 (dk_at dksX10_init_0 11 rfl rfl)
theorem dX10_init_14 : decode cX10_init 14 = .ok (.aload_n 0, 1) := dk_42 (dk_at dksX10_init_0 14 rfl rfl)
theorem dX10_init_15 : decode cX10_init 15 = .ok (.iload_n 3, 1) := dk_29 (dk_at dksX10_init_0 15 rfl rfl)
theorem dX10_init_16 : decode cX10_init 16 = .ok (.putfield 16, 3) := dk_181 0 16 (dk_at dksX10_init_0 16 rfl rfl)
theorem dX10_init_19 : decode cX10_init 19 = .ok (.return_, 1) := dk_177 (dk_at dksX10_init_0 19 rfl rfl)
theorem q83 : (Jvm.Cond.initialized "StrawMen$Row") ∈ lw_all := lw_g (lw_at lw_m1 32 rfl) rfl
theorem q955 : (Jvm.Cond.instantiable "StrawMen$Row" (3 : Nat)) ∈ lw_all := lw_g (lw_at lw_m4 184 rfl) rfl
theorem q957 : (Jvm.Cond.instanceMethod ({ cls := "StrawMen$Row", name := "<init>", desc := "(III)V" } : Jvm.MethodName)) ∈ lw_all := lw_g (lw_at lw_m4 186 rfl) rfl
theorem q958 : (Jvm.Cond.code ({ cls := "StrawMen$Row", name := "<init>", desc := "(III)V" } : Jvm.MethodName) prog_9_method_1_code (4 : Nat) (Option.none : Option Jvm.ClassFile.FieldType)) ∈ lw_all := lw_g (lw_at lw_m4 187 rfl) rfl
theorem q959 : (Jvm.Cond.methodLink "StrawMen$Row" (1 : Nat) ({ cls := "java/lang/Object", name := "<init>", desc := "()V" } : Jvm.MethodName)) ∈ lw_all := lw_g (lw_at lw_m4 188 rfl) rfl
theorem q960 : (Jvm.Cond.fieldLink "StrawMen$Row" (7 : Nat) "StrawMen$Row" "day" "I") ∈ lw_all := lw_g (lw_at lw_m4 189 rfl) rfl
theorem q962 : (Jvm.Cond.fieldLink "StrawMen$Row" (13 : Nat) "StrawMen$Row" "field" "I") ∈ lw_all := lw_g (lw_at lw_m4 191 rfl) rfl
theorem q964 : (Jvm.Cond.fieldLink "StrawMen$Row" (16 : Nat) "StrawMen$Row" "eaten" "I") ∈ lw_all := lw_g (lw_at lw_m4 193 rfl) rfl
theorem q966 : (Jvm.Cond.laysFinal "StrawMen$Row" "StrawMen$Row" "day" "I") ∈ lw_all := lw_g (lw_at lw_m4 195 rfl) rfl
theorem q967 : (Jvm.Cond.soleField "StrawMen$Row" "day") ∈ lw_all := lw_g (lw_at lw_m4 196 rfl) rfl
theorem q968 : (Jvm.Cond.laysFinal "StrawMen$Row" "StrawMen$Row" "field" "I") ∈ lw_all := lw_g (lw_at lw_m4 197 rfl) rfl
theorem q969 : (Jvm.Cond.soleField "StrawMen$Row" "field") ∈ lw_all := lw_g (lw_at lw_m4 198 rfl) rfl
theorem q970 : (Jvm.Cond.laysFinal "StrawMen$Row" "StrawMen$Row" "eaten" "I") ∈ lw_all := lw_g (lw_at lw_m4 199 rfl) rfl
theorem q971 : (Jvm.Cond.soleField "StrawMen$Row" "eaten") ∈ lw_all := lw_g (lw_at lw_m4 200 rfl) rfl
theorem q972 : (Jvm.Cond.superclass "StrawMen$Row" "java/lang/Object") ∈ lw_all := lw_g (lw_at lw_m4 201 rfl) rfl
theorem q1004 : (Jvm.Cond.selects "StrawMen$Row" ({ cls := "java/lang/Object", name := "getClass", desc := "()Ljava/lang/Class;" } : Jvm.MethodName) ({ cls := "java/lang/Object", name := "getClass", desc := "()Ljava/lang/Class;" } : Jvm.MethodName)) ∈ lw_all := lw_g (lw_at lw_m4 233 rfl) rfl
theorem q1448 : (Jvm.Cond.castable "StrawMen$Row" "java/lang/Object") ∈ lw_tbl := lw_at lw_m6 197 rfl
theorem in_X10 : ∀ w ∈ wsX100, w ∈ lw_all := lw_in wsX100 [966, 968, 970] (by decide +kernel) (by decide +kernel)
