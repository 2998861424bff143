theorem q1292 : (Jvm.Cond.sameMethod "[B" "java/lang/Object" "clone" "()Ljava/lang/Object;") ∈ lw_all := lw_g (lw_at lw_m6 35 rfl) rfl
set_option maxRecDepth 100000
theorem q1293 : (Jvm.Cond.selects "[B" ({ cls := "[B", name := "clone", desc := "()Ljava/lang/Object;" } : Jvm.MethodName) ({ cls := "java/lang/Object", name := "clone", desc := "()Ljava/lang/Object;" } : Jvm.MethodName)) ∈ lw_all := lw_g (lw_at lw_m6 36 rfl) rfl
theorem q1294 : (Jvm.Cond.castable "[B" "java/lang/Cloneable") ∈ lw_tbl := lw_at lw_m6 37 rfl
theorem q2145 : (Jvm.Cond.castable "[B" "java/lang/Object") ∈ lw_tbl := lw_at lw_m9 168 rfl
theorem q2146 : (Jvm.Cond.castable "[C" "java/lang/Object") ∈ lw_tbl := lw_at lw_m9 169 rfl
set_option maxRecDepth 100000
theorem q2148 : (Jvm.Cond.castable "[D" "java/lang/Object") ∈ lw_tbl := lw_at lw_m9 171 rfl
set_option maxRecDepth 100000
theorem q2142 : (Jvm.Cond.castable "[F" "java/lang/Object") ∈ lw_tbl := lw_at lw_m9 165 rfl
set_option maxRecDepth 100000
theorem q991 : (Jvm.Cond.sameMethod "[I" "java/lang/Object" "clone" "()Ljava/lang/Object;") ∈ lw_all := lw_g (lw_at lw_m4 214 rfl) rfl
set_option maxRecDepth 100000
theorem q994 : (Jvm.Cond.selects "[I" ({ cls := "[I", name := "clone", desc := "()Ljava/lang/Object;" } : Jvm.MethodName) ({ cls := "java/lang/Object", name := "clone", desc := "()Ljava/lang/Object;" } : Jvm.MethodName)) ∈ lw_all := lw_g (lw_at lw_m4 217 rfl) rfl
theorem q995 : (Jvm.Cond.castable "[I" "java/lang/Cloneable") ∈ lw_tbl := lw_at lw_m4 218 rfl
theorem q2143 : (Jvm.Cond.castable "[I" "java/lang/Object") ∈ lw_tbl := lw_at lw_m9 166 rfl
theorem q2147 : (Jvm.Cond.castable "[J" "java/lang/Object") ∈ lw_tbl := lw_at lw_m9 170 rfl
set_option maxRecDepth 100000
theorem q2138 : (Jvm.Cond.castable "[LCliffPlots$Bean;" "java/lang/Object") ∈ lw_tbl := lw_at lw_m9 161 rfl
set_option maxRecDepth 100000
theorem q2137 : (Jvm.Cond.castable "[LCliffPlots$Marrow;" "java/lang/Object") ∈ lw_tbl := lw_at lw_m9 160 rfl
set_option maxRecDepth 100000
theorem q2139 : (Jvm.Cond.castable "[LCliffPlots$Member;" "java/lang/Object") ∈ lw_tbl := lw_at lw_m9 162 rfl
set_option maxRecDepth 100000
theorem q2136 : (Jvm.Cond.castable "[LCliffPlots$Plant;" "java/lang/Object") ∈ lw_tbl := lw_at lw_m9 159 rfl
set_option maxRecDepth 100000
theorem q2141 : (Jvm.Cond.castable "[LCliffPlots$Prize;" "java/lang/Object") ∈ lw_tbl := lw_at lw_m9 164 rfl
set_option maxRecDepth 100000
theorem q2140 : (Jvm.Cond.castable "[LCliffPlots$Shed;" "java/lang/Object") ∈ lw_tbl := lw_at lw_m9 163 rfl
set_option maxRecDepth 100000
theorem q2133 : (Jvm.Cond.sameMethod "[Ljava/lang/Object;" "java/lang/Object" "getClass" "()Ljava/lang/Class;") ∈ lw_all := lw_g (lw_at lw_m9 156 rfl) rfl
set_option maxRecDepth 100000
theorem q2134 : (Jvm.Cond.selects "[Ljava/lang/Object;" ({ cls := "java/lang/Object", name := "getClass", desc := "()Ljava/lang/Class;" } : Jvm.MethodName) ({ cls := "java/lang/Object", name := "getClass", desc := "()Ljava/lang/Class;" } : Jvm.MethodName)) ∈ lw_all := lw_g (lw_at lw_m9 157 rfl) rfl
theorem q2144 : (Jvm.Cond.castable "[Ljava/lang/Object;" "java/lang/Object") ∈ lw_tbl := lw_at lw_m9 167 rfl
theorem q86 : (Jvm.Cond.initialized "java/lang/Number") ∈ lw_all := lw_g (lw_at lw_m1 29 rfl) rfl
set_option maxRecDepth 100000
theorem q79 : (Jvm.Cond.initialized "java/lang/System") ∈ lw_all := lw_g (lw_at lw_m1 22 rfl) rfl
set_option maxRecDepth 100000
theorem q516 : (Jvm.Cond.static ({ cls := "java/lang/System", name := "arraycopy", desc := "(Ljava/lang/Object;ILjava/lang/Object;II)V" } : Jvm.MethodName)) ∈ lw_all := lw_g (lw_at lw_m2 219 rfl) rfl
theorem q517 : (Jvm.Cond.native ({ cls := "java/lang/System", name := "arraycopy", desc := "(Ljava/lang/Object;ILjava/lang/Object;II)V" } : Jvm.MethodName)) ∈ lw_all := lw_g (lw_at lw_m2 220 rfl) rfl
theorem q112 : (Jvm.Cond.arrayOver (Jvm.ClassFile.FieldType.object "CliffPlots$Plant")) ∈ lw_tbl := lw_at lw_m1 55 rfl
set_option maxRecDepth 100000
theorem q114 : (Jvm.Cond.arrayOver (Jvm.ClassFile.FieldType.object "CliffPlots$Marrow")) ∈ lw_tbl := lw_at lw_m1 57 rfl
theorem q116 : (Jvm.Cond.arrayOver (Jvm.ClassFile.FieldType.object "CliffPlots$Bean")) ∈ lw_tbl := lw_at lw_m1 59 rfl
theorem q118 : (Jvm.Cond.arrayOver (Jvm.ClassFile.FieldType.object "CliffPlots$Member")) ∈ lw_tbl := lw_at lw_m1 61 rfl
theorem q120 : (Jvm.Cond.arrayOver (Jvm.ClassFile.FieldType.object "CliffPlots$Shed")) ∈ lw_tbl := lw_at lw_m1 63 rfl
theorem q122 : (Jvm.Cond.arrayOver (Jvm.ClassFile.FieldType.object "CliffPlots$Prize")) ∈ lw_tbl := lw_at lw_m1 65 rfl
theorem q146 : (Jvm.Cond.arrayClass Jvm.ClassFile.FieldType.float) ∈ lw_all := lw_g (lw_at lw_m1 89 rfl) rfl
theorem q147 : (Jvm.Cond.arrayClass Jvm.ClassFile.FieldType.int) ∈ lw_all := lw_g (lw_at lw_m1 90 rfl) rfl
theorem q316 : (Jvm.Cond.arrayOver (Jvm.ClassFile.FieldType.object "java/lang/Object")) ∈ lw_tbl := lw_at lw_m2 19 rfl
theorem q359 : (Jvm.Cond.arrayClass Jvm.ClassFile.FieldType.byte) ∈ lw_all := lw_g (lw_at lw_m2 62 rfl) rfl
theorem q386 : (Jvm.Cond.arrayClass Jvm.ClassFile.FieldType.char) ∈ lw_all := lw_g (lw_at lw_m2 89 rfl) rfl
theorem q2088 : (Jvm.Cond.arrayClass Jvm.ClassFile.FieldType.long) ∈ lw_all := lw_g (lw_at lw_m9 111 rfl) rfl
theorem q2089 : (Jvm.Cond.arrayClass Jvm.ClassFile.FieldType.double) ∈ lw_all := lw_g (lw_at lw_m9 112 rfl) rfl
/-! CliffPlots$Plant -/
set_option maxRecDepth 100000
def RX3 : String := "CliffPlots$Plant"
abbrev cX3_init : ByteArray := prog_7_method_1_code
def yX3_init : MethodName := ⟨RX3, "<init>", "()V"⟩
theorem dX3_init_0 : decode cX3_init 0 = .ok (.aload_n 0, 1) := by decide +kernel
theorem dX3_init_1 : decode cX3_init 1 = .ok (.invokespecial 1, 3) := by decide +kernel
theorem dX3_init_4 : decode cX3_init 4 = .ok (.return_, 1) := by decide +kernel
abbrev cX3_take : ByteArray := prog_7_method_7_code
def yX3_take : MethodName := ⟨RX3, "take", "(LCliffPlots$Plant;)V"⟩
def dkwX3_take_0 : List UInt8 := [42, 43, 180, 0, 7, 182, 0, 21, 42, 43, 180, 0, 13, 181, 0, 13, 177]
abbrev dktX3_take_0 : List UInt8 := dkwX3_take_0 ++ []
theorem dksX3_take_0 : cX3_take.data.toList.drop 0 = dktX3_take_0 := by decide +kernel
theorem dX3_take_0 : decode cX3_take 0 = .ok (.aload_n 0, 1) := dk_42 (dk_at dksX3_take_0 0 rfl rfl)
theorem dX3_take_1 : decode cX3_take 1 = .ok (.aload_n 1, 1) := dk_43 (dk_at dksX3_take_0 1 rfl rfl)
theorem dX3_take_2 : decode cX3_take 2 = .ok (.getfield 7, 3) := dk_180 0 7 (dk_at dksX3_take_0 2 rfl rfl)
theorem dX3_take_5 : decode cX3_take 5 = .ok (.invokevirtual 21, 3) := dk_182 0 21 (dk_at dksX3_take_0 5 rfl rfl)
theorem dX3_take_8 : decode cX3_take 8 = .ok (.aload_n 0, 1) := dk_42 (dk_at dksX3_take_0 8 rfl rfl)
theorem dX3_take_9 : decode cX3_take 9 = .ok (.aload_n 1, 1) := dk_43 (dk_at dksX3_take_0 9 rfl rfl)
theorem dX3_take_10 : decode cX3_take 10 = .ok (.getfield 13, 3) := dk_180 0 13 (dk_at dksX3_take_0 10 rfl rfl)
theorem dX3_take_13 : decode cX3_take 13 = .ok (.putfield 13, 3) := dk_181 0 13 (dk_at dksX3_take_0 13 rfl rfl)
theorem dX3_take_16 : decode cX3_take 16 = .ok (.return_, 1) := dk_177 (dk_at dksX3_take_0 16 rfl rfl)
abbrev cX3_begins : ByteArray := prog_7_method_6_code
def yX3_begins : MethodName := ⟨RX3, "begins", "(I)V"⟩
def dkwX3_begins_0 : List UInt8 := [42, 27, 181, 0, 7, 42, 11, 181, 0, 13, 42, 4, 181, 0, 17, 177]
abbrev dktX3_begins_0 : List UInt8 := dkwX3_begins_0 ++ []
theorem dksX3_begins_0 : cX3_begins.data.toList.drop 0 = dktX3_begins_0 := by decide +kernel
theorem dX3_begins_0 : decode cX3_begins 0 = .ok (.aload_n 0, 1) := dk_42 (dk_at dksX3_begins_0 0 rfl rfl)
theorem dX3_begins_1 : decode cX3_begins 1 = .ok (.iload_n 1, 1) := dk_27 (dk_at dksX3_begins_0 1 rfl rfl)
theorem dX3_begins_2 : decode cX3_begins 2 = .ok (.putfield 7, 3) := dk_181 0 7 (dk_at dksX3_begins_0 2 rfl rfl)
theorem dX3_begins_5 : decode cX3_begins 5 = .ok (.aload_n 0, 1) := dk_42 (dk_at dksX3_begins_0 5 rfl rfl)
theorem dX3_begins_6 : decode cX3_begins 6 = .ok (.fconst 0, 1) := dk_11 (dk_at dksX3_begins_0 6 rfl rfl)
theorem dX3_begins_7 : decode cX3_begins 7 = .ok (.putfield 13, 3) := dk_181 0 13 (dk_at dksX3_begins_0 7 rfl rfl)
theorem dX3_begins_10 : decode cX3_begins 10 = .ok (.aload_n 0, 1) := dk_42 (dk_at dksX3_begins_0 10 rfl rfl)
theorem dX3_begins_11 : decode cX3_begins 11 = .ok (.iconst 1, 1) := dk_4 (dk_at dksX3_begins_0 11 rfl rfl)
theorem dX3_begins_12 : decode cX3_begins 12 = .ok (.putfield 17, 3) := dk_181 0 17 (dk_at dksX3_begins_0 12 rfl rfl)
theorem dX3_begins_15 : decode cX3_begins 15 = .ok (.return_, 1) := dk_177 (dk_at dksX3_begins_0 15 rfl rfl)
abbrev cX3_grown : ByteArray := prog_7_method_9_code
def yX3_grown : MethodName := ⟨RX3, "grown", "(FFI)F"⟩
def dkwX3_grown_1 : List UInt8 := [23, 4, 106, 102, 56, 4, 11, 18, 34, 23, 4, 184, 0, 35, 184, 0, 41, 174]
abbrev dktX3_grown_1 : List UInt8 := dkwX3_grown_1 ++ []
def dkwX3_grown_0 : List UInt8 := [35, 35, 42, 182, 0, 29, 106, 36, 36, 18, 32, 98, 110, 106, 98, 56, 4, 23, 4, 18, 33, 29, 134, 106]
abbrev dktX3_grown_0 : List UInt8 := dkwX3_grown_0 ++ dktX3_grown_1
theorem dksX3_grown_0 : cX3_grown.data.toList.drop 0 = dktX3_grown_0 := by decide +kernel
theorem dksX3_grown_1 : cX3_grown.data.toList.drop 24 = dktX3_grown_1 := dk_seg dksX3_grown_0 24 rfl rfl
theorem dX3_grown_0 : decode cX3_grown 0 = .ok (.fload_n 1, 1) := dk_35 (dk_at dksX3_grown_0 0 rfl rfl)
theorem dX3_grown_1 : decode cX3_grown 1 = .ok (.fload_n 1, 1) := dk_35 (dk_at dksX3_grown_0 1 rfl rfl)
theorem dX3_grown_2 : decode cX3_grown 2 = .ok (.aload_n 0, 1) := dk_42 (dk_at dksX3_grown_0 2 rfl rfl)
theorem dX3_grown_3 : decode cX3_grown 3 = .ok (.invokevirtual 29, 3) := dk_182 0 29 (dk_at dksX3_grown_0 3 rfl rfl)
theorem dX3_grown_6 : decode cX3_grown 6 = .ok (.fmul, 1) := dk_106 (dk_at dksX3_grown_0 6 rfl rfl)
theorem dX3_grown_7 : decode cX3_grown 7 = .ok (.fload_n 2, 1) := dk_36 (dk_at dksX3_grown_0 7 rfl rfl)
theorem dX3_grown_8 : decode cX3_grown 8 = .ok (.fload_n 2, 1) := dk_36 (dk_at dksX3_grown_0 8 rfl rfl)
theorem dX3_grown_9 : decode cX3_grown 9 = .ok (.ldc 32, 2) := dk_18 32 (dk_at dksX3_grown_0 9 rfl rfl)
theorem dX3_grown_11 : decode cX3_grown 11 = .ok (.fadd, 1) := dk_98 (dk_at dksX3_grown_0 11 rfl rfl)
theorem dX3_grown_12 : decode cX3_grown 12 = .ok (.fdiv, 1) := dk_110 (dk_at dksX3_grown_0 12 rfl rfl)
theorem dX3_grown_13 : decode cX3_grown 13 = .ok (.fmul, 1) := dk_106 (dk_at dksX3_grown_0 13 rfl rfl)
theorem dX3_grown_14 : decode cX3_grown 14 = .ok (.fadd, 1) := dk_98 (dk_at dksX3_grown_0 14 rfl rfl)
theorem dX3_grown_15 : decode cX3_grown 15 = .ok (.fstore 4, 2) := dk_56 4 (dk_at dksX3_grown_0 15 rfl rfl)
theorem dX3_grown_17 : decode cX3_grown 17 = .ok (.fload 4, 2) := dk_23 4 (dk_at dksX3_grown_0 17 rfl rfl)
theorem dX3_grown_19 : decode cX3_grown 19 = .ok (.ldc 33, 2) := dk_18 33 (dk_at dksX3_grown_0 19 rfl rfl)
theorem dX3_grown_21 : decode cX3_grown 21 = .ok (.iload_n 3, 1) := dk_29 (dk_at dksX3_grown_0 21 rfl rfl)
theorem dX3_grown_22 : decode cX3_grown 22 = .ok (.i2f, 1) := dk_134 (dk_at dksX3_grown_0 22 rfl rfl)
theorem dX3_grown_23 : decode cX3_grown 23 = .ok (.fmul, 1) := dk_106 (dk_at dksX3_grown_0 23 rfl rfl)
theorem dX3_grown_24 : decode cX3_grown 24 = .ok (.fload 4, 2) := dk_23 4 (dk_at dksX3_grown_1 0 rfl rfl)
theorem dX3_grown_26 : decode cX3_grown 26 = .ok (.fmul, 1) := dk_106 (dk_at dksX3_grown_1 2 rfl rfl)
theorem dX3_grown_27 : decode cX3_grown 27 = .ok (.fsub, 1) := dk_102 (dk_at dksX3_grown_1 3 rfl rfl)
theorem dX3_grown_28 : decode cX3_grown 28 = .ok (.fstore 4, 2) := dk_56 4 (dk_at dksX3_grown_1 4 rfl rfl)
theorem dX3_grown_30 : decode cX3_grown 30 = .ok (.fconst 0, 1) := dk_11 (dk_at dksX3_grown_1 6 rfl rfl)
theorem dX3_grown_31 : decode cX3_grown 31 = .ok (.ldc 34, 2) := dk_18 34 (dk_at dksX3_grown_1 7 rfl rfl)
theorem dX3_grown_33 : decode cX3_grown 33 = .ok (.fload 4, 2) := dk_23 4 (dk_at dksX3_grown_1 9 rfl rfl)
theorem dX3_grown_35 : decode cX3_grown 35 = .ok (.invokestatic 35, 3) := dk_184 0 35 (dk_at dksX3_grown_1 11 rfl rfl)
theorem dX3_grown_38 : decode cX3_grown 38 = .ok (.invokestatic 41, 3) := dk_184 0 41 (dk_at dksX3_grown_1 14 rfl rfl)
theorem dX3_grown_41 : decode cX3_grown 41 = .ok (.freturn, 1) := dk_174 (dk_at dksX3_grown_1 17 rfl rfl)
abbrev cX3_isPlanted : ByteArray := prog_7_method_8_code
def yX3_isPlanted : MethodName := ⟨RX3, "isPlanted", "(I)V"⟩
def dkwX3_isPlanted_0 : List UInt8 := [42, 27, 181, 0, 7, 42, 42, 182, 0, 25, 181, 0, 13, 177]
abbrev dktX3_isPlanted_0 : List UInt8 := dkwX3_isPlanted_0 ++ []
theorem dksX3_isPlanted_0 : cX3_isPlanted.data.toList.drop 0 = dktX3_isPlanted_0 := by decide +kernel
theorem dX3_isPlanted_0 : decode cX3_isPlanted 0 = .ok (.aload_n 0, 1) := dk_42 (dk_at dksX3_isPlanted_0 0 rfl rfl)
theorem dX3_isPlanted_1 : decode cX3_isPlanted 1 = .ok (.iload_n 1, 1) := dk_27 (dk_at dksX3_isPlanted_0 1 rfl rfl)
theorem dX3_isPlanted_2 : decode cX3_isPlanted 2 = .ok (.putfield 7, 3) := dk_181 0 7 (dk_at dksX3_isPlanted_0 2 rfl rfl)
theorem dX3_isPlanted_5 : decode cX3_isPlanted 5 = .ok (.aload_n 0, 1) := dk_42 (dk_at dksX3_isPlanted_0 5 rfl rfl)
theorem dX3_isPlanted_6 : decode cX3_isPlanted 6 = .ok (.aload_n 0, 1) := dk_42 (dk_at dksX3_isPlanted_0 6 rfl rfl)
theorem dX3_isPlanted_7 : decode cX3_isPlanted 7 = .ok (.invokevirtual 25, 3) := dk_182 0 25 (dk_at dksX3_isPlanted_0 7 rfl rfl)
theorem dX3_isPlanted_10 : decode cX3_isPlanted 10 = .ok (.putfield 13, 3) := dk_181 0 13 (dk_at dksX3_isPlanted_0 10 rfl rfl)
theorem dX3_isPlanted_13 : decode cX3_isPlanted 13 = .ok (.return_, 1) := dk_177 (dk_at dksX3_isPlanted_0 13 rfl rfl)
theorem q60 : (Jvm.Cond.initialized "CliffPlots$Plant") ∈ lw_all := lw_g (lw_at lw_m1 3 rfl) rfl
theorem q129 : (Jvm.Cond.instanceMethod ({ cls := "CliffPlots$Plant", name := "<init>", desc := "()V" } : Jvm.MethodName)) ∈ lw_all := lw_g (lw_at lw_m1 72 rfl) rfl
theorem q130 : (Jvm.Cond.code ({ cls := "CliffPlots$Plant", name := "<init>", desc := "()V" } : Jvm.MethodName) prog_7_method_1_code (1 : Nat) (Option.none : Option Jvm.ClassFile.FieldType)) ∈ lw_all := lw_g (lw_at lw_m1 73 rfl) rfl
theorem q131 : (Jvm.Cond.methodLink "CliffPlots$Plant" (1 : Nat) ({ cls := "java/lang/Object", name := "<init>", desc := "()V" } : Jvm.MethodName)) ∈ lw_all := lw_g (lw_at lw_m1 74 rfl) rfl
theorem q132 : (Jvm.Cond.fieldLink "CliffPlots$Plant" (7 : Nat) "CliffPlots$Plant" "day" "I") ∈ lw_all := lw_g (lw_at lw_m1 75 rfl) rfl
theorem q134 : (Jvm.Cond.fieldLink "CliffPlots$Plant" (13 : Nat) "CliffPlots$Plant" "weight" "F") ∈ lw_all := lw_g (lw_at lw_m1 77 rfl) rfl
theorem q138 : (Jvm.Cond.fieldLink "CliffPlots$Plant" (17 : Nat) "CliffPlots$Plant" "isUsed" "Z") ∈ lw_all := lw_g (lw_at lw_m1 81 rfl) rfl
theorem q140 : (Jvm.Cond.soleField "CliffPlots$Plant" "day") ∈ lw_all := lw_g (lw_at lw_m1 83 rfl) rfl
theorem q142 : (Jvm.Cond.soleField "CliffPlots$Plant" "weight") ∈ lw_all := lw_g (lw_at lw_m1 85 rfl) rfl
theorem q144 : (Jvm.Cond.soleField "CliffPlots$Plant" "isUsed") ∈ lw_all := lw_g (lw_at lw_m1 87 rfl) rfl
theorem q590 : (Jvm.Cond.declares ({ cls := "CliffPlots$Plant", name := "kind", desc := "()I" } : Jvm.MethodName)) ∈ lw_tbl := lw_at lw_m3 53 rfl
theorem q591 : (Jvm.Cond.sameMethod "CliffPlots$Plant" "CliffPlots$Plant" "kind" "()I") ∈ lw_all := lw_g (lw_at lw_m3 54 rfl) rfl
theorem q603 : (Jvm.Cond.instanceMethod ({ cls := "CliffPlots$Plant", name := "take", desc := "(LCliffPlots$Plant;)V" } : Jvm.MethodName)) ∈ lw_all := lw_g (lw_at lw_m3 66 rfl) rfl
theorem q604 : (Jvm.Cond.sameMethod "CliffPlots$Plant" "CliffPlots$Plant" "take" "(LCliffPlots$Plant;)V") ∈ lw_all := lw_g (lw_at lw_m3 67 rfl) rfl
theorem q607 : (Jvm.Cond.code ({ cls := "CliffPlots$Plant", name := "take", desc := "(LCliffPlots$Plant;)V" } : Jvm.MethodName) prog_7_method_7_code (2 : Nat) (Option.none : Option Jvm.ClassFile.FieldType)) ∈ lw_all := lw_g (lw_at lw_m3 70 rfl) rfl
theorem q608 : (Jvm.Cond.methodLink "CliffPlots$Plant" (21 : Nat) ({ cls := "CliffPlots$Plant", name := "begins", desc := "(I)V" } : Jvm.MethodName)) ∈ lw_all := lw_g (lw_at lw_m3 71 rfl) rfl
theorem q609 : (Jvm.Cond.instanceMethod ({ cls := "CliffPlots$Plant", name := "begins", desc := "(I)V" } : Jvm.MethodName)) ∈ lw_all := lw_g (lw_at lw_m3 72 rfl) rfl
theorem q610 : (Jvm.Cond.sameMethod "CliffPlots$Plant" "CliffPlots$Plant" "begins" "(I)V") ∈ lw_all := lw_g (lw_at lw_m3 73 rfl) rfl
theorem q613 : (Jvm.Cond.code ({ cls := "CliffPlots$Plant", name := "begins", desc := "(I)V" } : Jvm.MethodName) prog_7_method_6_code (2 : Nat) (Option.none : Option Jvm.ClassFile.FieldType)) ∈ lw_all := lw_g (lw_at lw_m3 76 rfl) rfl
theorem q954 : (Jvm.Cond.instanceMethod ({ cls := "CliffPlots$Plant", name := "grown", desc := "(FFI)F" } : Jvm.MethodName)) ∈ lw_all := lw_g (lw_at lw_m4 177 rfl) rfl
theorem q955 : (Jvm.Cond.sameMethod "CliffPlots$Plant" "CliffPlots$Plant" "grown" "(FFI)F") ∈ lw_all := lw_g (lw_at lw_m4 178 rfl) rfl
theorem q958 : (Jvm.Cond.code ({ cls := "CliffPlots$Plant", name := "grown", desc := "(FFI)F" } : Jvm.MethodName) prog_7_method_9_code (5 : Nat) (Option.some Jvm.ClassFile.FieldType.float)) ∈ lw_all := lw_g (lw_at lw_m4 181 rfl) rfl
theorem q959 : (Jvm.Cond.methodLink "CliffPlots$Plant" (29 : Nat) ({ cls := "CliffPlots$Plant", name := "rate", desc := "()F" } : Jvm.MethodName)) ∈ lw_all := lw_g (lw_at lw_m4 182 rfl) rfl
theorem q960 : (Jvm.Cond.declares ({ cls := "CliffPlots$Plant", name := "rate", desc := "()F" } : Jvm.MethodName)) ∈ lw_tbl := lw_at lw_m4 183 rfl
theorem q961 : (Jvm.Cond.sameMethod "CliffPlots$Plant" "CliffPlots$Plant" "rate" "()F") ∈ lw_all := lw_g (lw_at lw_m4 184 rfl) rfl
theorem q970 : (Jvm.Cond.constantFloat "CliffPlots$Plant" (32 : Nat) (1103626240 : UInt32)) ∈ lw_all := lw_g (lw_at lw_m4 193 rfl) rfl
theorem q971 : (Jvm.Cond.constantFloat "CliffPlots$Plant" (33 : Nat) (1017370378 : UInt32)) ∈ lw_all := lw_g (lw_at lw_m4 194 rfl) rfl
theorem q972 : (Jvm.Cond.constantFloat "CliffPlots$Plant" (34 : Nat) (1112014848 : UInt32)) ∈ lw_all := lw_g (lw_at lw_m4 195 rfl) rfl
theorem q973 : (Jvm.Cond.methodLink "CliffPlots$Plant" (35 : Nat) ({ cls := "java/lang/Math", name := "min", desc := "(FF)F" } : Jvm.MethodName)) ∈ lw_all := lw_g (lw_at lw_m4 196 rfl) rfl
theorem q974 : (Jvm.Cond.methodLink "CliffPlots$Plant" (41 : Nat) ({ cls := "java/lang/Math", name := "max", desc := "(FF)F" } : Jvm.MethodName)) ∈ lw_all := lw_g (lw_at lw_m4 197 rfl) rfl
theorem q1073 : (Jvm.Cond.instanceMethod ({ cls := "CliffPlots$Plant", name := "isPlanted", desc := "(I)V" } : Jvm.MethodName)) ∈ lw_all := lw_g (lw_at lw_m5 56 rfl) rfl
theorem q1074 : (Jvm.Cond.sameMethod "CliffPlots$Plant" "CliffPlots$Plant" "isPlanted" "(I)V") ∈ lw_all := lw_g (lw_at lw_m5 57 rfl) rfl
theorem q1077 : (Jvm.Cond.code ({ cls := "CliffPlots$Plant", name := "isPlanted", desc := "(I)V" } : Jvm.MethodName) prog_7_method_8_code (2 : Nat) (Option.none : Option Jvm.ClassFile.FieldType)) ∈ lw_all := lw_g (lw_at lw_m5 60 rfl) rfl
theorem q1078 : (Jvm.Cond.methodLink "CliffPlots$Plant" (25 : Nat) ({ cls := "CliffPlots$Plant", name := "first", desc := "()F" } : Jvm.MethodName)) ∈ lw_all := lw_g (lw_at lw_m5 61 rfl) rfl
theorem q1079 : (Jvm.Cond.declares ({ cls := "CliffPlots$Plant", name := "first", desc := "()F" } : Jvm.MethodName)) ∈ lw_tbl := lw_at lw_m5 62 rfl
theorem q1080 : (Jvm.Cond.sameMethod "CliffPlots$Plant" "CliffPlots$Plant" "first" "()F") ∈ lw_all := lw_g (lw_at lw_m5 63 rfl) rfl
theorem q1226 : (Jvm.Cond.declares ({ cls := "CliffPlots$Plant", name := "sign", desc := "()C" } : Jvm.MethodName)) ∈ lw_tbl := lw_at lw_m5 209 rfl
theorem q1227 : (Jvm.Cond.sameMethod "CliffPlots$Plant" "CliffPlots$Plant" "sign" "()C") ∈ lw_all := lw_g (lw_at lw_m5 210 rfl) rfl
theorem q2107 : (Jvm.Cond.castable "CliffPlots$Plant" "java/lang/Object") ∈ lw_tbl := lw_at lw_m9 130 rfl
/-! CliffPlots$Marrow -/
set_option maxRecDepth 100000
def RX4 : String := "CliffPlots$Marrow"
def TX4 : u_T := fun k => match k with
  | 0 => ("CliffPlots$Plant", "day", "I", false)
  | 1 => ("CliffPlots$Plant", "weight", "F", false)
  | _ => ("CliffPlots$Plant", "isUsed", "Z", false)
def tyX4 : Nat → FieldType := fun k => match k with
  | 0 => .int
  | 1 => .float
  | _ => .boolean
abbrev wsX40 : List Cond := u_ws RX4 TX4 3
theorem nmX4 : ∀ a, a < 3 → ∀ b, b < 3 → a ≠ b → (TX4 a).2.1 ≠ (TX4 b).2.1 := by decide +kernel
theorem tyX4_ok : ∀ k, k < 3 → parseFieldDescriptor (TX4 k).2.2.1 = some (tyX4 k) := by decide +kernel
abbrev cX4_init : ByteArray := prog_5_method_1_code
def yX4_init : MethodName := ⟨RX4, "<init>", "()V"⟩
theorem dX4_init_0 : decode cX4_init 0 = .ok (.aload_n 0, 1) := by decide +kernel
theorem dX4_init_1 : decode cX4_init 1 = .ok (.invokespecial 1, 3) := by decide +kernel
theorem dX4_init_4 : decode cX4_init 4 = .ok (.return_, 1) := by decide +kernel
abbrev cX4_kind : ByteArray := prog_5_method_2_code
def yX4_kind : MethodName := ⟨RX4, "kind", "()I"⟩
theorem dX4_kind_0 : decode cX4_kind 0 = .ok (.iconst 0, 1) := by decide +kernel
theorem dX4_kind_1 : decode cX4_kind 1 = .ok (.ireturn, 1) := by decide +kernel
abbrev cX4_rate : ByteArray := prog_5_method_4_code
def yX4_rate : MethodName := ⟨RX4, "rate", "()F"⟩
theorem dX4_rate_0 : decode cX4_rate 0 = .ok (.ldc 7, 2) := by decide +kernel
theorem dX4_rate_2 : decode cX4_rate 2 = .ok (.freturn, 1) := by decide +kernel
abbrev cX4_first : ByteArray := prog_5_method_3_code
def yX4_first : MethodName := ⟨RX4, "first", "()F"⟩
theorem dX4_first_0 : decode cX4_first 0 = .ok (.fconst 1, 1) := by decide +kernel
theorem dX4_first_1 : decode cX4_first 1 = .ok (.freturn, 1) := by decide +kernel
abbrev cX4_sign : ByteArray := prog_5_method_5_code
def yX4_sign : MethodName := ⟨RX4, "sign", "()C"⟩
theorem dX4_sign_0 : decode cX4_sign 0 = .ok (.bipush 77, 2) := by decide +kernel
theorem dX4_sign_2 : decode cX4_sign 2 = .ok (.ireturn, 1) := by decide +kernel
theorem q61 : (Jvm.Cond.initialized "CliffPlots$Marrow") ∈ lw_all := lw_g (lw_at lw_m1 4 rfl) rfl
theorem q124 : (Jvm.Cond.instantiable "CliffPlots$Marrow" (3 : Nat)) ∈ lw_all := lw_g (lw_at lw_m1 67 rfl) rfl
theorem q126 : (Jvm.Cond.instanceMethod ({ cls := "CliffPlots$Marrow", name := "<init>", desc := "()V" } : Jvm.MethodName)) ∈ lw_all := lw_g (lw_at lw_m1 69 rfl) rfl
theorem q127 : (Jvm.Cond.code ({ cls := "CliffPlots$Marrow", name := "<init>", desc := "()V" } : Jvm.MethodName) prog_5_method_1_code (1 : Nat) (Option.none : Option Jvm.ClassFile.FieldType)) ∈ lw_all := lw_g (lw_at lw_m1 70 rfl) rfl
theorem q128 : (Jvm.Cond.methodLinkNest "CliffPlots$Marrow" (1 : Nat) ({ cls := "CliffPlots$Plant", name := "<init>", desc := "()V" } : Jvm.MethodName) "CliffPlots") ∈ lw_tbl := lw_at lw_m1 71 rfl
theorem q139 : (Jvm.Cond.lays "CliffPlots$Marrow" "CliffPlots$Plant" "day" "I") ∈ lw_all := lw_g (lw_at lw_m1 82 rfl) rfl
theorem q141 : (Jvm.Cond.lays "CliffPlots$Marrow" "CliffPlots$Plant" "weight" "F") ∈ lw_all := lw_g (lw_at lw_m1 84 rfl) rfl
theorem q143 : (Jvm.Cond.lays "CliffPlots$Marrow" "CliffPlots$Plant" "isUsed" "Z") ∈ lw_all := lw_g (lw_at lw_m1 86 rfl) rfl
theorem q145 : (Jvm.Cond.superclass "CliffPlots$Marrow" "CliffPlots$Plant") ∈ lw_all := lw_g (lw_at lw_m1 88 rfl) rfl
theorem q488 : (Jvm.Cond.selects "CliffPlots$Marrow" ({ cls := "java/lang/Object", name := "getClass", desc := "()Ljava/lang/Class;" } : Jvm.MethodName) ({ cls := "java/lang/Object", name := "getClass", desc := "()Ljava/lang/Class;" } : Jvm.MethodName)) ∈ lw_all := lw_g (lw_at lw_m2 191 rfl) rfl
theorem q595 : (Jvm.Cond.selects "CliffPlots$Marrow" ({ cls := "CliffPlots$Plant", name := "kind", desc := "()I" } : Jvm.MethodName) ({ cls := "CliffPlots$Marrow", name := "kind", desc := "()I" } : Jvm.MethodName)) ∈ lw_all := lw_g (lw_at lw_m3 58 rfl) rfl
theorem q596 : (Jvm.Cond.instanceMethod ({ cls := "CliffPlots$Marrow", name := "kind", desc := "()I" } : Jvm.MethodName)) ∈ lw_all := lw_g (lw_at lw_m3 59 rfl) rfl
theorem q597 : (Jvm.Cond.code ({ cls := "CliffPlots$Marrow", name := "kind", desc := "()I" } : Jvm.MethodName) prog_5_method_2_code (1 : Nat) (Option.some Jvm.ClassFile.FieldType.int)) ∈ lw_all := lw_g (lw_at lw_m3 60 rfl) rfl
theorem q606 : (Jvm.Cond.selects "CliffPlots$Marrow" ({ cls := "CliffPlots$Plant", name := "take", desc := "(LCliffPlots$Plant;)V" } : Jvm.MethodName) ({ cls := "CliffPlots$Plant", name := "take", desc := "(LCliffPlots$Plant;)V" } : Jvm.MethodName)) ∈ lw_all := lw_g (lw_at lw_m3 69 rfl) rfl
theorem q612 : (Jvm.Cond.selects "CliffPlots$Marrow" ({ cls := "CliffPlots$Plant", name := "begins", desc := "(I)V" } : Jvm.MethodName) ({ cls := "CliffPlots$Plant", name := "begins", desc := "(I)V" } : Jvm.MethodName)) ∈ lw_all := lw_g (lw_at lw_m3 75 rfl) rfl
theorem q957 : (Jvm.Cond.selects "CliffPlots$Marrow" ({ cls := "CliffPlots$Plant", name := "grown", desc := "(FFI)F" } : Jvm.MethodName) ({ cls := "CliffPlots$Plant", name := "grown", desc := "(FFI)F" } : Jvm.MethodName)) ∈ lw_all := lw_g (lw_at lw_m4 180 rfl) rfl
theorem q966 : (Jvm.Cond.selects "CliffPlots$Marrow" ({ cls := "CliffPlots$Plant", name := "rate", desc := "()F" } : Jvm.MethodName) ({ cls := "CliffPlots$Marrow", name := "rate", desc := "()F" } : Jvm.MethodName)) ∈ lw_all := lw_g (lw_at lw_m4 189 rfl) rfl
theorem q967 : (Jvm.Cond.instanceMethod ({ cls := "CliffPlots$Marrow", name := "rate", desc := "()F" } : Jvm.MethodName)) ∈ lw_all := lw_g (lw_at lw_m4 190 rfl) rfl
theorem q968 : (Jvm.Cond.code ({ cls := "CliffPlots$Marrow", name := "rate", desc := "()F" } : Jvm.MethodName) prog_5_method_4_code (1 : Nat) (Option.some Jvm.ClassFile.FieldType.float)) ∈ lw_all := lw_g (lw_at lw_m4 191 rfl) rfl
theorem q969 : (Jvm.Cond.constantFloat "CliffPlots$Marrow" (7 : Nat) (1039516303 : UInt32)) ∈ lw_all := lw_g (lw_at lw_m4 192 rfl) rfl
theorem q1076 : (Jvm.Cond.selects "CliffPlots$Marrow" ({ cls := "CliffPlots$Plant", name := "isPlanted", desc := "(I)V" } : Jvm.MethodName) ({ cls := "CliffPlots$Plant", name := "isPlanted", desc := "(I)V" } : Jvm.MethodName)) ∈ lw_all := lw_g (lw_at lw_m5 59 rfl) rfl
theorem q1085 : (Jvm.Cond.selects "CliffPlots$Marrow" ({ cls := "CliffPlots$Plant", name := "first", desc := "()F" } : Jvm.MethodName) ({ cls := "CliffPlots$Marrow", name := "first", desc := "()F" } : Jvm.MethodName)) ∈ lw_all := lw_g (lw_at lw_m5 68 rfl) rfl
theorem q1086 : (Jvm.Cond.instanceMethod ({ cls := "CliffPlots$Marrow", name := "first", desc := "()F" } : Jvm.MethodName)) ∈ lw_all := lw_g (lw_at lw_m5 69 rfl) rfl
theorem q1087 : (Jvm.Cond.code ({ cls := "CliffPlots$Marrow", name := "first", desc := "()F" } : Jvm.MethodName) prog_5_method_3_code (1 : Nat) (Option.some Jvm.ClassFile.FieldType.float)) ∈ lw_all := lw_g (lw_at lw_m5 70 rfl) rfl
theorem q1231 : (Jvm.Cond.selects "CliffPlots$Marrow" ({ cls := "CliffPlots$Plant", name := "sign", desc := "()C" } : Jvm.MethodName) ({ cls := "CliffPlots$Marrow", name := "sign", desc := "()C" } : Jvm.MethodName)) ∈ lw_all := lw_g (lw_at lw_m5 214 rfl) rfl
theorem q1232 : (Jvm.Cond.instanceMethod ({ cls := "CliffPlots$Marrow", name := "sign", desc := "()C" } : Jvm.MethodName)) ∈ lw_all := lw_g (lw_at lw_m5 215 rfl) rfl
theorem q1233 : (Jvm.Cond.code ({ cls := "CliffPlots$Marrow", name := "sign", desc := "()C" } : Jvm.MethodName) prog_5_method_5_code (1 : Nat) (Option.some Jvm.ClassFile.FieldType.char)) ∈ lw_all := lw_g (lw_at lw_m5 216 rfl) rfl
theorem q2108 : (Jvm.Cond.castable "CliffPlots$Marrow" "java/lang/Object") ∈ lw_tbl := lw_at lw_m9 131 rfl
theorem q2131 : (Jvm.Cond.castable "CliffPlots$Marrow" "CliffPlots$Plant") ∈ lw_tbl := lw_at lw_m9 154 rfl
theorem in_X4 : ∀ w ∈ wsX40, w ∈ lw_all := lw_in wsX40 [139, 141, 143] (by decide +kernel) (by decide +kernel)
/-! CliffPlots$Bean -/
set_option maxRecDepth 100000
def RX5 : String := "CliffPlots$Bean"
def TX5 : u_T := fun k => match k with
  | 0 => ("CliffPlots$Plant", "day", "I", false)
  | 1 => ("CliffPlots$Plant", "weight", "F", false)
  | _ => ("CliffPlots$Plant", "isUsed", "Z", false)
def tyX5 : Nat → FieldType := fun k => match k with
  | 0 => .int
  | 1 => .float
  | _ => .boolean
abbrev wsX50 : List Cond := u_ws RX5 TX5 3
theorem nmX5 : ∀ a, a < 3 → ∀ b, b < 3 → a ≠ b → (TX5 a).2.1 ≠ (TX5 b).2.1 := by decide +kernel
theorem tyX5_ok : ∀ k, k < 3 → parseFieldDescriptor (TX5 k).2.2.1 = some (tyX5 k) := by decide +kernel
abbrev cX5_init : ByteArray := prog_2_method_1_code
def yX5_init : MethodName := ⟨RX5, "<init>", "()V"⟩
theorem dX5_init_0 : decode cX5_init 0 = .ok (.aload_n 0, 1) := by decide +kernel
theorem dX5_init_1 : decode cX5_init 1 = .ok (.invokespecial 1, 3) := by decide +kernel
theorem dX5_init_4 : decode cX5_init 4 = .ok (.return_, 1) := by decide +kernel
abbrev cX5_kind : ByteArray := prog_2_method_2_code
def yX5_kind : MethodName := ⟨RX5, "kind", "()I"⟩
theorem dX5_kind_0 : decode cX5_kind 0 = .ok (.iconst 1, 1) := by decide +kernel
theorem dX5_kind_1 : decode cX5_kind 1 = .ok (.ireturn, 1) := by decide +kernel
abbrev cX5_rate : ByteArray := prog_2_method_4_code
def yX5_rate : MethodName := ⟨RX5, "rate", "()F"⟩
theorem dX5_rate_0 : decode cX5_rate 0 = .ok (.ldc 8, 2) := by decide +kernel
theorem dX5_rate_2 : decode cX5_rate 2 = .ok (.freturn, 1) := by decide +kernel
abbrev cX5_first : ByteArray := prog_2_method_3_code
def yX5_first : MethodName := ⟨RX5, "first", "()F"⟩
theorem dX5_first_0 : decode cX5_first 0 = .ok (.ldc 7, 2) := by decide +kernel
theorem dX5_first_2 : decode cX5_first 2 = .ok (.freturn, 1) := by decide +kernel
abbrev cX5_sign : ByteArray := prog_2_method_5_code
def yX5_sign : MethodName := ⟨RX5, "sign", "()C"⟩
theorem dX5_sign_0 : decode cX5_sign 0 = .ok (.bipush 66, 2) := by decide +kernel
theorem dX5_sign_2 : decode cX5_sign 2 = .ok (.ireturn, 1) := by decide +kernel
theorem q62 : (Jvm.Cond.initialized "CliffPlots$Bean") ∈ lw_all := lw_g (lw_at lw_m1 5 rfl) rfl
theorem q148 : (Jvm.Cond.instantiable "CliffPlots$Bean" (3 : Nat)) ∈ lw_all := lw_g (lw_at lw_m1 91 rfl) rfl
theorem q150 : (Jvm.Cond.instanceMethod ({ cls := "CliffPlots$Bean", name := "<init>", desc := "()V" } : Jvm.MethodName)) ∈ lw_all := lw_g (lw_at lw_m1 93 rfl) rfl
theorem q151 : (Jvm.Cond.code ({ cls := "CliffPlots$Bean", name := "<init>", desc := "()V" } : Jvm.MethodName) prog_2_method_1_code (1 : Nat) (Option.none : Option Jvm.ClassFile.FieldType)) ∈ lw_all := lw_g (lw_at lw_m1 94 rfl) rfl
theorem q152 : (Jvm.Cond.methodLinkNest "CliffPlots$Bean" (1 : Nat) ({ cls := "CliffPlots$Plant", name := "<init>", desc := "()V" } : Jvm.MethodName) "CliffPlots") ∈ lw_tbl := lw_at lw_m1 95 rfl
theorem q153 : (Jvm.Cond.lays "CliffPlots$Bean" "CliffPlots$Plant" "day" "I") ∈ lw_all := lw_g (lw_at lw_m1 96 rfl) rfl
theorem q154 : (Jvm.Cond.lays "CliffPlots$Bean" "CliffPlots$Plant" "weight" "F") ∈ lw_all := lw_g (lw_at lw_m1 97 rfl) rfl
theorem q155 : (Jvm.Cond.lays "CliffPlots$Bean" "CliffPlots$Plant" "isUsed" "Z") ∈ lw_all := lw_g (lw_at lw_m1 98 rfl) rfl
theorem q156 : (Jvm.Cond.superclass "CliffPlots$Bean" "CliffPlots$Plant") ∈ lw_all := lw_g (lw_at lw_m1 99 rfl) rfl
theorem q485 : (Jvm.Cond.selects "CliffPlots$Bean" ({ cls := "java/lang/Object", name := "getClass", desc := "()Ljava/lang/Class;" } : Jvm.MethodName) ({ cls := "java/lang/Object", name := "getClass", desc := "()Ljava/lang/Class;" } : Jvm.MethodName)) ∈ lw_all := lw_g (lw_at lw_m2 188 rfl) rfl
theorem q592 : (Jvm.Cond.selects "CliffPlots$Bean" ({ cls := "CliffPlots$Plant", name := "kind", desc := "()I" } : Jvm.MethodName) ({ cls := "CliffPlots$Bean", name := "kind", desc := "()I" } : Jvm.MethodName)) ∈ lw_all := lw_g (lw_at lw_m3 55 rfl) rfl
theorem q593 : (Jvm.Cond.instanceMethod ({ cls := "CliffPlots$Bean", name := "kind", desc := "()I" } : Jvm.MethodName)) ∈ lw_all := lw_g (lw_at lw_m3 56 rfl) rfl
theorem q594 : (Jvm.Cond.code ({ cls := "CliffPlots$Bean", name := "kind", desc := "()I" } : Jvm.MethodName) prog_2_method_2_code (1 : Nat) (Option.some Jvm.ClassFile.FieldType.int)) ∈ lw_all := lw_g (lw_at lw_m3 57 rfl) rfl
theorem q605 : (Jvm.Cond.selects "CliffPlots$Bean" ({ cls := "CliffPlots$Plant", name := "take", desc := "(LCliffPlots$Plant;)V" } : Jvm.MethodName) ({ cls := "CliffPlots$Plant", name := "take", desc := "(LCliffPlots$Plant;)V" } : Jvm.MethodName)) ∈ lw_all := lw_g (lw_at lw_m3 68 rfl) rfl
theorem q611 : (Jvm.Cond.selects "CliffPlots$Bean" ({ cls := "CliffPlots$Plant", name := "begins", desc := "(I)V" } : Jvm.MethodName) ({ cls := "CliffPlots$Plant", name := "begins", desc := "(I)V" } : Jvm.MethodName)) ∈ lw_all := lw_g (lw_at lw_m3 74 rfl) rfl
theorem q956 : (Jvm.Cond.selects "CliffPlots$Bean" ({ cls := "CliffPlots$Plant", name := "grown", desc := "(FFI)F" } : Jvm.MethodName) ({ cls := "CliffPlots$Plant", name := "grown", desc := "(FFI)F" } : Jvm.MethodName)) ∈ lw_all := lw_g (lw_at lw_m4 179 rfl) rfl
theorem q962 : (Jvm.Cond.selects "CliffPlots$Bean" ({ cls := "CliffPlots$Plant", name := "rate", desc := "()F" } : Jvm.MethodName) ({ cls := "CliffPlots$Bean", name := "rate", desc := "()F" } : Jvm.MethodName)) ∈ lw_all := lw_g (lw_at lw_m4 185 rfl) rfl
theorem q963 : (Jvm.Cond.instanceMethod ({ cls := "CliffPlots$Bean", name := "rate", desc := "()F" } : Jvm.MethodName)) ∈ lw_all := lw_g (lw_at lw_m4 186 rfl) rfl
theorem q964 : (Jvm.Cond.code ({ cls := "CliffPlots$Bean", name := "rate", desc := "()F" } : Jvm.MethodName) prog_2_method_4_code (1 : Nat) (Option.some Jvm.ClassFile.FieldType.float)) ∈ lw_all := lw_g (lw_at lw_m4 187 rfl) rfl
theorem q965 : (Jvm.Cond.constantFloat "CliffPlots$Bean" (8 : Nat) (1031127695 : UInt32)) ∈ lw_all := lw_g (lw_at lw_m4 188 rfl) rfl
theorem q1075 : (Jvm.Cond.selects "CliffPlots$Bean" ({ cls := "CliffPlots$Plant", name := "isPlanted", desc := "(I)V" } : Jvm.MethodName) ({ cls := "CliffPlots$Plant", name := "isPlanted", desc := "(I)V" } : Jvm.MethodName)) ∈ lw_all := lw_g (lw_at lw_m5 58 rfl) rfl
theorem q1081 : (Jvm.Cond.selects "CliffPlots$Bean" ({ cls := "CliffPlots$Plant", name := "first", desc := "()F" } : Jvm.MethodName) ({ cls := "CliffPlots$Bean", name := "first", desc := "()F" } : Jvm.MethodName)) ∈ lw_all := lw_g (lw_at lw_m5 64 rfl) rfl
theorem q1082 : (Jvm.Cond.instanceMethod ({ cls := "CliffPlots$Bean", name := "first", desc := "()F" } : Jvm.MethodName)) ∈ lw_all := lw_g (lw_at lw_m5 65 rfl) rfl
theorem q1083 : (Jvm.Cond.code ({ cls := "CliffPlots$Bean", name := "first", desc := "()F" } : Jvm.MethodName) prog_2_method_3_code (1 : Nat) (Option.some Jvm.ClassFile.FieldType.float)) ∈ lw_all := lw_g (lw_at lw_m5 66 rfl) rfl
theorem q1084 : (Jvm.Cond.constantFloat "CliffPlots$Bean" (7 : Nat) (1056964608 : UInt32)) ∈ lw_all := lw_g (lw_at lw_m5 67 rfl) rfl
theorem q1228 : (Jvm.Cond.selects "CliffPlots$Bean" ({ cls := "CliffPlots$Plant", name := "sign", desc := "()C" } : Jvm.MethodName) ({ cls := "CliffPlots$Bean", name := "sign", desc := "()C" } : Jvm.MethodName)) ∈ lw_all := lw_g (lw_at lw_m5 211 rfl) rfl
theorem q1229 : (Jvm.Cond.instanceMethod ({ cls := "CliffPlots$Bean", name := "sign", desc := "()C" } : Jvm.MethodName)) ∈ lw_all := lw_g (lw_at lw_m5 212 rfl) rfl
theorem q1230 : (Jvm.Cond.code ({ cls := "CliffPlots$Bean", name := "sign", desc := "()C" } : Jvm.MethodName) prog_2_method_5_code (1 : Nat) (Option.some Jvm.ClassFile.FieldType.char)) ∈ lw_all := lw_g (lw_at lw_m5 213 rfl) rfl
theorem q2109 : (Jvm.Cond.castable "CliffPlots$Bean" "java/lang/Object") ∈ lw_tbl := lw_at lw_m9 132 rfl
theorem q2132 : (Jvm.Cond.castable "CliffPlots$Bean" "CliffPlots$Plant") ∈ lw_tbl := lw_at lw_m9 155 rfl
theorem in_X5 : ∀ w ∈ wsX50, w ∈ lw_all := lw_in wsX50 [153, 154, 155] (by decide +kernel) (by decide +kernel)
/-! CliffPlots$Member -/
set_option maxRecDepth 100000
def RX6 : String := "CliffPlots$Member"
def TX6 : u_T := fun k => match k with
  | 0 => ("CliffPlots$Member", "plot", "I", false)
  | 1 => ("CliffPlots$Member", "vote", "I", false)
  | _ => ("CliffPlots$Member", "harvests", "I", false)
def tyX6 : Nat → FieldType := fun k => match k with
  | 0 => .int
  | 1 => .int
  | _ => .int
abbrev wsX60 : List Cond := u_ws RX6 TX6 3
theorem nmX6 : ∀ a, a < 3 → ∀ b, b < 3 → a ≠ b → (TX6 a).2.1 ≠ (TX6 b).2.1 := by decide +kernel
theorem tyX6_ok : ∀ k, k < 3 → parseFieldDescriptor (TX6 k).2.2.1 = some (tyX6 k) := by decide +kernel
abbrev cX6_init : ByteArray := prog_6_method_1_code
def yX6_init : MethodName := ⟨RX6, "<init>", "()V"⟩
theorem dX6_init_0 : decode cX6_init 0 = .ok (.aload_n 0, 1) := by decide +kernel
theorem dX6_init_1 : decode cX6_init 1 = .ok (.invokespecial 3, 3) := by decide +kernel
theorem dX6_init_4 : decode cX6_init 4 = .ok (.return_, 1) := by decide +kernel
abbrev cX6_take : ByteArray := prog_6_method_3_code
def yX6_take : MethodName := ⟨RX6, "take", "(LCliffPlots$Member;)V"⟩
def dkwX6_take_1 : List UInt8 := [177]
abbrev dktX6_take_1 : List UInt8 := dkwX6_take_1 ++ []
def dkwX6_take_0 : List UInt8 := [42, 43, 180, 0, 9, 181, 0, 9, 42, 43, 180, 0, 15, 181, 0, 15, 42, 43, 180, 0, 18, 181, 0, 18]
abbrev dktX6_take_0 : List UInt8 := dkwX6_take_0 ++ dktX6_take_1
theorem dksX6_take_0 : cX6_take.data.toList.drop 0 = dktX6_take_0 := by decide +kernel
theorem dksX6_take_1 : cX6_take.data.toList.drop 24 = dktX6_take_1 := dk_seg dksX6_take_0 24 rfl rfl
theorem dX6_take_0 : decode cX6_take 0 = .ok (.aload_n 0, 1) := dk_42 (dk_at dksX6_take_0 0 rfl rfl)
theorem dX6_take_1 : decode cX6_take 1 = .ok (.aload_n 1, 1) := dk_43 (dk_at dksX6_take_0 1 rfl rfl)
theorem dX6_take_2 : decode cX6_take 2 = .ok (.getfield 9, 3) := dk_180 0 9 (dk_at dksX6_take_0 2 rfl rfl)
theorem dX6_take_5 : decode cX6_take 5 = .ok (.putfield 9, 3) := dk_181 0 9 (dk_at dksX6_take_0 5 rfl rfl)
theorem dX6_take_8 : decode cX6_take 8 = .ok (.aload_n 0, 1) := dk_42 (dk_at dksX6_take_0 8 rfl rfl)
theorem dX6_take_9 : decode cX6_take 9 = .ok (.aload_n 1, 1) := dk_43 (dk_at dksX6_take_0 9 rfl rfl)
theorem dX6_take_10 : decode cX6_take 10 = .ok (.getfield 15, 3) := dk_180 0 15 (dk_at dksX6_take_0 10 rfl rfl)
theorem dX6_take_13 : decode cX6_take 13 = .ok (.putfield 15, 3) := dk_181 0 15 (dk_at dksX6_take_0 13 rfl rfl)
theorem dX6_take_16 : decode cX6_take 16 = .ok (.aload_n 0, 1) := dk_42 (dk_at dksX6_take_0 16 rfl rfl)
theorem dX6_take_17 : decode cX6_take 17 = .ok (.aload_n 1, 1) := dk_43 (dk_at dksX6_take_0 17 rfl rfl)
theorem dX6_take_18 : decode cX6_take 18 = .ok (.getfield 18, 3) := dk_180 0 18 (dk_at dksX6_take_0 18 rfl rfl)
theorem dX6_take_21 : decode cX6_take 21 = .ok (.putfield 18, 3) := dk_181 0 18 (dk_at dksX6_take_0 21 rfl rfl)
theorem dX6_take_24 : decode cX6_take 24 = .ok (.return_, 1) := dk_177 (dk_at dksX6_take_1 0 rfl rfl)
abbrev cX6_begins : ByteArray := prog_6_method_2_code
def yX6_begins : MethodName := ⟨RX6, "begins", "()V"⟩
def dkwX6_begins_0 : List UInt8 := [42, 2, 181, 0, 9, 42, 3, 181, 0, 15, 42, 3, 181, 0, 18, 177]
abbrev dktX6_begins_0 : List UInt8 := dkwX6_begins_0 ++ []
theorem dksX6_begins_0 : cX6_begins.data.toList.drop 0 = dktX6_begins_0 := by decide +kernel
theorem dX6_begins_0 : decode cX6_begins 0 = .ok (.aload_n 0, 1) := dk_42 (dk_at dksX6_begins_0 0 rfl rfl)
theorem dX6_begins_1 : decode cX6_begins 1 = .ok (.iconst (-1), 1) := dk_2 (dk_at dksX6_begins_0 1 rfl rfl)
theorem dX6_begins_2 : decode cX6_begins 2 = .ok (.putfield 9, 3) := dk_181 0 9 (dk_at dksX6_begins_0 2 rfl rfl)
theorem dX6_begins_5 : decode cX6_begins 5 = .ok (.aload_n 0, 1) := dk_42 (dk_at dksX6_begins_0 5 rfl rfl)
theorem dX6_begins_6 : decode cX6_begins 6 = .ok (.iconst 0, 1) := dk_3 (dk_at dksX6_begins_0 6 rfl rfl)
theorem dX6_begins_7 : decode cX6_begins 7 = .ok (.putfield 15, 3) := dk_181 0 15 (dk_at dksX6_begins_0 7 rfl rfl)
theorem dX6_begins_10 : decode cX6_begins 10 = .ok (.aload_n 0, 1) := dk_42 (dk_at dksX6_begins_0 10 rfl rfl)
theorem dX6_begins_11 : decode cX6_begins 11 = .ok (.iconst 0, 1) := dk_3 (dk_at dksX6_begins_0 11 rfl rfl)
theorem dX6_begins_12 : decode cX6_begins 12 = .ok (.putfield 18, 3) := dk_181 0 18 (dk_at dksX6_begins_0 12 rfl rfl)
theorem dX6_begins_15 : decode cX6_begins 15 = .ok (.return_, 1) := dk_177 (dk_at dksX6_begins_0 15 rfl rfl)
theorem q63 : (Jvm.Cond.initialized "CliffPlots$Member") ∈ lw_all := lw_g (lw_at lw_m1 6 rfl) rfl
theorem q157 : (Jvm.Cond.instantiable "CliffPlots$Member" (3 : Nat)) ∈ lw_all := lw_g (lw_at lw_m1 100 rfl) rfl
theorem q159 : (Jvm.Cond.instanceMethod ({ cls := "CliffPlots$Member", name := "<init>", desc := "()V" } : Jvm.MethodName)) ∈ lw_all := lw_g (lw_at lw_m1 102 rfl) rfl
theorem q160 : (Jvm.Cond.code ({ cls := "CliffPlots$Member", name := "<init>", desc := "()V" } : Jvm.MethodName) prog_6_method_1_code (1 : Nat) (Option.none : Option Jvm.ClassFile.FieldType)) ∈ lw_all := lw_g (lw_at lw_m1 103 rfl) rfl
theorem q161 : (Jvm.Cond.methodLink "CliffPlots$Member" (3 : Nat) ({ cls := "java/lang/Object", name := "<init>", desc := "()V" } : Jvm.MethodName)) ∈ lw_all := lw_g (lw_at lw_m1 104 rfl) rfl
theorem q162 : (Jvm.Cond.fieldLink "CliffPlots$Member" (9 : Nat) "CliffPlots$Member" "plot" "I") ∈ lw_all := lw_g (lw_at lw_m1 105 rfl) rfl
theorem q165 : (Jvm.Cond.fieldLink "CliffPlots$Member" (15 : Nat) "CliffPlots$Member" "vote" "I") ∈ lw_all := lw_g (lw_at lw_m1 108 rfl) rfl
theorem q168 : (Jvm.Cond.fieldLink "CliffPlots$Member" (18 : Nat) "CliffPlots$Member" "harvests" "I") ∈ lw_all := lw_g (lw_at lw_m1 111 rfl) rfl
theorem q171 : (Jvm.Cond.lays "CliffPlots$Member" "CliffPlots$Member" "plot" "I") ∈ lw_all := lw_g (lw_at lw_m1 114 rfl) rfl
theorem q172 : (Jvm.Cond.soleField "CliffPlots$Member" "plot") ∈ lw_all := lw_g (lw_at lw_m1 115 rfl) rfl
theorem q173 : (Jvm.Cond.lays "CliffPlots$Member" "CliffPlots$Member" "vote" "I") ∈ lw_all := lw_g (lw_at lw_m1 116 rfl) rfl
theorem q174 : (Jvm.Cond.soleField "CliffPlots$Member" "vote") ∈ lw_all := lw_g (lw_at lw_m1 117 rfl) rfl
theorem q175 : (Jvm.Cond.lays "CliffPlots$Member" "CliffPlots$Member" "harvests" "I") ∈ lw_all := lw_g (lw_at lw_m1 118 rfl) rfl
theorem q176 : (Jvm.Cond.soleField "CliffPlots$Member" "harvests") ∈ lw_all := lw_g (lw_at lw_m1 119 rfl) rfl
theorem q177 : (Jvm.Cond.superclass "CliffPlots$Member" "java/lang/Object") ∈ lw_all := lw_g (lw_at lw_m1 120 rfl) rfl
theorem q489 : (Jvm.Cond.selects "CliffPlots$Member" ({ cls := "java/lang/Object", name := "getClass", desc := "()Ljava/lang/Class;" } : Jvm.MethodName) ({ cls := "java/lang/Object", name := "getClass", desc := "()Ljava/lang/Class;" } : Jvm.MethodName)) ∈ lw_all := lw_g (lw_at lw_m2 192 rfl) rfl
theorem q615 : (Jvm.Cond.instanceMethod ({ cls := "CliffPlots$Member", name := "take", desc := "(LCliffPlots$Member;)V" } : Jvm.MethodName)) ∈ lw_all := lw_g (lw_at lw_m3 78 rfl) rfl
theorem q616 : (Jvm.Cond.selects "CliffPlots$Member" ({ cls := "CliffPlots$Member", name := "take", desc := "(LCliffPlots$Member;)V" } : Jvm.MethodName) ({ cls := "CliffPlots$Member", name := "take", desc := "(LCliffPlots$Member;)V" } : Jvm.MethodName)) ∈ lw_all := lw_g (lw_at lw_m3 79 rfl) rfl
theorem q617 : (Jvm.Cond.code ({ cls := "CliffPlots$Member", name := "take", desc := "(LCliffPlots$Member;)V" } : Jvm.MethodName) prog_6_method_3_code (2 : Nat) (Option.none : Option Jvm.ClassFile.FieldType)) ∈ lw_all := lw_g (lw_at lw_m3 80 rfl) rfl
theorem q776 : (Jvm.Cond.instanceMethod ({ cls := "CliffPlots$Member", name := "begins", desc := "()V" } : Jvm.MethodName)) ∈ lw_all := lw_g (lw_at lw_m3 239 rfl) rfl
theorem q777 : (Jvm.Cond.selects "CliffPlots$Member" ({ cls := "CliffPlots$Member", name := "begins", desc := "()V" } : Jvm.MethodName) ({ cls := "CliffPlots$Member", name := "begins", desc := "()V" } : Jvm.MethodName)) ∈ lw_all := lw_g (lw_at lw_m4 0 rfl) rfl
theorem q778 : (Jvm.Cond.code ({ cls := "CliffPlots$Member", name := "begins", desc := "()V" } : Jvm.MethodName) prog_6_method_2_code (1 : Nat) (Option.none : Option Jvm.ClassFile.FieldType)) ∈ lw_all := lw_g (lw_at lw_m4 1 rfl) rfl
theorem q2110 : (Jvm.Cond.castable "CliffPlots$Member" "java/lang/Object") ∈ lw_tbl := lw_at lw_m9 133 rfl
theorem in_X6 : ∀ w ∈ wsX60, w ∈ lw_all := lw_in wsX60 [171, 173, 175] (by decide +kernel) (by decide +kernel)
/-! CliffPlots$Shed -/
set_option maxRecDepth 100000
def RX7 : String := "CliffPlots$Shed"
def TX7 : u_T := fun k => match k with
  | 0 => ("CliffPlots$Shed", "plot", "I", false)
  | 1 => ("CliffPlots$Shed", "ropes", "I", false)
  | 2 => ("CliffPlots$Shed", "stands", "Z", false)
  | _ => ("CliffPlots$Shed", "litres", "F", false)
def tyX7 : Nat → FieldType := fun k => match k with
  | 0 => .int
  | 1 => .int
  | 2 => .boolean
  | _ => .float
abbrev wsX70 : List Cond := u_ws RX7 TX7 4
theorem nmX7 : ∀ a, a < 4 → ∀ b, b < 4 → a ≠ b → (TX7 a).2.1 ≠ (TX7 b).2.1 := by decide +kernel
theorem tyX7_ok : ∀ k, k < 4 → parseFieldDescriptor (TX7 k).2.2.1 = some (tyX7 k) := by decide +kernel
abbrev cX7_init : ByteArray := prog_11_method_1_code
def yX7_init : MethodName := ⟨RX7, "<init>", "()V"⟩
theorem dX7_init_0 : decode cX7_init 0 = .ok (.aload_n 0, 1) := by decide +kernel
theorem dX7_init_1 : decode cX7_init 1 = .ok (.invokespecial 1, 3) := by decide +kernel
theorem dX7_init_4 : decode cX7_init 4 = .ok (.return_, 1) := by decide +kernel
abbrev cX7_take : ByteArray := prog_11_method_3_code
def yX7_take : MethodName := ⟨RX7, "take", "(LCliffPlots$Shed;)V"⟩
def dkwX7_take_1 : List UInt8 := [42, 43, 180, 0, 20, 181, 0, 20, 177]
abbrev dktX7_take_1 : List UInt8 := dkwX7_take_1 ++ []
def dkwX7_take_0 : List UInt8 := [42, 43, 180, 0, 7, 181, 0, 7, 42, 43, 180, 0, 13, 181, 0, 13, 42, 43, 180, 0, 16, 181, 0, 16]
abbrev dktX7_take_0 : List UInt8 := dkwX7_take_0 ++ dktX7_take_1
theorem dksX7_take_0 : cX7_take.data.toList.drop 0 = dktX7_take_0 := by decide +kernel
theorem dksX7_take_1 : cX7_take.data.toList.drop 24 = dktX7_take_1 := dk_seg dksX7_take_0 24 rfl rfl
theorem dX7_take_0 : decode cX7_take 0 = .ok (.aload_n 0, 1) := dk_42 (dk_at dksX7_take_0 0 rfl rfl)
theorem dX7_take_1 : decode cX7_take 1 = .ok (.aload_n 1, 1) := dk_43 (dk_at dksX7_take_0 1 rfl rfl)
theorem dX7_take_2 : decode cX7_take 2 = .ok (.getfield 7, 3) := dk_180 0 7 (dk_at dksX7_take_0 2 rfl rfl)
theorem dX7_take_5 : decode cX7_take 5 = .ok (.putfield 7, 3) := dk_181 0 7 (dk_at dksX7_take_0 5 rfl rfl)
theorem dX7_take_8 : decode cX7_take 8 = .ok (.aload_n 0, 1) := dk_42 (dk_at dksX7_take_0 8 rfl rfl)
theorem dX7_take_9 : decode cX7_take 9 = .ok (.aload_n 1, 1) := dk_43 (dk_at dksX7_take_0 9 rfl rfl)
theorem dX7_take_10 : decode cX7_take 10 = .ok (.getfield 13, 3) := dk_180 0 13 (dk_at dksX7_take_0 10 rfl rfl)
theorem dX7_take_13 : decode cX7_take 13 = .ok (.putfield 13, 3) := dk_181 0 13 (dk_at dksX7_take_0 13 rfl rfl)
theorem dX7_take_16 : decode cX7_take 16 = .ok (.aload_n 0, 1) := dk_42 (dk_at dksX7_take_0 16 rfl rfl)
theorem dX7_take_17 : decode cX7_take 17 = .ok (.aload_n 1, 1) := dk_43 (dk_at dksX7_take_0 17 rfl rfl)
theorem dX7_take_18 : decode cX7_take 18 = .ok (.getfield 16, 3) := dk_180 0 16 (dk_at dksX7_take_0 18 rfl rfl)
theorem dX7_take_21 : decode cX7_take 21 = .ok (.putfield 16, 3) := dk_181 0 16 (dk_at dksX7_take_0 21 rfl rfl)
theorem dX7_take_24 : decode cX7_take 24 = .ok (.aload_n 0, 1) := dk_42 (dk_at dksX7_take_1 0 rfl rfl)
theorem dX7_take_25 : decode cX7_take 25 = .ok (.aload_n 1, 1) := dk_43 (dk_at dksX7_take_1 1 rfl rfl)
theorem dX7_take_26 : decode cX7_take 26 = .ok (.getfield 20, 3) := dk_180 0 20 (dk_at dksX7_take_1 2 rfl rfl)
theorem dX7_take_29 : decode cX7_take 29 = .ok (.putfield 20, 3) := dk_181 0 20 (dk_at dksX7_take_1 5 rfl rfl)
theorem dX7_take_32 : decode cX7_take 32 = .ok (.return_, 1) := dk_177 (dk_at dksX7_take_1 8 rfl rfl)
abbrev cX7_holds : ByteArray := prog_11_method_4_code
def yX7_holds : MethodName := ⟨RX7, "holds", "(I)Z"⟩
def dkwX7_holds_0 : List UInt8 := [27, 134, 13, 18, 24, 42, 180, 0, 13, 134, 106, 98, 150, 157, 0, 7, 4, 167, 0, 4, 3, 172]
abbrev dktX7_holds_0 : List UInt8 := dkwX7_holds_0 ++ []
theorem dksX7_holds_0 : cX7_holds.data.toList.drop 0 = dktX7_holds_0 := by decide +kernel
theorem dX7_holds_0 : decode cX7_holds 0 = .ok (.iload_n 1, 1) := dk_27 (dk_at dksX7_holds_0 0 rfl rfl)
theorem dX7_holds_1 : decode cX7_holds 1 = .ok (.i2f, 1) := dk_134 (dk_at dksX7_holds_0 1 rfl rfl)
theorem dX7_holds_2 : decode cX7_holds 2 = .ok (.fconst 2, 1) := dk_13 (dk_at dksX7_holds_0 2 rfl rfl)
theorem dX7_holds_3 : decode cX7_holds 3 = .ok (.ldc 24, 2) := dk_18 24 (dk_at dksX7_holds_0 3 rfl rfl)
theorem dX7_holds_5 : decode cX7_holds 5 = .ok (.aload_n 0, 1) := dk_42 (dk_at dksX7_holds_0 5 rfl rfl)
theorem dX7_holds_6 : decode cX7_holds 6 = .ok (.getfield 13, 3) := dk_180 0 13 (dk_at dksX7_holds_0 6 rfl rfl)
theorem dX7_holds_9 : decode cX7_holds 9 = .ok (.i2f, 1) := dk_134 (dk_at dksX7_holds_0 9 rfl rfl)
theorem dX7_holds_10 : decode cX7_holds 10 = .ok (.fmul, 1) := dk_106 (dk_at dksX7_holds_0 10 rfl rfl)
theorem dX7_holds_11 : decode cX7_holds 11 = .ok (.fadd, 1) := dk_98 (dk_at dksX7_holds_0 11 rfl rfl)
theorem dX7_holds_12 : decode cX7_holds 12 = .ok (.fcmp .g, 1) := dk_150 (dk_at dksX7_holds_0 12 rfl rfl)
theorem dX7_holds_13 : decode cX7_holds 13 = .ok (.ifCond .gt 7, 3) := dk_157 0 7 (dk_at dksX7_holds_0 13 rfl rfl)
theorem dX7_holds_16 : decode cX7_holds 16 = .ok (.iconst 1, 1) := dk_4 (dk_at dksX7_holds_0 16 rfl rfl)
theorem dX7_holds_17 : decode cX7_holds 17 = .ok (.goto 4, 3) := dk_167 0 4 (dk_at dksX7_holds_0 17 rfl rfl)
theorem dX7_holds_20 : decode cX7_holds 20 = .ok (.iconst 0, 1) := dk_3 (dk_at dksX7_holds_0 20 rfl rfl)
theorem dX7_holds_21 : decode cX7_holds 21 = .ok (.ireturn, 1) := dk_172 (dk_at dksX7_holds_0 21 rfl rfl)
abbrev cX7_blowsOff : ByteArray := prog_11_method_5_code
def yX7_blowsOff : MethodName := ⟨RX7, "blowsOff", "()V"⟩
def dkwX7_blowsOff_0 : List UInt8 := [42, 3, 181, 0, 16, 42, 11, 181, 0, 20, 177]
abbrev dktX7_blowsOff_0 : List UInt8 := dkwX7_blowsOff_0 ++ []
theorem dksX7_blowsOff_0 : cX7_blowsOff.data.toList.drop 0 = dktX7_blowsOff_0 := by decide +kernel
theorem dX7_blowsOff_0 : decode cX7_blowsOff 0 = .ok (.aload_n 0, 1) := dk_42 (dk_at dksX7_blowsOff_0 0 rfl rfl)
theorem dX7_blowsOff_1 : decode cX7_blowsOff 1 = .ok (.iconst 0, 1) := dk_3 (dk_at dksX7_blowsOff_0 1 rfl rfl)
theorem dX7_blowsOff_2 : decode cX7_blowsOff 2 = .ok (.putfield 16, 3) := dk_181 0 16 (dk_at dksX7_blowsOff_0 2 rfl rfl)
theorem dX7_blowsOff_5 : decode cX7_blowsOff 5 = .ok (.aload_n 0, 1) := dk_42 (dk_at dksX7_blowsOff_0 5 rfl rfl)
theorem dX7_blowsOff_6 : decode cX7_blowsOff 6 = .ok (.fconst 0, 1) := dk_11 (dk_at dksX7_blowsOff_0 6 rfl rfl)
theorem dX7_blowsOff_7 : decode cX7_blowsOff 7 = .ok (.putfield 20, 3) := dk_181 0 20 (dk_at dksX7_blowsOff_0 7 rfl rfl)
theorem dX7_blowsOff_10 : decode cX7_blowsOff 10 = .ok (.return_, 1) := dk_177 (dk_at dksX7_blowsOff_0 10 rfl rfl)
abbrev cX7_begins : ByteArray := prog_11_method_2_code
def yX7_begins : MethodName := ⟨RX7, "begins", "(I)V"⟩
def dkwX7_begins_0 : List UInt8 := [42, 27, 181, 0, 7, 42, 3, 181, 0, 13, 42, 4, 181, 0, 16, 42, 11, 181, 0, 20, 177]
abbrev dktX7_begins_0 : List UInt8 := dkwX7_begins_0 ++ []
theorem dksX7_begins_0 : cX7_begins.data.toList.drop 0 = dktX7_begins_0 := by decide +kernel
theorem dX7_begins_0 : decode cX7_begins 0 = .ok (.aload_n 0, 1) := dk_42 (dk_at dksX7_begins_0 0 rfl rfl)
theorem dX7_begins_1 : decode cX7_begins 1 = .ok (.iload_n 1, 1) := dk_27 (dk_at dksX7_begins_0 1 rfl rfl)
theorem dX7_begins_2 : decode cX7_begins 2 = .ok (.putfield 7, 3) := dk_181 0 7 (dk_at dksX7_begins_0 2 rfl rfl)
theorem dX7_begins_5 : decode cX7_begins 5 = .ok (.aload_n 0, 1) := dk_42 (dk_at dksX7_begins_0 5 rfl rfl)
theorem dX7_begins_6 : decode cX7_begins 6 = .ok (.iconst 0, 1) := dk_3 (dk_at dksX7_begins_0 6 rfl rfl)
theorem dX7_begins_7 : decode cX7_begins 7 = .ok (.putfield 13, 3) := dk_181 0 13 (dk_at dksX7_begins_0 7 rfl rfl)
theorem dX7_begins_10 : decode cX7_begins 10 = .ok (.aload_n 0, 1) := dk_42 (dk_at dksX7_begins_0 10 rfl rfl)
theorem dX7_begins_11 : decode cX7_begins 11 = .ok (.iconst 1, 1) := dk_4 (dk_at dksX7_begins_0 11 rfl rfl)
theorem dX7_begins_12 : decode cX7_begins 12 = .ok (.putfield 16, 3) := dk_181 0 16 (dk_at dksX7_begins_0 12 rfl rfl)
theorem dX7_begins_15 : decode cX7_begins 15 = .ok (.aload_n 0, 1) := dk_42 (dk_at dksX7_begins_0 15 rfl rfl)
theorem dX7_begins_16 : decode cX7_begins 16 = .ok (.fconst 0, 1) := dk_11 (dk_at dksX7_begins_0 16 rfl rfl)
theorem dX7_begins_17 : decode cX7_begins 17 = .ok (.putfield 20, 3) := dk_181 0 20 (dk_at dksX7_begins_0 17 rfl rfl)
theorem dX7_begins_20 : decode cX7_begins 20 = .ok (.return_, 1) := dk_177 (dk_at dksX7_begins_0 20 rfl rfl)
theorem q64 : (Jvm.Cond.initialized "CliffPlots$Shed") ∈ lw_all := lw_g (lw_at lw_m1 7 rfl) rfl
theorem q178 : (Jvm.Cond.instantiable "CliffPlots$Shed" (4 : Nat)) ∈ lw_all := lw_g (lw_at lw_m1 121 rfl) rfl
theorem q180 : (Jvm.Cond.instanceMethod ({ cls := "CliffPlots$Shed", name := "<init>", desc := "()V" } : Jvm.MethodName)) ∈ lw_all := lw_g (lw_at lw_m1 123 rfl) rfl
theorem q181 : (Jvm.Cond.code ({ cls := "CliffPlots$Shed", name := "<init>", desc := "()V" } : Jvm.MethodName) prog_11_method_1_code (1 : Nat) (Option.none : Option Jvm.ClassFile.FieldType)) ∈ lw_all := lw_g (lw_at lw_m1 124 rfl) rfl
theorem q182 : (Jvm.Cond.methodLink "CliffPlots$Shed" (1 : Nat) ({ cls := "java/lang/Object", name := "<init>", desc := "()V" } : Jvm.MethodName)) ∈ lw_all := lw_g (lw_at lw_m1 125 rfl) rfl
theorem q183 : (Jvm.Cond.fieldLink "CliffPlots$Shed" (7 : Nat) "CliffPlots$Shed" "plot" "I") ∈ lw_all := lw_g (lw_at lw_m1 126 rfl) rfl
theorem q186 : (Jvm.Cond.fieldLink "CliffPlots$Shed" (13 : Nat) "CliffPlots$Shed" "ropes" "I") ∈ lw_all := lw_g (lw_at lw_m1 129 rfl) rfl
theorem q189 : (Jvm.Cond.fieldLink "CliffPlots$Shed" (16 : Nat) "CliffPlots$Shed" "stands" "Z") ∈ lw_all := lw_g (lw_at lw_m1 132 rfl) rfl
theorem q192 : (Jvm.Cond.fieldLink "CliffPlots$Shed" (20 : Nat) "CliffPlots$Shed" "litres" "F") ∈ lw_all := lw_g (lw_at lw_m1 135 rfl) rfl
theorem q195 : (Jvm.Cond.lays "CliffPlots$Shed" "CliffPlots$Shed" "plot" "I") ∈ lw_all := lw_g (lw_at lw_m1 138 rfl) rfl
theorem q196 : (Jvm.Cond.soleField "CliffPlots$Shed" "plot") ∈ lw_all := lw_g (lw_at lw_m1 139 rfl) rfl
theorem q197 : (Jvm.Cond.lays "CliffPlots$Shed" "CliffPlots$Shed" "ropes" "I") ∈ lw_all := lw_g (lw_at lw_m1 140 rfl) rfl
theorem q198 : (Jvm.Cond.soleField "CliffPlots$Shed" "ropes") ∈ lw_all := lw_g (lw_at lw_m1 141 rfl) rfl
theorem q199 : (Jvm.Cond.lays "CliffPlots$Shed" "CliffPlots$Shed" "stands" "Z") ∈ lw_all := lw_g (lw_at lw_m1 142 rfl) rfl
theorem q200 : (Jvm.Cond.soleField "CliffPlots$Shed" "stands") ∈ lw_all := lw_g (lw_at lw_m1 143 rfl) rfl
theorem q201 : (Jvm.Cond.lays "CliffPlots$Shed" "CliffPlots$Shed" "litres" "F") ∈ lw_all := lw_g (lw_at lw_m1 144 rfl) rfl
theorem q202 : (Jvm.Cond.soleField "CliffPlots$Shed" "litres") ∈ lw_all := lw_g (lw_at lw_m1 145 rfl) rfl
theorem q203 : (Jvm.Cond.superclass "CliffPlots$Shed" "java/lang/Object") ∈ lw_all := lw_g (lw_at lw_m1 146 rfl) rfl
theorem q493 : (Jvm.Cond.selects "CliffPlots$Shed" ({ cls := "java/lang/Object", name := "getClass", desc := "()Ljava/lang/Class;" } : Jvm.MethodName) ({ cls := "java/lang/Object", name := "getClass", desc := "()Ljava/lang/Class;" } : Jvm.MethodName)) ∈ lw_all := lw_g (lw_at lw_m2 196 rfl) rfl
theorem q619 : (Jvm.Cond.instanceMethod ({ cls := "CliffPlots$Shed", name := "take", desc := "(LCliffPlots$Shed;)V" } : Jvm.MethodName)) ∈ lw_all := lw_g (lw_at lw_m3 82 rfl) rfl
theorem q620 : (Jvm.Cond.selects "CliffPlots$Shed" ({ cls := "CliffPlots$Shed", name := "take", desc := "(LCliffPlots$Shed;)V" } : Jvm.MethodName) ({ cls := "CliffPlots$Shed", name := "take", desc := "(LCliffPlots$Shed;)V" } : Jvm.MethodName)) ∈ lw_all := lw_g (lw_at lw_m3 83 rfl) rfl
theorem q621 : (Jvm.Cond.code ({ cls := "CliffPlots$Shed", name := "take", desc := "(LCliffPlots$Shed;)V" } : Jvm.MethodName) prog_11_method_3_code (2 : Nat) (Option.none : Option Jvm.ClassFile.FieldType)) ∈ lw_all := lw_g (lw_at lw_m3 84 rfl) rfl
theorem q976 : (Jvm.Cond.instanceMethod ({ cls := "CliffPlots$Shed", name := "holds", desc := "(I)Z" } : Jvm.MethodName)) ∈ lw_all := lw_g (lw_at lw_m4 199 rfl) rfl
theorem q977 : (Jvm.Cond.selects "CliffPlots$Shed" ({ cls := "CliffPlots$Shed", name := "holds", desc := "(I)Z" } : Jvm.MethodName) ({ cls := "CliffPlots$Shed", name := "holds", desc := "(I)Z" } : Jvm.MethodName)) ∈ lw_all := lw_g (lw_at lw_m4 200 rfl) rfl
theorem q978 : (Jvm.Cond.code ({ cls := "CliffPlots$Shed", name := "holds", desc := "(I)Z" } : Jvm.MethodName) prog_11_method_4_code (2 : Nat) (Option.some Jvm.ClassFile.FieldType.boolean)) ∈ lw_all := lw_g (lw_at lw_m4 201 rfl) rfl
theorem q979 : (Jvm.Cond.constantFloat "CliffPlots$Shed" (24 : Nat) (1071644672 : UInt32)) ∈ lw_all := lw_g (lw_at lw_m4 202 rfl) rfl
theorem q981 : (Jvm.Cond.instanceMethod ({ cls := "CliffPlots$Shed", name := "blowsOff", desc := "()V" } : Jvm.MethodName)) ∈ lw_all := lw_g (lw_at lw_m4 204 rfl) rfl
theorem q982 : (Jvm.Cond.selects "CliffPlots$Shed" ({ cls := "CliffPlots$Shed", name := "blowsOff", desc := "()V" } : Jvm.MethodName) ({ cls := "CliffPlots$Shed", name := "blowsOff", desc := "()V" } : Jvm.MethodName)) ∈ lw_all := lw_g (lw_at lw_m4 205 rfl) rfl
theorem q983 : (Jvm.Cond.code ({ cls := "CliffPlots$Shed", name := "blowsOff", desc := "()V" } : Jvm.MethodName) prog_11_method_5_code (1 : Nat) (Option.none : Option Jvm.ClassFile.FieldType)) ∈ lw_all := lw_g (lw_at lw_m4 206 rfl) rfl
theorem q1153 : (Jvm.Cond.instanceMethod ({ cls := "CliffPlots$Shed", name := "begins", desc := "(I)V" } : Jvm.MethodName)) ∈ lw_all := lw_g (lw_at lw_m5 136 rfl) rfl
theorem q1154 : (Jvm.Cond.selects "CliffPlots$Shed" ({ cls := "CliffPlots$Shed", name := "begins", desc := "(I)V" } : Jvm.MethodName) ({ cls := "CliffPlots$Shed", name := "begins", desc := "(I)V" } : Jvm.MethodName)) ∈ lw_all := lw_g (lw_at lw_m5 137 rfl) rfl
theorem q1155 : (Jvm.Cond.code ({ cls := "CliffPlots$Shed", name := "begins", desc := "(I)V" } : Jvm.MethodName) prog_11_method_2_code (2 : Nat) (Option.none : Option Jvm.ClassFile.FieldType)) ∈ lw_all := lw_g (lw_at lw_m5 138 rfl) rfl
theorem q2111 : (Jvm.Cond.castable "CliffPlots$Shed" "java/lang/Object") ∈ lw_tbl := lw_at lw_m9 134 rfl
theorem in_X7 : ∀ w ∈ wsX70, w ∈ lw_all := lw_in wsX70 [195, 197, 199, 201] (by decide +kernel) (by decide +kernel)
/-! CliffPlots$Prize -/
set_option maxRecDepth 100000
def RX8 : String := "CliffPlots$Prize"
def TX8 : u_T := fun k => match k with
  | 0 => ("CliffPlots$Prize", "kind", "I", false)
  | 1 => ("CliffPlots$Prize", "member", "I", false)
  | 2 => ("CliffPlots$Prize", "weight", "F", false)
  | _ => ("CliffPlots$Prize", "day", "I", false)
def tyX8 : Nat → FieldType := fun k => match k with
  | 0 => .int
  | 1 => .int
  | 2 => .float
  | _ => .int
abbrev wsX80 : List Cond := u_ws RX8 TX8 4
theorem nmX8 : ∀ a, a < 4 → ∀ b, b < 4 → a ≠ b → (TX8 a).2.1 ≠ (TX8 b).2.1 := by decide +kernel
theorem tyX8_ok : ∀ k, k < 4 → parseFieldDescriptor (TX8 k).2.2.1 = some (tyX8 k) := by decide +kernel
abbrev cX8_init : ByteArray := prog_8_method_1_code
def yX8_init : MethodName := ⟨RX8, "<init>", "()V"⟩
theorem dX8_init_0 : decode cX8_init 0 = .ok (.aload_n 0, 1) := by decide +kernel
theorem dX8_init_1 : decode cX8_init 1 = .ok (.invokespecial 1, 3) := by decide +kernel
theorem dX8_init_4 : decode cX8_init 4 = .ok (.return_, 1) := by decide +kernel
abbrev cX8_take : ByteArray := prog_8_method_3_code
def yX8_take : MethodName := ⟨RX8, "take", "(LCliffPlots$Prize;)V"⟩
def dkwX8_take_0 : List UInt8 := [42, 43, 180, 0, 7, 43, 180, 0, 13, 43, 180, 0, 16, 43, 180, 0, 20, 182, 0, 23, 177]
abbrev dktX8_take_0 : List UInt8 := dkwX8_take_0 ++ []
theorem dksX8_take_0 : cX8_take.data.toList.drop 0 = dktX8_take_0 := by decide +kernel
theorem dX8_take_0 : decode cX8_take 0 = .ok (.aload_n 0, 1) := dk_42 (dk_at dksX8_take_0 0 rfl rfl)
theorem dX8_take_1 : decode cX8_take 1 = .ok (.aload_n 1, 1) := dk_43 (dk_at dksX8_take_0 1 rfl rfl)
theorem dX8_take_2 : decode cX8_take 2 = .ok (.getfield 7, 3) := dk_180 0 7 (dk_at dksX8_take_0 2 rfl rfl)
theorem dX8_take_5 : decode cX8_take 5 = .ok (.aload_n 1, 1) := dk_43 (dk_at dksX8_take_0 5 rfl rfl)
theorem dX8_take_6 : decode cX8_take 6 = .ok (.getfield 13, 3) := dk_180 0 13 (dk_at dksX8_take_0 6 rfl rfl)
theorem dX8_take_9 : decode cX8_take 9 = .ok (.aload_n 1, 1) := dk_43 (dk_at dksX8_take_0 9 rfl rfl)
theorem dX8_take_10 : decode cX8_take 10 = .ok (.getfield 16, 3) := dk_180 0 16 (dk_at dksX8_take_0 10 rfl rfl)
theorem dX8_take_13 : decode cX8_take 13 = .ok (.aload_n 1, 1) := dk_43 (dk_at dksX8_take_0 13 rfl rfl)
theorem dX8_take_14 : decode cX8_take 14 = .ok (.getfield 20, 3) := dk_180 0 20 (dk_at dksX8_take_0 14 rfl rfl)
theorem dX8_take_17 : decode cX8_take 17 = .ok (.invokevirtual 23, 3) := dk_182 0 23 (dk_at dksX8_take_0 17 rfl rfl)
theorem dX8_take_20 : decode cX8_take 20 = .ok (.return_, 1) := dk_177 (dk_at dksX8_take_0 20 rfl rfl)
abbrev cX8_is : ByteArray := prog_8_method_2_code
def yX8_is : MethodName := ⟨RX8, "is", "(IIFI)V"⟩
def dkwX8_is_0 : List UInt8 := [42, 27, 181, 0, 7, 42, 28, 181, 0, 13, 42, 37, 181, 0, 16, 42, 21, 4, 181, 0, 20, 177]
abbrev dktX8_is_0 : List UInt8 := dkwX8_is_0 ++ []
theorem dksX8_is_0 : cX8_is.data.toList.drop 0 = dktX8_is_0 := by decide +kernel
theorem dX8_is_0 : decode cX8_is 0 = .ok (.aload_n 0, 1) := dk_42 (dk_at dksX8_is_0 0 rfl rfl)
theorem dX8_is_1 : decode cX8_is 1 = .ok (.iload_n 1, 1) := dk_27 (dk_at dksX8_is_0 1 rfl rfl)
theorem dX8_is_2 : decode cX8_is 2 = .ok (.putfield 7, 3) := dk_181 0 7 (dk_at dksX8_is_0 2 rfl rfl)
theorem dX8_is_5 : decode cX8_is 5 = .ok (.aload_n 0, 1) := dk_42 (dk_at dksX8_is_0 5 rfl rfl)
theorem dX8_is_6 : decode cX8_is 6 = .ok (.iload_n 2, 1) := dk_28 (dk_at dksX8_is_0 6 rfl rfl)
theorem dX8_is_7 : decode cX8_is 7 = .ok (.putfield 13, 3) := dk_181 0 13 (dk_at dksX8_is_0 7 rfl rfl)
theorem dX8_is_10 : decode cX8_is 10 = .ok (.aload_n 0, 1) := dk_42 (dk_at dksX8_is_0 10 rfl rfl)
theorem dX8_is_11 : decode cX8_is 11 = .ok (.fload_n 3, 1) := dk_37 (dk_at dksX8_is_0 11 rfl rfl)
theorem dX8_is_12 : decode cX8_is 12 = .ok (.putfield 16, 3) := dk_181 0 16 (dk_at dksX8_is_0 12 rfl rfl)
theorem dX8_is_15 : decode cX8_is 15 = .ok (.aload_n 0, 1) := dk_42 (dk_at dksX8_is_0 15 rfl rfl)
theorem dX8_is_16 : decode cX8_is 16 = .ok (.iload 4, 2) := dk_21 4 (dk_at dksX8_is_0 16 rfl rfl)
theorem dX8_is_18 : decode cX8_is 18 = .ok (.putfield 20, 3) := dk_181 0 20 (dk_at dksX8_is_0 18 rfl rfl)
theorem dX8_is_21 : decode cX8_is 21 = .ok (.return_, 1) := dk_177 (dk_at dksX8_is_0 21 rfl rfl)
theorem q65 : (Jvm.Cond.initialized "CliffPlots$Prize") ∈ lw_all := lw_g (lw_at lw_m1 8 rfl) rfl
theorem q204 : (Jvm.Cond.instantiable "CliffPlots$Prize" (4 : Nat)) ∈ lw_all := lw_g (lw_at lw_m1 147 rfl) rfl
theorem q206 : (Jvm.Cond.instanceMethod ({ cls := "CliffPlots$Prize", name := "<init>", desc := "()V" } : Jvm.MethodName)) ∈ lw_all := lw_g (lw_at lw_m1 149 rfl) rfl
theorem q207 : (Jvm.Cond.code ({ cls := "CliffPlots$Prize", name := "<init>", desc := "()V" } : Jvm.MethodName) prog_8_method_1_code (1 : Nat) (Option.none : Option Jvm.ClassFile.FieldType)) ∈ lw_all := lw_g (lw_at lw_m1 150 rfl) rfl
theorem q208 : (Jvm.Cond.methodLink "CliffPlots$Prize" (1 : Nat) ({ cls := "java/lang/Object", name := "<init>", desc := "()V" } : Jvm.MethodName)) ∈ lw_all := lw_g (lw_at lw_m1 151 rfl) rfl
theorem q209 : (Jvm.Cond.fieldLink "CliffPlots$Prize" (7 : Nat) "CliffPlots$Prize" "kind" "I") ∈ lw_all := lw_g (lw_at lw_m1 152 rfl) rfl
theorem q211 : (Jvm.Cond.fieldLink "CliffPlots$Prize" (13 : Nat) "CliffPlots$Prize" "member" "I") ∈ lw_all := lw_g (lw_at lw_m1 154 rfl) rfl
theorem q213 : (Jvm.Cond.fieldLink "CliffPlots$Prize" (16 : Nat) "CliffPlots$Prize" "weight" "F") ∈ lw_all := lw_g (lw_at lw_m1 156 rfl) rfl
theorem q216 : (Jvm.Cond.fieldLink "CliffPlots$Prize" (20 : Nat) "CliffPlots$Prize" "day" "I") ∈ lw_all := lw_g (lw_at lw_m1 159 rfl) rfl
theorem q218 : (Jvm.Cond.lays "CliffPlots$Prize" "CliffPlots$Prize" "kind" "I") ∈ lw_all := lw_g (lw_at lw_m1 161 rfl) rfl
theorem q219 : (Jvm.Cond.soleField "CliffPlots$Prize" "kind") ∈ lw_all := lw_g (lw_at lw_m1 162 rfl) rfl
theorem q220 : (Jvm.Cond.lays "CliffPlots$Prize" "CliffPlots$Prize" "member" "I") ∈ lw_all := lw_g (lw_at lw_m1 163 rfl) rfl
theorem q221 : (Jvm.Cond.soleField "CliffPlots$Prize" "member") ∈ lw_all := lw_g (lw_at lw_m1 164 rfl) rfl
theorem q222 : (Jvm.Cond.lays "CliffPlots$Prize" "CliffPlots$Prize" "weight" "F") ∈ lw_all := lw_g (lw_at lw_m1 165 rfl) rfl
theorem q223 : (Jvm.Cond.soleField "CliffPlots$Prize" "weight") ∈ lw_all := lw_g (lw_at lw_m1 166 rfl) rfl
theorem q224 : (Jvm.Cond.lays "CliffPlots$Prize" "CliffPlots$Prize" "day" "I") ∈ lw_all := lw_g (lw_at lw_m1 167 rfl) rfl
theorem q225 : (Jvm.Cond.soleField "CliffPlots$Prize" "day") ∈ lw_all := lw_g (lw_at lw_m1 168 rfl) rfl
theorem q226 : (Jvm.Cond.superclass "CliffPlots$Prize" "java/lang/Object") ∈ lw_all := lw_g (lw_at lw_m1 169 rfl) rfl
theorem q490 : (Jvm.Cond.selects "CliffPlots$Prize" ({ cls := "java/lang/Object", name := "getClass", desc := "()Ljava/lang/Class;" } : Jvm.MethodName) ({ cls := "java/lang/Object", name := "getClass", desc := "()Ljava/lang/Class;" } : Jvm.MethodName)) ∈ lw_all := lw_g (lw_at lw_m2 193 rfl) rfl
theorem q623 : (Jvm.Cond.instanceMethod ({ cls := "CliffPlots$Prize", name := "take", desc := "(LCliffPlots$Prize;)V" } : Jvm.MethodName)) ∈ lw_all := lw_g (lw_at lw_m3 86 rfl) rfl
theorem q624 : (Jvm.Cond.selects "CliffPlots$Prize" ({ cls := "CliffPlots$Prize", name := "take", desc := "(LCliffPlots$Prize;)V" } : Jvm.MethodName) ({ cls := "CliffPlots$Prize", name := "take", desc := "(LCliffPlots$Prize;)V" } : Jvm.MethodName)) ∈ lw_all := lw_g (lw_at lw_m3 87 rfl) rfl
theorem q625 : (Jvm.Cond.code ({ cls := "CliffPlots$Prize", name := "take", desc := "(LCliffPlots$Prize;)V" } : Jvm.MethodName) prog_8_method_3_code (2 : Nat) (Option.none : Option Jvm.ClassFile.FieldType)) ∈ lw_all := lw_g (lw_at lw_m3 88 rfl) rfl
theorem q626 : (Jvm.Cond.methodLink "CliffPlots$Prize" (23 : Nat) ({ cls := "CliffPlots$Prize", name := "is", desc := "(IIFI)V" } : Jvm.MethodName)) ∈ lw_all := lw_g (lw_at lw_m3 89 rfl) rfl
theorem q627 : (Jvm.Cond.instanceMethod ({ cls := "CliffPlots$Prize", name := "is", desc := "(IIFI)V" } : Jvm.MethodName)) ∈ lw_all := lw_g (lw_at lw_m3 90 rfl) rfl
theorem q628 : (Jvm.Cond.selects "CliffPlots$Prize" ({ cls := "CliffPlots$Prize", name := "is", desc := "(IIFI)V" } : Jvm.MethodName) ({ cls := "CliffPlots$Prize", name := "is", desc := "(IIFI)V" } : Jvm.MethodName)) ∈ lw_all := lw_g (lw_at lw_m3 91 rfl) rfl
theorem q629 : (Jvm.Cond.code ({ cls := "CliffPlots$Prize", name := "is", desc := "(IIFI)V" } : Jvm.MethodName) prog_8_method_2_code (5 : Nat) (Option.none : Option Jvm.ClassFile.FieldType)) ∈ lw_all := lw_g (lw_at lw_m3 92 rfl) rfl
theorem q2112 : (Jvm.Cond.castable "CliffPlots$Prize" "java/lang/Object") ∈ lw_tbl := lw_at lw_m9 135 rfl
theorem in_X8 : ∀ w ∈ wsX80, w ∈ lw_all := lw_in wsX80 [218, 220, 222, 224] (by decide +kernel) (by decide +kernel)
/-! CliffPlots$Refused -/
set_option maxRecDepth 100000
def RX11 : String := "CliffPlots$Refused"
def TX11 : u_T := fun k => match k with
  | 0 => ("java/lang/Throwable", "cause", "Ljava/lang/Throwable;", false)
  | 1 => ("java/lang/Throwable", "stackTrace", "[Ljava/lang/StackTraceElement;", false)
  | 2 => ("java/lang/Throwable", "suppressedExceptions", "Ljava/util/List;", false)
  | 3 => ("java/lang/Throwable", "detailMessage", "Ljava/lang/String;", false)
  | 4 => ("java/lang/Throwable", "backtrace", "Ljava/lang/Object;", false)
  | 5 => ("java/lang/Throwable", "depth", "I", false)
  | 6 => ("CliffPlots$Refused", "reason", "I", true)
  | _ => ("CliffPlots$Refused", "detail", "I", true)
def tyX11 : Nat → FieldType := fun k => match k with
  | 0 => .object "java/lang/Throwable"
  | 1 => .array (.object "java/lang/StackTraceElement")
  | 2 => .object "java/util/List"
  | 3 => .object "java/lang/String"
  | 4 => .object "java/lang/Object"
  | 5 => .int
  | 6 => .int
  | _ => .int
abbrev wsX110 : List Cond := u_ws RX11 TX11 8
theorem nmX11 : ∀ a, a < 8 → ∀ b, b < 8 → a ≠ b → (TX11 a).2.1 ≠ (TX11 b).2.1 := by decide +kernel
theorem tyX11_ok : ∀ k, k < 8 → parseFieldDescriptor (TX11 k).2.2.1 = some (tyX11 k) := by decide +kernel
abbrev cX11_init : ByteArray := prog_10_method_1_code
def yX11_init : MethodName := ⟨RX11, "<init>", "(II)V"⟩
def dkwX11_init_0 : List UInt8 := [42, 183, 0, 1, 42, 27, 181, 0, 7, 42, 28, 181, 0, 13, 177]
abbrev dktX11_init_0 : List UInt8 := dkwX11_init_0 ++ []
theorem dksX11_init_0 : cX11_init.data.toList.drop 0 = dktX11_init_0 := by decide +kernel
theorem dX11_init_0 : decode cX11_init 0 = .ok (.aload_n 0, 1) := dk_42 (dk_at dksX11_init_0 0 rfl rfl)
theorem dX11_init_1 : decode cX11_init 1 = .ok (.invokespecial 1, 3) := dk_183 0 1 (dk_at dksX11_init_0 1 rfl rfl)
theorem dX11_init_4 : decode cX11_init 4 = .ok (.aload_n 0, 1) := dk_42 (dk_at dksX11_init_0 4 rfl rfl)
theorem dX11_init_5 : decode cX11_init 5 = .ok (.iload_n 1, 1) := dk_27 (dk_at dksX11_init_0 5 rfl rfl)
theorem dX11_init_6 : decode cX11_init 6 = .ok (.putfield 7, 3) := dk_181 0 7 (dk_at dksX11_init_0 6 rfl rfl)
theorem dX11_init_9 : decode cX11_init 9 = .ok (.aload_n 0, 1) := dk_42 (dk_at dksX11_init_0 9 rfl rfl)
theorem dX11_init_10 : decode cX11_init 10 = .ok (.iload_n 2, 1) := dk_28 (dk_at dksX11_init_0 10 rfl rfl)
theorem dX11_init_11 : decode cX11_init 11 = .ok (.putfield 13, 3) := dk_181 0 13 (dk_at dksX11_init_0 11 rfl rfl)
theorem dX11_init_14 : decode cX11_init 14 = .ok (.return_, 1) := dk_177 (dk_at dksX11_init_0 14 rfl rfl)
theorem q82 : (Jvm.Cond.initialized "CliffPlots$Refused") ∈ lw_all := lw_g (lw_at lw_m1 25 rfl) rfl
theorem q437 : (Jvm.Cond.selects "CliffPlots$Refused" ({ cls := "java/lang/Throwable", name := "fillInStackTrace", desc := "()Ljava/lang/Throwable;" } : Jvm.MethodName) ({ cls := "java/lang/Throwable", name := "fillInStackTrace", desc := "()Ljava/lang/Throwable;" } : Jvm.MethodName)) ∈ lw_all := lw_g (lw_at lw_m2 140 rfl) rfl
theorem q492 : (Jvm.Cond.selects "CliffPlots$Refused" ({ cls := "java/lang/Object", name := "getClass", desc := "()Ljava/lang/Class;" } : Jvm.MethodName) ({ cls := "java/lang/Object", name := "getClass", desc := "()Ljava/lang/Class;" } : Jvm.MethodName)) ∈ lw_all := lw_g (lw_at lw_m2 195 rfl) rfl
theorem q753 : (Jvm.Cond.instantiable "CliffPlots$Refused" (8 : Nat)) ∈ lw_all := lw_g (lw_at lw_m3 216 rfl) rfl
theorem q754 : (Jvm.Cond.castable "CliffPlots$Refused" "CliffPlots$Refused") ∈ lw_tbl := lw_at lw_m3 217 rfl
theorem q755 : (Jvm.Cond.selects "CliffPlots$Refused" ({ cls := "java/lang/Throwable", name := "fillInStackTrace", desc := "(I)Ljava/lang/Throwable;" } : Jvm.MethodName) ({ cls := "java/lang/Throwable", name := "fillInStackTrace", desc := "(I)Ljava/lang/Throwable;" } : Jvm.MethodName)) ∈ lw_all := lw_g (lw_at lw_m3 218 rfl) rfl
theorem q756 : (Jvm.Cond.lays "CliffPlots$Refused" "java/lang/Throwable" "cause" "Ljava/lang/Throwable;") ∈ lw_all := lw_g (lw_at lw_m3 219 rfl) rfl
theorem q757 : (Jvm.Cond.lays "CliffPlots$Refused" "java/lang/Throwable" "stackTrace" "[Ljava/lang/StackTraceElement;") ∈ lw_all := lw_g (lw_at lw_m3 220 rfl) rfl
theorem q758 : (Jvm.Cond.lays "CliffPlots$Refused" "java/lang/Throwable" "suppressedExceptions" "Ljava/util/List;") ∈ lw_all := lw_g (lw_at lw_m3 221 rfl) rfl
theorem q759 : (Jvm.Cond.lays "CliffPlots$Refused" "java/lang/Throwable" "detailMessage" "Ljava/lang/String;") ∈ lw_all := lw_g (lw_at lw_m3 222 rfl) rfl
theorem q760 : (Jvm.Cond.lays "CliffPlots$Refused" "java/lang/Throwable" "backtrace" "Ljava/lang/Object;") ∈ lw_all := lw_g (lw_at lw_m3 223 rfl) rfl
theorem q762 : (Jvm.Cond.instanceMethod ({ cls := "CliffPlots$Refused", name := "<init>", desc := "(II)V" } : Jvm.MethodName)) ∈ lw_all := lw_g (lw_at lw_m3 225 rfl) rfl
theorem q763 : (Jvm.Cond.code ({ cls := "CliffPlots$Refused", name := "<init>", desc := "(II)V" } : Jvm.MethodName) prog_10_method_1_code (3 : Nat) (Option.none : Option Jvm.ClassFile.FieldType)) ∈ lw_all := lw_g (lw_at lw_m3 226 rfl) rfl
theorem q764 : (Jvm.Cond.methodLink "CliffPlots$Refused" (1 : Nat) ({ cls := "java/lang/Exception", name := "<init>", desc := "()V" } : Jvm.MethodName)) ∈ lw_all := lw_g (lw_at lw_m3 227 rfl) rfl
theorem q765 : (Jvm.Cond.fieldLink "CliffPlots$Refused" (7 : Nat) "CliffPlots$Refused" "reason" "I") ∈ lw_all := lw_g (lw_at lw_m3 228 rfl) rfl
theorem q767 : (Jvm.Cond.fieldLink "CliffPlots$Refused" (13 : Nat) "CliffPlots$Refused" "detail" "I") ∈ lw_all := lw_g (lw_at lw_m3 230 rfl) rfl
theorem q769 : (Jvm.Cond.laysFinal "CliffPlots$Refused" "CliffPlots$Refused" "reason" "I") ∈ lw_all := lw_g (lw_at lw_m3 232 rfl) rfl
theorem q770 : (Jvm.Cond.soleField "CliffPlots$Refused" "reason") ∈ lw_all := lw_g (lw_at lw_m3 233 rfl) rfl
theorem q771 : (Jvm.Cond.laysFinal "CliffPlots$Refused" "CliffPlots$Refused" "detail" "I") ∈ lw_all := lw_g (lw_at lw_m3 234 rfl) rfl
theorem q772 : (Jvm.Cond.soleField "CliffPlots$Refused" "detail") ∈ lw_all := lw_g (lw_at lw_m3 235 rfl) rfl
theorem q773 : (Jvm.Cond.lays "CliffPlots$Refused" "java/lang/Throwable" "depth" "I") ∈ lw_all := lw_g (lw_at lw_m3 236 rfl) rfl
theorem q774 : (Jvm.Cond.superclass "CliffPlots$Refused" "java/lang/Exception") ∈ lw_all := lw_g (lw_at lw_m3 237 rfl) rfl
theorem q2121 : (Jvm.Cond.castable "CliffPlots$Refused" "java/lang/Object") ∈ lw_tbl := lw_at lw_m9 144 rfl
theorem in_X11 : ∀ w ∈ wsX110, w ∈ lw_all := lw_in wsX110 [756, 757, 758, 759, 760, 773, 769, 771] (by decide +kernel) (by decide +kernel)
/-! CliffPlots$Fault -/
set_option maxRecDepth 100000
def RX12 : String := "CliffPlots$Fault"
def TX12 : u_T := fun k => match k with
  | 0 => ("java/lang/Throwable", "cause", "Ljava/lang/Throwable;", false)
  | 1 => ("java/lang/Throwable", "stackTrace", "[Ljava/lang/StackTraceElement;", false)
  | 2 => ("java/lang/Throwable", "suppressedExceptions", "Ljava/util/List;", false)
  | 3 => ("java/lang/Throwable", "detailMessage", "Ljava/lang/String;", false)
  | 4 => ("java/lang/Throwable", "backtrace", "Ljava/lang/Object;", false)
  | 5 => ("java/lang/Throwable", "depth", "I", false)
  | _ => ("CliffPlots$Fault", "position", "I", true)
def tyX12 : Nat → FieldType := fun k => match k with
  | 0 => .object "java/lang/Throwable"
  | 1 => .array (.object "java/lang/StackTraceElement")
  | 2 => .object "java/util/List"
  | 3 => .object "java/lang/String"
  | 4 => .object "java/lang/Object"
  | 5 => .int
  | _ => .int
abbrev wsX120 : List Cond := u_ws RX12 TX12 7
theorem nmX12 : ∀ a, a < 7 → ∀ b, b < 7 → a ≠ b → (TX12 a).2.1 ≠ (TX12 b).2.1 := by decide +kernel
theorem tyX12_ok : ∀ k, k < 7 → parseFieldDescriptor (TX12 k).2.2.1 = some (tyX12 k) := by decide +kernel
abbrev cX12_init : ByteArray := prog_4_method_1_code
def yX12_init : MethodName := ⟨RX12, "<init>", "(I)V"⟩
def dkwX12_init_0 : List UInt8 := [42, 183, 0, 1, 42, 27, 181, 0, 7, 177]
abbrev dktX12_init_0 : List UInt8 := dkwX12_init_0 ++ []
theorem dksX12_init_0 : cX12_init.data.toList.drop 0 = dktX12_init_0 := by decide +kernel
theorem dX12_init_0 : decode cX12_init 0 = .ok (.aload_n 0, 1) := dk_42 (dk_at dksX12_init_0 0 rfl rfl)
theorem dX12_init_1 : decode cX12_init 1 = .ok (.invokespecial 1, 3) := dk_183 0 1 (dk_at dksX12_init_0 1 rfl rfl)
theorem dX12_init_4 : decode cX12_init 4 = .ok (.aload_n 0, 1) := dk_42 (dk_at dksX12_init_0 4 rfl rfl)
theorem dX12_init_5 : decode cX12_init 5 = .ok (.iload_n 1, 1) := dk_27 (dk_at dksX12_init_0 5 rfl rfl)
theorem dX12_init_6 : decode cX12_init 6 = .ok (.putfield 7, 3) := dk_181 0 7 (dk_at dksX12_init_0 6 rfl rfl)
theorem dX12_init_9 : decode cX12_init 9 = .ok (.return_, 1) := dk_177 (dk_at dksX12_init_0 9 rfl rfl)
theorem q93 : (Jvm.Cond.initialized "CliffPlots$Fault") ∈ lw_all := lw_g (lw_at lw_m1 36 rfl) rfl
theorem q436 : (Jvm.Cond.selects "CliffPlots$Fault" ({ cls := "java/lang/Throwable", name := "fillInStackTrace", desc := "()Ljava/lang/Throwable;" } : Jvm.MethodName) ({ cls := "java/lang/Throwable", name := "fillInStackTrace", desc := "()Ljava/lang/Throwable;" } : Jvm.MethodName)) ∈ lw_all := lw_g (lw_at lw_m2 139 rfl) rfl
theorem q487 : (Jvm.Cond.selects "CliffPlots$Fault" ({ cls := "java/lang/Object", name := "getClass", desc := "()Ljava/lang/Class;" } : Jvm.MethodName) ({ cls := "java/lang/Object", name := "getClass", desc := "()Ljava/lang/Class;" } : Jvm.MethodName)) ∈ lw_all := lw_g (lw_at lw_m2 190 rfl) rfl
theorem q1392 : (Jvm.Cond.instantiable "CliffPlots$Fault" (7 : Nat)) ∈ lw_all := lw_g (lw_at lw_m6 135 rfl) rfl
theorem q1393 : (Jvm.Cond.castable "CliffPlots$Fault" "CliffPlots$Fault") ∈ lw_tbl := lw_at lw_m6 136 rfl
theorem q1394 : (Jvm.Cond.selects "CliffPlots$Fault" ({ cls := "java/lang/Throwable", name := "fillInStackTrace", desc := "(I)Ljava/lang/Throwable;" } : Jvm.MethodName) ({ cls := "java/lang/Throwable", name := "fillInStackTrace", desc := "(I)Ljava/lang/Throwable;" } : Jvm.MethodName)) ∈ lw_all := lw_g (lw_at lw_m6 137 rfl) rfl
theorem q1395 : (Jvm.Cond.lays "CliffPlots$Fault" "java/lang/Throwable" "cause" "Ljava/lang/Throwable;") ∈ lw_all := lw_g (lw_at lw_m6 138 rfl) rfl
theorem q1396 : (Jvm.Cond.lays "CliffPlots$Fault" "java/lang/Throwable" "stackTrace" "[Ljava/lang/StackTraceElement;") ∈ lw_all := lw_g (lw_at lw_m6 139 rfl) rfl
theorem q1397 : (Jvm.Cond.lays "CliffPlots$Fault" "java/lang/Throwable" "suppressedExceptions" "Ljava/util/List;") ∈ lw_all := lw_g (lw_at lw_m6 140 rfl) rfl
theorem q1398 : (Jvm.Cond.lays "CliffPlots$Fault" "java/lang/Throwable" "detailMessage" "Ljava/lang/String;") ∈ lw_all := lw_g (lw_at lw_m6 141 rfl) rfl
theorem q1399 : (Jvm.Cond.lays "CliffPlots$Fault" "java/lang/Throwable" "backtrace" "Ljava/lang/Object;") ∈ lw_all := lw_g (lw_at lw_m6 142 rfl) rfl
theorem q1401 : (Jvm.Cond.instanceMethod ({ cls := "CliffPlots$Fault", name := "<init>", desc := "(I)V" } : Jvm.MethodName)) ∈ lw_all := lw_g (lw_at lw_m6 144 rfl) rfl
theorem q1402 : (Jvm.Cond.code ({ cls := "CliffPlots$Fault", name := "<init>", desc := "(I)V" } : Jvm.MethodName) prog_4_method_1_code (2 : Nat) (Option.none : Option Jvm.ClassFile.FieldType)) ∈ lw_all := lw_g (lw_at lw_m6 145 rfl) rfl
theorem q1403 : (Jvm.Cond.methodLink "CliffPlots$Fault" (1 : Nat) ({ cls := "java/lang/RuntimeException", name := "<init>", desc := "()V" } : Jvm.MethodName)) ∈ lw_all := lw_g (lw_at lw_m6 146 rfl) rfl
theorem q1404 : (Jvm.Cond.fieldLink "CliffPlots$Fault" (7 : Nat) "CliffPlots$Fault" "position" "I") ∈ lw_all := lw_g (lw_at lw_m6 147 rfl) rfl
theorem q1406 : (Jvm.Cond.laysFinal "CliffPlots$Fault" "CliffPlots$Fault" "position" "I") ∈ lw_all := lw_g (lw_at lw_m6 149 rfl) rfl
theorem q1407 : (Jvm.Cond.soleField "CliffPlots$Fault" "position") ∈ lw_all := lw_g (lw_at lw_m6 150 rfl) rfl
theorem q1408 : (Jvm.Cond.lays "CliffPlots$Fault" "java/lang/Throwable" "depth" "I") ∈ lw_all := lw_g (lw_at lw_m6 151 rfl) rfl
theorem q1409 : (Jvm.Cond.superclass "CliffPlots$Fault" "java/lang/RuntimeException") ∈ lw_all := lw_g (lw_at lw_m6 152 rfl) rfl
theorem q2127 : (Jvm.Cond.castable "CliffPlots$Fault" "java/lang/Object") ∈ lw_tbl := lw_at lw_m9 150 rfl
theorem in_X12 : ∀ w ∈ wsX120, w ∈ lw_all := lw_in wsX120 [1395, 1396, 1397, 1398, 1399, 1408, 1406] (by decide +kernel) (by decide +kernel)
/-! CliffPlots$Reader -/
set_option maxRecDepth 100000
def RX9 : String := "CliffPlots$Reader"
def TX9 : u_T := fun k => match k with
  | 0 => ("CliffPlots$Reader", "text", "Ljava/lang/StringBuilder;", true)
  | 1 => ("CliffPlots$Reader", "at", "I", false)
  | 2 => ("CliffPlots$Reader", "many", "I", false)
  | 3 => ("CliffPlots$Reader", "letters", "[C", true)
  | 4 => ("CliffPlots$Reader", "first", "[I", true)
  | _ => ("CliffPlots$Reader", "second", "[I", true)
def tyX9 : Nat → FieldType := fun k => match k with
  | 0 => .object "java/lang/StringBuilder"
  | 1 => .int
  | 2 => .int
  | 3 => .array .char
  | 4 => .array .int
  | _ => .array .int
abbrev wsX90 : List Cond := u_ws RX9 TX9 6
theorem nmX9 : ∀ a, a < 6 → ∀ b, b < 6 → a ≠ b → (TX9 a).2.1 ≠ (TX9 b).2.1 := by decide +kernel
theorem tyX9_ok : ∀ k, k < 6 → parseFieldDescriptor (TX9 k).2.2.1 = some (tyX9 k) := by decide +kernel
abbrev cX9_init : ByteArray := prog_9_method_1_code
def yX9_init : MethodName := ⟨RX9, "<init>", "(Ljava/lang/StringBuilder;)V"⟩
def dkwX9_init_1 : List UInt8 := [188, 10, 181, 0, 19, 42, 43, 181, 0, 22, 177]
abbrev dktX9_init_1 : List UInt8 := dkwX9_init_1 ++ []
def dkwX9_init_0 : List UInt8 := [42, 183, 0, 3, 42, 16, 60, 188, 5, 181, 0, 9, 42, 16, 60, 188, 10, 181, 0, 15, 42, 16, 60]
abbrev dktX9_init_0 : List UInt8 := dkwX9_init_0 ++ dktX9_init_1
theorem dksX9_init_0 : cX9_init.data.toList.drop 0 = dktX9_init_0 := by decide +kernel
theorem dksX9_init_1 : cX9_init.data.toList.drop 23 = dktX9_init_1 := dk_seg dksX9_init_0 23 rfl rfl
theorem dX9_init_0 : decode cX9_init 0 = .ok (.aload_n 0, 1) := dk_42 (dk_at dksX9_init_0 0 rfl rfl)
theorem dX9_init_1 : decode cX9_init 1 = .ok (.invokespecial 3, 3) := dk_183 0 3 (dk_at dksX9_init_0 1 rfl rfl)
theorem dX9_init_4 : decode cX9_init 4 = .ok (.aload_n 0, 1) := dk_42 (dk_at dksX9_init_0 4 rfl rfl)
theorem dX9_init_5 : decode cX9_init 5 = .ok (.bipush 60, 2) := dk_16 60 (dk_at dksX9_init_0 5 rfl rfl)
theorem dX9_init_7 : decode cX9_init 7 = .ok (.newarray .char, 2) := dk_188_5 (dk_at dksX9_init_0 7 rfl rfl)
theorem dX9_init_9 : decode cX9_init 9 = .ok (.putfield 9, 3) := dk_181 0 9 (dk_at dksX9_init_0 9 rfl rfl)
theorem dX9_init_12 : decode cX9_init 12 = .ok (.aload_n 0, 1) := dk_42 (dk_at dksX9_init_0 12 rfl rfl)
theorem dX9_init_13 : decode cX9_init 13 = .ok (.bipush 60, 2) := dk_16 60 (dk_at dksX9_init_0 13 rfl rfl)
theorem dX9_init_15 : decode cX9_init 15 = .ok (.newarray .int, 2) := dk_188_10 (dk_at dksX9_init_0 15 rfl rfl)
theorem dX9_init_17 : decode cX9_init 17 = .ok (.putfield 15, 3) := dk_181 0 15 (dk_at dksX9_init_0 17 rfl rfl)
theorem dX9_init_20 : decode cX9_init 20 = .ok (.aload_n 0, 1) := dk_42 (dk_at dksX9_init_0 20 rfl rfl)
theorem dX9_init_21 : decode cX9_init 21 = .ok (.bipush 60, 2) := dk_16 60 (dk_at dksX9_init_0 21 rfl rfl)
theorem dX9_init_23 : decode cX9_init 23 = .ok (.newarray .int, 2) := dk_188_10 (dk_at dksX9_init_1 0 rfl rfl)
theorem dX9_init_25 : decode cX9_init 25 = .ok (.putfield 19, 3) := dk_181 0 19 (dk_at dksX9_init_1 2 rfl rfl)
theorem dX9_init_28 : decode cX9_init 28 = .ok (.aload_n 0, 1) := dk_42 (dk_at dksX9_init_1 5 rfl rfl)
theorem dX9_init_29 : decode cX9_init 29 = .ok (.aload_n 1, 1) := dk_43 (dk_at dksX9_init_1 6 rfl rfl)
theorem dX9_init_30 : decode cX9_init 30 = .ok (.putfield 22, 3) := dk_181 0 22 (dk_at dksX9_init_1 7 rfl rfl)
theorem dX9_init_33 : decode cX9_init 33 = .ok (.return_, 1) := dk_177 (dk_at dksX9_init_1 10 rfl rfl)
abbrev cX9_read : ByteArray := prog_9_method_9_code
def yX9_read : MethodName := ⟨RX9, "read", "()V"⟩
def dkwX9_read_2 : List UInt8 := [191, 177]
abbrev dktX9_read_2 : List UInt8 := dkwX9_read_2 ++ []
def dkwX9_read_1 : List UInt8 := [180, 0, 26, 42, 180, 0, 22, 182, 0, 30, 162, 0, 15, 187, 0, 47, 89, 42, 180, 0, 26, 183, 0, 49]
abbrev dktX9_read_1 : List UInt8 := dkwX9_read_1 ++ dktX9_read_2
def dkwX9_read_0 : List UInt8 := [42, 3, 181, 0, 26, 42, 3, 181, 0, 59, 42, 182, 0, 72, 42, 16, 59, 182, 0, 43, 154, 255, 246, 42]
abbrev dktX9_read_0 : List UInt8 := dkwX9_read_0 ++ dktX9_read_1
theorem dksX9_read_0 : cX9_read.data.toList.drop 0 = dktX9_read_0 := by decide +kernel
theorem dksX9_read_1 : cX9_read.data.toList.drop 24 = dktX9_read_1 := dk_seg dksX9_read_0 24 rfl rfl
theorem dksX9_read_2 : cX9_read.data.toList.drop 48 = dktX9_read_2 := dk_seg dksX9_read_1 24 rfl rfl
theorem dX9_read_0 : decode cX9_read 0 = .ok (.aload_n 0, 1) := dk_42 (dk_at dksX9_read_0 0 rfl rfl)
theorem dX9_read_1 : decode cX9_read 1 = .ok (.iconst 0, 1) := dk_3 (dk_at dksX9_read_0 1 rfl rfl)
theorem dX9_read_2 : decode cX9_read 2 = .ok (.putfield 26, 3) := dk_181 0 26 (dk_at dksX9_read_0 2 rfl rfl)
theorem dX9_read_5 : decode cX9_read 5 = .ok (.aload_n 0, 1) := dk_42 (dk_at dksX9_read_0 5 rfl rfl)
theorem dX9_read_6 : decode cX9_read 6 = .ok (.iconst 0, 1) := dk_3 (dk_at dksX9_read_0 6 rfl rfl)
theorem dX9_read_7 : decode cX9_read 7 = .ok (.putfield 59, 3) := dk_181 0 59 (dk_at dksX9_read_0 7 rfl rfl)
theorem dX9_read_10 : decode cX9_read 10 = .ok (.aload_n 0, 1) := dk_42 (dk_at dksX9_read_0 10 rfl rfl)
theorem dX9_read_11 : decode cX9_read 11 = .ok (.invokevirtual 72, 3) := dk_182 0 72 (dk_at dksX9_read_0 11 rfl rfl)
theorem dX9_read_14 : decode cX9_read 14 = .ok (.aload_n 0, 1) := dk_42 (dk_at dksX9_read_0 14 rfl rfl)
theorem dX9_read_15 : decode cX9_read 15 = .ok (.bipush 59, 2) := dk_16 59 (dk_at dksX9_read_0 15 rfl rfl)
theorem dX9_read_17 : decode cX9_read 17 = .ok (.invokevirtual 43, 3) := dk_182 0 43 (dk_at dksX9_read_0 17 rfl rfl)
theorem dX9_read_20 : decode cX9_read 20 = .ok (.ifCond .ne (-10), 3) := dk_154 255 246 (dk_at dksX9_read_0 20 rfl rfl)
theorem dX9_read_23 : decode cX9_read 23 = .ok (.aload_n 0, 1) := dk_42 (dk_at dksX9_read_0 23 rfl rfl)
theorem dX9_read_24 : decode cX9_read 24 = .ok (.getfield 26, 3) := dk_180 0 26 (dk_at dksX9_read_1 0 rfl rfl)
theorem dX9_read_27 : decode cX9_read 27 = .ok (.aload_n 0, 1) := dk_42 (dk_at dksX9_read_1 3 rfl rfl)
theorem dX9_read_28 : decode cX9_read 28 = .ok (.getfield 22, 3) := dk_180 0 22 (dk_at dksX9_read_1 4 rfl rfl)
theorem dX9_read_31 : decode cX9_read 31 = .ok (.invokevirtual 30, 3) := dk_182 0 30 (dk_at dksX9_read_1 7 rfl rfl)
theorem dX9_read_34 : decode cX9_read 34 = .ok (.if_icmp .ge 15, 3) := dk_162 0 15 (dk_at dksX9_read_1 10 rfl rfl)
theorem dX9_read_37 : decode cX9_read 37 = .ok (.new 47, 3) := dk_187 0 47 (dk_at dksX9_read_1 13 rfl rfl)
theorem dX9_read_40 : decode cX9_read 40 = .ok (.dup, 1) := dk_89 (dk_at dksX9_read_1 16 rfl rfl)
theorem dX9_read_41 : decode cX9_read 41 = .ok (.aload_n 0, 1) := dk_42 (dk_at dksX9_read_1 17 rfl rfl)
theorem dX9_read_42 : decode cX9_read 42 = .ok (.getfield 26, 3) := dk_180 0 26 (dk_at dksX9_read_1 18 rfl rfl)
theorem dX9_read_45 : decode cX9_read 45 = .ok (.invokespecial 49, 3) := dk_183 0 49 (dk_at dksX9_read_1 21 rfl rfl)
theorem dX9_read_48 : decode cX9_read 48 = .ok (.athrow, 1) := dk_191 (dk_at dksX9_read_2 0 rfl rfl)
theorem dX9_read_49 : decode cX9_read 49 = .ok (.return_, 1) := dk_177 (dk_at dksX9_read_2 1 rfl rfl)
abbrev cX9_order : ByteArray := prog_9_method_8_code
def yX9_order : MethodName := ⟨RX9, "order", "()V"⟩
def dkwX9_order_10 : List UInt8 := [42, 180, 0, 59, 42, 182, 0, 62, 79, 42, 89, 180, 0, 59, 4, 96, 181, 0, 59, 177]
abbrev dktX9_order_10 : List UInt8 := dkwX9_order_10 ++ []
def dkwX9_order_9 : List UInt8 := [154, 0, 33, 42, 16, 112, 182, 0, 65, 42, 180, 0, 9, 42, 180, 0, 59, 16, 112, 85, 42, 180, 0, 15]
abbrev dktX9_order_9 : List UInt8 := dkwX9_order_9 ++ dktX9_order_10
def dkwX9_order_8 : List UInt8 := [180, 0, 59, 16, 99, 85, 167, 0, 51, 42, 16, 119, 182, 0, 68, 154, 0, 42, 42, 16, 110, 182, 0, 68]
abbrev dktX9_order_8 : List UInt8 := dkwX9_order_8 ++ dktX9_order_9
def dkwX9_order_7 : List UInt8 := [16, 43, 182, 0, 65, 167, 0, 74, 42, 16, 99, 182, 0, 43, 153, 0, 17, 42, 180, 0, 9, 42]
abbrev dktX9_order_7 : List UInt8 := dkwX9_order_7 ++ dktX9_order_8
def dkwX9_order_6 : List UInt8 := [153, 0, 7, 3, 167, 0, 4, 4, 79, 42, 180, 0, 19, 42, 180, 0, 59, 46, 4, 160, 0, 83, 42]
abbrev dktX9_order_6 : List UInt8 := dkwX9_order_6 ++ dktX9_order_7
def dkwX9_order_5 : List UInt8 := [180, 0, 59, 42, 182, 0, 56, 79, 42, 180, 0, 19, 42, 180, 0, 59, 42, 16, 45, 182, 0, 43]
abbrev dktX9_order_5 : List UInt8 := dkwX9_order_5 ++ dktX9_order_6
def dkwX9_order_4 : List UInt8 := [182, 0, 43, 153, 0, 72, 42, 180, 0, 9, 42, 180, 0, 59, 16, 118, 85, 42, 180, 0, 15, 42]
abbrev dktX9_order_4 : List UInt8 := dkwX9_order_4 ++ dktX9_order_5
def dkwX9_order_3 : List UInt8 := [16, 114, 85, 42, 180, 0, 15, 42, 180, 0, 59, 42, 182, 0, 56, 79, 167, 0, 152, 42, 16, 118]
abbrev dktX9_order_3 : List UInt8 := dkwX9_order_3 ++ dktX9_order_4
def dkwX9_order_2 : List UInt8 := [182, 0, 62, 79, 167, 0, 188, 42, 16, 114, 182, 0, 43, 153, 0, 30, 42, 180, 0, 9, 42, 180, 0, 59]
abbrev dktX9_order_2 : List UInt8 := dkwX9_order_2 ++ dktX9_order_3
def dkwX9_order_1 : List UInt8 := [42, 180, 0, 59, 42, 182, 0, 56, 79, 42, 16, 64, 182, 0, 65, 42, 180, 0, 19, 42, 180, 0, 59, 42]
abbrev dktX9_order_1 : List UInt8 := dkwX9_order_1 ++ dktX9_order_2
def dkwX9_order_0 : List UInt8 := [42, 16, 100, 182, 0, 43, 153, 0, 49, 42, 180, 0, 9, 42, 180, 0, 59, 16, 100, 85, 42, 180, 0, 15]
abbrev dktX9_order_0 : List UInt8 := dkwX9_order_0 ++ dktX9_order_1
theorem dksX9_order_0 : cX9_order.data.toList.drop 0 = dktX9_order_0 := by decide +kernel
theorem dksX9_order_1 : cX9_order.data.toList.drop 24 = dktX9_order_1 := dk_seg dksX9_order_0 24 rfl rfl
theorem dksX9_order_2 : cX9_order.data.toList.drop 48 = dktX9_order_2 := dk_seg dksX9_order_1 24 rfl rfl
theorem dksX9_order_3 : cX9_order.data.toList.drop 72 = dktX9_order_3 := dk_seg dksX9_order_2 24 rfl rfl
theorem dksX9_order_4 : cX9_order.data.toList.drop 94 = dktX9_order_4 := dk_seg dksX9_order_3 22 rfl rfl
theorem dksX9_order_5 : cX9_order.data.toList.drop 116 = dktX9_order_5 := dk_seg dksX9_order_4 22 rfl rfl
theorem dksX9_order_6 : cX9_order.data.toList.drop 138 = dktX9_order_6 := dk_seg dksX9_order_5 22 rfl rfl
theorem dksX9_order_7 : cX9_order.data.toList.drop 161 = dktX9_order_7 := dk_seg dksX9_order_6 23 rfl rfl
theorem dksX9_order_8 : cX9_order.data.toList.drop 183 = dktX9_order_8 := dk_seg dksX9_order_7 22 rfl rfl
theorem dksX9_order_9 : cX9_order.data.toList.drop 207 = dktX9_order_9 := dk_seg dksX9_order_8 24 rfl rfl
theorem dksX9_order_10 : cX9_order.data.toList.drop 231 = dktX9_order_10 := dk_seg dksX9_order_9 24 rfl rfl
theorem dX9_order_0 : decode cX9_order 0 = .ok (.aload_n 0, 1) := dk_42 (dk_at dksX9_order_0 0 rfl rfl)
theorem dX9_order_1 : decode cX9_order 1 = .ok (.bipush 100, 2) := dk_16 100 (dk_at dksX9_order_0 1 rfl rfl)
theorem dX9_order_3 : decode cX9_order 3 = .ok (.invokevirtual 43, 3) := dk_182 0 43 (dk_at dksX9_order_0 3 rfl rfl)
theorem dX9_order_6 : decode cX9_order 6 = .ok (.ifCond .eq 49, 3) := dk_153 0 49 (dk_at dksX9_order_0 6 rfl rfl)
theorem dX9_order_9 : decode cX9_order 9 = .ok (.aload_n 0, 1) := dk_42 (dk_at dksX9_order_0 9 rfl rfl)
theorem dX9_order_10 : decode cX9_order 10 = .ok (.getfield 9, 3) := dk_180 0 9 (dk_at dksX9_order_0 10 rfl rfl)
theorem dX9_order_13 : decode cX9_order 13 = .ok (.aload_n 0, 1) := dk_42 (dk_at dksX9_order_0 13 rfl rfl)
theorem dX9_order_14 : decode cX9_order 14 = .ok (.getfield 59, 3) := dk_180 0 59 (dk_at dksX9_order_0 14 rfl rfl)
theorem dX9_order_17 : decode cX9_order 17 = .ok (.bipush 100, 2) := dk_16 100 (dk_at dksX9_order_0 17 rfl rfl)
theorem dX9_order_19 : decode cX9_order 19 = .ok (.castore, 1) := dk_85 (dk_at dksX9_order_0 19 rfl rfl)
theorem dX9_order_20 : decode cX9_order 20 = .ok (.aload_n 0, 1) := dk_42 (dk_at dksX9_order_0 20 rfl rfl)
theorem dX9_order_21 : decode cX9_order 21 = .ok (.getfield 15, 3) := dk_180 0 15 (dk_at dksX9_order_0 21 rfl rfl)
theorem dX9_order_24 : decode cX9_order 24 = .ok (.aload_n 0, 1) := dk_42 (dk_at dksX9_order_1 0 rfl rfl)
theorem dX9_order_25 : decode cX9_order 25 = .ok (.getfield 59, 3) := dk_180 0 59 (dk_at dksX9_order_1 1 rfl rfl)
theorem dX9_order_28 : decode cX9_order 28 = .ok (.aload_n 0, 1) := dk_42 (dk_at dksX9_order_1 4 rfl rfl)
theorem dX9_order_29 : decode cX9_order 29 = .ok (.invokevirtual 56, 3) := dk_182 0 56 (dk_at dksX9_order_1 5 rfl rfl)
theorem dX9_order_32 : decode cX9_order 32 = .ok (.iastore, 1) := dk_79 (dk_at dksX9_order_1 8 rfl rfl)
theorem dX9_order_33 : decode cX9_order 33 = .ok (.aload_n 0, 1) := dk_42 (dk_at dksX9_order_1 9 rfl rfl)
theorem dX9_order_34 : decode cX9_order 34 = .ok (.bipush 64, 2) := dk_16 64 (dk_at dksX9_order_1 10 rfl rfl)
theorem dX9_order_36 : decode cX9_order 36 = .ok (.invokevirtual 65, 3) := dk_182 0 65 (dk_at dksX9_order_1 12 rfl rfl)
theorem dX9_order_39 : decode cX9_order 39 = .ok (.aload_n 0, 1) := dk_42 (dk_at dksX9_order_1 15 rfl rfl)
theorem dX9_order_40 : decode cX9_order 40 = .ok (.getfield 19, 3) := dk_180 0 19 (dk_at dksX9_order_1 16 rfl rfl)
theorem dX9_order_43 : decode cX9_order 43 = .ok (.aload_n 0, 1) := dk_42 (dk_at dksX9_order_1 19 rfl rfl)
theorem dX9_order_44 : decode cX9_order 44 = .ok (.getfield 59, 3) := dk_180 0 59 (dk_at dksX9_order_1 20 rfl rfl)
theorem dX9_order_47 : decode cX9_order 47 = .ok (.aload_n 0, 1) := dk_42 (dk_at dksX9_order_1 23 rfl rfl)
theorem dX9_order_48 : decode cX9_order 48 = .ok (.invokevirtual 62, 3) := dk_182 0 62 (dk_at dksX9_order_2 0 rfl rfl)
theorem dX9_order_51 : decode cX9_order 51 = .ok (.iastore, 1) := dk_79 (dk_at dksX9_order_2 3 rfl rfl)
theorem dX9_order_52 : decode cX9_order 52 = .ok (.goto 188, 3) := dk_167 0 188 (dk_at dksX9_order_2 4 rfl rfl)
theorem dX9_order_55 : decode cX9_order 55 = .ok (.aload_n 0, 1) := dk_42 (dk_at dksX9_order_2 7 rfl rfl)
theorem dX9_order_56 : decode cX9_order 56 = .ok (.bipush 114, 2) := dk_16 114 (dk_at dksX9_order_2 8 rfl rfl)
theorem dX9_order_58 : decode cX9_order 58 = .ok (.invokevirtual 43, 3) := dk_182 0 43 (dk_at dksX9_order_2 10 rfl rfl)
theorem dX9_order_61 : decode cX9_order 61 = .ok (.ifCond .eq 30, 3) := dk_153 0 30 (dk_at dksX9_order_2 13 rfl rfl)
theorem dX9_order_64 : decode cX9_order 64 = .ok (.aload_n 0, 1) := dk_42 (dk_at dksX9_order_2 16 rfl rfl)
theorem dX9_order_65 : decode cX9_order 65 = .ok (.getfield 9, 3) := dk_180 0 9 (dk_at dksX9_order_2 17 rfl rfl)
theorem dX9_order_68 : decode cX9_order 68 = .ok (.aload_n 0, 1) := dk_42 (dk_at dksX9_order_2 20 rfl rfl)
theorem dX9_order_69 : decode cX9_order 69 = .ok (.getfield 59, 3) := dk_180 0 59 (dk_at dksX9_order_2 21 rfl rfl)
theorem dX9_order_72 : decode cX9_order 72 = .ok (.bipush 114, 2) := dk_16 114 (dk_at dksX9_order_3 0 rfl rfl)
theorem dX9_order_74 : decode cX9_order 74 = .ok (.castore, 1) := dk_85 (dk_at dksX9_order_3 2 rfl rfl)
theorem dX9_order_75 : decode cX9_order 75 = .ok (.aload_n 0, 1) := dk_42 (dk_at dksX9_order_3 3 rfl rfl)
theorem dX9_order_76 : decode cX9_order 76 = .ok (.getfield 15, 3) := dk_180 0 15 (dk_at dksX9_order_3 4 rfl rfl)
theorem dX9_order_79 : decode cX9_order 79 = .ok (.aload_n 0, 1) := dk_42 (dk_at dksX9_order_3 7 rfl rfl)
theorem dX9_order_80 : decode cX9_order 80 = .ok (.getfield 59, 3) := dk_180 0 59 (dk_at dksX9_order_3 8 rfl rfl)
theorem dX9_order_83 : decode cX9_order 83 = .ok (.aload_n 0, 1) := dk_42 (dk_at dksX9_order_3 11 rfl rfl)
theorem dX9_order_84 : decode cX9_order 84 = .ok (.invokevirtual 56, 3) := dk_182 0 56 (dk_at dksX9_order_3 12 rfl rfl)
theorem dX9_order_87 : decode cX9_order 87 = .ok (.iastore, 1) := dk_79 (dk_at dksX9_order_3 15 rfl rfl)
theorem dX9_order_88 : decode cX9_order 88 = .ok (.goto 152, 3) := dk_167 0 152 (dk_at dksX9_order_3 16 rfl rfl)
theorem dX9_order_91 : decode cX9_order 91 = .ok (.aload_n 0, 1) := dk_42 (dk_at dksX9_order_3 19 rfl rfl)
theorem dX9_order_92 : decode cX9_order 92 = .ok (.bipush 118, 2) := dk_16 118 (dk_at dksX9_order_3 20 rfl rfl)
theorem dX9_order_94 : decode cX9_order 94 = .ok (.invokevirtual 43, 3) := dk_182 0 43 (dk_at dksX9_order_4 0 rfl rfl)
theorem dX9_order_97 : decode cX9_order 97 = .ok (.ifCond .eq 72, 3) := dk_153 0 72 (dk_at dksX9_order_4 3 rfl rfl)
theorem dX9_order_100 : decode cX9_order 100 = .ok (.aload_n 0, 1) := dk_42 (dk_at dksX9_order_4 6 rfl rfl)
theorem dX9_order_101 : decode cX9_order 101 = .ok (.getfield 9, 3) := dk_180 0 9 (dk_at dksX9_order_4 7 rfl rfl)
theorem dX9_order_104 : decode cX9_order 104 = .ok (.aload_n 0, 1) := dk_42 (dk_at dksX9_order_4 10 rfl rfl)
theorem dX9_order_105 : decode cX9_order 105 = .ok (.getfield 59, 3) := dk_180 0 59 (dk_at dksX9_order_4 11 rfl rfl)
theorem dX9_order_108 : decode cX9_order 108 = .ok (.bipush 118, 2) := dk_16 118 (dk_at dksX9_order_4 14 rfl rfl)
theorem dX9_order_110 : decode cX9_order 110 = .ok (.castore, 1) := dk_85 (dk_at dksX9_order_4 16 rfl rfl)
theorem dX9_order_111 : decode cX9_order 111 = .ok (.aload_n 0, 1) := dk_42 (dk_at dksX9_order_4 17 rfl rfl)
theorem dX9_order_112 : decode cX9_order 112 = .ok (.getfield 15, 3) := dk_180 0 15 (dk_at dksX9_order_4 18 rfl rfl)
theorem dX9_order_115 : decode cX9_order 115 = .ok (.aload_n 0, 1) := dk_42 (dk_at dksX9_order_4 21 rfl rfl)
theorem dX9_order_116 : decode cX9_order 116 = .ok (.getfield 59, 3) := dk_180 0 59 (dk_at dksX9_order_5 0 rfl rfl)
theorem dX9_order_119 : decode cX9_order 119 = .ok (.aload_n 0, 1) := dk_42 (dk_at dksX9_order_5 3 rfl rfl)
theorem dX9_order_120 : decode cX9_order 120 = .ok (.invokevirtual 56, 3) := dk_182 0 56 (dk_at dksX9_order_5 4 rfl rfl)
theorem dX9_order_123 : decode cX9_order 123 = .ok (.iastore, 1) := dk_79 (dk_at dksX9_order_5 7 rfl rfl)
theorem dX9_order_124 : decode cX9_order 124 = .ok (.aload_n 0, 1) := dk_42 (dk_at dksX9_order_5 8 rfl rfl)
theorem dX9_order_125 : decode cX9_order 125 = .ok (.getfield 19, 3) := dk_180 0 19 (dk_at dksX9_order_5 9 rfl rfl)
theorem dX9_order_128 : decode cX9_order 128 = .ok (.aload_n 0, 1) := dk_42 (dk_at dksX9_order_5 12 rfl rfl)
theorem dX9_order_129 : decode cX9_order 129 = .ok (.getfield 59, 3) := dk_180 0 59 (dk_at dksX9_order_5 13 rfl rfl)
theorem dX9_order_132 : decode cX9_order 132 = .ok (.aload_n 0, 1) := dk_42 (dk_at dksX9_order_5 16 rfl rfl)
theorem dX9_order_133 : decode cX9_order 133 = .ok (.bipush 45, 2) := dk_16 45 (dk_at dksX9_order_5 17 rfl rfl)
theorem dX9_order_135 : decode cX9_order 135 = .ok (.invokevirtual 43, 3) := dk_182 0 43 (dk_at dksX9_order_5 19 rfl rfl)
theorem dX9_order_138 : decode cX9_order 138 = .ok (.ifCond .eq 7, 3) := dk_153 0 7 (dk_at dksX9_order_6 0 rfl rfl)
theorem dX9_order_141 : decode cX9_order 141 = .ok (.iconst 0, 1) := dk_3 (dk_at dksX9_order_6 3 rfl rfl)
theorem dX9_order_142 : decode cX9_order 142 = .ok (.goto 4, 3) := dk_167 0 4 (dk_at dksX9_order_6 4 rfl rfl)
theorem dX9_order_145 : decode cX9_order 145 = .ok (.iconst 1, 1) := dk_4 (dk_at dksX9_order_6 7 rfl rfl)
theorem dX9_order_146 : decode cX9_order 146 = .ok (.iastore, 1) := dk_79 (dk_at dksX9_order_6 8 rfl rfl)
theorem dX9_order_147 : decode cX9_order 147 = .ok (.aload_n 0, 1) := dk_42 (dk_at dksX9_order_6 9 rfl rfl)
theorem dX9_order_148 : decode cX9_order 148 = .ok (.getfield 19, 3) := dk_180 0 19 (dk_at dksX9_order_6 10 rfl rfl)
theorem dX9_order_151 : decode cX9_order 151 = .ok (.aload_n 0, 1) := dk_42 (dk_at dksX9_order_6 13 rfl rfl)
theorem dX9_order_152 : decode cX9_order 152 = .ok (.getfield 59, 3) := dk_180 0 59 (dk_at dksX9_order_6 14 rfl rfl)
theorem dX9_order_155 : decode cX9_order 155 = .ok (.iaload, 1) := dk_46 (dk_at dksX9_order_6 17 rfl rfl)
theorem dX9_order_156 : decode cX9_order 156 = .ok (.iconst 1, 1) := dk_4 (dk_at dksX9_order_6 18 rfl rfl)
theorem dX9_order_157 : decode cX9_order 157 = .ok (.if_icmp .ne 83, 3) := dk_160 0 83 (dk_at dksX9_order_6 19 rfl rfl)
theorem dX9_order_160 : decode cX9_order 160 = .ok (.aload_n 0, 1) := dk_42 (dk_at dksX9_order_6 22 rfl rfl)
theorem dX9_order_161 : decode cX9_order 161 = .ok (.bipush 43, 2) := dk_16 43 (dk_at dksX9_order_7 0 rfl rfl)
theorem dX9_order_163 : decode cX9_order 163 = .ok (.invokevirtual 65, 3) := dk_182 0 65 (dk_at dksX9_order_7 2 rfl rfl)
theorem dX9_order_166 : decode cX9_order 166 = .ok (.goto 74, 3) := dk_167 0 74 (dk_at dksX9_order_7 5 rfl rfl)
theorem dX9_order_169 : decode cX9_order 169 = .ok (.aload_n 0, 1) := dk_42 (dk_at dksX9_order_7 8 rfl rfl)
theorem dX9_order_170 : decode cX9_order 170 = .ok (.bipush 99, 2) := dk_16 99 (dk_at dksX9_order_7 9 rfl rfl)
theorem dX9_order_172 : decode cX9_order 172 = .ok (.invokevirtual 43, 3) := dk_182 0 43 (dk_at dksX9_order_7 11 rfl rfl)
theorem dX9_order_175 : decode cX9_order 175 = .ok (.ifCond .eq 17, 3) := dk_153 0 17 (dk_at dksX9_order_7 14 rfl rfl)
theorem dX9_order_178 : decode cX9_order 178 = .ok (.aload_n 0, 1) := dk_42 (dk_at dksX9_order_7 17 rfl rfl)
theorem dX9_order_179 : decode cX9_order 179 = .ok (.getfield 9, 3) := dk_180 0 9 (dk_at dksX9_order_7 18 rfl rfl)
theorem dX9_order_182 : decode cX9_order 182 = .ok (.aload_n 0, 1) := dk_42 (dk_at dksX9_order_7 21 rfl rfl)
theorem dX9_order_183 : decode cX9_order 183 = .ok (.getfield 59, 3) := dk_180 0 59 (dk_at dksX9_order_8 0 rfl rfl)
theorem dX9_order_186 : decode cX9_order 186 = .ok (.bipush 99, 2) := dk_16 99 (dk_at dksX9_order_8 3 rfl rfl)
theorem dX9_order_188 : decode cX9_order 188 = .ok (.castore, 1) := dk_85 (dk_at dksX9_order_8 5 rfl rfl)
theorem dX9_order_189 : decode cX9_order 189 = .ok (.goto 51, 3) := dk_167 0 51 (dk_at dksX9_order_8 6 rfl rfl)
theorem dX9_order_192 : decode cX9_order 192 = .ok (.aload_n 0, 1) := dk_42 (dk_at dksX9_order_8 9 rfl rfl)
theorem dX9_order_193 : decode cX9_order 193 = .ok (.bipush 119, 2) := dk_16 119 (dk_at dksX9_order_8 10 rfl rfl)
theorem dX9_order_195 : decode cX9_order 195 = .ok (.invokevirtual 68, 3) := dk_182 0 68 (dk_at dksX9_order_8 12 rfl rfl)
theorem dX9_order_198 : decode cX9_order 198 = .ok (.ifCond .ne 42, 3) := dk_154 0 42 (dk_at dksX9_order_8 15 rfl rfl)
theorem dX9_order_201 : decode cX9_order 201 = .ok (.aload_n 0, 1) := dk_42 (dk_at dksX9_order_8 18 rfl rfl)
theorem dX9_order_202 : decode cX9_order 202 = .ok (.bipush 110, 2) := dk_16 110 (dk_at dksX9_order_8 19 rfl rfl)
theorem dX9_order_204 : decode cX9_order 204 = .ok (.invokevirtual 68, 3) := dk_182 0 68 (dk_at dksX9_order_8 21 rfl rfl)
theorem dX9_order_207 : decode cX9_order 207 = .ok (.ifCond .ne 33, 3) := dk_154 0 33 (dk_at dksX9_order_9 0 rfl rfl)
theorem dX9_order_210 : decode cX9_order 210 = .ok (.aload_n 0, 1) := dk_42 (dk_at dksX9_order_9 3 rfl rfl)
theorem dX9_order_211 : decode cX9_order 211 = .ok (.bipush 112, 2) := dk_16 112 (dk_at dksX9_order_9 4 rfl rfl)
theorem dX9_order_213 : decode cX9_order 213 = .ok (.invokevirtual 65, 3) := dk_182 0 65 (dk_at dksX9_order_9 6 rfl rfl)
theorem dX9_order_216 : decode cX9_order 216 = .ok (.aload_n 0, 1) := dk_42 (dk_at dksX9_order_9 9 rfl rfl)
theorem dX9_order_217 : decode cX9_order 217 = .ok (.getfield 9, 3) := dk_180 0 9 (dk_at dksX9_order_9 10 rfl rfl)
theorem dX9_order_220 : decode cX9_order 220 = .ok (.aload_n 0, 1) := dk_42 (dk_at dksX9_order_9 13 rfl rfl)
theorem dX9_order_221 : decode cX9_order 221 = .ok (.getfield 59, 3) := dk_180 0 59 (dk_at dksX9_order_9 14 rfl rfl)
theorem dX9_order_224 : decode cX9_order 224 = .ok (.bipush 112, 2) := dk_16 112 (dk_at dksX9_order_9 17 rfl rfl)
theorem dX9_order_226 : decode cX9_order 226 = .ok (.castore, 1) := dk_85 (dk_at dksX9_order_9 19 rfl rfl)
theorem dX9_order_227 : decode cX9_order 227 = .ok (.aload_n 0, 1) := dk_42 (dk_at dksX9_order_9 20 rfl rfl)
theorem dX9_order_228 : decode cX9_order 228 = .ok (.getfield 15, 3) := dk_180 0 15 (dk_at dksX9_order_9 21 rfl rfl)
theorem dX9_order_231 : decode cX9_order 231 = .ok (.aload_n 0, 1) := dk_42 (dk_at dksX9_order_10 0 rfl rfl)
theorem dX9_order_232 : decode cX9_order 232 = .ok (.getfield 59, 3) := dk_180 0 59 (dk_at dksX9_order_10 1 rfl rfl)
theorem dX9_order_235 : decode cX9_order 235 = .ok (.aload_n 0, 1) := dk_42 (dk_at dksX9_order_10 4 rfl rfl)
theorem dX9_order_236 : decode cX9_order 236 = .ok (.invokevirtual 62, 3) := dk_182 0 62 (dk_at dksX9_order_10 5 rfl rfl)
theorem dX9_order_239 : decode cX9_order 239 = .ok (.iastore, 1) := dk_79 (dk_at dksX9_order_10 8 rfl rfl)
theorem dX9_order_240 : decode cX9_order 240 = .ok (.aload_n 0, 1) := dk_42 (dk_at dksX9_order_10 9 rfl rfl)
theorem dX9_order_241 : decode cX9_order 241 = .ok (.dup, 1) := dk_89 (dk_at dksX9_order_10 10 rfl rfl)
theorem dX9_order_242 : decode cX9_order 242 = .ok (.getfield 59, 3) := dk_180 0 59 (dk_at dksX9_order_10 11 rfl rfl)
theorem dX9_order_245 : decode cX9_order 245 = .ok (.iconst 1, 1) := dk_4 (dk_at dksX9_order_10 14 rfl rfl)
theorem dX9_order_246 : decode cX9_order 246 = .ok (.iadd, 1) := dk_96 (dk_at dksX9_order_10 15 rfl rfl)
theorem dX9_order_247 : decode cX9_order 247 = .ok (.putfield 59, 3) := dk_181 0 59 (dk_at dksX9_order_10 16 rfl rfl)
theorem dX9_order_250 : decode cX9_order 250 = .ok (.return_, 1) := dk_177 (dk_at dksX9_order_10 19 rfl rfl)
abbrev cX9_skip : ByteArray := prog_9_method_3_code
def yX9_skip : MethodName := ⟨RX9, "skip", "(I)Z"⟩
def dkwX9_skip_0 : List UInt8 := [42, 182, 0, 40, 27, 159, 0, 5, 3, 172, 42, 89, 180, 0, 26, 4, 96, 181, 0, 26, 4, 172]
abbrev dktX9_skip_0 : List UInt8 := dkwX9_skip_0 ++ []
theorem dksX9_skip_0 : cX9_skip.data.toList.drop 0 = dktX9_skip_0 := by decide +kernel
theorem dX9_skip_0 : decode cX9_skip 0 = .ok (.aload_n 0, 1) := dk_42 (dk_at dksX9_skip_0 0 rfl rfl)
theorem dX9_skip_1 : decode cX9_skip 1 = .ok (.invokevirtual 40, 3) := dk_182 0 40 (dk_at dksX9_skip_0 1 rfl rfl)
theorem dX9_skip_4 : decode cX9_skip 4 = .ok (.iload_n 1, 1) := dk_27 (dk_at dksX9_skip_0 4 rfl rfl)
theorem dX9_skip_5 : decode cX9_skip 5 = .ok (.if_icmp .eq 5, 3) := dk_159 0 5 (dk_at dksX9_skip_0 5 rfl rfl)
theorem dX9_skip_8 : decode cX9_skip 8 = .ok (.iconst 0, 1) := dk_3 (dk_at dksX9_skip_0 8 rfl rfl)
theorem dX9_skip_9 : decode cX9_skip 9 = .ok (.ireturn, 1) := dk_172 (dk_at dksX9_skip_0 9 rfl rfl)
theorem dX9_skip_10 : decode cX9_skip 10 = .ok (.aload_n 0, 1) := dk_42 (dk_at dksX9_skip_0 10 rfl rfl)
theorem dX9_skip_11 : decode cX9_skip 11 = .ok (.dup, 1) := dk_89 (dk_at dksX9_skip_0 11 rfl rfl)
theorem dX9_skip_12 : decode cX9_skip 12 = .ok (.getfield 26, 3) := dk_180 0 26 (dk_at dksX9_skip_0 12 rfl rfl)
theorem dX9_skip_15 : decode cX9_skip 15 = .ok (.iconst 1, 1) := dk_4 (dk_at dksX9_skip_0 15 rfl rfl)
theorem dX9_skip_16 : decode cX9_skip 16 = .ok (.iadd, 1) := dk_96 (dk_at dksX9_skip_0 16 rfl rfl)
theorem dX9_skip_17 : decode cX9_skip 17 = .ok (.putfield 26, 3) := dk_181 0 26 (dk_at dksX9_skip_0 17 rfl rfl)
theorem dX9_skip_20 : decode cX9_skip 20 = .ok (.iconst 1, 1) := dk_4 (dk_at dksX9_skip_0 20 rfl rfl)
theorem dX9_skip_21 : decode cX9_skip 21 = .ok (.ireturn, 1) := dk_172 (dk_at dksX9_skip_0 21 rfl rfl)
abbrev cX9_here : ByteArray := prog_9_method_2_code
def yX9_here : MethodName := ⟨RX9, "here", "()I"⟩
def dkwX9_here_1 : List UInt8 := [182, 0, 36, 167, 0, 4, 2, 172]
abbrev dktX9_here_1 : List UInt8 := dkwX9_here_1 ++ []
def dkwX9_here_0 : List UInt8 := [42, 180, 0, 26, 42, 180, 0, 22, 182, 0, 30, 162, 0, 17, 42, 180, 0, 22, 42, 180, 0, 26]
abbrev dktX9_here_0 : List UInt8 := dkwX9_here_0 ++ dktX9_here_1
theorem dksX9_here_0 : cX9_here.data.toList.drop 0 = dktX9_here_0 := by decide +kernel
theorem dksX9_here_1 : cX9_here.data.toList.drop 22 = dktX9_here_1 := dk_seg dksX9_here_0 22 rfl rfl
theorem dX9_here_0 : decode cX9_here 0 = .ok (.aload_n 0, 1) := dk_42 (dk_at dksX9_here_0 0 rfl rfl)
theorem dX9_here_1 : decode cX9_here 1 = .ok (.getfield 26, 3) := dk_180 0 26 (dk_at dksX9_here_0 1 rfl rfl)
theorem dX9_here_4 : decode cX9_here 4 = .ok (.aload_n 0, 1) := dk_42 (dk_at dksX9_here_0 4 rfl rfl)
theorem dX9_here_5 : decode cX9_here 5 = .ok (.getfield 22, 3) := dk_180 0 22 (dk_at dksX9_here_0 5 rfl rfl)
theorem dX9_here_8 : decode cX9_here 8 = .ok (.invokevirtual 30, 3) := dk_182 0 30 (dk_at dksX9_here_0 8 rfl rfl)
theorem dX9_here_11 : decode cX9_here 11 = .ok (.if_icmp .ge 17, 3) := dk_162 0 17 (dk_at dksX9_here_0 11 rfl rfl)
theorem dX9_here_14 : decode cX9_here 14 = .ok (.aload_n 0, 1) := dk_42 (dk_at dksX9_here_0 14 rfl rfl)
theorem dX9_here_15 : decode cX9_here 15 = .ok (.getfield 22, 3) := dk_180 0 22 (dk_at dksX9_here_0 15 rfl rfl)
theorem dX9_here_18 : decode cX9_here 18 = .ok (.aload_n 0, 1) := dk_42 (dk_at dksX9_here_0 18 rfl rfl)
theorem dX9_here_19 : decode cX9_here 19 = .ok (.getfield 26, 3) := dk_180 0 26 (dk_at dksX9_here_0 19 rfl rfl)
theorem dX9_here_22 : decode cX9_here 22 = .ok (.invokevirtual 36, 3) := dk_182 0 36 (dk_at dksX9_here_1 0 rfl rfl)
theorem dX9_here_25 : decode cX9_here 25 = .ok (.goto 4, 3) := dk_167 0 4 (dk_at dksX9_here_1 3 rfl rfl)
theorem dX9_here_28 : decode cX9_here 28 = .ok (.iconst (-1), 1) := dk_2 (dk_at dksX9_here_1 6 rfl rfl)
theorem dX9_here_29 : decode cX9_here 29 = .ok (.ireturn, 1) := dk_172 (dk_at dksX9_here_1 7 rfl rfl)
abbrev cX9_digit : ByteArray := prog_9_method_5_code
def yX9_digit : MethodName := ⟨RX9, "digit", "()I"⟩
def dkwX9_digit_2 : List UInt8 := [182, 0, 36, 16, 48, 100, 172]
abbrev dktX9_digit_2 : List UInt8 := dkwX9_digit_2 ++ []
def dkwX9_digit_1 : List UInt8 := [183, 0, 49, 191, 42, 89, 180, 0, 26, 4, 96, 181, 0, 26, 42, 180, 0, 22, 42, 180, 0, 26, 4, 100]
abbrev dktX9_digit_1 : List UInt8 := dkwX9_digit_1 ++ dktX9_digit_2
def dkwX9_digit_0 : List UInt8 := [42, 182, 0, 40, 16, 48, 16, 57, 184, 0, 52, 154, 0, 15, 187, 0, 47, 89, 42, 180, 0, 26]
abbrev dktX9_digit_0 : List UInt8 := dkwX9_digit_0 ++ dktX9_digit_1
theorem dksX9_digit_0 : cX9_digit.data.toList.drop 0 = dktX9_digit_0 := by decide +kernel
theorem dksX9_digit_1 : cX9_digit.data.toList.drop 22 = dktX9_digit_1 := dk_seg dksX9_digit_0 22 rfl rfl
theorem dksX9_digit_2 : cX9_digit.data.toList.drop 46 = dktX9_digit_2 := dk_seg dksX9_digit_1 24 rfl rfl
theorem dX9_digit_0 : decode cX9_digit 0 = .ok (.aload_n 0, 1) := dk_42 (dk_at dksX9_digit_0 0 rfl rfl)
theorem dX9_digit_1 : decode cX9_digit 1 = .ok (.invokevirtual 40, 3) := dk_182 0 40 (dk_at dksX9_digit_0 1 rfl rfl)
theorem dX9_digit_4 : decode cX9_digit 4 = .ok (.bipush 48, 2) := dk_16 48 (dk_at dksX9_digit_0 4 rfl rfl)
theorem dX9_digit_6 : decode cX9_digit 6 = .ok (.bipush 57, 2) := dk_16 57 (dk_at dksX9_digit_0 6 rfl rfl)
theorem dX9_digit_8 : decode cX9_digit 8 = .ok (.invokestatic 52, 3) := dk_184 0 52 (dk_at dksX9_digit_0 8 rfl rfl)
theorem dX9_digit_11 : decode cX9_digit 11 = .ok (.ifCond .ne 15, 3) := dk_154 0 15 (dk_at dksX9_digit_0 11 rfl rfl)
theorem dX9_digit_14 : decode cX9_digit 14 = .ok (.new 47, 3) := dk_187 0 47 (dk_at dksX9_digit_0 14 rfl rfl)
theorem dX9_digit_17 : decode cX9_digit 17 = .ok (.dup, 1) := dk_89 (dk_at dksX9_digit_0 17 rfl rfl)
theorem dX9_digit_18 : decode cX9_digit 18 = .ok (.aload_n 0, 1) := dk_42 (dk_at dksX9_digit_0 18 rfl rfl)
theorem dX9_digit_19 : decode cX9_digit 19 = .ok (.getfield 26, 3) := dk_180 0 26 (dk_at dksX9_digit_0 19 rfl rfl)
theorem dX9_digit_22 : decode cX9_digit 22 = .ok (.invokespecial 49, 3) := dk_183 0 49 (dk_at dksX9_digit_1 0 rfl rfl)
theorem dX9_digit_25 : decode cX9_digit 25 = .ok (.athrow, 1) := dk_191 (dk_at dksX9_digit_1 3 rfl rfl)
theorem dX9_digit_26 : decode cX9_digit 26 = .ok (.aload_n 0, 1) := dk_42 (dk_at dksX9_digit_1 4 rfl rfl)
theorem dX9_digit_27 : decode cX9_digit 27 = .ok (.dup, 1) := dk_89 (dk_at dksX9_digit_1 5 rfl rfl)
theorem dX9_digit_28 : decode cX9_digit 28 = .ok (.getfield 26, 3) := dk_180 0 26 (dk_at dksX9_digit_1 6 rfl rfl)
theorem dX9_digit_31 : decode cX9_digit 31 = .ok (.iconst 1, 1) := dk_4 (dk_at dksX9_digit_1 9 rfl rfl)
theorem dX9_digit_32 : decode cX9_digit 32 = .ok (.iadd, 1) := dk_96 (dk_at dksX9_digit_1 10 rfl rfl)
theorem dX9_digit_33 : decode cX9_digit 33 = .ok (.putfield 26, 3) := dk_181 0 26 (dk_at dksX9_digit_1 11 rfl rfl)
theorem dX9_digit_36 : decode cX9_digit 36 = .ok (.aload_n 0, 1) := dk_42 (dk_at dksX9_digit_1 14 rfl rfl)
theorem dX9_digit_37 : decode cX9_digit 37 = .ok (.getfield 22, 3) := dk_180 0 22 (dk_at dksX9_digit_1 15 rfl rfl)
theorem dX9_digit_40 : decode cX9_digit 40 = .ok (.aload_n 0, 1) := dk_42 (dk_at dksX9_digit_1 18 rfl rfl)
theorem dX9_digit_41 : decode cX9_digit 41 = .ok (.getfield 26, 3) := dk_180 0 26 (dk_at dksX9_digit_1 19 rfl rfl)
theorem dX9_digit_44 : decode cX9_digit 44 = .ok (.iconst 1, 1) := dk_4 (dk_at dksX9_digit_1 22 rfl rfl)
theorem dX9_digit_45 : decode cX9_digit 45 = .ok (.isub, 1) := dk_100 (dk_at dksX9_digit_1 23 rfl rfl)
theorem dX9_digit_46 : decode cX9_digit 46 = .ok (.invokevirtual 36, 3) := dk_182 0 36 (dk_at dksX9_digit_2 0 rfl rfl)
theorem dX9_digit_49 : decode cX9_digit 49 = .ok (.bipush 48, 2) := dk_16 48 (dk_at dksX9_digit_2 3 rfl rfl)
theorem dX9_digit_51 : decode cX9_digit 51 = .ok (.isub, 1) := dk_100 (dk_at dksX9_digit_2 5 rfl rfl)
theorem dX9_digit_52 : decode cX9_digit 52 = .ok (.ireturn, 1) := dk_172 (dk_at dksX9_digit_2 6 rfl rfl)
abbrev cX9_must : ByteArray := prog_9_method_4_code
def yX9_must : MethodName := ⟨RX9, "must", "(I)V"⟩
def dkwX9_must_0 : List UInt8 := [42, 27, 182, 0, 43, 154, 0, 15, 187, 0, 47, 89, 42, 180, 0, 26, 183, 0, 49, 191, 177]
abbrev dktX9_must_0 : List UInt8 := dkwX9_must_0 ++ []
theorem dksX9_must_0 : cX9_must.data.toList.drop 0 = dktX9_must_0 := by decide +kernel
theorem dX9_must_0 : decode cX9_must 0 = .ok (.aload_n 0, 1) := dk_42 (dk_at dksX9_must_0 0 rfl rfl)
theorem dX9_must_1 : decode cX9_must 1 = .ok (.iload_n 1, 1) := dk_27 (dk_at dksX9_must_0 1 rfl rfl)
theorem dX9_must_2 : decode cX9_must 2 = .ok (.invokevirtual 43, 3) := dk_182 0 43 (dk_at dksX9_must_0 2 rfl rfl)
theorem dX9_must_5 : decode cX9_must 5 = .ok (.ifCond .ne 15, 3) := dk_154 0 15 (dk_at dksX9_must_0 5 rfl rfl)
theorem dX9_must_8 : decode cX9_must 8 = .ok (.new 47, 3) := dk_187 0 47 (dk_at dksX9_must_0 8 rfl rfl)
theorem dX9_must_11 : decode cX9_must 11 = .ok (.dup, 1) := dk_89 (dk_at dksX9_must_0 11 rfl rfl)
theorem dX9_must_12 : decode cX9_must 12 = .ok (.aload_n 0, 1) := dk_42 (dk_at dksX9_must_0 12 rfl rfl)
theorem dX9_must_13 : decode cX9_must 13 = .ok (.getfield 26, 3) := dk_180 0 26 (dk_at dksX9_must_0 13 rfl rfl)
theorem dX9_must_16 : decode cX9_must 16 = .ok (.invokespecial 49, 3) := dk_183 0 49 (dk_at dksX9_must_0 16 rfl rfl)
theorem dX9_must_19 : decode cX9_must 19 = .ok (.athrow, 1) := dk_191 (dk_at dksX9_must_0 19 rfl rfl)
theorem dX9_must_20 : decode cX9_must 20 = .ok (.return_, 1) := dk_177 (dk_at dksX9_must_0 20 rfl rfl)
abbrev cX9_number : ByteArray := prog_9_method_6_code
def yX9_number : MethodName := ⟨RX9, "number", "()I"⟩
def dkwX9_number_1 : List UInt8 := [182, 0, 56, 96, 167, 0, 4, 27, 172]
abbrev dktX9_number_1 : List UInt8 := dkwX9_number_1 ++ []
def dkwX9_number_0 : List UInt8 := [42, 182, 0, 56, 60, 42, 182, 0, 40, 16, 48, 16, 57, 184, 0, 52, 153, 0, 15, 16, 10, 27, 104, 42]
abbrev dktX9_number_0 : List UInt8 := dkwX9_number_0 ++ dktX9_number_1
theorem dksX9_number_0 : cX9_number.data.toList.drop 0 = dktX9_number_0 := by decide +kernel
theorem dksX9_number_1 : cX9_number.data.toList.drop 24 = dktX9_number_1 := dk_seg dksX9_number_0 24 rfl rfl
theorem dX9_number_0 : decode cX9_number 0 = .ok (.aload_n 0, 1) := dk_42 (dk_at dksX9_number_0 0 rfl rfl)
theorem dX9_number_1 : decode cX9_number 1 = .ok (.invokevirtual 56, 3) := dk_182 0 56 (dk_at dksX9_number_0 1 rfl rfl)
theorem dX9_number_4 : decode cX9_number 4 = .ok (.istore_n 1, 1) := dk_60 (dk_at dksX9_number_0 4 rfl rfl)
theorem dX9_number_5 : decode cX9_number 5 = .ok (.aload_n 0, 1) := dk_42 (dk_at dksX9_number_0 5 rfl rfl)
theorem dX9_number_6 : decode cX9_number 6 = .ok (.invokevirtual 40, 3) := dk_182 0 40 (dk_at dksX9_number_0 6 rfl rfl)
theorem dX9_number_9 : decode cX9_number 9 = .ok (.bipush 48, 2) := dk_16 48 (dk_at dksX9_number_0 9 rfl rfl)
theorem dX9_number_11 : decode cX9_number 11 = .ok (.bipush 57, 2) := dk_16 57 (dk_at dksX9_number_0 11 rfl rfl)
theorem dX9_number_13 : decode cX9_number 13 = .ok (.invokestatic 52, 3) := dk_184 0 52 (dk_at dksX9_number_0 13 rfl rfl)
theorem dX9_number_16 : decode cX9_number 16 = .ok (.ifCond .eq 15, 3) := dk_153 0 15 (dk_at dksX9_number_0 16 rfl rfl)
theorem dX9_number_19 : decode cX9_number 19 = .ok (.bipush 10, 2) := dk_16 10 (dk_at dksX9_number_0 19 rfl rfl)
theorem dX9_number_21 : decode cX9_number 21 = .ok (.iload_n 1, 1) := dk_27 (dk_at dksX9_number_0 21 rfl rfl)
theorem dX9_number_22 : decode cX9_number 22 = .ok (.imul, 1) := dk_104 (dk_at dksX9_number_0 22 rfl rfl)
theorem dX9_number_23 : decode cX9_number 23 = .ok (.aload_n 0, 1) := dk_42 (dk_at dksX9_number_0 23 rfl rfl)
theorem dX9_number_24 : decode cX9_number 24 = .ok (.invokevirtual 56, 3) := dk_182 0 56 (dk_at dksX9_number_1 0 rfl rfl)
theorem dX9_number_27 : decode cX9_number 27 = .ok (.iadd, 1) := dk_96 (dk_at dksX9_number_1 3 rfl rfl)
theorem dX9_number_28 : decode cX9_number 28 = .ok (.goto 4, 3) := dk_167 0 4 (dk_at dksX9_number_1 4 rfl rfl)
theorem dX9_number_31 : decode cX9_number 31 = .ok (.iload_n 1, 1) := dk_27 (dk_at dksX9_number_1 7 rfl rfl)
theorem dX9_number_32 : decode cX9_number 32 = .ok (.ireturn, 1) := dk_172 (dk_at dksX9_number_1 8 rfl rfl)
abbrev cX9_isNumber : ByteArray := prog_9_method_7_code
def yX9_isNumber : MethodName := ⟨RX9, "isNumber", "(C)Z"⟩
def dkwX9_isNumber_1 : List UInt8 := [42, 180, 0, 59, 42, 182, 0, 62, 79, 4, 172]
abbrev dktX9_isNumber_1 : List UInt8 := dkwX9_isNumber_1 ++ []
def dkwX9_isNumber_0 : List UInt8 := [42, 27, 182, 0, 43, 154, 0, 5, 3, 172, 42, 180, 0, 9, 42, 180, 0, 59, 27, 85, 42, 180, 0, 15]
abbrev dktX9_isNumber_0 : List UInt8 := dkwX9_isNumber_0 ++ dktX9_isNumber_1
theorem dksX9_isNumber_0 : cX9_isNumber.data.toList.drop 0 = dktX9_isNumber_0 := by decide +kernel
theorem dksX9_isNumber_1 : cX9_isNumber.data.toList.drop 24 = dktX9_isNumber_1 := dk_seg dksX9_isNumber_0 24 rfl rfl
theorem dX9_isNumber_0 : decode cX9_isNumber 0 = .ok (.aload_n 0, 1) := dk_42 (dk_at dksX9_isNumber_0 0 rfl rfl)
theorem dX9_isNumber_1 : decode cX9_isNumber 1 = .ok (.iload_n 1, 1) := dk_27 (dk_at dksX9_isNumber_0 1 rfl rfl)
theorem dX9_isNumber_2 : decode cX9_isNumber 2 = .ok (.invokevirtual 43, 3) := dk_182 0 43 (dk_at dksX9_isNumber_0 2 rfl rfl)
theorem dX9_isNumber_5 : decode cX9_isNumber 5 = .ok (.ifCond .ne 5, 3) := dk_154 0 5 (dk_at dksX9_isNumber_0 5 rfl rfl)
theorem dX9_isNumber_8 : decode cX9_isNumber 8 = .ok (.iconst 0, 1) := dk_3 (dk_at dksX9_isNumber_0 8 rfl rfl)
theorem dX9_isNumber_9 : decode cX9_isNumber 9 = .ok (.ireturn, 1) := dk_172 (dk_at dksX9_isNumber_0 9 rfl rfl)
theorem dX9_isNumber_10 : decode cX9_isNumber 10 = .ok (.aload_n 0, 1) := dk_42 (dk_at dksX9_isNumber_0 10 rfl rfl)
theorem dX9_isNumber_11 : decode cX9_isNumber 11 = .ok (.getfield 9, 3) := dk_180 0 9 (dk_at dksX9_isNumber_0 11 rfl rfl)
theorem dX9_isNumber_14 : decode cX9_isNumber 14 = .ok (.aload_n 0, 1) := dk_42 (dk_at dksX9_isNumber_0 14 rfl rfl)
theorem dX9_isNumber_15 : decode cX9_isNumber 15 = .ok (.getfield 59, 3) := dk_180 0 59 (dk_at dksX9_isNumber_0 15 rfl rfl)
theorem dX9_isNumber_18 : decode cX9_isNumber 18 = .ok (.iload_n 1, 1) := dk_27 (dk_at dksX9_isNumber_0 18 rfl rfl)
theorem dX9_isNumber_19 : decode cX9_isNumber 19 = .ok (.castore, 1) := dk_85 (dk_at dksX9_isNumber_0 19 rfl rfl)
theorem dX9_isNumber_20 : decode cX9_isNumber 20 = .ok (.aload_n 0, 1) := dk_42 (dk_at dksX9_isNumber_0 20 rfl rfl)
theorem dX9_isNumber_21 : decode cX9_isNumber 21 = .ok (.getfield 15, 3) := dk_180 0 15 (dk_at dksX9_isNumber_0 21 rfl rfl)
theorem dX9_isNumber_24 : decode cX9_isNumber 24 = .ok (.aload_n 0, 1) := dk_42 (dk_at dksX9_isNumber_1 0 rfl rfl)
theorem dX9_isNumber_25 : decode cX9_isNumber 25 = .ok (.getfield 59, 3) := dk_180 0 59 (dk_at dksX9_isNumber_1 1 rfl rfl)
theorem dX9_isNumber_28 : decode cX9_isNumber 28 = .ok (.aload_n 0, 1) := dk_42 (dk_at dksX9_isNumber_1 4 rfl rfl)
theorem dX9_isNumber_29 : decode cX9_isNumber 29 = .ok (.invokevirtual 62, 3) := dk_182 0 62 (dk_at dksX9_isNumber_1 5 rfl rfl)
theorem dX9_isNumber_32 : decode cX9_isNumber 32 = .ok (.iastore, 1) := dk_79 (dk_at dksX9_isNumber_1 8 rfl rfl)
theorem dX9_isNumber_33 : decode cX9_isNumber 33 = .ok (.iconst 1, 1) := dk_4 (dk_at dksX9_isNumber_1 9 rfl rfl)
theorem dX9_isNumber_34 : decode cX9_isNumber 34 = .ok (.ireturn, 1) := dk_172 (dk_at dksX9_isNumber_1 10 rfl rfl)
abbrev cX9_isRight : ByteArray := prog_9_method_10_code
def yX9_isRight : MethodName := ⟨RX9, "isRight", "(LCliffPlots$Cliff;I)Z"⟩
def dkwX9_isRight_5 : List UInt8 := [184, 0, 52, 172, 43, 42, 180, 0, 15, 28, 46, 182, 0, 75, 172]
abbrev dktX9_isRight_5 : List UInt8 := dkwX9_isRight_5 ++ []
def dkwX9_isRight_4 : List UInt8 := [180, 0, 15, 28, 46, 3, 16, 20, 184, 0, 52, 172, 4, 172, 42, 180, 0, 15, 28, 46, 4, 16, 60]
abbrev dktX9_isRight_4 : List UInt8 := dkwX9_isRight_4 ++ dktX9_isRight_5
def dkwX9_isRight_3 : List UInt8 := [153, 0, 7, 4, 167, 0, 4, 3, 172, 42, 180, 0, 15, 28, 46, 3, 16, 12, 184, 0, 52, 172, 42]
abbrev dktX9_isRight_3 : List UInt8 := dkwX9_isRight_3 ++ dktX9_isRight_4
def dkwX9_isRight_2 : List UInt8 := [43, 42, 180, 0, 15, 28, 46, 182, 0, 75, 153, 0, 19, 42, 180, 0, 19, 28, 46, 184, 0, 80]
abbrev dktX9_isRight_2 : List UInt8 := dkwX9_isRight_2 ++ dktX9_isRight_3
def dkwX9_isRight_1 : List UInt8 := [171, 0, 0, 0, 0, 122, 0, 0, 0, 5, 0, 0, 0, 99, 0, 0, 0, 107, 0, 0, 0, 100, 0, 0, 0, 50, 0, 0, 0, 110, 0, 0, 0, 94, 0, 0, 0, 112, 0, 0, 0, 109, 0, 0, 0, 119, 0, 0, 0, 81]
abbrev dktX9_isRight_1 : List UInt8 := dkwX9_isRight_1 ++ dktX9_isRight_2
def dkwX9_isRight_0 : List UInt8 := [42, 180, 0, 9, 28, 52]
abbrev dktX9_isRight_0 : List UInt8 := dkwX9_isRight_0 ++ dktX9_isRight_1
theorem dksX9_isRight_0 : cX9_isRight.data.toList.drop 0 = dktX9_isRight_0 := by decide +kernel
theorem dksX9_isRight_1 : cX9_isRight.data.toList.drop 6 = dktX9_isRight_1 := dk_seg dksX9_isRight_0 6 rfl rfl
theorem dksX9_isRight_2 : cX9_isRight.data.toList.drop 56 = dktX9_isRight_2 := dk_seg dksX9_isRight_1 50 rfl rfl
theorem dksX9_isRight_3 : cX9_isRight.data.toList.drop 78 = dktX9_isRight_3 := dk_seg dksX9_isRight_2 22 rfl rfl
theorem dksX9_isRight_4 : cX9_isRight.data.toList.drop 101 = dktX9_isRight_4 := dk_seg dksX9_isRight_3 23 rfl rfl
theorem dksX9_isRight_5 : cX9_isRight.data.toList.drop 124 = dktX9_isRight_5 := dk_seg dksX9_isRight_4 23 rfl rfl
theorem dX9_isRight_0 : decode cX9_isRight 0 = .ok (.aload_n 0, 1) := dk_42 (dk_at dksX9_isRight_0 0 rfl rfl)
theorem dX9_isRight_1 : decode cX9_isRight 1 = .ok (.getfield 9, 3) := dk_180 0 9 (dk_at dksX9_isRight_0 1 rfl rfl)
theorem dX9_isRight_4 : decode cX9_isRight 4 = .ok (.iload_n 2, 1) := dk_28 (dk_at dksX9_isRight_0 4 rfl rfl)
theorem dX9_isRight_5 : decode cX9_isRight 5 = .ok (.caload, 1) := dk_52 (dk_at dksX9_isRight_0 5 rfl rfl)
theorem dX9_isRight_6 : decode cX9_isRight 6 = .ok (.lookupswitch 122 #[(99, 107), (100, 50), (110, 94), (112, 109), (119, 81)], 50) := by decide +kernel
theorem dX9_isRight_56 : decode cX9_isRight 56 = .ok (.aload_n 1, 1) := dk_43 (dk_at dksX9_isRight_2 0 rfl rfl)
theorem dX9_isRight_57 : decode cX9_isRight 57 = .ok (.aload_n 0, 1) := dk_42 (dk_at dksX9_isRight_2 1 rfl rfl)
theorem dX9_isRight_58 : decode cX9_isRight 58 = .ok (.getfield 15, 3) := dk_180 0 15 (dk_at dksX9_isRight_2 2 rfl rfl)
theorem dX9_isRight_61 : decode cX9_isRight 61 = .ok (.iload_n 2, 1) := dk_28 (dk_at dksX9_isRight_2 5 rfl rfl)
theorem dX9_isRight_62 : decode cX9_isRight 62 = .ok (.iaload, 1) := dk_46 (dk_at dksX9_isRight_2 6 rfl rfl)
theorem dX9_isRight_63 : decode cX9_isRight 63 = .ok (.invokevirtual 75, 3) := dk_182 0 75 (dk_at dksX9_isRight_2 7 rfl rfl)
theorem dX9_isRight_66 : decode cX9_isRight 66 = .ok (.ifCond .eq 19, 3) := dk_153 0 19 (dk_at dksX9_isRight_2 10 rfl rfl)
theorem dX9_isRight_69 : decode cX9_isRight 69 = .ok (.aload_n 0, 1) := dk_42 (dk_at dksX9_isRight_2 13 rfl rfl)
theorem dX9_isRight_70 : decode cX9_isRight 70 = .ok (.getfield 19, 3) := dk_180 0 19 (dk_at dksX9_isRight_2 14 rfl rfl)
theorem dX9_isRight_73 : decode cX9_isRight 73 = .ok (.iload_n 2, 1) := dk_28 (dk_at dksX9_isRight_2 17 rfl rfl)
theorem dX9_isRight_74 : decode cX9_isRight 74 = .ok (.iaload, 1) := dk_46 (dk_at dksX9_isRight_2 18 rfl rfl)
theorem dX9_isRight_75 : decode cX9_isRight 75 = .ok (.invokestatic 80, 3) := dk_184 0 80 (dk_at dksX9_isRight_2 19 rfl rfl)
theorem dX9_isRight_78 : decode cX9_isRight 78 = .ok (.ifCond .eq 7, 3) := dk_153 0 7 (dk_at dksX9_isRight_3 0 rfl rfl)
theorem dX9_isRight_81 : decode cX9_isRight 81 = .ok (.iconst 1, 1) := dk_4 (dk_at dksX9_isRight_3 3 rfl rfl)
theorem dX9_isRight_82 : decode cX9_isRight 82 = .ok (.goto 4, 3) := dk_167 0 4 (dk_at dksX9_isRight_3 4 rfl rfl)
theorem dX9_isRight_85 : decode cX9_isRight 85 = .ok (.iconst 0, 1) := dk_3 (dk_at dksX9_isRight_3 7 rfl rfl)
theorem dX9_isRight_86 : decode cX9_isRight 86 = .ok (.ireturn, 1) := dk_172 (dk_at dksX9_isRight_3 8 rfl rfl)
theorem dX9_isRight_87 : decode cX9_isRight 87 = .ok (.aload_n 0, 1) := dk_42 (dk_at dksX9_isRight_3 9 rfl rfl)
theorem dX9_isRight_88 : decode cX9_isRight 88 = .ok (.getfield 15, 3) := dk_180 0 15 (dk_at dksX9_isRight_3 10 rfl rfl)
theorem dX9_isRight_91 : decode cX9_isRight 91 = .ok (.iload_n 2, 1) := dk_28 (dk_at dksX9_isRight_3 13 rfl rfl)
theorem dX9_isRight_92 : decode cX9_isRight 92 = .ok (.iaload, 1) := dk_46 (dk_at dksX9_isRight_3 14 rfl rfl)
theorem dX9_isRight_93 : decode cX9_isRight 93 = .ok (.iconst 0, 1) := dk_3 (dk_at dksX9_isRight_3 15 rfl rfl)
theorem dX9_isRight_94 : decode cX9_isRight 94 = .ok (.bipush 12, 2) := dk_16 12 (dk_at dksX9_isRight_3 16 rfl rfl)
theorem dX9_isRight_96 : decode cX9_isRight 96 = .ok (.invokestatic 52, 3) := dk_184 0 52 (dk_at dksX9_isRight_3 18 rfl rfl)
theorem dX9_isRight_99 : decode cX9_isRight 99 = .ok (.ireturn, 1) := dk_172 (dk_at dksX9_isRight_3 21 rfl rfl)
theorem dX9_isRight_100 : decode cX9_isRight 100 = .ok (.aload_n 0, 1) := dk_42 (dk_at dksX9_isRight_3 22 rfl rfl)
theorem dX9_isRight_101 : decode cX9_isRight 101 = .ok (.getfield 15, 3) := dk_180 0 15 (dk_at dksX9_isRight_4 0 rfl rfl)
theorem dX9_isRight_104 : decode cX9_isRight 104 = .ok (.iload_n 2, 1) := dk_28 (dk_at dksX9_isRight_4 3 rfl rfl)
theorem dX9_isRight_105 : decode cX9_isRight 105 = .ok (.iaload, 1) := dk_46 (dk_at dksX9_isRight_4 4 rfl rfl)
theorem dX9_isRight_106 : decode cX9_isRight 106 = .ok (.iconst 0, 1) := dk_3 (dk_at dksX9_isRight_4 5 rfl rfl)
theorem dX9_isRight_107 : decode cX9_isRight 107 = .ok (.bipush 20, 2) := dk_16 20 (dk_at dksX9_isRight_4 6 rfl rfl)
theorem dX9_isRight_109 : decode cX9_isRight 109 = .ok (.invokestatic 52, 3) := dk_184 0 52 (dk_at dksX9_isRight_4 8 rfl rfl)
theorem dX9_isRight_112 : decode cX9_isRight 112 = .ok (.ireturn, 1) := dk_172 (dk_at dksX9_isRight_4 11 rfl rfl)
theorem dX9_isRight_113 : decode cX9_isRight 113 = .ok (.iconst 1, 1) := dk_4 (dk_at dksX9_isRight_4 12 rfl rfl)
theorem dX9_isRight_114 : decode cX9_isRight 114 = .ok (.ireturn, 1) := dk_172 (dk_at dksX9_isRight_4 13 rfl rfl)
theorem dX9_isRight_115 : decode cX9_isRight 115 = .ok (.aload_n 0, 1) := dk_42 (dk_at dksX9_isRight_4 14 rfl rfl)
theorem dX9_isRight_116 : decode cX9_isRight 116 = .ok (.getfield 15, 3) := dk_180 0 15 (dk_at dksX9_isRight_4 15 rfl rfl)
theorem dX9_isRight_119 : decode cX9_isRight 119 = .ok (.iload_n 2, 1) := dk_28 (dk_at dksX9_isRight_4 18 rfl rfl)
theorem dX9_isRight_120 : decode cX9_isRight 120 = .ok (.iaload, 1) := dk_46 (dk_at dksX9_isRight_4 19 rfl rfl)
theorem dX9_isRight_121 : decode cX9_isRight 121 = .ok (.iconst 1, 1) := dk_4 (dk_at dksX9_isRight_4 20 rfl rfl)
theorem dX9_isRight_122 : decode cX9_isRight 122 = .ok (.bipush 60, 2) := dk_16 60 (dk_at dksX9_isRight_4 21 rfl rfl)
theorem dX9_isRight_124 : decode cX9_isRight 124 = .ok (.invokestatic 52, 3) := dk_184 0 52 (dk_at dksX9_isRight_5 0 rfl rfl)
theorem dX9_isRight_127 : decode cX9_isRight 127 = .ok (.ireturn, 1) := dk_172 (dk_at dksX9_isRight_5 3 rfl rfl)
theorem dX9_isRight_128 : decode cX9_isRight 128 = .ok (.aload_n 1, 1) := dk_43 (dk_at dksX9_isRight_5 4 rfl rfl)
theorem dX9_isRight_129 : decode cX9_isRight 129 = .ok (.aload_n 0, 1) := dk_42 (dk_at dksX9_isRight_5 5 rfl rfl)
theorem dX9_isRight_130 : decode cX9_isRight 130 = .ok (.getfield 15, 3) := dk_180 0 15 (dk_at dksX9_isRight_5 6 rfl rfl)
theorem dX9_isRight_133 : decode cX9_isRight 133 = .ok (.iload_n 2, 1) := dk_28 (dk_at dksX9_isRight_5 9 rfl rfl)
theorem dX9_isRight_134 : decode cX9_isRight 134 = .ok (.iaload, 1) := dk_46 (dk_at dksX9_isRight_5 10 rfl rfl)
theorem dX9_isRight_135 : decode cX9_isRight 135 = .ok (.invokevirtual 75, 3) := dk_182 0 75 (dk_at dksX9_isRight_5 11 rfl rfl)
theorem dX9_isRight_138 : decode cX9_isRight 138 = .ok (.ireturn, 1) := dk_172 (dk_at dksX9_isRight_5 14 rfl rfl)
abbrev cX9_does : ByteArray := prog_9_method_11_code
def yX9_does : MethodName := ⟨RX9, "does", "(LCliffPlots$Cliff;I)I"⟩
def dkwX9_does_6 : List UInt8 := [42, 180, 0, 15, 28, 46, 182, 0, 104, 172]
abbrev dktX9_does_6 : List UInt8 := dkwX9_does_6 ++ []
def dkwX9_does_5 : List UInt8 := [180, 0, 19, 28, 46, 4, 160, 0, 7, 4, 167, 0, 4, 3, 182, 0, 97, 172, 43, 182, 0, 101, 172, 43]
abbrev dktX9_does_5 : List UInt8 := dkwX9_does_5 ++ dktX9_does_6
def dkwX9_does_4 : List UInt8 := [180, 0, 15, 28, 46, 181, 0, 94, 42, 180, 0, 15, 28, 46, 172, 43, 42, 180, 0, 15, 28, 46, 42]
abbrev dktX9_does_4 : List UInt8 := dkwX9_does_4 ++ dktX9_does_5
def dkwX9_does_3 : List UInt8 := [182, 0, 87, 172, 43, 42, 180, 0, 15, 28, 46, 181, 0, 91, 42, 180, 0, 15, 28, 46, 172, 43, 42]
abbrev dktX9_does_3 : List UInt8 := dkwX9_does_3 ++ dktX9_does_4
def dkwX9_does_2 : List UInt8 := [43, 42, 180, 0, 15, 28, 46, 42, 180, 0, 19, 28, 46, 182, 0, 83, 172, 43, 42, 180, 0, 15, 28, 46]
abbrev dktX9_does_2 : List UInt8 := dkwX9_does_2 ++ dktX9_does_3
def dkwX9_does_1 : List UInt8 := [171, 0, 0, 0, 0, 151, 0, 0, 0, 6, 0, 0, 0, 99, 0, 0, 0, 146, 0, 0, 0, 100, 0, 0, 0, 58, 0, 0, 0, 110, 0, 0, 0, 103, 0, 0, 0, 114, 0, 0, 0, 75, 0, 0, 0, 118, 0, 0, 0, 120, 0, 0, 0, 119, 0, 0, 0, 86]
abbrev dktX9_does_1 : List UInt8 := dkwX9_does_1 ++ dktX9_does_2
def dkwX9_does_0 : List UInt8 := [42, 180, 0, 9, 28, 52]
abbrev dktX9_does_0 : List UInt8 := dkwX9_does_0 ++ dktX9_does_1
theorem dksX9_does_0 : cX9_does.data.toList.drop 0 = dktX9_does_0 := by decide +kernel
theorem dksX9_does_1 : cX9_does.data.toList.drop 6 = dktX9_does_1 := dk_seg dksX9_does_0 6 rfl rfl
theorem dksX9_does_2 : cX9_does.data.toList.drop 64 = dktX9_does_2 := dk_seg dksX9_does_1 58 rfl rfl
theorem dksX9_does_3 : cX9_does.data.toList.drop 88 = dktX9_does_3 := dk_seg dksX9_does_2 24 rfl rfl
theorem dksX9_does_4 : cX9_does.data.toList.drop 111 = dktX9_does_4 := dk_seg dksX9_does_3 23 rfl rfl
theorem dksX9_does_5 : cX9_does.data.toList.drop 134 = dktX9_does_5 := dk_seg dksX9_does_4 23 rfl rfl
theorem dksX9_does_6 : cX9_does.data.toList.drop 158 = dktX9_does_6 := dk_seg dksX9_does_5 24 rfl rfl
theorem dX9_does_0 : decode cX9_does 0 = .ok (.aload_n 0, 1) := dk_42 (dk_at dksX9_does_0 0 rfl rfl)
theorem dX9_does_1 : decode cX9_does 1 = .ok (.getfield 9, 3) := dk_180 0 9 (dk_at dksX9_does_0 1 rfl rfl)
theorem dX9_does_4 : decode cX9_does 4 = .ok (.iload_n 2, 1) := dk_28 (dk_at dksX9_does_0 4 rfl rfl)
theorem dX9_does_5 : decode cX9_does 5 = .ok (.caload, 1) := dk_52 (dk_at dksX9_does_0 5 rfl rfl)
theorem dX9_does_6 : decode cX9_does 6 = .ok (.lookupswitch 151 #[(99, 146), (100, 58), (110, 103), (114, 75), (118, 120), (119, 86)], 58) := by decide +kernel
theorem dX9_does_64 : decode cX9_does 64 = .ok (.aload_n 1, 1) := dk_43 (dk_at dksX9_does_2 0 rfl rfl)
theorem dX9_does_65 : decode cX9_does 65 = .ok (.aload_n 0, 1) := dk_42 (dk_at dksX9_does_2 1 rfl rfl)
theorem dX9_does_66 : decode cX9_does 66 = .ok (.getfield 15, 3) := dk_180 0 15 (dk_at dksX9_does_2 2 rfl rfl)
theorem dX9_does_69 : decode cX9_does 69 = .ok (.iload_n 2, 1) := dk_28 (dk_at dksX9_does_2 5 rfl rfl)
theorem dX9_does_70 : decode cX9_does 70 = .ok (.iaload, 1) := dk_46 (dk_at dksX9_does_2 6 rfl rfl)
theorem dX9_does_71 : decode cX9_does 71 = .ok (.aload_n 0, 1) := dk_42 (dk_at dksX9_does_2 7 rfl rfl)
theorem dX9_does_72 : decode cX9_does 72 = .ok (.getfield 19, 3) := dk_180 0 19 (dk_at dksX9_does_2 8 rfl rfl)
theorem dX9_does_75 : decode cX9_does 75 = .ok (.iload_n 2, 1) := dk_28 (dk_at dksX9_does_2 11 rfl rfl)
theorem dX9_does_76 : decode cX9_does 76 = .ok (.iaload, 1) := dk_46 (dk_at dksX9_does_2 12 rfl rfl)
theorem dX9_does_77 : decode cX9_does 77 = .ok (.invokevirtual 83, 3) := dk_182 0 83 (dk_at dksX9_does_2 13 rfl rfl)
theorem dX9_does_80 : decode cX9_does 80 = .ok (.ireturn, 1) := dk_172 (dk_at dksX9_does_2 16 rfl rfl)
theorem dX9_does_81 : decode cX9_does 81 = .ok (.aload_n 1, 1) := dk_43 (dk_at dksX9_does_2 17 rfl rfl)
theorem dX9_does_82 : decode cX9_does 82 = .ok (.aload_n 0, 1) := dk_42 (dk_at dksX9_does_2 18 rfl rfl)
theorem dX9_does_83 : decode cX9_does 83 = .ok (.getfield 15, 3) := dk_180 0 15 (dk_at dksX9_does_2 19 rfl rfl)
theorem dX9_does_86 : decode cX9_does 86 = .ok (.iload_n 2, 1) := dk_28 (dk_at dksX9_does_2 22 rfl rfl)
theorem dX9_does_87 : decode cX9_does 87 = .ok (.iaload, 1) := dk_46 (dk_at dksX9_does_2 23 rfl rfl)
theorem dX9_does_88 : decode cX9_does 88 = .ok (.invokevirtual 87, 3) := dk_182 0 87 (dk_at dksX9_does_3 0 rfl rfl)
theorem dX9_does_91 : decode cX9_does 91 = .ok (.ireturn, 1) := dk_172 (dk_at dksX9_does_3 3 rfl rfl)
theorem dX9_does_92 : decode cX9_does 92 = .ok (.aload_n 1, 1) := dk_43 (dk_at dksX9_does_3 4 rfl rfl)
theorem dX9_does_93 : decode cX9_does 93 = .ok (.aload_n 0, 1) := dk_42 (dk_at dksX9_does_3 5 rfl rfl)
theorem dX9_does_94 : decode cX9_does 94 = .ok (.getfield 15, 3) := dk_180 0 15 (dk_at dksX9_does_3 6 rfl rfl)
theorem dX9_does_97 : decode cX9_does 97 = .ok (.iload_n 2, 1) := dk_28 (dk_at dksX9_does_3 9 rfl rfl)
theorem dX9_does_98 : decode cX9_does 98 = .ok (.iaload, 1) := dk_46 (dk_at dksX9_does_3 10 rfl rfl)
theorem dX9_does_99 : decode cX9_does 99 = .ok (.putfield 91, 3) := dk_181 0 91 (dk_at dksX9_does_3 11 rfl rfl)
theorem dX9_does_102 : decode cX9_does 102 = .ok (.aload_n 0, 1) := dk_42 (dk_at dksX9_does_3 14 rfl rfl)
theorem dX9_does_103 : decode cX9_does 103 = .ok (.getfield 15, 3) := dk_180 0 15 (dk_at dksX9_does_3 15 rfl rfl)
theorem dX9_does_106 : decode cX9_does 106 = .ok (.iload_n 2, 1) := dk_28 (dk_at dksX9_does_3 18 rfl rfl)
theorem dX9_does_107 : decode cX9_does 107 = .ok (.iaload, 1) := dk_46 (dk_at dksX9_does_3 19 rfl rfl)
theorem dX9_does_108 : decode cX9_does 108 = .ok (.ireturn, 1) := dk_172 (dk_at dksX9_does_3 20 rfl rfl)
theorem dX9_does_109 : decode cX9_does 109 = .ok (.aload_n 1, 1) := dk_43 (dk_at dksX9_does_3 21 rfl rfl)
theorem dX9_does_110 : decode cX9_does 110 = .ok (.aload_n 0, 1) := dk_42 (dk_at dksX9_does_3 22 rfl rfl)
theorem dX9_does_111 : decode cX9_does 111 = .ok (.getfield 15, 3) := dk_180 0 15 (dk_at dksX9_does_4 0 rfl rfl)
theorem dX9_does_114 : decode cX9_does 114 = .ok (.iload_n 2, 1) := dk_28 (dk_at dksX9_does_4 3 rfl rfl)
theorem dX9_does_115 : decode cX9_does 115 = .ok (.iaload, 1) := dk_46 (dk_at dksX9_does_4 4 rfl rfl)
theorem dX9_does_116 : decode cX9_does 116 = .ok (.putfield 94, 3) := dk_181 0 94 (dk_at dksX9_does_4 5 rfl rfl)
theorem dX9_does_119 : decode cX9_does 119 = .ok (.aload_n 0, 1) := dk_42 (dk_at dksX9_does_4 8 rfl rfl)
theorem dX9_does_120 : decode cX9_does 120 = .ok (.getfield 15, 3) := dk_180 0 15 (dk_at dksX9_does_4 9 rfl rfl)
theorem dX9_does_123 : decode cX9_does 123 = .ok (.iload_n 2, 1) := dk_28 (dk_at dksX9_does_4 12 rfl rfl)
theorem dX9_does_124 : decode cX9_does 124 = .ok (.iaload, 1) := dk_46 (dk_at dksX9_does_4 13 rfl rfl)
theorem dX9_does_125 : decode cX9_does 125 = .ok (.ireturn, 1) := dk_172 (dk_at dksX9_does_4 14 rfl rfl)
theorem dX9_does_126 : decode cX9_does 126 = .ok (.aload_n 1, 1) := dk_43 (dk_at dksX9_does_4 15 rfl rfl)
theorem dX9_does_127 : decode cX9_does 127 = .ok (.aload_n 0, 1) := dk_42 (dk_at dksX9_does_4 16 rfl rfl)
theorem dX9_does_128 : decode cX9_does 128 = .ok (.getfield 15, 3) := dk_180 0 15 (dk_at dksX9_does_4 17 rfl rfl)
theorem dX9_does_131 : decode cX9_does 131 = .ok (.iload_n 2, 1) := dk_28 (dk_at dksX9_does_4 20 rfl rfl)
theorem dX9_does_132 : decode cX9_does 132 = .ok (.iaload, 1) := dk_46 (dk_at dksX9_does_4 21 rfl rfl)
theorem dX9_does_133 : decode cX9_does 133 = .ok (.aload_n 0, 1) := dk_42 (dk_at dksX9_does_4 22 rfl rfl)
theorem dX9_does_134 : decode cX9_does 134 = .ok (.getfield 19, 3) := dk_180 0 19 (dk_at dksX9_does_5 0 rfl rfl)
theorem dX9_does_137 : decode cX9_does 137 = .ok (.iload_n 2, 1) := dk_28 (dk_at dksX9_does_5 3 rfl rfl)
theorem dX9_does_138 : decode cX9_does 138 = .ok (.iaload, 1) := dk_46 (dk_at dksX9_does_5 4 rfl rfl)
theorem dX9_does_139 : decode cX9_does 139 = .ok (.iconst 1, 1) := dk_4 (dk_at dksX9_does_5 5 rfl rfl)
theorem dX9_does_140 : decode cX9_does 140 = .ok (.if_icmp .ne 7, 3) := dk_160 0 7 (dk_at dksX9_does_5 6 rfl rfl)
theorem dX9_does_143 : decode cX9_does 143 = .ok (.iconst 1, 1) := dk_4 (dk_at dksX9_does_5 9 rfl rfl)
theorem dX9_does_144 : decode cX9_does 144 = .ok (.goto 4, 3) := dk_167 0 4 (dk_at dksX9_does_5 10 rfl rfl)
theorem dX9_does_147 : decode cX9_does 147 = .ok (.iconst 0, 1) := dk_3 (dk_at dksX9_does_5 13 rfl rfl)
theorem dX9_does_148 : decode cX9_does 148 = .ok (.invokevirtual 97, 3) := dk_182 0 97 (dk_at dksX9_does_5 14 rfl rfl)
theorem dX9_does_151 : decode cX9_does 151 = .ok (.ireturn, 1) := dk_172 (dk_at dksX9_does_5 17 rfl rfl)
theorem dX9_does_152 : decode cX9_does 152 = .ok (.aload_n 1, 1) := dk_43 (dk_at dksX9_does_5 18 rfl rfl)
theorem dX9_does_153 : decode cX9_does 153 = .ok (.invokevirtual 101, 3) := dk_182 0 101 (dk_at dksX9_does_5 19 rfl rfl)
theorem dX9_does_156 : decode cX9_does 156 = .ok (.ireturn, 1) := dk_172 (dk_at dksX9_does_5 22 rfl rfl)
theorem dX9_does_157 : decode cX9_does 157 = .ok (.aload_n 1, 1) := dk_43 (dk_at dksX9_does_5 23 rfl rfl)
theorem dX9_does_158 : decode cX9_does 158 = .ok (.aload_n 0, 1) := dk_42 (dk_at dksX9_does_6 0 rfl rfl)
theorem dX9_does_159 : decode cX9_does 159 = .ok (.getfield 15, 3) := dk_180 0 15 (dk_at dksX9_does_6 1 rfl rfl)
theorem dX9_does_162 : decode cX9_does 162 = .ok (.iload_n 2, 1) := dk_28 (dk_at dksX9_does_6 4 rfl rfl)
theorem dX9_does_163 : decode cX9_does 163 = .ok (.iaload, 1) := dk_46 (dk_at dksX9_does_6 5 rfl rfl)
theorem dX9_does_164 : decode cX9_does 164 = .ok (.invokevirtual 104, 3) := dk_182 0 104 (dk_at dksX9_does_6 6 rfl rfl)
theorem dX9_does_167 : decode cX9_does 167 = .ok (.ireturn, 1) := dk_172 (dk_at dksX9_does_6 9 rfl rfl)
theorem q72 : (Jvm.Cond.initialized "CliffPlots$Reader") ∈ lw_all := lw_g (lw_at lw_m1 15 rfl) rfl
theorem q252 : (Jvm.Cond.fieldLinkNest "CliffPlots$Reader" (91 : Nat) "CliffPlots$Cliff" "wind" "I" "CliffPlots") ∈ lw_tbl := lw_at lw_m1 195 rfl
theorem q255 : (Jvm.Cond.fieldLinkNest "CliffPlots$Reader" (94 : Nat) "CliffPlots$Cliff" "rain" "I" "CliffPlots") ∈ lw_tbl := lw_at lw_m1 198 rfl
theorem q361 : (Jvm.Cond.instantiable "CliffPlots$Reader" (6 : Nat)) ∈ lw_all := lw_g (lw_at lw_m2 64 rfl) rfl
theorem q363 : (Jvm.Cond.instanceMethod ({ cls := "CliffPlots$Reader", name := "<init>", desc := "(Ljava/lang/StringBuilder;)V" } : Jvm.MethodName)) ∈ lw_all := lw_g (lw_at lw_m2 66 rfl) rfl
theorem q364 : (Jvm.Cond.code ({ cls := "CliffPlots$Reader", name := "<init>", desc := "(Ljava/lang/StringBuilder;)V" } : Jvm.MethodName) prog_9_method_1_code (2 : Nat) (Option.none : Option Jvm.ClassFile.FieldType)) ∈ lw_all := lw_g (lw_at lw_m2 67 rfl) rfl
theorem q365 : (Jvm.Cond.methodLink "CliffPlots$Reader" (3 : Nat) ({ cls := "java/lang/Object", name := "<init>", desc := "()V" } : Jvm.MethodName)) ∈ lw_all := lw_g (lw_at lw_m2 68 rfl) rfl
theorem q366 : (Jvm.Cond.fieldLink "CliffPlots$Reader" (22 : Nat) "CliffPlots$Reader" "text" "Ljava/lang/StringBuilder;") ∈ lw_all := lw_g (lw_at lw_m2 69 rfl) rfl
theorem q367 : (Jvm.Cond.fieldLink "CliffPlots$Reader" (26 : Nat) "CliffPlots$Reader" "at" "I") ∈ lw_all := lw_g (lw_at lw_m2 70 rfl) rfl
theorem q368 : (Jvm.Cond.fieldLink "CliffPlots$Reader" (59 : Nat) "CliffPlots$Reader" "many" "I") ∈ lw_all := lw_g (lw_at lw_m2 71 rfl) rfl
theorem q370 : (Jvm.Cond.fieldLink "CliffPlots$Reader" (9 : Nat) "CliffPlots$Reader" "letters" "[C") ∈ lw_all := lw_g (lw_at lw_m2 73 rfl) rfl
theorem q371 : (Jvm.Cond.fieldLink "CliffPlots$Reader" (15 : Nat) "CliffPlots$Reader" "first" "[I") ∈ lw_all := lw_g (lw_at lw_m2 74 rfl) rfl
theorem q372 : (Jvm.Cond.fieldLink "CliffPlots$Reader" (19 : Nat) "CliffPlots$Reader" "second" "[I") ∈ lw_all := lw_g (lw_at lw_m2 75 rfl) rfl
theorem q373 : (Jvm.Cond.laysFinal "CliffPlots$Reader" "CliffPlots$Reader" "text" "Ljava/lang/StringBuilder;") ∈ lw_all := lw_g (lw_at lw_m2 76 rfl) rfl
theorem q374 : (Jvm.Cond.soleField "CliffPlots$Reader" "text") ∈ lw_all := lw_g (lw_at lw_m2 77 rfl) rfl
theorem q375 : (Jvm.Cond.lays "CliffPlots$Reader" "CliffPlots$Reader" "at" "I") ∈ lw_all := lw_g (lw_at lw_m2 78 rfl) rfl
theorem q376 : (Jvm.Cond.soleField "CliffPlots$Reader" "at") ∈ lw_all := lw_g (lw_at lw_m2 79 rfl) rfl
theorem q377 : (Jvm.Cond.lays "CliffPlots$Reader" "CliffPlots$Reader" "many" "I") ∈ lw_all := lw_g (lw_at lw_m2 80 rfl) rfl
theorem q378 : (Jvm.Cond.soleField "CliffPlots$Reader" "many") ∈ lw_all := lw_g (lw_at lw_m2 81 rfl) rfl
theorem q379 : (Jvm.Cond.laysFinal "CliffPlots$Reader" "CliffPlots$Reader" "letters" "[C") ∈ lw_all := lw_g (lw_at lw_m2 82 rfl) rfl
theorem q380 : (Jvm.Cond.soleField "CliffPlots$Reader" "letters") ∈ lw_all := lw_g (lw_at lw_m2 83 rfl) rfl
theorem q381 : (Jvm.Cond.laysFinal "CliffPlots$Reader" "CliffPlots$Reader" "first" "[I") ∈ lw_all := lw_g (lw_at lw_m2 84 rfl) rfl
theorem q382 : (Jvm.Cond.soleField "CliffPlots$Reader" "first") ∈ lw_all := lw_g (lw_at lw_m2 85 rfl) rfl
theorem q383 : (Jvm.Cond.laysFinal "CliffPlots$Reader" "CliffPlots$Reader" "second" "[I") ∈ lw_all := lw_g (lw_at lw_m2 86 rfl) rfl
theorem q384 : (Jvm.Cond.soleField "CliffPlots$Reader" "second") ∈ lw_all := lw_g (lw_at lw_m2 87 rfl) rfl
theorem q385 : (Jvm.Cond.superclass "CliffPlots$Reader" "java/lang/Object") ∈ lw_all := lw_g (lw_at lw_m2 88 rfl) rfl
theorem q491 : (Jvm.Cond.selects "CliffPlots$Reader" ({ cls := "java/lang/Object", name := "getClass", desc := "()Ljava/lang/Class;" } : Jvm.MethodName) ({ cls := "java/lang/Object", name := "getClass", desc := "()Ljava/lang/Class;" } : Jvm.MethodName)) ∈ lw_all := lw_g (lw_at lw_m2 194 rfl) rfl
theorem q1358 : (Jvm.Cond.instanceMethod ({ cls := "CliffPlots$Reader", name := "read", desc := "()V" } : Jvm.MethodName)) ∈ lw_all := lw_g (lw_at lw_m6 101 rfl) rfl
theorem q1359 : (Jvm.Cond.selects "CliffPlots$Reader" ({ cls := "CliffPlots$Reader", name := "read", desc := "()V" } : Jvm.MethodName) ({ cls := "CliffPlots$Reader", name := "read", desc := "()V" } : Jvm.MethodName)) ∈ lw_all := lw_g (lw_at lw_m6 102 rfl) rfl
theorem q1360 : (Jvm.Cond.code ({ cls := "CliffPlots$Reader", name := "read", desc := "()V" } : Jvm.MethodName) prog_9_method_9_code (1 : Nat) (Option.none : Option Jvm.ClassFile.FieldType)) ∈ lw_all := lw_g (lw_at lw_m6 103 rfl) rfl
theorem q1361 : (Jvm.Cond.methodLink "CliffPlots$Reader" (72 : Nat) ({ cls := "CliffPlots$Reader", name := "order", desc := "()V" } : Jvm.MethodName)) ∈ lw_all := lw_g (lw_at lw_m6 104 rfl) rfl
theorem q1362 : (Jvm.Cond.privateMethod ({ cls := "CliffPlots$Reader", name := "order", desc := "()V" } : Jvm.MethodName)) ∈ lw_tbl := lw_at lw_m6 105 rfl
theorem q1363 : (Jvm.Cond.instanceMethod ({ cls := "CliffPlots$Reader", name := "order", desc := "()V" } : Jvm.MethodName)) ∈ lw_all := lw_g (lw_at lw_m6 106 rfl) rfl
theorem q1364 : (Jvm.Cond.code ({ cls := "CliffPlots$Reader", name := "order", desc := "()V" } : Jvm.MethodName) prog_9_method_8_code (1 : Nat) (Option.none : Option Jvm.ClassFile.FieldType)) ∈ lw_all := lw_g (lw_at lw_m6 107 rfl) rfl
theorem q1365 : (Jvm.Cond.methodLink "CliffPlots$Reader" (43 : Nat) ({ cls := "CliffPlots$Reader", name := "skip", desc := "(I)Z" } : Jvm.MethodName)) ∈ lw_all := lw_g (lw_at lw_m6 108 rfl) rfl
theorem q1366 : (Jvm.Cond.privateMethod ({ cls := "CliffPlots$Reader", name := "skip", desc := "(I)Z" } : Jvm.MethodName)) ∈ lw_tbl := lw_at lw_m6 109 rfl
theorem q1367 : (Jvm.Cond.instanceMethod ({ cls := "CliffPlots$Reader", name := "skip", desc := "(I)Z" } : Jvm.MethodName)) ∈ lw_all := lw_g (lw_at lw_m6 110 rfl) rfl
theorem q1368 : (Jvm.Cond.code ({ cls := "CliffPlots$Reader", name := "skip", desc := "(I)Z" } : Jvm.MethodName) prog_9_method_3_code (2 : Nat) (Option.some Jvm.ClassFile.FieldType.boolean)) ∈ lw_all := lw_g (lw_at lw_m6 111 rfl) rfl
theorem q1369 : (Jvm.Cond.methodLink "CliffPlots$Reader" (40 : Nat) ({ cls := "CliffPlots$Reader", name := "here", desc := "()I" } : Jvm.MethodName)) ∈ lw_all := lw_g (lw_at lw_m6 112 rfl) rfl
theorem q1370 : (Jvm.Cond.privateMethod ({ cls := "CliffPlots$Reader", name := "here", desc := "()I" } : Jvm.MethodName)) ∈ lw_tbl := lw_at lw_m6 113 rfl
theorem q1371 : (Jvm.Cond.instanceMethod ({ cls := "CliffPlots$Reader", name := "here", desc := "()I" } : Jvm.MethodName)) ∈ lw_all := lw_g (lw_at lw_m6 114 rfl) rfl
theorem q1372 : (Jvm.Cond.code ({ cls := "CliffPlots$Reader", name := "here", desc := "()I" } : Jvm.MethodName) prog_9_method_2_code (1 : Nat) (Option.some Jvm.ClassFile.FieldType.int)) ∈ lw_all := lw_g (lw_at lw_m6 115 rfl) rfl
theorem q1373 : (Jvm.Cond.methodLink "CliffPlots$Reader" (30 : Nat) ({ cls := "java/lang/StringBuilder", name := "length", desc := "()I" } : Jvm.MethodName)) ∈ lw_all := lw_g (lw_at lw_m6 116 rfl) rfl
theorem q1374 : (Jvm.Cond.methodLink "CliffPlots$Reader" (36 : Nat) ({ cls := "java/lang/StringBuilder", name := "charAt", desc := "(I)C" } : Jvm.MethodName)) ∈ lw_all := lw_g (lw_at lw_m6 117 rfl) rfl
theorem q1386 : (Jvm.Cond.methodLink "CliffPlots$Reader" (56 : Nat) ({ cls := "CliffPlots$Reader", name := "digit", desc := "()I" } : Jvm.MethodName)) ∈ lw_all := lw_g (lw_at lw_m6 129 rfl) rfl
theorem q1387 : (Jvm.Cond.privateMethod ({ cls := "CliffPlots$Reader", name := "digit", desc := "()I" } : Jvm.MethodName)) ∈ lw_tbl := lw_at lw_m6 130 rfl
theorem q1388 : (Jvm.Cond.instanceMethod ({ cls := "CliffPlots$Reader", name := "digit", desc := "()I" } : Jvm.MethodName)) ∈ lw_all := lw_g (lw_at lw_m6 131 rfl) rfl
theorem q1389 : (Jvm.Cond.code ({ cls := "CliffPlots$Reader", name := "digit", desc := "()I" } : Jvm.MethodName) prog_9_method_5_code (1 : Nat) (Option.some Jvm.ClassFile.FieldType.int)) ∈ lw_all := lw_g (lw_at lw_m6 132 rfl) rfl
theorem q1390 : (Jvm.Cond.methodLinkNest "CliffPlots$Reader" (52 : Nat) ({ cls := "CliffPlots", name := "in", desc := "(III)Z" } : Jvm.MethodName) "CliffPlots") ∈ lw_tbl := lw_at lw_m6 133 rfl
theorem q1391 : (Jvm.Cond.classLink "CliffPlots$Reader" (47 : Nat) "CliffPlots$Fault") ∈ lw_all := lw_g (lw_at lw_m6 134 rfl) rfl
theorem q1400 : (Jvm.Cond.methodLink "CliffPlots$Reader" (49 : Nat) ({ cls := "CliffPlots$Fault", name := "<init>", desc := "(I)V" } : Jvm.MethodName)) ∈ lw_all := lw_g (lw_at lw_m6 143 rfl) rfl
theorem q1410 : (Jvm.Cond.methodLink "CliffPlots$Reader" (65 : Nat) ({ cls := "CliffPlots$Reader", name := "must", desc := "(I)V" } : Jvm.MethodName)) ∈ lw_all := lw_g (lw_at lw_m6 153 rfl) rfl
theorem q1411 : (Jvm.Cond.privateMethod ({ cls := "CliffPlots$Reader", name := "must", desc := "(I)V" } : Jvm.MethodName)) ∈ lw_tbl := lw_at lw_m6 154 rfl
theorem q1412 : (Jvm.Cond.instanceMethod ({ cls := "CliffPlots$Reader", name := "must", desc := "(I)V" } : Jvm.MethodName)) ∈ lw_all := lw_g (lw_at lw_m6 155 rfl) rfl
theorem q1413 : (Jvm.Cond.code ({ cls := "CliffPlots$Reader", name := "must", desc := "(I)V" } : Jvm.MethodName) prog_9_method_4_code (2 : Nat) (Option.none : Option Jvm.ClassFile.FieldType)) ∈ lw_all := lw_g (lw_at lw_m6 156 rfl) rfl
theorem q1414 : (Jvm.Cond.methodLink "CliffPlots$Reader" (62 : Nat) ({ cls := "CliffPlots$Reader", name := "number", desc := "()I" } : Jvm.MethodName)) ∈ lw_all := lw_g (lw_at lw_m6 157 rfl) rfl
theorem q1415 : (Jvm.Cond.privateMethod ({ cls := "CliffPlots$Reader", name := "number", desc := "()I" } : Jvm.MethodName)) ∈ lw_tbl := lw_at lw_m6 158 rfl
theorem q1416 : (Jvm.Cond.instanceMethod ({ cls := "CliffPlots$Reader", name := "number", desc := "()I" } : Jvm.MethodName)) ∈ lw_all := lw_g (lw_at lw_m6 159 rfl) rfl
theorem q1417 : (Jvm.Cond.code ({ cls := "CliffPlots$Reader", name := "number", desc := "()I" } : Jvm.MethodName) prog_9_method_6_code (2 : Nat) (Option.some Jvm.ClassFile.FieldType.int)) ∈ lw_all := lw_g (lw_at lw_m6 160 rfl) rfl
theorem q1418 : (Jvm.Cond.methodLink "CliffPlots$Reader" (68 : Nat) ({ cls := "CliffPlots$Reader", name := "isNumber", desc := "(C)Z" } : Jvm.MethodName)) ∈ lw_all := lw_g (lw_at lw_m6 161 rfl) rfl
theorem q1419 : (Jvm.Cond.privateMethod ({ cls := "CliffPlots$Reader", name := "isNumber", desc := "(C)Z" } : Jvm.MethodName)) ∈ lw_tbl := lw_at lw_m6 162 rfl
theorem q1420 : (Jvm.Cond.instanceMethod ({ cls := "CliffPlots$Reader", name := "isNumber", desc := "(C)Z" } : Jvm.MethodName)) ∈ lw_all := lw_g (lw_at lw_m6 163 rfl) rfl
theorem q1421 : (Jvm.Cond.code ({ cls := "CliffPlots$Reader", name := "isNumber", desc := "(C)Z" } : Jvm.MethodName) prog_9_method_7_code (2 : Nat) (Option.some Jvm.ClassFile.FieldType.boolean)) ∈ lw_all := lw_g (lw_at lw_m6 164 rfl) rfl
theorem q1601 : (Jvm.Cond.instanceMethod ({ cls := "CliffPlots$Reader", name := "isRight", desc := "(LCliffPlots$Cliff;I)Z" } : Jvm.MethodName)) ∈ lw_all := lw_g (lw_at lw_m7 104 rfl) rfl
theorem q1602 : (Jvm.Cond.selects "CliffPlots$Reader" ({ cls := "CliffPlots$Reader", name := "isRight", desc := "(LCliffPlots$Cliff;I)Z" } : Jvm.MethodName) ({ cls := "CliffPlots$Reader", name := "isRight", desc := "(LCliffPlots$Cliff;I)Z" } : Jvm.MethodName)) ∈ lw_all := lw_g (lw_at lw_m7 105 rfl) rfl
theorem q1603 : (Jvm.Cond.code ({ cls := "CliffPlots$Reader", name := "isRight", desc := "(LCliffPlots$Cliff;I)Z" } : Jvm.MethodName) prog_9_method_10_code (3 : Nat) (Option.some Jvm.ClassFile.FieldType.boolean)) ∈ lw_all := lw_g (lw_at lw_m7 106 rfl) rfl
theorem q1604 : (Jvm.Cond.methodLink "CliffPlots$Reader" (75 : Nat) ({ cls := "CliffPlots$Cliff", name := "isMember", desc := "(I)Z" } : Jvm.MethodName)) ∈ lw_all := lw_g (lw_at lw_m7 107 rfl) rfl
theorem q1605 : (Jvm.Cond.methodLinkNest "CliffPlots$Reader" (80 : Nat) ({ cls := "CliffPlots", name := "isPlot", desc := "(I)Z" } : Jvm.MethodName) "CliffPlots") ∈ lw_tbl := lw_at lw_m7 108 rfl
theorem q1607 : (Jvm.Cond.instanceMethod ({ cls := "CliffPlots$Reader", name := "does", desc := "(LCliffPlots$Cliff;I)I" } : Jvm.MethodName)) ∈ lw_all := lw_g (lw_at lw_m7 110 rfl) rfl
theorem q1608 : (Jvm.Cond.selects "CliffPlots$Reader" ({ cls := "CliffPlots$Reader", name := "does", desc := "(LCliffPlots$Cliff;I)I" } : Jvm.MethodName) ({ cls := "CliffPlots$Reader", name := "does", desc := "(LCliffPlots$Cliff;I)I" } : Jvm.MethodName)) ∈ lw_all := lw_g (lw_at lw_m7 111 rfl) rfl
theorem q1609 : (Jvm.Cond.code ({ cls := "CliffPlots$Reader", name := "does", desc := "(LCliffPlots$Cliff;I)I" } : Jvm.MethodName) prog_9_method_11_code (3 : Nat) (Option.some Jvm.ClassFile.FieldType.int)) ∈ lw_all := lw_g (lw_at lw_m7 112 rfl) rfl
theorem q1610 : (Jvm.Cond.methodLink "CliffPlots$Reader" (83 : Nat) ({ cls := "CliffPlots$Cliff", name := "dig", desc := "(II)I" } : Jvm.MethodName)) ∈ lw_all := lw_g (lw_at lw_m7 113 rfl) rfl
theorem q1611 : (Jvm.Cond.methodLink "CliffPlots$Reader" (87 : Nat) ({ cls := "CliffPlots$Cliff", name := "rest", desc := "(I)I" } : Jvm.MethodName)) ∈ lw_all := lw_g (lw_at lw_m7 114 rfl) rfl
theorem q1612 : (Jvm.Cond.methodLink "CliffPlots$Reader" (97 : Nat) ({ cls := "CliffPlots$Cliff", name := "vote", desc := "(IZ)I" } : Jvm.MethodName)) ∈ lw_all := lw_g (lw_at lw_m7 115 rfl) rfl
theorem q1613 : (Jvm.Cond.methodLink "CliffPlots$Reader" (101 : Nat) ({ cls := "CliffPlots$Cliff", name := "count", desc := "()I" } : Jvm.MethodName)) ∈ lw_all := lw_g (lw_at lw_m7 116 rfl) rfl
theorem q1614 : (Jvm.Cond.methodLink "CliffPlots$Reader" (104 : Nat) ({ cls := "CliffPlots$Cliff", name := "pass", desc := "(I)I" } : Jvm.MethodName)) ∈ lw_all := lw_g (lw_at lw_m7 117 rfl) rfl
theorem q2117 : (Jvm.Cond.castable "CliffPlots$Reader" "java/lang/Object") ∈ lw_tbl := lw_at lw_m9 140 rfl
theorem in_X9 : ∀ w ∈ wsX90, w ∈ lw_all := lw_in wsX90 [373, 375, 377, 379, 381, 383] (by decide +kernel) (by decide +kernel)
