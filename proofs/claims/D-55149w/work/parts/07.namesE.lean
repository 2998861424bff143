/-! java/util/AbstractCollection -/
set_option maxRecDepth 100000
def RJ0 : String := "java/util/AbstractCollection"
abbrev cJ0_init : ByteArray := prog_43_method_1_code
def yJ0_init : MethodName := ⟨RJ0, "<init>", "()V"⟩
theorem dJ0_init_0 : decode cJ0_init 0 = .ok (.aload_n 0, 1) := by decide +kernel
theorem dJ0_init_1 : decode cJ0_init 1 = .ok (.invokespecial 1, 3) := by decide +kernel
theorem dJ0_init_4 : decode cJ0_init 4 = .ok (.return_, 1) := by decide +kernel
theorem q66 : (Jvm.Cond.initialized "java/util/AbstractCollection") ∈ lw_all := lw_g (lw_at lw_m1 9 rfl) rfl
theorem q312 : (Jvm.Cond.instanceMethod ({ cls := "java/util/AbstractCollection", name := "<init>", desc := "()V" } : Jvm.MethodName)) ∈ lw_all := lw_g (lw_at lw_m2 15 rfl) rfl
theorem q313 : (Jvm.Cond.code ({ cls := "java/util/AbstractCollection", name := "<init>", desc := "()V" } : Jvm.MethodName) prog_43_method_1_code (1 : Nat) (Option.none : Option Jvm.ClassFile.FieldType)) ∈ lw_all := lw_g (lw_at lw_m2 16 rfl) rfl
theorem q314 : (Jvm.Cond.methodLink "java/util/AbstractCollection" (1 : Nat) ({ cls := "java/lang/Object", name := "<init>", desc := "()V" } : Jvm.MethodName)) ∈ lw_all := lw_g (lw_at lw_m2 17 rfl) rfl
/-! java/util/ArrayDeque -/
set_option maxRecDepth 100000
def RJ1 : String := "java/util/ArrayDeque"
def TJ1 : u_T := fun k => match k with
  | 0 => ("java/util/ArrayDeque", "elements", "[Ljava/lang/Object;", false)
  | 1 => ("java/util/ArrayDeque", "head", "I", false)
  | _ => ("java/util/ArrayDeque", "tail", "I", false)
def tyJ1 : Nat → FieldType := fun k => match k with
  | 0 => .array (.object "java/lang/Object")
  | 1 => .int
  | _ => .int
abbrev wsJ10 : List Cond := u_ws RJ1 TJ1 3
theorem nmJ1 : ∀ a, a < 3 → ∀ b, b < 3 → a ≠ b → (TJ1 a).2.1 ≠ (TJ1 b).2.1 := by decide +kernel
theorem tyJ1_ok : ∀ k, k < 3 → parseFieldDescriptor (TJ1 k).2.2.1 = some (tyJ1 k) := by decide +kernel
abbrev cJ1_init : ByteArray := prog_44_method_3_code
def yJ1_init : MethodName := ⟨RJ1, "<init>", "()V"⟩
def dkwJ1_init_0 : List UInt8 := [42, 183, 0, 42, 42, 16, 17, 189, 0, 47, 181, 0, 3, 177]
abbrev dktJ1_init_0 : List UInt8 := dkwJ1_init_0 ++ []
theorem dksJ1_init_0 : cJ1_init.data.toList.drop 0 = dktJ1_init_0 := by decide +kernel
theorem dJ1_init_0 : decode cJ1_init 0 = .ok (.aload_n 0, 1) := dk_42 (dk_at dksJ1_init_0 0 rfl rfl)
theorem dJ1_init_1 : decode cJ1_init 1 = .ok (.invokespecial 42, 3) := dk_183 0 42 (dk_at dksJ1_init_0 1 rfl rfl)
theorem dJ1_init_4 : decode cJ1_init 4 = .ok (.aload_n 0, 1) := dk_42 (dk_at dksJ1_init_0 4 rfl rfl)
theorem dJ1_init_5 : decode cJ1_init 5 = .ok (.bipush 17, 2) := dk_16 17 (dk_at dksJ1_init_0 5 rfl rfl)
theorem dJ1_init_7 : decode cJ1_init 7 = .ok (.anewarray 47, 3) := dk_189 0 47 (dk_at dksJ1_init_0 7 rfl rfl)
theorem dJ1_init_10 : decode cJ1_init 10 = .ok (.putfield 3, 3) := dk_181 0 3 (dk_at dksJ1_init_0 10 rfl rfl)
theorem dJ1_init_13 : decode cJ1_init 13 = .ok (.return_, 1) := dk_177 (dk_at dksJ1_init_0 13 rfl rfl)
abbrev cJ1_addLast : ByteArray := prog_44_method_13_code
def yJ1_addLast : MethodName := ⟨RJ1, "addLast", "(Ljava/lang/Object;)V"⟩
def dkwJ1_addLast_2 : List UInt8 := [182, 0, 71, 177]
abbrev dktJ1_addLast_2 : List UInt8 := dkwJ1_addLast_2 ++ []
def dkwJ1_addLast_1 : List UInt8 := [42, 180, 0, 24, 42, 42, 180, 0, 20, 44, 190, 184, 0, 74, 90, 181, 0, 20, 160, 0, 8, 42, 4]
abbrev dktJ1_addLast_1 : List UInt8 := dkwJ1_addLast_1 ++ dktJ1_addLast_2
def dkwJ1_addLast_0 : List UInt8 := [43, 199, 0, 11, 187, 0, 65, 89, 183, 0, 67, 191, 42, 180, 0, 3, 77, 44, 42, 180, 0, 20, 43, 83]
abbrev dktJ1_addLast_0 : List UInt8 := dkwJ1_addLast_0 ++ dktJ1_addLast_1
theorem dksJ1_addLast_0 : cJ1_addLast.data.toList.drop 0 = dktJ1_addLast_0 := by decide +kernel
theorem dksJ1_addLast_1 : cJ1_addLast.data.toList.drop 24 = dktJ1_addLast_1 := dk_seg dksJ1_addLast_0 24 rfl rfl
theorem dksJ1_addLast_2 : cJ1_addLast.data.toList.drop 47 = dktJ1_addLast_2 := dk_seg dksJ1_addLast_1 23 rfl rfl
theorem dJ1_addLast_0 : decode cJ1_addLast 0 = .ok (.aload_n 1, 1) := dk_43 (dk_at dksJ1_addLast_0 0 rfl rfl)
theorem dJ1_addLast_1 : decode cJ1_addLast 1 = .ok (.ifnonnull 11, 3) := dk_199 0 11 (dk_at dksJ1_addLast_0 1 rfl rfl)
theorem dJ1_addLast_4 : decode cJ1_addLast 4 = .ok (.new 65, 3) := dk_187 0 65 (dk_at dksJ1_addLast_0 4 rfl rfl)
theorem dJ1_addLast_7 : decode cJ1_addLast 7 = .ok (.dup, 1) := dk_89 (dk_at dksJ1_addLast_0 7 rfl rfl)
theorem dJ1_addLast_8 : decode cJ1_addLast 8 = .ok (.invokespecial 67, 3) := dk_183 0 67 (dk_at dksJ1_addLast_0 8 rfl rfl)
theorem dJ1_addLast_11 : decode cJ1_addLast 11 = .ok (.athrow, 1) := dk_191 (dk_at dksJ1_addLast_0 11 rfl rfl)
theorem dJ1_addLast_12 : decode cJ1_addLast 12 = .ok (.aload_n 0, 1) := dk_42 (dk_at dksJ1_addLast_0 12 rfl rfl)
theorem dJ1_addLast_13 : decode cJ1_addLast 13 = .ok (.getfield 3, 3) := dk_180 0 3 (dk_at dksJ1_addLast_0 13 rfl rfl)
theorem dJ1_addLast_16 : decode cJ1_addLast 16 = .ok (.astore_n 2, 1) := dk_77 (dk_at dksJ1_addLast_0 16 rfl rfl)
theorem dJ1_addLast_17 : decode cJ1_addLast 17 = .ok (.aload_n 2, 1) := dk_44 (dk_at dksJ1_addLast_0 17 rfl rfl)
theorem dJ1_addLast_18 : decode cJ1_addLast 18 = .ok (.aload_n 0, 1) := dk_42 (dk_at dksJ1_addLast_0 18 rfl rfl)
theorem dJ1_addLast_19 : decode cJ1_addLast 19 = .ok (.getfield 20, 3) := dk_180 0 20 (dk_at dksJ1_addLast_0 19 rfl rfl)
theorem dJ1_addLast_22 : decode cJ1_addLast 22 = .ok (.aload_n 1, 1) := dk_43 (dk_at dksJ1_addLast_0 22 rfl rfl)
theorem dJ1_addLast_23 : decode cJ1_addLast 23 = .ok (.aastore, 1) := dk_83 (dk_at dksJ1_addLast_0 23 rfl rfl)
theorem dJ1_addLast_24 : decode cJ1_addLast 24 = .ok (.aload_n 0, 1) := dk_42 (dk_at dksJ1_addLast_1 0 rfl rfl)
theorem dJ1_addLast_25 : decode cJ1_addLast 25 = .ok (.getfield 24, 3) := dk_180 0 24 (dk_at dksJ1_addLast_1 1 rfl rfl)
theorem dJ1_addLast_28 : decode cJ1_addLast 28 = .ok (.aload_n 0, 1) := dk_42 (dk_at dksJ1_addLast_1 4 rfl rfl)
theorem dJ1_addLast_29 : decode cJ1_addLast 29 = .ok (.aload_n 0, 1) := dk_42 (dk_at dksJ1_addLast_1 5 rfl rfl)
theorem dJ1_addLast_30 : decode cJ1_addLast 30 = .ok (.getfield 20, 3) := dk_180 0 20 (dk_at dksJ1_addLast_1 6 rfl rfl)
theorem dJ1_addLast_33 : decode cJ1_addLast 33 = .ok (.aload_n 2, 1) := dk_44 (dk_at dksJ1_addLast_1 9 rfl rfl)
theorem dJ1_addLast_34 : decode cJ1_addLast 34 = .ok (.arraylength, 1) := dk_190 (dk_at dksJ1_addLast_1 10 rfl rfl)
theorem dJ1_addLast_35 : decode cJ1_addLast 35 = .ok (.invokestatic 74, 3) := dk_184 0 74 (dk_at dksJ1_addLast_1 11 rfl rfl)
theorem dJ1_addLast_38 : decode cJ1_addLast 38 = .ok (.dup_x1, 1) := dk_90 (dk_at dksJ1_addLast_1 14 rfl rfl)
theorem dJ1_addLast_39 : decode cJ1_addLast 39 = .ok (.putfield 20, 3) := dk_181 0 20 (dk_at dksJ1_addLast_1 15 rfl rfl)
theorem dJ1_addLast_42 : decode cJ1_addLast 42 = .ok (.if_icmp .ne 8, 3) := dk_160 0 8 (dk_at dksJ1_addLast_1 18 rfl rfl)
theorem dJ1_addLast_45 : decode cJ1_addLast 45 = .ok (.aload_n 0, 1) := dk_42 (dk_at dksJ1_addLast_1 21 rfl rfl)
theorem dJ1_addLast_46 : decode cJ1_addLast 46 = .ok (.iconst 1, 1) := dk_4 (dk_at dksJ1_addLast_1 22 rfl rfl)
theorem dJ1_addLast_47 : decode cJ1_addLast 47 = .ok (.invokevirtual 71, 3) := dk_182 0 71 (dk_at dksJ1_addLast_2 0 rfl rfl)
theorem dJ1_addLast_50 : decode cJ1_addLast 50 = .ok (.return_, 1) := dk_177 (dk_at dksJ1_addLast_2 3 rfl rfl)
abbrev cJ1_inc : ByteArray := prog_44_method_6_code
def yJ1_inc : MethodName := ⟨RJ1, "inc", "(II)I"⟩
def dkwJ1_inc_0 : List UInt8 := [132, 0, 1, 26, 27, 161, 0, 5, 3, 59, 26, 172]
abbrev dktJ1_inc_0 : List UInt8 := dkwJ1_inc_0 ++ []
theorem dksJ1_inc_0 : cJ1_inc.data.toList.drop 0 = dktJ1_inc_0 := by decide +kernel
theorem dJ1_inc_0 : decode cJ1_inc 0 = .ok (.iinc 0 1, 3) := dk_132 0 1 (dk_at dksJ1_inc_0 0 rfl rfl)
theorem dJ1_inc_3 : decode cJ1_inc 3 = .ok (.iload_n 0, 1) := dk_26 (dk_at dksJ1_inc_0 3 rfl rfl)
theorem dJ1_inc_4 : decode cJ1_inc 4 = .ok (.iload_n 1, 1) := dk_27 (dk_at dksJ1_inc_0 4 rfl rfl)
theorem dJ1_inc_5 : decode cJ1_inc 5 = .ok (.if_icmp .lt 5, 3) := dk_161 0 5 (dk_at dksJ1_inc_0 5 rfl rfl)
theorem dJ1_inc_8 : decode cJ1_inc 8 = .ok (.iconst 0, 1) := dk_3 (dk_at dksJ1_inc_0 8 rfl rfl)
theorem dJ1_inc_9 : decode cJ1_inc 9 = .ok (.istore_n 0, 1) := dk_59 (dk_at dksJ1_inc_0 9 rfl rfl)
theorem dJ1_inc_10 : decode cJ1_inc 10 = .ok (.iload_n 0, 1) := dk_26 (dk_at dksJ1_inc_0 10 rfl rfl)
theorem dJ1_inc_11 : decode cJ1_inc 11 = .ok (.ireturn, 1) := dk_172 (dk_at dksJ1_inc_0 11 rfl rfl)
abbrev cJ1_grow : ByteArray := prog_44_method_1_code
def yJ1_grow : MethodName := ⟨RJ1, "grow", "(I)V"⟩
def dkwJ1_grow_7 : List UInt8 := [177]
abbrev dktJ1_grow_7 : List UInt8 := dkwJ1_grow_7 ++ []
def dkwJ1_grow_6 : List UInt8 := [181, 0, 24, 54, 8, 21, 7, 21, 8, 162, 0, 15, 25, 5, 21, 7, 1, 83, 132, 7, 1, 167, 255, 240]
abbrev dktJ1_grow_6 : List UInt8 := dkwJ1_grow_6 ++ dktJ1_grow_7
def dkwJ1_grow_5 : List UInt8 := [42, 180, 0, 24, 100, 184, 0, 27, 42, 180, 0, 24, 54, 7, 42, 89, 180, 0, 24, 21, 6, 96, 90]
abbrev dktJ1_grow_5 : List UInt8 := dkwJ1_grow_5 ++ dktJ1_grow_6
def dkwJ1_grow_4 : List UInt8 := [198, 0, 71, 29, 28, 100, 54, 6, 25, 5, 42, 180, 0, 24, 25, 5, 42, 180, 0, 24, 21, 6, 96, 28]
abbrev dktJ1_grow_4 : List UInt8 := dkwJ1_grow_4 ++ dktJ1_grow_5
def dkwJ1_grow_3 : List UInt8 := [180, 0, 24, 161, 0, 24, 42, 180, 0, 20, 42, 180, 0, 24, 160, 0, 81, 25, 5, 42, 180, 0, 24, 50]
abbrev dktJ1_grow_3 : List UInt8 := dkwJ1_grow_3 ++ dktJ1_grow_4
def dkwJ1_grow_2 : List UInt8 := [182, 0, 10, 62, 42, 42, 180, 0, 3, 29, 184, 0, 14, 90, 181, 0, 3, 58, 5, 42, 180, 0, 20, 42]
abbrev dktJ1_grow_2 : List UInt8 := dkwJ1_grow_2 ++ dktJ1_grow_3
def dkwJ1_grow_1 : List UInt8 := [21, 4, 27, 161, 0, 15, 28, 21, 4, 96, 89, 62, 18, 9, 100, 158, 0, 11, 42, 27, 21, 4]
abbrev dktJ1_grow_1 : List UInt8 := dkwJ1_grow_1 ++ dktJ1_grow_2
def dkwJ1_grow_0 : List UInt8 := [42, 180, 0, 3, 190, 61, 28, 16, 64, 162, 0, 9, 28, 5, 96, 167, 0, 6, 28, 4, 122, 54, 4]
abbrev dktJ1_grow_0 : List UInt8 := dkwJ1_grow_0 ++ dktJ1_grow_1
theorem dksJ1_grow_0 : cJ1_grow.data.toList.drop 0 = dktJ1_grow_0 := by decide +kernel
theorem dksJ1_grow_1 : cJ1_grow.data.toList.drop 23 = dktJ1_grow_1 := dk_seg dksJ1_grow_0 23 rfl rfl
theorem dksJ1_grow_2 : cJ1_grow.data.toList.drop 45 = dktJ1_grow_2 := dk_seg dksJ1_grow_1 22 rfl rfl
theorem dksJ1_grow_3 : cJ1_grow.data.toList.drop 69 = dktJ1_grow_3 := dk_seg dksJ1_grow_2 24 rfl rfl
theorem dksJ1_grow_4 : cJ1_grow.data.toList.drop 93 = dktJ1_grow_4 := dk_seg dksJ1_grow_3 24 rfl rfl
theorem dksJ1_grow_5 : cJ1_grow.data.toList.drop 117 = dktJ1_grow_5 := dk_seg dksJ1_grow_4 24 rfl rfl
theorem dksJ1_grow_6 : cJ1_grow.data.toList.drop 140 = dktJ1_grow_6 := dk_seg dksJ1_grow_5 23 rfl rfl
theorem dksJ1_grow_7 : cJ1_grow.data.toList.drop 164 = dktJ1_grow_7 := dk_seg dksJ1_grow_6 24 rfl rfl
theorem dJ1_grow_0 : decode cJ1_grow 0 = .ok (.aload_n 0, 1) := dk_42 (dk_at dksJ1_grow_0 0 rfl rfl)
theorem dJ1_grow_1 : decode cJ1_grow 1 = .ok (.getfield 3, 3) := dk_180 0 3 (dk_at dksJ1_grow_0 1 rfl rfl)
theorem dJ1_grow_4 : decode cJ1_grow 4 = .ok (.arraylength, 1) := dk_190 (dk_at dksJ1_grow_0 4 rfl rfl)
theorem dJ1_grow_5 : decode cJ1_grow 5 = .ok (.istore_n 2, 1) := dk_61 (dk_at dksJ1_grow_0 5 rfl rfl)
theorem dJ1_grow_6 : decode cJ1_grow 6 = .ok (.iload_n 2, 1) := dk_28 (dk_at dksJ1_grow_0 6 rfl rfl)
theorem dJ1_grow_7 : decode cJ1_grow 7 = .ok (.bipush 64, 2) := dk_16 64 (dk_at dksJ1_grow_0 7 rfl rfl)
theorem dJ1_grow_9 : decode cJ1_grow 9 = .ok (.if_icmp .ge 9, 3) := dk_162 0 9 (dk_at dksJ1_grow_0 9 rfl rfl)
theorem dJ1_grow_12 : decode cJ1_grow 12 = .ok (.iload_n 2, 1) := dk_28 (dk_at dksJ1_grow_0 12 rfl rfl)
theorem dJ1_grow_13 : decode cJ1_grow 13 = .ok (.iconst 2, 1) := dk_5 (dk_at dksJ1_grow_0 13 rfl rfl)
theorem dJ1_grow_14 : decode cJ1_grow 14 = .ok (.iadd, 1) := dk_96 (dk_at dksJ1_grow_0 14 rfl rfl)
theorem dJ1_grow_15 : decode cJ1_grow 15 = .ok (.goto 6, 3) := dk_167 0 6 (dk_at dksJ1_grow_0 15 rfl rfl)
theorem dJ1_grow_18 : decode cJ1_grow 18 = .ok (.iload_n 2, 1) := dk_28 (dk_at dksJ1_grow_0 18 rfl rfl)
theorem dJ1_grow_19 : decode cJ1_grow 19 = .ok (.iconst 1, 1) := dk_4 (dk_at dksJ1_grow_0 19 rfl rfl)
theorem dJ1_grow_20 : decode cJ1_grow 20 = .ok (.ishr, 1) := dk_122 (dk_at dksJ1_grow_0 20 rfl rfl)
theorem dJ1_grow_21 : decode cJ1_grow 21 = .ok (.istore 4, 2) := dk_54 4 (dk_at dksJ1_grow_0 21 rfl rfl)
theorem dJ1_grow_23 : decode cJ1_grow 23 = .ok (.iload 4, 2) := dk_21 4 (dk_at dksJ1_grow_1 0 rfl rfl)
theorem dJ1_grow_25 : decode cJ1_grow 25 = .ok (.iload_n 1, 1) := dk_27 (dk_at dksJ1_grow_1 2 rfl rfl)
theorem dJ1_grow_26 : decode cJ1_grow 26 = .ok (.if_icmp .lt 15, 3) := dk_161 0 15 (dk_at dksJ1_grow_1 3 rfl rfl)
theorem dJ1_grow_29 : decode cJ1_grow 29 = .ok (.iload_n 2, 1) := dk_28 (dk_at dksJ1_grow_1 6 rfl rfl)
theorem dJ1_grow_30 : decode cJ1_grow 30 = .ok (.iload 4, 2) := dk_21 4 (dk_at dksJ1_grow_1 7 rfl rfl)
theorem dJ1_grow_32 : decode cJ1_grow 32 = .ok (.iadd, 1) := dk_96 (dk_at dksJ1_grow_1 9 rfl rfl)
theorem dJ1_grow_33 : decode cJ1_grow 33 = .ok (.dup, 1) := dk_89 (dk_at dksJ1_grow_1 10 rfl rfl)
theorem dJ1_grow_34 : decode cJ1_grow 34 = .ok (.istore_n 3, 1) := dk_62 (dk_at dksJ1_grow_1 11 rfl rfl)
theorem dJ1_grow_35 : decode cJ1_grow 35 = .ok (.ldc 9, 2) := dk_18 9 (dk_at dksJ1_grow_1 12 rfl rfl)
theorem dJ1_grow_37 : decode cJ1_grow 37 = .ok (.isub, 1) := dk_100 (dk_at dksJ1_grow_1 14 rfl rfl)
theorem dJ1_grow_38 : decode cJ1_grow 38 = .ok (.ifCond .le 11, 3) := dk_158 0 11 (dk_at dksJ1_grow_1 15 rfl rfl)
theorem dJ1_grow_41 : decode cJ1_grow 41 = .ok (.aload_n 0, 1) := dk_42 (dk_at dksJ1_grow_1 18 rfl rfl)
theorem dJ1_grow_42 : decode cJ1_grow 42 = .ok (.iload_n 1, 1) := dk_27 (dk_at dksJ1_grow_1 19 rfl rfl)
theorem dJ1_grow_43 : decode cJ1_grow 43 = .ok (.iload 4, 2) := dk_21 4 (dk_at dksJ1_grow_1 20 rfl rfl)
theorem dJ1_grow_45 : decode cJ1_grow 45 = .ok (.invokevirtual 10, 3) := dk_182 0 10 (dk_at dksJ1_grow_2 0 rfl rfl)
theorem dJ1_grow_48 : decode cJ1_grow 48 = .ok (.istore_n 3, 1) := dk_62 (dk_at dksJ1_grow_2 3 rfl rfl)
theorem dJ1_grow_49 : decode cJ1_grow 49 = .ok (.aload_n 0, 1) := dk_42 (dk_at dksJ1_grow_2 4 rfl rfl)
theorem dJ1_grow_50 : decode cJ1_grow 50 = .ok (.aload_n 0, 1) := dk_42 (dk_at dksJ1_grow_2 5 rfl rfl)
theorem dJ1_grow_51 : decode cJ1_grow 51 = .ok (.getfield 3, 3) := dk_180 0 3 (dk_at dksJ1_grow_2 6 rfl rfl)
theorem dJ1_grow_54 : decode cJ1_grow 54 = .ok (.iload_n 3, 1) := dk_29 (dk_at dksJ1_grow_2 9 rfl rfl)
theorem dJ1_grow_55 : decode cJ1_grow 55 = .ok (.invokestatic 14, 3) := dk_184 0 14 (dk_at dksJ1_grow_2 10 rfl rfl)
theorem dJ1_grow_58 : decode cJ1_grow 58 = .ok (.dup_x1, 1) := dk_90 (dk_at dksJ1_grow_2 13 rfl rfl)
theorem dJ1_grow_59 : decode cJ1_grow 59 = .ok (.putfield 3, 3) := dk_181 0 3 (dk_at dksJ1_grow_2 14 rfl rfl)
theorem dJ1_grow_62 : decode cJ1_grow 62 = .ok (.astore 5, 2) := dk_58 5 (dk_at dksJ1_grow_2 17 rfl rfl)
theorem dJ1_grow_64 : decode cJ1_grow 64 = .ok (.aload_n 0, 1) := dk_42 (dk_at dksJ1_grow_2 19 rfl rfl)
theorem dJ1_grow_65 : decode cJ1_grow 65 = .ok (.getfield 20, 3) := dk_180 0 20 (dk_at dksJ1_grow_2 20 rfl rfl)
theorem dJ1_grow_68 : decode cJ1_grow 68 = .ok (.aload_n 0, 1) := dk_42 (dk_at dksJ1_grow_2 23 rfl rfl)
theorem dJ1_grow_69 : decode cJ1_grow 69 = .ok (.getfield 24, 3) := dk_180 0 24 (dk_at dksJ1_grow_3 0 rfl rfl)
theorem dJ1_grow_72 : decode cJ1_grow 72 = .ok (.if_icmp .lt 24, 3) := dk_161 0 24 (dk_at dksJ1_grow_3 3 rfl rfl)
theorem dJ1_grow_75 : decode cJ1_grow 75 = .ok (.aload_n 0, 1) := dk_42 (dk_at dksJ1_grow_3 6 rfl rfl)
theorem dJ1_grow_76 : decode cJ1_grow 76 = .ok (.getfield 20, 3) := dk_180 0 20 (dk_at dksJ1_grow_3 7 rfl rfl)
theorem dJ1_grow_79 : decode cJ1_grow 79 = .ok (.aload_n 0, 1) := dk_42 (dk_at dksJ1_grow_3 10 rfl rfl)
theorem dJ1_grow_80 : decode cJ1_grow 80 = .ok (.getfield 24, 3) := dk_180 0 24 (dk_at dksJ1_grow_3 11 rfl rfl)
theorem dJ1_grow_83 : decode cJ1_grow 83 = .ok (.if_icmp .ne 81, 3) := dk_160 0 81 (dk_at dksJ1_grow_3 14 rfl rfl)
theorem dJ1_grow_86 : decode cJ1_grow 86 = .ok (.aload 5, 2) := dk_25 5 (dk_at dksJ1_grow_3 17 rfl rfl)
theorem dJ1_grow_88 : decode cJ1_grow 88 = .ok (.aload_n 0, 1) := dk_42 (dk_at dksJ1_grow_3 19 rfl rfl)
theorem dJ1_grow_89 : decode cJ1_grow 89 = .ok (.getfield 24, 3) := dk_180 0 24 (dk_at dksJ1_grow_3 20 rfl rfl)
theorem dJ1_grow_92 : decode cJ1_grow 92 = .ok (.aaload, 1) := dk_50 (dk_at dksJ1_grow_3 23 rfl rfl)
theorem dJ1_grow_93 : decode cJ1_grow 93 = .ok (.ifnull 71, 3) := dk_198 0 71 (dk_at dksJ1_grow_4 0 rfl rfl)
theorem dJ1_grow_96 : decode cJ1_grow 96 = .ok (.iload_n 3, 1) := dk_29 (dk_at dksJ1_grow_4 3 rfl rfl)
theorem dJ1_grow_97 : decode cJ1_grow 97 = .ok (.iload_n 2, 1) := dk_28 (dk_at dksJ1_grow_4 4 rfl rfl)
theorem dJ1_grow_98 : decode cJ1_grow 98 = .ok (.isub, 1) := dk_100 (dk_at dksJ1_grow_4 5 rfl rfl)
theorem dJ1_grow_99 : decode cJ1_grow 99 = .ok (.istore 6, 2) := dk_54 6 (dk_at dksJ1_grow_4 6 rfl rfl)
theorem dJ1_grow_101 : decode cJ1_grow 101 = .ok (.aload 5, 2) := dk_25 5 (dk_at dksJ1_grow_4 8 rfl rfl)
theorem dJ1_grow_103 : decode cJ1_grow 103 = .ok (.aload_n 0, 1) := dk_42 (dk_at dksJ1_grow_4 10 rfl rfl)
theorem dJ1_grow_104 : decode cJ1_grow 104 = .ok (.getfield 24, 3) := dk_180 0 24 (dk_at dksJ1_grow_4 11 rfl rfl)
theorem dJ1_grow_107 : decode cJ1_grow 107 = .ok (.aload 5, 2) := dk_25 5 (dk_at dksJ1_grow_4 14 rfl rfl)
theorem dJ1_grow_109 : decode cJ1_grow 109 = .ok (.aload_n 0, 1) := dk_42 (dk_at dksJ1_grow_4 16 rfl rfl)
theorem dJ1_grow_110 : decode cJ1_grow 110 = .ok (.getfield 24, 3) := dk_180 0 24 (dk_at dksJ1_grow_4 17 rfl rfl)
theorem dJ1_grow_113 : decode cJ1_grow 113 = .ok (.iload 6, 2) := dk_21 6 (dk_at dksJ1_grow_4 20 rfl rfl)
theorem dJ1_grow_115 : decode cJ1_grow 115 = .ok (.iadd, 1) := dk_96 (dk_at dksJ1_grow_4 22 rfl rfl)
theorem dJ1_grow_116 : decode cJ1_grow 116 = .ok (.iload_n 2, 1) := dk_28 (dk_at dksJ1_grow_4 23 rfl rfl)
theorem dJ1_grow_117 : decode cJ1_grow 117 = .ok (.aload_n 0, 1) := dk_42 (dk_at dksJ1_grow_5 0 rfl rfl)
theorem dJ1_grow_118 : decode cJ1_grow 118 = .ok (.getfield 24, 3) := dk_180 0 24 (dk_at dksJ1_grow_5 1 rfl rfl)
theorem dJ1_grow_121 : decode cJ1_grow 121 = .ok (.isub, 1) := dk_100 (dk_at dksJ1_grow_5 4 rfl rfl)
theorem dJ1_grow_122 : decode cJ1_grow 122 = .ok (.invokestatic 27, 3) := dk_184 0 27 (dk_at dksJ1_grow_5 5 rfl rfl)
theorem dJ1_grow_125 : decode cJ1_grow 125 = .ok (.aload_n 0, 1) := dk_42 (dk_at dksJ1_grow_5 8 rfl rfl)
theorem dJ1_grow_126 : decode cJ1_grow 126 = .ok (.getfield 24, 3) := dk_180 0 24 (dk_at dksJ1_grow_5 9 rfl rfl)
theorem dJ1_grow_129 : decode cJ1_grow 129 = .ok (.istore 7, 2) := dk_54 7 (dk_at dksJ1_grow_5 12 rfl rfl)
theorem dJ1_grow_131 : decode cJ1_grow 131 = .ok (.aload_n 0, 1) := dk_42 (dk_at dksJ1_grow_5 14 rfl rfl)
theorem dJ1_grow_132 : decode cJ1_grow 132 = .ok (.dup, 1) := dk_89 (dk_at dksJ1_grow_5 15 rfl rfl)
theorem dJ1_grow_133 : decode cJ1_grow 133 = .ok (.getfield 24, 3) := dk_180 0 24 (dk_at dksJ1_grow_5 16 rfl rfl)
theorem dJ1_grow_136 : decode cJ1_grow 136 = .ok (.iload 6, 2) := dk_21 6 (dk_at dksJ1_grow_5 19 rfl rfl)
theorem dJ1_grow_138 : decode cJ1_grow 138 = .ok (.iadd, 1) := dk_96 (dk_at dksJ1_grow_5 21 rfl rfl)
theorem dJ1_grow_139 : decode cJ1_grow 139 = .ok (.dup_x1, 1) := dk_90 (dk_at dksJ1_grow_5 22 rfl rfl)
theorem dJ1_grow_140 : decode cJ1_grow 140 = .ok (.putfield 24, 3) := dk_181 0 24 (dk_at dksJ1_grow_6 0 rfl rfl)
theorem dJ1_grow_143 : decode cJ1_grow 143 = .ok (.istore 8, 2) := dk_54 8 (dk_at dksJ1_grow_6 3 rfl rfl)
theorem dJ1_grow_145 : decode cJ1_grow 145 = .ok (.iload 7, 2) := dk_21 7 (dk_at dksJ1_grow_6 5 rfl rfl)
theorem dJ1_grow_147 : decode cJ1_grow 147 = .ok (.iload 8, 2) := dk_21 8 (dk_at dksJ1_grow_6 7 rfl rfl)
theorem dJ1_grow_149 : decode cJ1_grow 149 = .ok (.if_icmp .ge 15, 3) := dk_162 0 15 (dk_at dksJ1_grow_6 9 rfl rfl)
theorem dJ1_grow_152 : decode cJ1_grow 152 = .ok (.aload 5, 2) := dk_25 5 (dk_at dksJ1_grow_6 12 rfl rfl)
theorem dJ1_grow_154 : decode cJ1_grow 154 = .ok (.iload 7, 2) := dk_21 7 (dk_at dksJ1_grow_6 14 rfl rfl)
theorem dJ1_grow_156 : decode cJ1_grow 156 = .ok (.aconst_null, 1) := dk_1 (dk_at dksJ1_grow_6 16 rfl rfl)
theorem dJ1_grow_157 : decode cJ1_grow 157 = .ok (.aastore, 1) := dk_83 (dk_at dksJ1_grow_6 17 rfl rfl)
theorem dJ1_grow_158 : decode cJ1_grow 158 = .ok (.iinc 7 1, 3) := dk_132 7 1 (dk_at dksJ1_grow_6 18 rfl rfl)
theorem dJ1_grow_161 : decode cJ1_grow 161 = .ok (.goto (-16), 3) := dk_167 255 240 (dk_at dksJ1_grow_6 21 rfl rfl)
theorem dJ1_grow_164 : decode cJ1_grow 164 = .ok (.return_, 1) := dk_177 (dk_at dksJ1_grow_7 0 rfl rfl)
abbrev cJ1_newCapacity : ByteArray := prog_44_method_2_code
def yJ1_newCapacity : MethodName := ⟨RJ1, "newCapacity", "(II)I"⟩
def dkwJ1_newCapacity_2 : List UInt8 := [18, 9, 100, 156, 0, 9, 29, 28, 96, 167, 0, 5, 18, 9, 172]
abbrev dktJ1_newCapacity_2 : List UInt8 := dkwJ1_newCapacity_2 ++ []
def dkwJ1_newCapacity_1 : List UInt8 := [187, 0, 33, 89, 18, 35, 183, 0, 37, 191, 18, 41, 172, 27, 28, 164, 0, 6, 21, 4, 172, 29, 28, 96]
abbrev dktJ1_newCapacity_1 : List UInt8 := dkwJ1_newCapacity_1 ++ dktJ1_newCapacity_2
def dkwJ1_newCapacity_0 : List UInt8 := [42, 180, 0, 3, 190, 62, 29, 27, 96, 89, 54, 4, 18, 9, 100, 158, 0, 21, 21, 4, 156, 0, 13]
abbrev dktJ1_newCapacity_0 : List UInt8 := dkwJ1_newCapacity_0 ++ dktJ1_newCapacity_1
theorem dksJ1_newCapacity_0 : cJ1_newCapacity.data.toList.drop 0 = dktJ1_newCapacity_0 := by decide +kernel
theorem dksJ1_newCapacity_1 : cJ1_newCapacity.data.toList.drop 23 = dktJ1_newCapacity_1 := dk_seg dksJ1_newCapacity_0 23 rfl rfl
theorem dksJ1_newCapacity_2 : cJ1_newCapacity.data.toList.drop 47 = dktJ1_newCapacity_2 := dk_seg dksJ1_newCapacity_1 24 rfl rfl
theorem dJ1_newCapacity_0 : decode cJ1_newCapacity 0 = .ok (.aload_n 0, 1) := dk_42 (dk_at dksJ1_newCapacity_0 0 rfl rfl)
theorem dJ1_newCapacity_1 : decode cJ1_newCapacity 1 = .ok (.getfield 3, 3) := dk_180 0 3 (dk_at dksJ1_newCapacity_0 1 rfl rfl)
theorem dJ1_newCapacity_4 : decode cJ1_newCapacity 4 = .ok (.arraylength, 1) := dk_190 (dk_at dksJ1_newCapacity_0 4 rfl rfl)
theorem dJ1_newCapacity_5 : decode cJ1_newCapacity 5 = .ok (.istore_n 3, 1) := dk_62 (dk_at dksJ1_newCapacity_0 5 rfl rfl)
theorem dJ1_newCapacity_6 : decode cJ1_newCapacity 6 = .ok (.iload_n 3, 1) := dk_29 (dk_at dksJ1_newCapacity_0 6 rfl rfl)
theorem dJ1_newCapacity_7 : decode cJ1_newCapacity 7 = .ok (.iload_n 1, 1) := dk_27 (dk_at dksJ1_newCapacity_0 7 rfl rfl)
theorem dJ1_newCapacity_8 : decode cJ1_newCapacity 8 = .ok (.iadd, 1) := dk_96 (dk_at dksJ1_newCapacity_0 8 rfl rfl)
theorem dJ1_newCapacity_9 : decode cJ1_newCapacity 9 = .ok (.dup, 1) := dk_89 (dk_at dksJ1_newCapacity_0 9 rfl rfl)
theorem dJ1_newCapacity_10 : decode cJ1_newCapacity 10 = .ok (.istore 4, 2) := dk_54 4 (dk_at dksJ1_newCapacity_0 10 rfl rfl)
theorem dJ1_newCapacity_12 : decode cJ1_newCapacity 12 = .ok (.ldc 9, 2) := dk_18 9 (dk_at dksJ1_newCapacity_0 12 rfl rfl)
theorem dJ1_newCapacity_14 : decode cJ1_newCapacity 14 = .ok (.isub, 1) := dk_100 (dk_at dksJ1_newCapacity_0 14 rfl rfl)
theorem dJ1_newCapacity_15 : decode cJ1_newCapacity 15 = .ok (.ifCond .le 21, 3) := dk_158 0 21 (dk_at dksJ1_newCapacity_0 15 rfl rfl)
theorem dJ1_newCapacity_18 : decode cJ1_newCapacity 18 = .ok (.iload 4, 2) := dk_21 4 (dk_at dksJ1_newCapacity_0 18 rfl rfl)
theorem dJ1_newCapacity_20 : decode cJ1_newCapacity 20 = .ok (.ifCond .ge 13, 3) := dk_156 0 13 (dk_at dksJ1_newCapacity_0 20 rfl rfl)
theorem dJ1_newCapacity_23 : decode cJ1_newCapacity 23 = .ok (.new 33, 3) := dk_187 0 33 (dk_at dksJ1_newCapacity_1 0 rfl rfl)
theorem dJ1_newCapacity_26 : decode cJ1_newCapacity 26 = .ok (.dup, 1) := dk_89 (dk_at dksJ1_newCapacity_1 3 rfl rfl)
theorem dJ1_newCapacity_27 : decode cJ1_newCapacity 27 = .ok (.ldc 35, 2) := dk_18 35 (dk_at dksJ1_newCapacity_1 4 rfl rfl)
theorem dJ1_newCapacity_29 : decode cJ1_newCapacity 29 = .ok (.invokespecial 37, 3) := dk_183 0 37 (dk_at dksJ1_newCapacity_1 6 rfl rfl)
theorem dJ1_newCapacity_32 : decode cJ1_newCapacity 32 = .ok (.athrow, 1) := dk_191 (dk_at dksJ1_newCapacity_1 9 rfl rfl)
theorem dJ1_newCapacity_33 : decode cJ1_newCapacity 33 = .ok (.ldc 41, 2) := dk_18 41 (dk_at dksJ1_newCapacity_1 10 rfl rfl)
theorem dJ1_newCapacity_35 : decode cJ1_newCapacity 35 = .ok (.ireturn, 1) := dk_172 (dk_at dksJ1_newCapacity_1 12 rfl rfl)
theorem dJ1_newCapacity_36 : decode cJ1_newCapacity 36 = .ok (.iload_n 1, 1) := dk_27 (dk_at dksJ1_newCapacity_1 13 rfl rfl)
theorem dJ1_newCapacity_37 : decode cJ1_newCapacity 37 = .ok (.iload_n 2, 1) := dk_28 (dk_at dksJ1_newCapacity_1 14 rfl rfl)
theorem dJ1_newCapacity_38 : decode cJ1_newCapacity 38 = .ok (.if_icmp .le 6, 3) := dk_164 0 6 (dk_at dksJ1_newCapacity_1 15 rfl rfl)
theorem dJ1_newCapacity_41 : decode cJ1_newCapacity 41 = .ok (.iload 4, 2) := dk_21 4 (dk_at dksJ1_newCapacity_1 18 rfl rfl)
theorem dJ1_newCapacity_43 : decode cJ1_newCapacity 43 = .ok (.ireturn, 1) := dk_172 (dk_at dksJ1_newCapacity_1 20 rfl rfl)
theorem dJ1_newCapacity_44 : decode cJ1_newCapacity 44 = .ok (.iload_n 3, 1) := dk_29 (dk_at dksJ1_newCapacity_1 21 rfl rfl)
theorem dJ1_newCapacity_45 : decode cJ1_newCapacity 45 = .ok (.iload_n 2, 1) := dk_28 (dk_at dksJ1_newCapacity_1 22 rfl rfl)
theorem dJ1_newCapacity_46 : decode cJ1_newCapacity 46 = .ok (.iadd, 1) := dk_96 (dk_at dksJ1_newCapacity_1 23 rfl rfl)
theorem dJ1_newCapacity_47 : decode cJ1_newCapacity 47 = .ok (.ldc 9, 2) := dk_18 9 (dk_at dksJ1_newCapacity_2 0 rfl rfl)
theorem dJ1_newCapacity_49 : decode cJ1_newCapacity 49 = .ok (.isub, 1) := dk_100 (dk_at dksJ1_newCapacity_2 2 rfl rfl)
theorem dJ1_newCapacity_50 : decode cJ1_newCapacity 50 = .ok (.ifCond .ge 9, 3) := dk_156 0 9 (dk_at dksJ1_newCapacity_2 3 rfl rfl)
theorem dJ1_newCapacity_53 : decode cJ1_newCapacity 53 = .ok (.iload_n 3, 1) := dk_29 (dk_at dksJ1_newCapacity_2 6 rfl rfl)
theorem dJ1_newCapacity_54 : decode cJ1_newCapacity 54 = .ok (.iload_n 2, 1) := dk_28 (dk_at dksJ1_newCapacity_2 7 rfl rfl)
theorem dJ1_newCapacity_55 : decode cJ1_newCapacity 55 = .ok (.iadd, 1) := dk_96 (dk_at dksJ1_newCapacity_2 8 rfl rfl)
theorem dJ1_newCapacity_56 : decode cJ1_newCapacity 56 = .ok (.goto 5, 3) := dk_167 0 5 (dk_at dksJ1_newCapacity_2 9 rfl rfl)
theorem dJ1_newCapacity_59 : decode cJ1_newCapacity 59 = .ok (.ldc 9, 2) := dk_18 9 (dk_at dksJ1_newCapacity_2 12 rfl rfl)
theorem dJ1_newCapacity_61 : decode cJ1_newCapacity 61 = .ok (.ireturn, 1) := dk_172 (dk_at dksJ1_newCapacity_2 14 rfl rfl)
abbrev cJ1_isEmpty : ByteArray := prog_44_method_38_code
def yJ1_isEmpty : MethodName := ⟨RJ1, "isEmpty", "()Z"⟩
def dkwJ1_isEmpty_0 : List UInt8 := [42, 180, 0, 24, 42, 180, 0, 20, 160, 0, 7, 4, 167, 0, 4, 3, 172]
abbrev dktJ1_isEmpty_0 : List UInt8 := dkwJ1_isEmpty_0 ++ []
theorem dksJ1_isEmpty_0 : cJ1_isEmpty.data.toList.drop 0 = dktJ1_isEmpty_0 := by decide +kernel
theorem dJ1_isEmpty_0 : decode cJ1_isEmpty 0 = .ok (.aload_n 0, 1) := dk_42 (dk_at dksJ1_isEmpty_0 0 rfl rfl)
theorem dJ1_isEmpty_1 : decode cJ1_isEmpty 1 = .ok (.getfield 24, 3) := dk_180 0 24 (dk_at dksJ1_isEmpty_0 1 rfl rfl)
theorem dJ1_isEmpty_4 : decode cJ1_isEmpty 4 = .ok (.aload_n 0, 1) := dk_42 (dk_at dksJ1_isEmpty_0 4 rfl rfl)
theorem dJ1_isEmpty_5 : decode cJ1_isEmpty 5 = .ok (.getfield 20, 3) := dk_180 0 20 (dk_at dksJ1_isEmpty_0 5 rfl rfl)
theorem dJ1_isEmpty_8 : decode cJ1_isEmpty 8 = .ok (.if_icmp .ne 7, 3) := dk_160 0 7 (dk_at dksJ1_isEmpty_0 8 rfl rfl)
theorem dJ1_isEmpty_11 : decode cJ1_isEmpty 11 = .ok (.iconst 1, 1) := dk_4 (dk_at dksJ1_isEmpty_0 11 rfl rfl)
theorem dJ1_isEmpty_12 : decode cJ1_isEmpty 12 = .ok (.goto 4, 3) := dk_167 0 4 (dk_at dksJ1_isEmpty_0 12 rfl rfl)
theorem dJ1_isEmpty_15 : decode cJ1_isEmpty 15 = .ok (.iconst 0, 1) := dk_3 (dk_at dksJ1_isEmpty_0 15 rfl rfl)
theorem dJ1_isEmpty_16 : decode cJ1_isEmpty 16 = .ok (.ireturn, 1) := dk_172 (dk_at dksJ1_isEmpty_0 16 rfl rfl)
abbrev cJ1_pollFirst : ByteArray := prog_44_method_20_code
def yJ1_pollFirst : MethodName := ⟨RJ1, "pollFirst", "()Ljava/lang/Object;"⟩
def dkwJ1_pollFirst_1 : List UInt8 := [42, 28, 43, 190, 184, 0, 74, 181, 0, 24, 45, 176]
abbrev dktJ1_pollFirst_1 : List UInt8 := dkwJ1_pollFirst_1 ++ []
def dkwJ1_pollFirst_0 : List UInt8 := [42, 180, 0, 3, 89, 76, 42, 180, 0, 24, 89, 61, 184, 0, 103, 78, 45, 198, 0, 17, 43, 28, 1, 83]
abbrev dktJ1_pollFirst_0 : List UInt8 := dkwJ1_pollFirst_0 ++ dktJ1_pollFirst_1
theorem dksJ1_pollFirst_0 : cJ1_pollFirst.data.toList.drop 0 = dktJ1_pollFirst_0 := by decide +kernel
theorem dksJ1_pollFirst_1 : cJ1_pollFirst.data.toList.drop 24 = dktJ1_pollFirst_1 := dk_seg dksJ1_pollFirst_0 24 rfl rfl
theorem dJ1_pollFirst_0 : decode cJ1_pollFirst 0 = .ok (.aload_n 0, 1) := dk_42 (dk_at dksJ1_pollFirst_0 0 rfl rfl)
theorem dJ1_pollFirst_1 : decode cJ1_pollFirst 1 = .ok (.getfield 3, 3) := dk_180 0 3 (dk_at dksJ1_pollFirst_0 1 rfl rfl)
theorem dJ1_pollFirst_4 : decode cJ1_pollFirst 4 = .ok (.dup, 1) := dk_89 (dk_at dksJ1_pollFirst_0 4 rfl rfl)
theorem dJ1_pollFirst_5 : decode cJ1_pollFirst 5 = .ok (.astore_n 1, 1) := dk_76 (dk_at dksJ1_pollFirst_0 5 rfl rfl)
theorem dJ1_pollFirst_6 : decode cJ1_pollFirst 6 = .ok (.aload_n 0, 1) := dk_42 (dk_at dksJ1_pollFirst_0 6 rfl rfl)
theorem dJ1_pollFirst_7 : decode cJ1_pollFirst 7 = .ok (.getfield 24, 3) := dk_180 0 24 (dk_at dksJ1_pollFirst_0 7 rfl rfl)
theorem dJ1_pollFirst_10 : decode cJ1_pollFirst 10 = .ok (.dup, 1) := dk_89 (dk_at dksJ1_pollFirst_0 10 rfl rfl)
theorem dJ1_pollFirst_11 : decode cJ1_pollFirst 11 = .ok (.istore_n 2, 1) := dk_61 (dk_at dksJ1_pollFirst_0 11 rfl rfl)
theorem dJ1_pollFirst_12 : decode cJ1_pollFirst 12 = .ok (.invokestatic 103, 3) := dk_184 0 103 (dk_at dksJ1_pollFirst_0 12 rfl rfl)
theorem dJ1_pollFirst_15 : decode cJ1_pollFirst 15 = .ok (.astore_n 3, 1) := dk_78 (dk_at dksJ1_pollFirst_0 15 rfl rfl)
theorem dJ1_pollFirst_16 : decode cJ1_pollFirst 16 = .ok (.aload_n 3, 1) := dk_45 (dk_at dksJ1_pollFirst_0 16 rfl rfl)
theorem dJ1_pollFirst_17 : decode cJ1_pollFirst 17 = .ok (.ifnull 17, 3) := dk_198 0 17 (dk_at dksJ1_pollFirst_0 17 rfl rfl)
theorem dJ1_pollFirst_20 : decode cJ1_pollFirst 20 = .ok (.aload_n 1, 1) := dk_43 (dk_at dksJ1_pollFirst_0 20 rfl rfl)
theorem dJ1_pollFirst_21 : decode cJ1_pollFirst 21 = .ok (.iload_n 2, 1) := dk_28 (dk_at dksJ1_pollFirst_0 21 rfl rfl)
theorem dJ1_pollFirst_22 : decode cJ1_pollFirst 22 = .ok (.aconst_null, 1) := dk_1 (dk_at dksJ1_pollFirst_0 22 rfl rfl)
theorem dJ1_pollFirst_23 : decode cJ1_pollFirst 23 = .ok (.aastore, 1) := dk_83 (dk_at dksJ1_pollFirst_0 23 rfl rfl)
theorem dJ1_pollFirst_24 : decode cJ1_pollFirst 24 = .ok (.aload_n 0, 1) := dk_42 (dk_at dksJ1_pollFirst_1 0 rfl rfl)
theorem dJ1_pollFirst_25 : decode cJ1_pollFirst 25 = .ok (.iload_n 2, 1) := dk_28 (dk_at dksJ1_pollFirst_1 1 rfl rfl)
theorem dJ1_pollFirst_26 : decode cJ1_pollFirst 26 = .ok (.aload_n 1, 1) := dk_43 (dk_at dksJ1_pollFirst_1 2 rfl rfl)
theorem dJ1_pollFirst_27 : decode cJ1_pollFirst 27 = .ok (.arraylength, 1) := dk_190 (dk_at dksJ1_pollFirst_1 3 rfl rfl)
theorem dJ1_pollFirst_28 : decode cJ1_pollFirst 28 = .ok (.invokestatic 74, 3) := dk_184 0 74 (dk_at dksJ1_pollFirst_1 4 rfl rfl)
theorem dJ1_pollFirst_31 : decode cJ1_pollFirst 31 = .ok (.putfield 24, 3) := dk_181 0 24 (dk_at dksJ1_pollFirst_1 7 rfl rfl)
theorem dJ1_pollFirst_34 : decode cJ1_pollFirst 34 = .ok (.aload_n 3, 1) := dk_45 (dk_at dksJ1_pollFirst_1 10 rfl rfl)
theorem dJ1_pollFirst_35 : decode cJ1_pollFirst 35 = .ok (.areturn, 1) := dk_176 (dk_at dksJ1_pollFirst_1 11 rfl rfl)
abbrev cJ1_elementAt : ByteArray := prog_44_method_10_code
def yJ1_elementAt : MethodName := ⟨RJ1, "elementAt", "([Ljava/lang/Object;I)Ljava/lang/Object;"⟩
def dkwJ1_elementAt_0 : List UInt8 := [42, 27, 50, 176]
abbrev dktJ1_elementAt_0 : List UInt8 := dkwJ1_elementAt_0 ++ []
theorem dksJ1_elementAt_0 : cJ1_elementAt.data.toList.drop 0 = dktJ1_elementAt_0 := by decide +kernel
theorem dJ1_elementAt_0 : decode cJ1_elementAt 0 = .ok (.aload_n 0, 1) := dk_42 (dk_at dksJ1_elementAt_0 0 rfl rfl)
theorem dJ1_elementAt_1 : decode cJ1_elementAt 1 = .ok (.iload_n 1, 1) := dk_27 (dk_at dksJ1_elementAt_0 1 rfl rfl)
theorem dJ1_elementAt_2 : decode cJ1_elementAt 2 = .ok (.aaload, 1) := dk_50 (dk_at dksJ1_elementAt_0 2 rfl rfl)
theorem dJ1_elementAt_3 : decode cJ1_elementAt 3 = .ok (.areturn, 1) := dk_176 (dk_at dksJ1_elementAt_0 3 rfl rfl)
abbrev cJ1_size : ByteArray := prog_44_method_37_code
def yJ1_size : MethodName := ⟨RJ1, "size", "()I"⟩
def dkwJ1_size_0 : List UInt8 := [42, 180, 0, 20, 42, 180, 0, 24, 42, 180, 0, 3, 190, 184, 0, 127, 172]
abbrev dktJ1_size_0 : List UInt8 := dkwJ1_size_0 ++ []
theorem dksJ1_size_0 : cJ1_size.data.toList.drop 0 = dktJ1_size_0 := by decide +kernel
theorem dJ1_size_0 : decode cJ1_size 0 = .ok (.aload_n 0, 1) := dk_42 (dk_at dksJ1_size_0 0 rfl rfl)
theorem dJ1_size_1 : decode cJ1_size 1 = .ok (.getfield 20, 3) := dk_180 0 20 (dk_at dksJ1_size_0 1 rfl rfl)
theorem dJ1_size_4 : decode cJ1_size 4 = .ok (.aload_n 0, 1) := dk_42 (dk_at dksJ1_size_0 4 rfl rfl)
theorem dJ1_size_5 : decode cJ1_size 5 = .ok (.getfield 24, 3) := dk_180 0 24 (dk_at dksJ1_size_0 5 rfl rfl)
theorem dJ1_size_8 : decode cJ1_size 8 = .ok (.aload_n 0, 1) := dk_42 (dk_at dksJ1_size_0 8 rfl rfl)
theorem dJ1_size_9 : decode cJ1_size 9 = .ok (.getfield 3, 3) := dk_180 0 3 (dk_at dksJ1_size_0 9 rfl rfl)
theorem dJ1_size_12 : decode cJ1_size 12 = .ok (.arraylength, 1) := dk_190 (dk_at dksJ1_size_0 12 rfl rfl)
theorem dJ1_size_13 : decode cJ1_size 13 = .ok (.invokestatic 127, 3) := dk_184 0 127 (dk_at dksJ1_size_0 13 rfl rfl)
theorem dJ1_size_16 : decode cJ1_size 16 = .ok (.ireturn, 1) := dk_172 (dk_at dksJ1_size_0 16 rfl rfl)
abbrev cJ1_sub : ByteArray := prog_44_method_9_code
def yJ1_sub : MethodName := ⟨RJ1, "sub", "(III)I"⟩
def dkwJ1_sub_0 : List UInt8 := [26, 27, 100, 89, 59, 156, 0, 7, 26, 28, 96, 59, 26, 172]
abbrev dktJ1_sub_0 : List UInt8 := dkwJ1_sub_0 ++ []
theorem dksJ1_sub_0 : cJ1_sub.data.toList.drop 0 = dktJ1_sub_0 := by decide +kernel
theorem dJ1_sub_0 : decode cJ1_sub 0 = .ok (.iload_n 0, 1) := dk_26 (dk_at dksJ1_sub_0 0 rfl rfl)
theorem dJ1_sub_1 : decode cJ1_sub 1 = .ok (.iload_n 1, 1) := dk_27 (dk_at dksJ1_sub_0 1 rfl rfl)
theorem dJ1_sub_2 : decode cJ1_sub 2 = .ok (.isub, 1) := dk_100 (dk_at dksJ1_sub_0 2 rfl rfl)
theorem dJ1_sub_3 : decode cJ1_sub 3 = .ok (.dup, 1) := dk_89 (dk_at dksJ1_sub_0 3 rfl rfl)
theorem dJ1_sub_4 : decode cJ1_sub 4 = .ok (.istore_n 0, 1) := dk_59 (dk_at dksJ1_sub_0 4 rfl rfl)
theorem dJ1_sub_5 : decode cJ1_sub 5 = .ok (.ifCond .ge 7, 3) := dk_156 0 7 (dk_at dksJ1_sub_0 5 rfl rfl)
theorem dJ1_sub_8 : decode cJ1_sub 8 = .ok (.iload_n 0, 1) := dk_26 (dk_at dksJ1_sub_0 8 rfl rfl)
theorem dJ1_sub_9 : decode cJ1_sub 9 = .ok (.iload_n 2, 1) := dk_28 (dk_at dksJ1_sub_0 9 rfl rfl)
theorem dJ1_sub_10 : decode cJ1_sub 10 = .ok (.iadd, 1) := dk_96 (dk_at dksJ1_sub_0 10 rfl rfl)
theorem dJ1_sub_11 : decode cJ1_sub 11 = .ok (.istore_n 0, 1) := dk_59 (dk_at dksJ1_sub_0 11 rfl rfl)
theorem dJ1_sub_12 : decode cJ1_sub 12 = .ok (.iload_n 0, 1) := dk_26 (dk_at dksJ1_sub_0 12 rfl rfl)
theorem dJ1_sub_13 : decode cJ1_sub 13 = .ok (.ireturn, 1) := dk_172 (dk_at dksJ1_sub_0 13 rfl rfl)
abbrev cJ1_pollLast : ByteArray := prog_44_method_21_code
def yJ1_pollLast : MethodName := ⟨RJ1, "pollLast", "()Ljava/lang/Object;"⟩
def dkwJ1_pollLast_1 : List UInt8 := [198, 0, 12, 43, 42, 28, 90, 181, 0, 20, 1, 83, 45, 176]
abbrev dktJ1_pollLast_1 : List UInt8 := dkwJ1_pollLast_1 ++ []
def dkwJ1_pollLast_0 : List UInt8 := [42, 180, 0, 3, 89, 76, 42, 180, 0, 20, 43, 190, 184, 0, 68, 89, 61, 184, 0, 103, 78, 45]
abbrev dktJ1_pollLast_0 : List UInt8 := dkwJ1_pollLast_0 ++ dktJ1_pollLast_1
theorem dksJ1_pollLast_0 : cJ1_pollLast.data.toList.drop 0 = dktJ1_pollLast_0 := by decide +kernel
theorem dksJ1_pollLast_1 : cJ1_pollLast.data.toList.drop 22 = dktJ1_pollLast_1 := dk_seg dksJ1_pollLast_0 22 rfl rfl
theorem dJ1_pollLast_0 : decode cJ1_pollLast 0 = .ok (.aload_n 0, 1) := dk_42 (dk_at dksJ1_pollLast_0 0 rfl rfl)
theorem dJ1_pollLast_1 : decode cJ1_pollLast 1 = .ok (.getfield 3, 3) := dk_180 0 3 (dk_at dksJ1_pollLast_0 1 rfl rfl)
theorem dJ1_pollLast_4 : decode cJ1_pollLast 4 = .ok (.dup, 1) := dk_89 (dk_at dksJ1_pollLast_0 4 rfl rfl)
theorem dJ1_pollLast_5 : decode cJ1_pollLast 5 = .ok (.astore_n 1, 1) := dk_76 (dk_at dksJ1_pollLast_0 5 rfl rfl)
theorem dJ1_pollLast_6 : decode cJ1_pollLast 6 = .ok (.aload_n 0, 1) := dk_42 (dk_at dksJ1_pollLast_0 6 rfl rfl)
theorem dJ1_pollLast_7 : decode cJ1_pollLast 7 = .ok (.getfield 20, 3) := dk_180 0 20 (dk_at dksJ1_pollLast_0 7 rfl rfl)
theorem dJ1_pollLast_10 : decode cJ1_pollLast 10 = .ok (.aload_n 1, 1) := dk_43 (dk_at dksJ1_pollLast_0 10 rfl rfl)
theorem dJ1_pollLast_11 : decode cJ1_pollLast 11 = .ok (.arraylength, 1) := dk_190 (dk_at dksJ1_pollLast_0 11 rfl rfl)
theorem dJ1_pollLast_12 : decode cJ1_pollLast 12 = .ok (.invokestatic 68, 3) := dk_184 0 68 (dk_at dksJ1_pollLast_0 12 rfl rfl)
theorem dJ1_pollLast_15 : decode cJ1_pollLast 15 = .ok (.dup, 1) := dk_89 (dk_at dksJ1_pollLast_0 15 rfl rfl)
theorem dJ1_pollLast_16 : decode cJ1_pollLast 16 = .ok (.istore_n 2, 1) := dk_61 (dk_at dksJ1_pollLast_0 16 rfl rfl)
theorem dJ1_pollLast_17 : decode cJ1_pollLast 17 = .ok (.invokestatic 103, 3) := dk_184 0 103 (dk_at dksJ1_pollLast_0 17 rfl rfl)
theorem dJ1_pollLast_20 : decode cJ1_pollLast 20 = .ok (.astore_n 3, 1) := dk_78 (dk_at dksJ1_pollLast_0 20 rfl rfl)
theorem dJ1_pollLast_21 : decode cJ1_pollLast 21 = .ok (.aload_n 3, 1) := dk_45 (dk_at dksJ1_pollLast_0 21 rfl rfl)
theorem dJ1_pollLast_22 : decode cJ1_pollLast 22 = .ok (.ifnull 12, 3) := dk_198 0 12 (dk_at dksJ1_pollLast_1 0 rfl rfl)
theorem dJ1_pollLast_25 : decode cJ1_pollLast 25 = .ok (.aload_n 1, 1) := dk_43 (dk_at dksJ1_pollLast_1 3 rfl rfl)
theorem dJ1_pollLast_26 : decode cJ1_pollLast 26 = .ok (.aload_n 0, 1) := dk_42 (dk_at dksJ1_pollLast_1 4 rfl rfl)
theorem dJ1_pollLast_27 : decode cJ1_pollLast 27 = .ok (.iload_n 2, 1) := dk_28 (dk_at dksJ1_pollLast_1 5 rfl rfl)
theorem dJ1_pollLast_28 : decode cJ1_pollLast 28 = .ok (.dup_x1, 1) := dk_90 (dk_at dksJ1_pollLast_1 6 rfl rfl)
theorem dJ1_pollLast_29 : decode cJ1_pollLast 29 = .ok (.putfield 20, 3) := dk_181 0 20 (dk_at dksJ1_pollLast_1 7 rfl rfl)
theorem dJ1_pollLast_32 : decode cJ1_pollLast 32 = .ok (.aconst_null, 1) := dk_1 (dk_at dksJ1_pollLast_1 10 rfl rfl)
theorem dJ1_pollLast_33 : decode cJ1_pollLast 33 = .ok (.aastore, 1) := dk_83 (dk_at dksJ1_pollLast_1 11 rfl rfl)
theorem dJ1_pollLast_34 : decode cJ1_pollLast 34 = .ok (.aload_n 3, 1) := dk_45 (dk_at dksJ1_pollLast_1 12 rfl rfl)
theorem dJ1_pollLast_35 : decode cJ1_pollLast 35 = .ok (.areturn, 1) := dk_176 (dk_at dksJ1_pollLast_1 13 rfl rfl)
abbrev cJ1_dec : ByteArray := prog_44_method_7_code
def yJ1_dec : MethodName := ⟨RJ1, "dec", "(II)I"⟩
def dkwJ1_dec_0 : List UInt8 := [132, 0, 255, 26, 156, 0, 7, 27, 4, 100, 59, 26, 172]
abbrev dktJ1_dec_0 : List UInt8 := dkwJ1_dec_0 ++ []
theorem dksJ1_dec_0 : cJ1_dec.data.toList.drop 0 = dktJ1_dec_0 := by decide +kernel
theorem dJ1_dec_0 : decode cJ1_dec 0 = .ok (.iinc 0 (-1), 3) := dk_132 0 255 (dk_at dksJ1_dec_0 0 rfl rfl)
theorem dJ1_dec_3 : decode cJ1_dec 3 = .ok (.iload_n 0, 1) := dk_26 (dk_at dksJ1_dec_0 3 rfl rfl)
theorem dJ1_dec_4 : decode cJ1_dec 4 = .ok (.ifCond .ge 7, 3) := dk_156 0 7 (dk_at dksJ1_dec_0 4 rfl rfl)
theorem dJ1_dec_7 : decode cJ1_dec 7 = .ok (.iload_n 1, 1) := dk_27 (dk_at dksJ1_dec_0 7 rfl rfl)
theorem dJ1_dec_8 : decode cJ1_dec 8 = .ok (.iconst 1, 1) := dk_4 (dk_at dksJ1_dec_0 8 rfl rfl)
theorem dJ1_dec_9 : decode cJ1_dec 9 = .ok (.isub, 1) := dk_100 (dk_at dksJ1_dec_0 9 rfl rfl)
theorem dJ1_dec_10 : decode cJ1_dec 10 = .ok (.istore_n 0, 1) := dk_59 (dk_at dksJ1_dec_0 10 rfl rfl)
theorem dJ1_dec_11 : decode cJ1_dec 11 = .ok (.iload_n 0, 1) := dk_26 (dk_at dksJ1_dec_0 11 rfl rfl)
theorem dJ1_dec_12 : decode cJ1_dec 12 = .ok (.ireturn, 1) := dk_172 (dk_at dksJ1_dec_0 12 rfl rfl)
theorem q67 : (Jvm.Cond.initialized "java/util/ArrayDeque") ∈ lw_all := lw_g (lw_at lw_m1 10 rfl) rfl
theorem q307 : (Jvm.Cond.instantiable "java/util/ArrayDeque" (3 : Nat)) ∈ lw_all := lw_g (lw_at lw_m2 10 rfl) rfl
theorem q309 : (Jvm.Cond.instanceMethod ({ cls := "java/util/ArrayDeque", name := "<init>", desc := "()V" } : Jvm.MethodName)) ∈ lw_all := lw_g (lw_at lw_m2 12 rfl) rfl
theorem q310 : (Jvm.Cond.code ({ cls := "java/util/ArrayDeque", name := "<init>", desc := "()V" } : Jvm.MethodName) prog_44_method_3_code (1 : Nat) (Option.none : Option Jvm.ClassFile.FieldType)) ∈ lw_all := lw_g (lw_at lw_m2 13 rfl) rfl
theorem q311 : (Jvm.Cond.methodLink "java/util/ArrayDeque" (42 : Nat) ({ cls := "java/util/AbstractCollection", name := "<init>", desc := "()V" } : Jvm.MethodName)) ∈ lw_all := lw_g (lw_at lw_m2 14 rfl) rfl
theorem q315 : (Jvm.Cond.classLink "java/util/ArrayDeque" (47 : Nat) "java/lang/Object") ∈ lw_all := lw_g (lw_at lw_m2 18 rfl) rfl
theorem q317 : (Jvm.Cond.fieldLink "java/util/ArrayDeque" (3 : Nat) "java/util/ArrayDeque" "elements" "[Ljava/lang/Object;") ∈ lw_all := lw_g (lw_at lw_m2 20 rfl) rfl
theorem q318 : (Jvm.Cond.fieldLink "java/util/ArrayDeque" (24 : Nat) "java/util/ArrayDeque" "head" "I") ∈ lw_all := lw_g (lw_at lw_m2 21 rfl) rfl
theorem q319 : (Jvm.Cond.fieldLink "java/util/ArrayDeque" (20 : Nat) "java/util/ArrayDeque" "tail" "I") ∈ lw_all := lw_g (lw_at lw_m2 22 rfl) rfl
theorem q320 : (Jvm.Cond.lays "java/util/ArrayDeque" "java/util/ArrayDeque" "elements" "[Ljava/lang/Object;") ∈ lw_all := lw_g (lw_at lw_m2 23 rfl) rfl
theorem q321 : (Jvm.Cond.soleField "java/util/ArrayDeque" "elements") ∈ lw_all := lw_g (lw_at lw_m2 24 rfl) rfl
theorem q322 : (Jvm.Cond.lays "java/util/ArrayDeque" "java/util/ArrayDeque" "head" "I") ∈ lw_all := lw_g (lw_at lw_m2 25 rfl) rfl
theorem q323 : (Jvm.Cond.soleField "java/util/ArrayDeque" "head") ∈ lw_all := lw_g (lw_at lw_m2 26 rfl) rfl
theorem q324 : (Jvm.Cond.lays "java/util/ArrayDeque" "java/util/ArrayDeque" "tail" "I") ∈ lw_all := lw_g (lw_at lw_m2 27 rfl) rfl
theorem q325 : (Jvm.Cond.soleField "java/util/ArrayDeque" "tail") ∈ lw_all := lw_g (lw_at lw_m2 28 rfl) rfl
theorem q326 : (Jvm.Cond.superclass "java/util/ArrayDeque" "java/util/AbstractCollection") ∈ lw_all := lw_g (lw_at lw_m2 29 rfl) rfl
theorem q388 : (Jvm.Cond.instanceMethod ({ cls := "java/util/ArrayDeque", name := "addLast", desc := "(Ljava/lang/Object;)V" } : Jvm.MethodName)) ∈ lw_all := lw_g (lw_at lw_m2 91 rfl) rfl
theorem q389 : (Jvm.Cond.selects "java/util/ArrayDeque" ({ cls := "java/util/ArrayDeque", name := "addLast", desc := "(Ljava/lang/Object;)V" } : Jvm.MethodName) ({ cls := "java/util/ArrayDeque", name := "addLast", desc := "(Ljava/lang/Object;)V" } : Jvm.MethodName)) ∈ lw_all := lw_g (lw_at lw_m2 92 rfl) rfl
theorem q390 : (Jvm.Cond.code ({ cls := "java/util/ArrayDeque", name := "addLast", desc := "(Ljava/lang/Object;)V" } : Jvm.MethodName) prog_44_method_13_code (3 : Nat) (Option.none : Option Jvm.ClassFile.FieldType)) ∈ lw_all := lw_g (lw_at lw_m2 93 rfl) rfl
theorem q391 : (Jvm.Cond.methodLink "java/util/ArrayDeque" (74 : Nat) ({ cls := "java/util/ArrayDeque", name := "inc", desc := "(II)I" } : Jvm.MethodName)) ∈ lw_all := lw_g (lw_at lw_m2 94 rfl) rfl
theorem q392 : (Jvm.Cond.static ({ cls := "java/util/ArrayDeque", name := "inc", desc := "(II)I" } : Jvm.MethodName)) ∈ lw_all := lw_g (lw_at lw_m2 95 rfl) rfl
theorem q393 : (Jvm.Cond.code ({ cls := "java/util/ArrayDeque", name := "inc", desc := "(II)I" } : Jvm.MethodName) prog_44_method_6_code (2 : Nat) (Option.some Jvm.ClassFile.FieldType.int)) ∈ lw_all := lw_g (lw_at lw_m2 96 rfl) rfl
theorem q394 : (Jvm.Cond.methodLink "java/util/ArrayDeque" (71 : Nat) ({ cls := "java/util/ArrayDeque", name := "grow", desc := "(I)V" } : Jvm.MethodName)) ∈ lw_all := lw_g (lw_at lw_m2 97 rfl) rfl
theorem q395 : (Jvm.Cond.privateMethod ({ cls := "java/util/ArrayDeque", name := "grow", desc := "(I)V" } : Jvm.MethodName)) ∈ lw_tbl := lw_at lw_m2 98 rfl
theorem q396 : (Jvm.Cond.instanceMethod ({ cls := "java/util/ArrayDeque", name := "grow", desc := "(I)V" } : Jvm.MethodName)) ∈ lw_all := lw_g (lw_at lw_m2 99 rfl) rfl
theorem q397 : (Jvm.Cond.code ({ cls := "java/util/ArrayDeque", name := "grow", desc := "(I)V" } : Jvm.MethodName) prog_44_method_1_code (9 : Nat) (Option.none : Option Jvm.ClassFile.FieldType)) ∈ lw_all := lw_g (lw_at lw_m2 100 rfl) rfl
theorem q398 : (Jvm.Cond.constant "java/util/ArrayDeque" (9 : Nat) (2147483639 : Int32)) ∈ lw_all := lw_g (lw_at lw_m2 101 rfl) rfl
theorem q399 : (Jvm.Cond.methodLink "java/util/ArrayDeque" (10 : Nat) ({ cls := "java/util/ArrayDeque", name := "newCapacity", desc := "(II)I" } : Jvm.MethodName)) ∈ lw_all := lw_g (lw_at lw_m2 102 rfl) rfl
theorem q400 : (Jvm.Cond.privateMethod ({ cls := "java/util/ArrayDeque", name := "newCapacity", desc := "(II)I" } : Jvm.MethodName)) ∈ lw_tbl := lw_at lw_m2 103 rfl
theorem q401 : (Jvm.Cond.instanceMethod ({ cls := "java/util/ArrayDeque", name := "newCapacity", desc := "(II)I" } : Jvm.MethodName)) ∈ lw_all := lw_g (lw_at lw_m2 104 rfl) rfl
theorem q402 : (Jvm.Cond.code ({ cls := "java/util/ArrayDeque", name := "newCapacity", desc := "(II)I" } : Jvm.MethodName) prog_44_method_2_code (5 : Nat) (Option.some Jvm.ClassFile.FieldType.int)) ∈ lw_all := lw_g (lw_at lw_m2 105 rfl) rfl
theorem q403 : (Jvm.Cond.classLink "java/util/ArrayDeque" (33 : Nat) "java/lang/IllegalStateException") ∈ lw_all := lw_g (lw_at lw_m2 106 rfl) rfl
theorem q451 : (Jvm.Cond.stringRef "java/util/ArrayDeque" (35 : Nat) "Sorry, deque too big") ∈ lw_tbl := lw_at lw_m2 154 rfl
theorem q452 : (Jvm.Cond.methodLink "java/util/ArrayDeque" (37 : Nat) ({ cls := "java/lang/IllegalStateException", name := "<init>", desc := "(Ljava/lang/String;)V" } : Jvm.MethodName)) ∈ lw_all := lw_g (lw_at lw_m2 155 rfl) rfl
theorem q477 : (Jvm.Cond.constant "java/util/ArrayDeque" (41 : Nat) (2147483647 : Int32)) ∈ lw_all := lw_g (lw_at lw_m2 180 rfl) rfl
theorem q478 : (Jvm.Cond.methodLink "java/util/ArrayDeque" (14 : Nat) ({ cls := "java/util/Arrays", name := "copyOf", desc := "([Ljava/lang/Object;I)[Ljava/lang/Object;" } : Jvm.MethodName)) ∈ lw_all := lw_g (lw_at lw_m2 181 rfl) rfl
theorem q504 : (Jvm.Cond.selects "java/util/ArrayDeque" ({ cls := "java/lang/Object", name := "getClass", desc := "()Ljava/lang/Class;" } : Jvm.MethodName) ({ cls := "java/lang/Object", name := "getClass", desc := "()Ljava/lang/Class;" } : Jvm.MethodName)) ∈ lw_all := lw_g (lw_at lw_m2 207 rfl) rfl
theorem q518 : (Jvm.Cond.methodLink "java/util/ArrayDeque" (27 : Nat) ({ cls := "java/lang/System", name := "arraycopy", desc := "(Ljava/lang/Object;ILjava/lang/Object;II)V" } : Jvm.MethodName)) ∈ lw_all := lw_g (lw_at lw_m2 221 rfl) rfl
theorem q562 : (Jvm.Cond.instanceMethod ({ cls := "java/util/ArrayDeque", name := "isEmpty", desc := "()Z" } : Jvm.MethodName)) ∈ lw_all := lw_g (lw_at lw_m3 25 rfl) rfl
theorem q563 : (Jvm.Cond.selects "java/util/ArrayDeque" ({ cls := "java/util/ArrayDeque", name := "isEmpty", desc := "()Z" } : Jvm.MethodName) ({ cls := "java/util/ArrayDeque", name := "isEmpty", desc := "()Z" } : Jvm.MethodName)) ∈ lw_all := lw_g (lw_at lw_m3 26 rfl) rfl
theorem q564 : (Jvm.Cond.code ({ cls := "java/util/ArrayDeque", name := "isEmpty", desc := "()Z" } : Jvm.MethodName) prog_44_method_38_code (1 : Nat) (Option.some Jvm.ClassFile.FieldType.boolean)) ∈ lw_all := lw_g (lw_at lw_m3 27 rfl) rfl
theorem q566 : (Jvm.Cond.instanceMethod ({ cls := "java/util/ArrayDeque", name := "pollFirst", desc := "()Ljava/lang/Object;" } : Jvm.MethodName)) ∈ lw_all := lw_g (lw_at lw_m3 29 rfl) rfl
theorem q567 : (Jvm.Cond.selects "java/util/ArrayDeque" ({ cls := "java/util/ArrayDeque", name := "pollFirst", desc := "()Ljava/lang/Object;" } : Jvm.MethodName) ({ cls := "java/util/ArrayDeque", name := "pollFirst", desc := "()Ljava/lang/Object;" } : Jvm.MethodName)) ∈ lw_all := lw_g (lw_at lw_m3 30 rfl) rfl
theorem q568 : (Jvm.Cond.code ({ cls := "java/util/ArrayDeque", name := "pollFirst", desc := "()Ljava/lang/Object;" } : Jvm.MethodName) prog_44_method_20_code (4 : Nat) (Option.some (Jvm.ClassFile.FieldType.object "java/lang/Object"))) ∈ lw_all := lw_g (lw_at lw_m3 31 rfl) rfl
theorem q569 : (Jvm.Cond.methodLink "java/util/ArrayDeque" (103 : Nat) ({ cls := "java/util/ArrayDeque", name := "elementAt", desc := "([Ljava/lang/Object;I)Ljava/lang/Object;" } : Jvm.MethodName)) ∈ lw_all := lw_g (lw_at lw_m3 32 rfl) rfl
theorem q570 : (Jvm.Cond.static ({ cls := "java/util/ArrayDeque", name := "elementAt", desc := "([Ljava/lang/Object;I)Ljava/lang/Object;" } : Jvm.MethodName)) ∈ lw_all := lw_g (lw_at lw_m3 33 rfl) rfl
theorem q571 : (Jvm.Cond.code ({ cls := "java/util/ArrayDeque", name := "elementAt", desc := "([Ljava/lang/Object;I)Ljava/lang/Object;" } : Jvm.MethodName) prog_44_method_10_code (2 : Nat) (Option.some (Jvm.ClassFile.FieldType.object "java/lang/Object"))) ∈ lw_all := lw_g (lw_at lw_m3 34 rfl) rfl
theorem q1640 : (Jvm.Cond.instanceMethod ({ cls := "java/util/ArrayDeque", name := "size", desc := "()I" } : Jvm.MethodName)) ∈ lw_all := lw_g (lw_at lw_m7 143 rfl) rfl
theorem q1641 : (Jvm.Cond.selects "java/util/ArrayDeque" ({ cls := "java/util/ArrayDeque", name := "size", desc := "()I" } : Jvm.MethodName) ({ cls := "java/util/ArrayDeque", name := "size", desc := "()I" } : Jvm.MethodName)) ∈ lw_all := lw_g (lw_at lw_m7 144 rfl) rfl
theorem q1642 : (Jvm.Cond.code ({ cls := "java/util/ArrayDeque", name := "size", desc := "()I" } : Jvm.MethodName) prog_44_method_37_code (1 : Nat) (Option.some Jvm.ClassFile.FieldType.int)) ∈ lw_all := lw_g (lw_at lw_m7 145 rfl) rfl
theorem q1643 : (Jvm.Cond.methodLink "java/util/ArrayDeque" (127 : Nat) ({ cls := "java/util/ArrayDeque", name := "sub", desc := "(III)I" } : Jvm.MethodName)) ∈ lw_all := lw_g (lw_at lw_m7 146 rfl) rfl
theorem q1644 : (Jvm.Cond.static ({ cls := "java/util/ArrayDeque", name := "sub", desc := "(III)I" } : Jvm.MethodName)) ∈ lw_all := lw_g (lw_at lw_m7 147 rfl) rfl
theorem q1645 : (Jvm.Cond.code ({ cls := "java/util/ArrayDeque", name := "sub", desc := "(III)I" } : Jvm.MethodName) prog_44_method_9_code (3 : Nat) (Option.some Jvm.ClassFile.FieldType.int)) ∈ lw_all := lw_g (lw_at lw_m7 148 rfl) rfl
theorem q1654 : (Jvm.Cond.instanceMethod ({ cls := "java/util/ArrayDeque", name := "pollLast", desc := "()Ljava/lang/Object;" } : Jvm.MethodName)) ∈ lw_all := lw_g (lw_at lw_m7 157 rfl) rfl
theorem q1655 : (Jvm.Cond.selects "java/util/ArrayDeque" ({ cls := "java/util/ArrayDeque", name := "pollLast", desc := "()Ljava/lang/Object;" } : Jvm.MethodName) ({ cls := "java/util/ArrayDeque", name := "pollLast", desc := "()Ljava/lang/Object;" } : Jvm.MethodName)) ∈ lw_all := lw_g (lw_at lw_m7 158 rfl) rfl
theorem q1656 : (Jvm.Cond.code ({ cls := "java/util/ArrayDeque", name := "pollLast", desc := "()Ljava/lang/Object;" } : Jvm.MethodName) prog_44_method_21_code (4 : Nat) (Option.some (Jvm.ClassFile.FieldType.object "java/lang/Object"))) ∈ lw_all := lw_g (lw_at lw_m7 159 rfl) rfl
theorem q1657 : (Jvm.Cond.methodLink "java/util/ArrayDeque" (68 : Nat) ({ cls := "java/util/ArrayDeque", name := "dec", desc := "(II)I" } : Jvm.MethodName)) ∈ lw_all := lw_g (lw_at lw_m7 160 rfl) rfl
theorem q1658 : (Jvm.Cond.static ({ cls := "java/util/ArrayDeque", name := "dec", desc := "(II)I" } : Jvm.MethodName)) ∈ lw_all := lw_g (lw_at lw_m7 161 rfl) rfl
theorem q1659 : (Jvm.Cond.code ({ cls := "java/util/ArrayDeque", name := "dec", desc := "(II)I" } : Jvm.MethodName) prog_44_method_7_code (2 : Nat) (Option.some Jvm.ClassFile.FieldType.int)) ∈ lw_all := lw_g (lw_at lw_m7 162 rfl) rfl
theorem q2115 : (Jvm.Cond.castable "java/util/ArrayDeque" "java/lang/Object") ∈ lw_tbl := lw_at lw_m9 138 rfl
theorem in_J1 : ∀ w ∈ wsJ10, w ∈ lw_all := lw_in wsJ10 [320, 322, 324] (by decide +kernel) (by decide +kernel)
/-! java/lang/AbstractStringBuilder -/
set_option maxRecDepth 100000
def RJ2 : String := "java/lang/AbstractStringBuilder"
abbrev cJ2_init : ByteArray := prog_15_method_2_code
def yJ2_init : MethodName := ⟨RJ2, "<init>", "(I)V"⟩
def dkwJ2_init_1 : List UInt8 := [167, 0, 16, 42, 27, 184, 0, 26, 181, 0, 15, 42, 4, 181, 0, 22, 177]
abbrev dktJ2_init_1 : List UInt8 := dkwJ2_init_1 ++ []
def dkwJ2_init_0 : List UInt8 := [42, 183, 0, 3, 178, 0, 18, 153, 0, 18, 42, 27, 188, 8, 181, 0, 15, 42, 3, 181, 0, 22]
abbrev dktJ2_init_0 : List UInt8 := dkwJ2_init_0 ++ dktJ2_init_1
theorem dksJ2_init_0 : cJ2_init.data.toList.drop 0 = dktJ2_init_0 := by decide +kernel
theorem dksJ2_init_1 : cJ2_init.data.toList.drop 22 = dktJ2_init_1 := dk_seg dksJ2_init_0 22 rfl rfl
theorem dJ2_init_0 : decode cJ2_init 0 = .ok (.aload_n 0, 1) := dk_42 (dk_at dksJ2_init_0 0 rfl rfl)
theorem dJ2_init_1 : decode cJ2_init 1 = .ok (.invokespecial 3, 3) := dk_183 0 3 (dk_at dksJ2_init_0 1 rfl rfl)
theorem dJ2_init_4 : decode cJ2_init 4 = .ok (.getstatic 18, 3) := dk_178 0 18 (dk_at dksJ2_init_0 4 rfl rfl)
theorem dJ2_init_7 : decode cJ2_init 7 = .ok (.ifCond .eq 18, 3) := dk_153 0 18 (dk_at dksJ2_init_0 7 rfl rfl)
theorem dJ2_init_10 : decode cJ2_init 10 = .ok (.aload_n 0, 1) := dk_42 (dk_at dksJ2_init_0 10 rfl rfl)
theorem dJ2_init_11 : decode cJ2_init 11 = .ok (.iload_n 1, 1) := dk_27 (dk_at dksJ2_init_0 11 rfl rfl)
theorem dJ2_init_12 : decode cJ2_init 12 = .ok (.newarray .byte, 2) := dk_188_8 (dk_at dksJ2_init_0 12 rfl rfl)
theorem dJ2_init_14 : decode cJ2_init 14 = .ok (.putfield 15, 3) := dk_181 0 15 (dk_at dksJ2_init_0 14 rfl rfl)
theorem dJ2_init_17 : decode cJ2_init 17 = .ok (.aload_n 0, 1) := dk_42 (dk_at dksJ2_init_0 17 rfl rfl)
theorem dJ2_init_18 : decode cJ2_init 18 = .ok (.iconst 0, 1) := dk_3 (dk_at dksJ2_init_0 18 rfl rfl)
theorem dJ2_init_19 : decode cJ2_init 19 = .ok (.putfield 22, 3) := dk_181 0 22 (dk_at dksJ2_init_0 19 rfl rfl)
theorem dJ2_init_22 : decode cJ2_init 22 = .ok (.goto 16, 3) := dk_167 0 16 (dk_at dksJ2_init_1 0 rfl rfl)
theorem dJ2_init_25 : decode cJ2_init 25 = .ok (.aload_n 0, 1) := dk_42 (dk_at dksJ2_init_1 3 rfl rfl)
theorem dJ2_init_26 : decode cJ2_init 26 = .ok (.iload_n 1, 1) := dk_27 (dk_at dksJ2_init_1 4 rfl rfl)
theorem dJ2_init_27 : decode cJ2_init 27 = .ok (.invokestatic 26, 3) := dk_184 0 26 (dk_at dksJ2_init_1 5 rfl rfl)
theorem dJ2_init_30 : decode cJ2_init 30 = .ok (.putfield 15, 3) := dk_181 0 15 (dk_at dksJ2_init_1 8 rfl rfl)
theorem dJ2_init_33 : decode cJ2_init 33 = .ok (.aload_n 0, 1) := dk_42 (dk_at dksJ2_init_1 11 rfl rfl)
theorem dJ2_init_34 : decode cJ2_init 34 = .ok (.iconst 1, 1) := dk_4 (dk_at dksJ2_init_1 12 rfl rfl)
theorem dJ2_init_35 : decode cJ2_init 35 = .ok (.putfield 22, 3) := dk_181 0 22 (dk_at dksJ2_init_1 13 rfl rfl)
theorem dJ2_init_38 : decode cJ2_init 38 = .ok (.return_, 1) := dk_177 (dk_at dksJ2_init_1 16 rfl rfl)
abbrev cJ2_length : ByteArray := prog_15_method_6_code
def yJ2_length : MethodName := ⟨RJ2, "length", "()I"⟩
theorem dJ2_length_0 : decode cJ2_length 0 = .ok (.aload_n 0, 1) := by decide +kernel
theorem dJ2_length_1 : decode cJ2_length 1 = .ok (.getfield 79, 3) := by decide +kernel
theorem dJ2_length_4 : decode cJ2_length 4 = .ok (.ireturn, 1) := by decide +kernel
abbrev cJ2_append : ByteArray := prog_15_method_31_code
def yJ2_append : MethodName := ⟨RJ2, "append", "(C)Ljava/lang/AbstractStringBuilder;"⟩
def dkwJ2_append_3 : List UInt8 := [181, 0, 79, 27, 184, 0, 197, 42, 176]
abbrev dktJ2_append_3 : List UInt8 := dkwJ2_append_3 ++ []
def dkwJ2_append_2 : List UInt8 := [182, 0, 83, 153, 0, 7, 42, 182, 0, 195, 42, 180, 0, 15, 42, 89, 180, 0, 79, 90, 4, 96]
abbrev dktJ2_append_2 : List UInt8 := dkwJ2_append_2 ++ dktJ2_append_3
def dkwJ2_append_1 : List UInt8 := [42, 180, 0, 15, 42, 89, 180, 0, 79, 90, 4, 96, 181, 0, 79, 27, 145, 84, 167, 0, 33, 42]
abbrev dktJ2_append_1 : List UInt8 := dkwJ2_append_1 ++ dktJ2_append_2
def dkwJ2_append_0 : List UInt8 := [42, 42, 180, 0, 79, 4, 96, 182, 0, 100, 42, 182, 0, 83, 153, 0, 31, 27, 184, 0, 191, 153, 0, 24]
abbrev dktJ2_append_0 : List UInt8 := dkwJ2_append_0 ++ dktJ2_append_1
theorem dksJ2_append_0 : cJ2_append.data.toList.drop 0 = dktJ2_append_0 := by decide +kernel
theorem dksJ2_append_1 : cJ2_append.data.toList.drop 24 = dktJ2_append_1 := dk_seg dksJ2_append_0 24 rfl rfl
theorem dksJ2_append_2 : cJ2_append.data.toList.drop 46 = dktJ2_append_2 := dk_seg dksJ2_append_1 22 rfl rfl
theorem dksJ2_append_3 : cJ2_append.data.toList.drop 68 = dktJ2_append_3 := dk_seg dksJ2_append_2 22 rfl rfl
theorem dJ2_append_0 : decode cJ2_append 0 = .ok (.aload_n 0, 1) := dk_42 (dk_at dksJ2_append_0 0 rfl rfl)
theorem dJ2_append_1 : decode cJ2_append 1 = .ok (.aload_n 0, 1) := dk_42 (dk_at dksJ2_append_0 1 rfl rfl)
theorem dJ2_append_2 : decode cJ2_append 2 = .ok (.getfield 79, 3) := dk_180 0 79 (dk_at dksJ2_append_0 2 rfl rfl)
theorem dJ2_append_5 : decode cJ2_append 5 = .ok (.iconst 1, 1) := dk_4 (dk_at dksJ2_append_0 5 rfl rfl)
theorem dJ2_append_6 : decode cJ2_append 6 = .ok (.iadd, 1) := dk_96 (dk_at dksJ2_append_0 6 rfl rfl)
theorem dJ2_append_7 : decode cJ2_append 7 = .ok (.invokevirtual 100, 3) := dk_182 0 100 (dk_at dksJ2_append_0 7 rfl rfl)
theorem dJ2_append_10 : decode cJ2_append 10 = .ok (.aload_n 0, 1) := dk_42 (dk_at dksJ2_append_0 10 rfl rfl)
theorem dJ2_append_11 : decode cJ2_append 11 = .ok (.invokevirtual 83, 3) := dk_182 0 83 (dk_at dksJ2_append_0 11 rfl rfl)
theorem dJ2_append_14 : decode cJ2_append 14 = .ok (.ifCond .eq 31, 3) := dk_153 0 31 (dk_at dksJ2_append_0 14 rfl rfl)
theorem dJ2_append_17 : decode cJ2_append 17 = .ok (.iload_n 1, 1) := dk_27 (dk_at dksJ2_append_0 17 rfl rfl)
theorem dJ2_append_18 : decode cJ2_append 18 = .ok (.invokestatic 191, 3) := dk_184 0 191 (dk_at dksJ2_append_0 18 rfl rfl)
theorem dJ2_append_21 : decode cJ2_append 21 = .ok (.ifCond .eq 24, 3) := dk_153 0 24 (dk_at dksJ2_append_0 21 rfl rfl)
theorem dJ2_append_24 : decode cJ2_append 24 = .ok (.aload_n 0, 1) := dk_42 (dk_at dksJ2_append_1 0 rfl rfl)
theorem dJ2_append_25 : decode cJ2_append 25 = .ok (.getfield 15, 3) := dk_180 0 15 (dk_at dksJ2_append_1 1 rfl rfl)
theorem dJ2_append_28 : decode cJ2_append 28 = .ok (.aload_n 0, 1) := dk_42 (dk_at dksJ2_append_1 4 rfl rfl)
theorem dJ2_append_29 : decode cJ2_append 29 = .ok (.dup, 1) := dk_89 (dk_at dksJ2_append_1 5 rfl rfl)
theorem dJ2_append_30 : decode cJ2_append 30 = .ok (.getfield 79, 3) := dk_180 0 79 (dk_at dksJ2_append_1 6 rfl rfl)
theorem dJ2_append_33 : decode cJ2_append 33 = .ok (.dup_x1, 1) := dk_90 (dk_at dksJ2_append_1 9 rfl rfl)
theorem dJ2_append_34 : decode cJ2_append 34 = .ok (.iconst 1, 1) := dk_4 (dk_at dksJ2_append_1 10 rfl rfl)
theorem dJ2_append_35 : decode cJ2_append 35 = .ok (.iadd, 1) := dk_96 (dk_at dksJ2_append_1 11 rfl rfl)
theorem dJ2_append_36 : decode cJ2_append 36 = .ok (.putfield 79, 3) := dk_181 0 79 (dk_at dksJ2_append_1 12 rfl rfl)
theorem dJ2_append_39 : decode cJ2_append 39 = .ok (.iload_n 1, 1) := dk_27 (dk_at dksJ2_append_1 15 rfl rfl)
theorem dJ2_append_40 : decode cJ2_append 40 = .ok (.i2b, 1) := dk_145 (dk_at dksJ2_append_1 16 rfl rfl)
theorem dJ2_append_41 : decode cJ2_append 41 = .ok (.bastore, 1) := dk_84 (dk_at dksJ2_append_1 17 rfl rfl)
theorem dJ2_append_42 : decode cJ2_append 42 = .ok (.goto 33, 3) := dk_167 0 33 (dk_at dksJ2_append_1 18 rfl rfl)
theorem dJ2_append_45 : decode cJ2_append 45 = .ok (.aload_n 0, 1) := dk_42 (dk_at dksJ2_append_1 21 rfl rfl)
theorem dJ2_append_46 : decode cJ2_append 46 = .ok (.invokevirtual 83, 3) := dk_182 0 83 (dk_at dksJ2_append_2 0 rfl rfl)
theorem dJ2_append_49 : decode cJ2_append 49 = .ok (.ifCond .eq 7, 3) := dk_153 0 7 (dk_at dksJ2_append_2 3 rfl rfl)
theorem dJ2_append_52 : decode cJ2_append 52 = .ok (.aload_n 0, 1) := dk_42 (dk_at dksJ2_append_2 6 rfl rfl)
theorem dJ2_append_53 : decode cJ2_append 53 = .ok (.invokevirtual 195, 3) := dk_182 0 195 (dk_at dksJ2_append_2 7 rfl rfl)
theorem dJ2_append_56 : decode cJ2_append 56 = .ok (.aload_n 0, 1) := dk_42 (dk_at dksJ2_append_2 10 rfl rfl)
theorem dJ2_append_57 : decode cJ2_append 57 = .ok (.getfield 15, 3) := dk_180 0 15 (dk_at dksJ2_append_2 11 rfl rfl)
theorem dJ2_append_60 : decode cJ2_append 60 = .ok (.aload_n 0, 1) := dk_42 (dk_at dksJ2_append_2 14 rfl rfl)
theorem dJ2_append_61 : decode cJ2_append 61 = .ok (.dup, 1) := dk_89 (dk_at dksJ2_append_2 15 rfl rfl)
theorem dJ2_append_62 : decode cJ2_append 62 = .ok (.getfield 79, 3) := dk_180 0 79 (dk_at dksJ2_append_2 16 rfl rfl)
theorem dJ2_append_65 : decode cJ2_append 65 = .ok (.dup_x1, 1) := dk_90 (dk_at dksJ2_append_2 19 rfl rfl)
theorem dJ2_append_66 : decode cJ2_append 66 = .ok (.iconst 1, 1) := dk_4 (dk_at dksJ2_append_2 20 rfl rfl)
theorem dJ2_append_67 : decode cJ2_append 67 = .ok (.iadd, 1) := dk_96 (dk_at dksJ2_append_2 21 rfl rfl)
theorem dJ2_append_68 : decode cJ2_append 68 = .ok (.putfield 79, 3) := dk_181 0 79 (dk_at dksJ2_append_3 0 rfl rfl)
theorem dJ2_append_71 : decode cJ2_append 71 = .ok (.iload_n 1, 1) := dk_27 (dk_at dksJ2_append_3 3 rfl rfl)
theorem dJ2_append_72 : decode cJ2_append 72 = .ok (.invokestatic 197, 3) := dk_184 0 197 (dk_at dksJ2_append_3 4 rfl rfl)
theorem dJ2_append_75 : decode cJ2_append 75 = .ok (.aload_n 0, 1) := dk_42 (dk_at dksJ2_append_3 7 rfl rfl)
theorem dJ2_append_76 : decode cJ2_append 76 = .ok (.areturn, 1) := dk_176 (dk_at dksJ2_append_3 8 rfl rfl)
abbrev cJ2_ensureCapacityInternal : ByteArray := prog_15_method_9_code
def yJ2_ensureCapacityInternal : MethodName := ⟨RJ2, "ensureCapacityInternal", "(I)V"⟩
def dkwJ2_ensureCapacityInternal_1 : List UInt8 := [182, 0, 104, 42, 180, 0, 22, 120, 184, 0, 108, 181, 0, 15, 177]
abbrev dktJ2_ensureCapacityInternal_1 : List UInt8 := dkwJ2_ensureCapacityInternal_1 ++ []
def dkwJ2_ensureCapacityInternal_0 : List UInt8 := [42, 180, 0, 15, 190, 42, 180, 0, 22, 122, 61, 27, 28, 100, 158, 0, 24, 42, 42, 180, 0, 15, 42, 27]
abbrev dktJ2_ensureCapacityInternal_0 : List UInt8 := dkwJ2_ensureCapacityInternal_0 ++ dktJ2_ensureCapacityInternal_1
theorem dksJ2_ensureCapacityInternal_0 : cJ2_ensureCapacityInternal.data.toList.drop 0 = dktJ2_ensureCapacityInternal_0 := by decide +kernel
theorem dksJ2_ensureCapacityInternal_1 : cJ2_ensureCapacityInternal.data.toList.drop 24 = dktJ2_ensureCapacityInternal_1 := dk_seg dksJ2_ensureCapacityInternal_0 24 rfl rfl
theorem dJ2_ensureCapacityInternal_0 : decode cJ2_ensureCapacityInternal 0 = .ok (.aload_n 0, 1) := dk_42 (dk_at dksJ2_ensureCapacityInternal_0 0 rfl rfl)
theorem dJ2_ensureCapacityInternal_1 : decode cJ2_ensureCapacityInternal 1 = .ok (.getfield 15, 3) := dk_180 0 15 (dk_at dksJ2_ensureCapacityInternal_0 1 rfl rfl)
theorem dJ2_ensureCapacityInternal_4 : decode cJ2_ensureCapacityInternal 4 = .ok (.arraylength, 1) := dk_190 (dk_at dksJ2_ensureCapacityInternal_0 4 rfl rfl)
theorem dJ2_ensureCapacityInternal_5 : decode cJ2_ensureCapacityInternal 5 = .ok (.aload_n 0, 1) := dk_42 (dk_at dksJ2_ensureCapacityInternal_0 5 rfl rfl)
theorem dJ2_ensureCapacityInternal_6 : decode cJ2_ensureCapacityInternal 6 = .ok (.getfield 22, 3) := dk_180 0 22 (dk_at dksJ2_ensureCapacityInternal_0 6 rfl rfl)
theorem dJ2_ensureCapacityInternal_9 : decode cJ2_ensureCapacityInternal 9 = .ok (.ishr, 1) := dk_122 (dk_at dksJ2_ensureCapacityInternal_0 9 rfl rfl)
theorem dJ2_ensureCapacityInternal_10 : decode cJ2_ensureCapacityInternal 10 = .ok (.istore_n 2, 1) := dk_61 (dk_at dksJ2_ensureCapacityInternal_0 10 rfl rfl)
theorem dJ2_ensureCapacityInternal_11 : decode cJ2_ensureCapacityInternal 11 = .ok (.iload_n 1, 1) := dk_27 (dk_at dksJ2_ensureCapacityInternal_0 11 rfl rfl)
theorem dJ2_ensureCapacityInternal_12 : decode cJ2_ensureCapacityInternal 12 = .ok (.iload_n 2, 1) := dk_28 (dk_at dksJ2_ensureCapacityInternal_0 12 rfl rfl)
theorem dJ2_ensureCapacityInternal_13 : decode cJ2_ensureCapacityInternal 13 = .ok (.isub, 1) := dk_100 (dk_at dksJ2_ensureCapacityInternal_0 13 rfl rfl)
theorem dJ2_ensureCapacityInternal_14 : decode cJ2_ensureCapacityInternal 14 = .ok (.ifCond .le 24, 3) := dk_158 0 24 (dk_at dksJ2_ensureCapacityInternal_0 14 rfl rfl)
theorem dJ2_ensureCapacityInternal_17 : decode cJ2_ensureCapacityInternal 17 = .ok (.aload_n 0, 1) := dk_42 (dk_at dksJ2_ensureCapacityInternal_0 17 rfl rfl)
theorem dJ2_ensureCapacityInternal_18 : decode cJ2_ensureCapacityInternal 18 = .ok (.aload_n 0, 1) := dk_42 (dk_at dksJ2_ensureCapacityInternal_0 18 rfl rfl)
theorem dJ2_ensureCapacityInternal_19 : decode cJ2_ensureCapacityInternal 19 = .ok (.getfield 15, 3) := dk_180 0 15 (dk_at dksJ2_ensureCapacityInternal_0 19 rfl rfl)
theorem dJ2_ensureCapacityInternal_22 : decode cJ2_ensureCapacityInternal 22 = .ok (.aload_n 0, 1) := dk_42 (dk_at dksJ2_ensureCapacityInternal_0 22 rfl rfl)
theorem dJ2_ensureCapacityInternal_23 : decode cJ2_ensureCapacityInternal 23 = .ok (.iload_n 1, 1) := dk_27 (dk_at dksJ2_ensureCapacityInternal_0 23 rfl rfl)
theorem dJ2_ensureCapacityInternal_24 : decode cJ2_ensureCapacityInternal 24 = .ok (.invokevirtual 104, 3) := dk_182 0 104 (dk_at dksJ2_ensureCapacityInternal_1 0 rfl rfl)
theorem dJ2_ensureCapacityInternal_27 : decode cJ2_ensureCapacityInternal 27 = .ok (.aload_n 0, 1) := dk_42 (dk_at dksJ2_ensureCapacityInternal_1 3 rfl rfl)
theorem dJ2_ensureCapacityInternal_28 : decode cJ2_ensureCapacityInternal 28 = .ok (.getfield 22, 3) := dk_180 0 22 (dk_at dksJ2_ensureCapacityInternal_1 4 rfl rfl)
theorem dJ2_ensureCapacityInternal_31 : decode cJ2_ensureCapacityInternal 31 = .ok (.ishl, 1) := dk_120 (dk_at dksJ2_ensureCapacityInternal_1 7 rfl rfl)
theorem dJ2_ensureCapacityInternal_32 : decode cJ2_ensureCapacityInternal 32 = .ok (.invokestatic 108, 3) := dk_184 0 108 (dk_at dksJ2_ensureCapacityInternal_1 8 rfl rfl)
theorem dJ2_ensureCapacityInternal_35 : decode cJ2_ensureCapacityInternal 35 = .ok (.putfield 15, 3) := dk_181 0 15 (dk_at dksJ2_ensureCapacityInternal_1 11 rfl rfl)
theorem dJ2_ensureCapacityInternal_38 : decode cJ2_ensureCapacityInternal 38 = .ok (.return_, 1) := dk_177 (dk_at dksJ2_ensureCapacityInternal_1 14 rfl rfl)
abbrev cJ2_newCapacity : ByteArray := prog_15_method_10_code
def yJ2_newCapacity : MethodName := ⟨RJ2, "newCapacity", "(I)I"⟩
def dkwJ2_newCapacity_2 : List UInt8 := [183, 0, 124, 191, 21, 5, 42, 180, 0, 22, 122, 172]
abbrev dktJ2_newCapacity_2 : List UInt8 := dkwJ2_newCapacity_2 ++ []
def dkwJ2_newCapacity_1 : List UInt8 := [180, 0, 22, 120, 96, 184, 0, 114, 54, 5, 21, 5, 18, 39, 160, 0, 13, 187, 0, 120, 89, 18, 122]
abbrev dktJ2_newCapacity_1 : List UInt8 := dkwJ2_newCapacity_1 ++ dktJ2_newCapacity_2
def dkwJ2_newCapacity_0 : List UInt8 := [42, 180, 0, 15, 190, 61, 27, 42, 180, 0, 22, 120, 62, 29, 28, 100, 54, 4, 28, 21, 4, 28, 5, 42]
abbrev dktJ2_newCapacity_0 : List UInt8 := dkwJ2_newCapacity_0 ++ dktJ2_newCapacity_1
theorem dksJ2_newCapacity_0 : cJ2_newCapacity.data.toList.drop 0 = dktJ2_newCapacity_0 := by decide +kernel
theorem dksJ2_newCapacity_1 : cJ2_newCapacity.data.toList.drop 24 = dktJ2_newCapacity_1 := dk_seg dksJ2_newCapacity_0 24 rfl rfl
theorem dksJ2_newCapacity_2 : cJ2_newCapacity.data.toList.drop 47 = dktJ2_newCapacity_2 := dk_seg dksJ2_newCapacity_1 23 rfl rfl
theorem dJ2_newCapacity_0 : decode cJ2_newCapacity 0 = .ok (.aload_n 0, 1) := dk_42 (dk_at dksJ2_newCapacity_0 0 rfl rfl)
theorem dJ2_newCapacity_1 : decode cJ2_newCapacity 1 = .ok (.getfield 15, 3) := dk_180 0 15 (dk_at dksJ2_newCapacity_0 1 rfl rfl)
theorem dJ2_newCapacity_4 : decode cJ2_newCapacity 4 = .ok (.arraylength, 1) := dk_190 (dk_at dksJ2_newCapacity_0 4 rfl rfl)
theorem dJ2_newCapacity_5 : decode cJ2_newCapacity 5 = .ok (.istore_n 2, 1) := dk_61 (dk_at dksJ2_newCapacity_0 5 rfl rfl)
theorem dJ2_newCapacity_6 : decode cJ2_newCapacity 6 = .ok (.iload_n 1, 1) := dk_27 (dk_at dksJ2_newCapacity_0 6 rfl rfl)
theorem dJ2_newCapacity_7 : decode cJ2_newCapacity 7 = .ok (.aload_n 0, 1) := dk_42 (dk_at dksJ2_newCapacity_0 7 rfl rfl)
theorem dJ2_newCapacity_8 : decode cJ2_newCapacity 8 = .ok (.getfield 22, 3) := dk_180 0 22 (dk_at dksJ2_newCapacity_0 8 rfl rfl)
theorem dJ2_newCapacity_11 : decode cJ2_newCapacity 11 = .ok (.ishl, 1) := dk_120 (dk_at dksJ2_newCapacity_0 11 rfl rfl)
theorem dJ2_newCapacity_12 : decode cJ2_newCapacity 12 = .ok (.istore_n 3, 1) := dk_62 (dk_at dksJ2_newCapacity_0 12 rfl rfl)
theorem dJ2_newCapacity_13 : decode cJ2_newCapacity 13 = .ok (.iload_n 3, 1) := dk_29 (dk_at dksJ2_newCapacity_0 13 rfl rfl)
theorem dJ2_newCapacity_14 : decode cJ2_newCapacity 14 = .ok (.iload_n 2, 1) := dk_28 (dk_at dksJ2_newCapacity_0 14 rfl rfl)
theorem dJ2_newCapacity_15 : decode cJ2_newCapacity 15 = .ok (.isub, 1) := dk_100 (dk_at dksJ2_newCapacity_0 15 rfl rfl)
theorem dJ2_newCapacity_16 : decode cJ2_newCapacity 16 = .ok (.istore 4, 2) := dk_54 4 (dk_at dksJ2_newCapacity_0 16 rfl rfl)
theorem dJ2_newCapacity_18 : decode cJ2_newCapacity 18 = .ok (.iload_n 2, 1) := dk_28 (dk_at dksJ2_newCapacity_0 18 rfl rfl)
theorem dJ2_newCapacity_19 : decode cJ2_newCapacity 19 = .ok (.iload 4, 2) := dk_21 4 (dk_at dksJ2_newCapacity_0 19 rfl rfl)
theorem dJ2_newCapacity_21 : decode cJ2_newCapacity 21 = .ok (.iload_n 2, 1) := dk_28 (dk_at dksJ2_newCapacity_0 21 rfl rfl)
theorem dJ2_newCapacity_22 : decode cJ2_newCapacity 22 = .ok (.iconst 2, 1) := dk_5 (dk_at dksJ2_newCapacity_0 22 rfl rfl)
theorem dJ2_newCapacity_23 : decode cJ2_newCapacity 23 = .ok (.aload_n 0, 1) := dk_42 (dk_at dksJ2_newCapacity_0 23 rfl rfl)
theorem dJ2_newCapacity_24 : decode cJ2_newCapacity 24 = .ok (.getfield 22, 3) := dk_180 0 22 (dk_at dksJ2_newCapacity_1 0 rfl rfl)
theorem dJ2_newCapacity_27 : decode cJ2_newCapacity 27 = .ok (.ishl, 1) := dk_120 (dk_at dksJ2_newCapacity_1 3 rfl rfl)
theorem dJ2_newCapacity_28 : decode cJ2_newCapacity 28 = .ok (.iadd, 1) := dk_96 (dk_at dksJ2_newCapacity_1 4 rfl rfl)
theorem dJ2_newCapacity_29 : decode cJ2_newCapacity 29 = .ok (.invokestatic 114, 3) := dk_184 0 114 (dk_at dksJ2_newCapacity_1 5 rfl rfl)
theorem dJ2_newCapacity_32 : decode cJ2_newCapacity 32 = .ok (.istore 5, 2) := dk_54 5 (dk_at dksJ2_newCapacity_1 8 rfl rfl)
theorem dJ2_newCapacity_34 : decode cJ2_newCapacity 34 = .ok (.iload 5, 2) := dk_21 5 (dk_at dksJ2_newCapacity_1 10 rfl rfl)
theorem dJ2_newCapacity_36 : decode cJ2_newCapacity 36 = .ok (.ldc 39, 2) := dk_18 39 (dk_at dksJ2_newCapacity_1 12 rfl rfl)
theorem dJ2_newCapacity_38 : decode cJ2_newCapacity 38 = .ok (.if_icmp .ne 13, 3) := dk_160 0 13 (dk_at dksJ2_newCapacity_1 14 rfl rfl)
theorem dJ2_newCapacity_41 : decode cJ2_newCapacity 41 = .ok (.new 120, 3) := dk_187 0 120 (dk_at dksJ2_newCapacity_1 17 rfl rfl)
theorem dJ2_newCapacity_44 : decode cJ2_newCapacity 44 = .ok (.dup, 1) := dk_89 (dk_at dksJ2_newCapacity_1 20 rfl rfl)
theorem dJ2_newCapacity_45 : decode cJ2_newCapacity 45 = .ok (.ldc 122, 2) := dk_18 122 (dk_at dksJ2_newCapacity_1 21 rfl rfl)
theorem dJ2_newCapacity_47 : decode cJ2_newCapacity 47 = .ok (.invokespecial 124, 3) := dk_183 0 124 (dk_at dksJ2_newCapacity_2 0 rfl rfl)
theorem dJ2_newCapacity_50 : decode cJ2_newCapacity 50 = .ok (.athrow, 1) := dk_191 (dk_at dksJ2_newCapacity_2 3 rfl rfl)
theorem dJ2_newCapacity_51 : decode cJ2_newCapacity 51 = .ok (.iload 5, 2) := dk_21 5 (dk_at dksJ2_newCapacity_2 4 rfl rfl)
theorem dJ2_newCapacity_53 : decode cJ2_newCapacity 53 = .ok (.aload_n 0, 1) := dk_42 (dk_at dksJ2_newCapacity_2 6 rfl rfl)
theorem dJ2_newCapacity_54 : decode cJ2_newCapacity 54 = .ok (.getfield 22, 3) := dk_180 0 22 (dk_at dksJ2_newCapacity_2 7 rfl rfl)
theorem dJ2_newCapacity_57 : decode cJ2_newCapacity 57 = .ok (.ishr, 1) := dk_122 (dk_at dksJ2_newCapacity_2 10 rfl rfl)
theorem dJ2_newCapacity_58 : decode cJ2_newCapacity 58 = .ok (.ireturn, 1) := dk_172 (dk_at dksJ2_newCapacity_2 11 rfl rfl)
abbrev cJ2_isLatin1 : ByteArray := prog_15_method_68_code
def yJ2_isLatin1 : MethodName := ⟨RJ2, "isLatin1", "()Z"⟩
def dkwJ2_isLatin1_0 : List UInt8 := [178, 0, 18, 153, 0, 14, 42, 180, 0, 22, 154, 0, 7, 4, 167, 0, 4, 3, 172]
abbrev dktJ2_isLatin1_0 : List UInt8 := dkwJ2_isLatin1_0 ++ []
theorem dksJ2_isLatin1_0 : cJ2_isLatin1.data.toList.drop 0 = dktJ2_isLatin1_0 := by decide +kernel
theorem dJ2_isLatin1_0 : decode cJ2_isLatin1 0 = .ok (.getstatic 18, 3) := dk_178 0 18 (dk_at dksJ2_isLatin1_0 0 rfl rfl)
theorem dJ2_isLatin1_3 : decode cJ2_isLatin1 3 = .ok (.ifCond .eq 14, 3) := dk_153 0 14 (dk_at dksJ2_isLatin1_0 3 rfl rfl)
theorem dJ2_isLatin1_6 : decode cJ2_isLatin1 6 = .ok (.aload_n 0, 1) := dk_42 (dk_at dksJ2_isLatin1_0 6 rfl rfl)
theorem dJ2_isLatin1_7 : decode cJ2_isLatin1 7 = .ok (.getfield 22, 3) := dk_180 0 22 (dk_at dksJ2_isLatin1_0 7 rfl rfl)
theorem dJ2_isLatin1_10 : decode cJ2_isLatin1 10 = .ok (.ifCond .ne 7, 3) := dk_154 0 7 (dk_at dksJ2_isLatin1_0 10 rfl rfl)
theorem dJ2_isLatin1_13 : decode cJ2_isLatin1 13 = .ok (.iconst 1, 1) := dk_4 (dk_at dksJ2_isLatin1_0 13 rfl rfl)
theorem dJ2_isLatin1_14 : decode cJ2_isLatin1 14 = .ok (.goto 4, 3) := dk_167 0 4 (dk_at dksJ2_isLatin1_0 14 rfl rfl)
theorem dJ2_isLatin1_17 : decode cJ2_isLatin1 17 = .ok (.iconst 0, 1) := dk_3 (dk_at dksJ2_isLatin1_0 17 rfl rfl)
theorem dJ2_isLatin1_18 : decode cJ2_isLatin1 18 = .ok (.ireturn, 1) := dk_172 (dk_at dksJ2_isLatin1_0 18 rfl rfl)
abbrev cJ2_inflate : ByteArray := prog_15_method_11_code
def yJ2_inflate : MethodName := ⟨RJ2, "inflate", "()V"⟩
def dkwJ2_inflate_1 : List UInt8 := [42, 180, 0, 79, 184, 0, 125, 42, 43, 181, 0, 15, 42, 4, 181, 0, 22, 177]
abbrev dktJ2_inflate_1 : List UInt8 := dkwJ2_inflate_1 ++ []
def dkwJ2_inflate_0 : List UInt8 := [42, 182, 0, 83, 154, 0, 4, 177, 42, 180, 0, 15, 190, 184, 0, 26, 76, 42, 180, 0, 15, 3, 43, 3]
abbrev dktJ2_inflate_0 : List UInt8 := dkwJ2_inflate_0 ++ dktJ2_inflate_1
theorem dksJ2_inflate_0 : cJ2_inflate.data.toList.drop 0 = dktJ2_inflate_0 := by decide +kernel
theorem dksJ2_inflate_1 : cJ2_inflate.data.toList.drop 24 = dktJ2_inflate_1 := dk_seg dksJ2_inflate_0 24 rfl rfl
theorem dJ2_inflate_0 : decode cJ2_inflate 0 = .ok (.aload_n 0, 1) := dk_42 (dk_at dksJ2_inflate_0 0 rfl rfl)
theorem dJ2_inflate_1 : decode cJ2_inflate 1 = .ok (.invokevirtual 83, 3) := dk_182 0 83 (dk_at dksJ2_inflate_0 1 rfl rfl)
theorem dJ2_inflate_4 : decode cJ2_inflate 4 = .ok (.ifCond .ne 4, 3) := dk_154 0 4 (dk_at dksJ2_inflate_0 4 rfl rfl)
theorem dJ2_inflate_7 : decode cJ2_inflate 7 = .ok (.return_, 1) := dk_177 (dk_at dksJ2_inflate_0 7 rfl rfl)
theorem dJ2_inflate_8 : decode cJ2_inflate 8 = .ok (.aload_n 0, 1) := dk_42 (dk_at dksJ2_inflate_0 8 rfl rfl)
theorem dJ2_inflate_9 : decode cJ2_inflate 9 = .ok (.getfield 15, 3) := dk_180 0 15 (dk_at dksJ2_inflate_0 9 rfl rfl)
theorem dJ2_inflate_12 : decode cJ2_inflate 12 = .ok (.arraylength, 1) := dk_190 (dk_at dksJ2_inflate_0 12 rfl rfl)
theorem dJ2_inflate_13 : decode cJ2_inflate 13 = .ok (.invokestatic 26, 3) := dk_184 0 26 (dk_at dksJ2_inflate_0 13 rfl rfl)
theorem dJ2_inflate_16 : decode cJ2_inflate 16 = .ok (.astore_n 1, 1) := dk_76 (dk_at dksJ2_inflate_0 16 rfl rfl)
theorem dJ2_inflate_17 : decode cJ2_inflate 17 = .ok (.aload_n 0, 1) := dk_42 (dk_at dksJ2_inflate_0 17 rfl rfl)
theorem dJ2_inflate_18 : decode cJ2_inflate 18 = .ok (.getfield 15, 3) := dk_180 0 15 (dk_at dksJ2_inflate_0 18 rfl rfl)
theorem dJ2_inflate_21 : decode cJ2_inflate 21 = .ok (.iconst 0, 1) := dk_3 (dk_at dksJ2_inflate_0 21 rfl rfl)
theorem dJ2_inflate_22 : decode cJ2_inflate 22 = .ok (.aload_n 1, 1) := dk_43 (dk_at dksJ2_inflate_0 22 rfl rfl)
theorem dJ2_inflate_23 : decode cJ2_inflate 23 = .ok (.iconst 0, 1) := dk_3 (dk_at dksJ2_inflate_0 23 rfl rfl)
theorem dJ2_inflate_24 : decode cJ2_inflate 24 = .ok (.aload_n 0, 1) := dk_42 (dk_at dksJ2_inflate_1 0 rfl rfl)
theorem dJ2_inflate_25 : decode cJ2_inflate 25 = .ok (.getfield 79, 3) := dk_180 0 79 (dk_at dksJ2_inflate_1 1 rfl rfl)
theorem dJ2_inflate_28 : decode cJ2_inflate 28 = .ok (.invokestatic 125, 3) := dk_184 0 125 (dk_at dksJ2_inflate_1 4 rfl rfl)
theorem dJ2_inflate_31 : decode cJ2_inflate 31 = .ok (.aload_n 0, 1) := dk_42 (dk_at dksJ2_inflate_1 7 rfl rfl)
theorem dJ2_inflate_32 : decode cJ2_inflate 32 = .ok (.aload_n 1, 1) := dk_43 (dk_at dksJ2_inflate_1 8 rfl rfl)
theorem dJ2_inflate_33 : decode cJ2_inflate 33 = .ok (.putfield 15, 3) := dk_181 0 15 (dk_at dksJ2_inflate_1 9 rfl rfl)
theorem dJ2_inflate_36 : decode cJ2_inflate 36 = .ok (.aload_n 0, 1) := dk_42 (dk_at dksJ2_inflate_1 12 rfl rfl)
theorem dJ2_inflate_37 : decode cJ2_inflate 37 = .ok (.iconst 1, 1) := dk_4 (dk_at dksJ2_inflate_1 13 rfl rfl)
theorem dJ2_inflate_38 : decode cJ2_inflate 38 = .ok (.putfield 22, 3) := dk_181 0 22 (dk_at dksJ2_inflate_1 14 rfl rfl)
theorem dJ2_inflate_41 : decode cJ2_inflate 41 = .ok (.return_, 1) := dk_177 (dk_at dksJ2_inflate_1 17 rfl rfl)
abbrev cJ2_charAt : ByteArray := prog_15_method_14_code
def yJ2_charAt : MethodName := ⟨RJ2, "charAt", "(I)C"⟩
def dkwJ2_charAt_1 : List UInt8 := [21, 4, 184, 0, 144, 28, 154, 0, 12, 45, 27, 51, 17, 0, 255, 126, 146, 172, 45, 27, 184, 0, 148, 172]
abbrev dktJ2_charAt_1 : List UInt8 := dkwJ2_charAt_1 ++ []
def dkwJ2_charAt_0 : List UInt8 := [42, 180, 0, 22, 61, 42, 180, 0, 15, 78, 42, 180, 0, 79, 45, 190, 28, 122, 184, 0, 138, 54, 4, 27]
abbrev dktJ2_charAt_0 : List UInt8 := dkwJ2_charAt_0 ++ dktJ2_charAt_1
theorem dksJ2_charAt_0 : cJ2_charAt.data.toList.drop 0 = dktJ2_charAt_0 := by decide +kernel
theorem dksJ2_charAt_1 : cJ2_charAt.data.toList.drop 24 = dktJ2_charAt_1 := dk_seg dksJ2_charAt_0 24 rfl rfl
theorem dJ2_charAt_0 : decode cJ2_charAt 0 = .ok (.aload_n 0, 1) := dk_42 (dk_at dksJ2_charAt_0 0 rfl rfl)
theorem dJ2_charAt_1 : decode cJ2_charAt 1 = .ok (.getfield 22, 3) := dk_180 0 22 (dk_at dksJ2_charAt_0 1 rfl rfl)
theorem dJ2_charAt_4 : decode cJ2_charAt 4 = .ok (.istore_n 2, 1) := dk_61 (dk_at dksJ2_charAt_0 4 rfl rfl)
theorem dJ2_charAt_5 : decode cJ2_charAt 5 = .ok (.aload_n 0, 1) := dk_42 (dk_at dksJ2_charAt_0 5 rfl rfl)
theorem dJ2_charAt_6 : decode cJ2_charAt 6 = .ok (.getfield 15, 3) := dk_180 0 15 (dk_at dksJ2_charAt_0 6 rfl rfl)
theorem dJ2_charAt_9 : decode cJ2_charAt 9 = .ok (.astore_n 3, 1) := dk_78 (dk_at dksJ2_charAt_0 9 rfl rfl)
theorem dJ2_charAt_10 : decode cJ2_charAt 10 = .ok (.aload_n 0, 1) := dk_42 (dk_at dksJ2_charAt_0 10 rfl rfl)
theorem dJ2_charAt_11 : decode cJ2_charAt 11 = .ok (.getfield 79, 3) := dk_180 0 79 (dk_at dksJ2_charAt_0 11 rfl rfl)
theorem dJ2_charAt_14 : decode cJ2_charAt 14 = .ok (.aload_n 3, 1) := dk_45 (dk_at dksJ2_charAt_0 14 rfl rfl)
theorem dJ2_charAt_15 : decode cJ2_charAt 15 = .ok (.arraylength, 1) := dk_190 (dk_at dksJ2_charAt_0 15 rfl rfl)
theorem dJ2_charAt_16 : decode cJ2_charAt 16 = .ok (.iload_n 2, 1) := dk_28 (dk_at dksJ2_charAt_0 16 rfl rfl)
theorem dJ2_charAt_17 : decode cJ2_charAt 17 = .ok (.ishr, 1) := dk_122 (dk_at dksJ2_charAt_0 17 rfl rfl)
theorem dJ2_charAt_18 : decode cJ2_charAt 18 = .ok (.invokestatic 138, 3) := dk_184 0 138 (dk_at dksJ2_charAt_0 18 rfl rfl)
theorem dJ2_charAt_21 : decode cJ2_charAt 21 = .ok (.istore 4, 2) := dk_54 4 (dk_at dksJ2_charAt_0 21 rfl rfl)
theorem dJ2_charAt_23 : decode cJ2_charAt 23 = .ok (.iload_n 1, 1) := dk_27 (dk_at dksJ2_charAt_0 23 rfl rfl)
theorem dJ2_charAt_24 : decode cJ2_charAt 24 = .ok (.iload 4, 2) := dk_21 4 (dk_at dksJ2_charAt_1 0 rfl rfl)
theorem dJ2_charAt_26 : decode cJ2_charAt 26 = .ok (.invokestatic 144, 3) := dk_184 0 144 (dk_at dksJ2_charAt_1 2 rfl rfl)
theorem dJ2_charAt_29 : decode cJ2_charAt 29 = .ok (.iload_n 2, 1) := dk_28 (dk_at dksJ2_charAt_1 5 rfl rfl)
theorem dJ2_charAt_30 : decode cJ2_charAt 30 = .ok (.ifCond .ne 12, 3) := dk_154 0 12 (dk_at dksJ2_charAt_1 6 rfl rfl)
theorem dJ2_charAt_33 : decode cJ2_charAt 33 = .ok (.aload_n 3, 1) := dk_45 (dk_at dksJ2_charAt_1 9 rfl rfl)
theorem dJ2_charAt_34 : decode cJ2_charAt 34 = .ok (.iload_n 1, 1) := dk_27 (dk_at dksJ2_charAt_1 10 rfl rfl)
theorem dJ2_charAt_35 : decode cJ2_charAt 35 = .ok (.baload, 1) := dk_51 (dk_at dksJ2_charAt_1 11 rfl rfl)
theorem dJ2_charAt_36 : decode cJ2_charAt 36 = .ok (.sipush 255, 3) := dk_17 0 255 (dk_at dksJ2_charAt_1 12 rfl rfl)
theorem dJ2_charAt_39 : decode cJ2_charAt 39 = .ok (.iand, 1) := dk_126 (dk_at dksJ2_charAt_1 15 rfl rfl)
theorem dJ2_charAt_40 : decode cJ2_charAt 40 = .ok (.i2c, 1) := dk_146 (dk_at dksJ2_charAt_1 16 rfl rfl)
theorem dJ2_charAt_41 : decode cJ2_charAt 41 = .ok (.ireturn, 1) := dk_172 (dk_at dksJ2_charAt_1 17 rfl rfl)
theorem dJ2_charAt_42 : decode cJ2_charAt 42 = .ok (.aload_n 3, 1) := dk_45 (dk_at dksJ2_charAt_1 18 rfl rfl)
theorem dJ2_charAt_43 : decode cJ2_charAt 43 = .ok (.iload_n 1, 1) := dk_27 (dk_at dksJ2_charAt_1 19 rfl rfl)
theorem dJ2_charAt_44 : decode cJ2_charAt 44 = .ok (.invokestatic 148, 3) := dk_184 0 148 (dk_at dksJ2_charAt_1 20 rfl rfl)
theorem dJ2_charAt_47 : decode cJ2_charAt 47 = .ok (.ireturn, 1) := dk_172 (dk_at dksJ2_charAt_1 23 rfl rfl)
abbrev cJ2_setLength : ByteArray := prog_15_method_13_code
def yJ2_setLength : MethodName := ⟨RJ2, "setLength", "(I)V"⟩
def dkwJ2_setLength_3 : List UInt8 := [164, 0, 8, 42, 4, 181, 0, 73, 42, 27, 181, 0, 79, 177]
abbrev dktJ2_setLength_3 : List UInt8 := dkwJ2_setLength_3 ++ []
def dkwJ2_setLength_2 : List UInt8 := [167, 0, 31, 42, 180, 0, 15, 42, 180, 0, 79, 27, 184, 0, 137, 167, 0, 16, 42, 180, 0, 79, 27]
abbrev dktJ2_setLength_2 : List UInt8 := dkwJ2_setLength_2 ++ dktJ2_setLength_3
def dkwJ2_setLength_1 : List UInt8 := [162, 0, 40, 42, 182, 0, 83, 153, 0, 18, 42, 180, 0, 15, 42, 180, 0, 79, 27, 184, 0, 133]
abbrev dktJ2_setLength_1 : List UInt8 := dkwJ2_setLength_1 ++ dktJ2_setLength_2
def dkwJ2_setLength_0 : List UInt8 := [27, 156, 0, 12, 187, 0, 129, 89, 27, 183, 0, 131, 191, 42, 27, 182, 0, 100, 42, 180, 0, 79, 27]
abbrev dktJ2_setLength_0 : List UInt8 := dkwJ2_setLength_0 ++ dktJ2_setLength_1
theorem dksJ2_setLength_0 : cJ2_setLength.data.toList.drop 0 = dktJ2_setLength_0 := by decide +kernel
theorem dksJ2_setLength_1 : cJ2_setLength.data.toList.drop 23 = dktJ2_setLength_1 := dk_seg dksJ2_setLength_0 23 rfl rfl
theorem dksJ2_setLength_2 : cJ2_setLength.data.toList.drop 45 = dktJ2_setLength_2 := dk_seg dksJ2_setLength_1 22 rfl rfl
theorem dksJ2_setLength_3 : cJ2_setLength.data.toList.drop 68 = dktJ2_setLength_3 := dk_seg dksJ2_setLength_2 23 rfl rfl
theorem dJ2_setLength_0 : decode cJ2_setLength 0 = .ok (.iload_n 1, 1) := dk_27 (dk_at dksJ2_setLength_0 0 rfl rfl)
theorem dJ2_setLength_1 : decode cJ2_setLength 1 = .ok (.ifCond .ge 12, 3) := dk_156 0 12 (dk_at dksJ2_setLength_0 1 rfl rfl)
theorem dJ2_setLength_4 : decode cJ2_setLength 4 = .ok (.new 129, 3) := dk_187 0 129 (dk_at dksJ2_setLength_0 4 rfl rfl)
theorem dJ2_setLength_7 : decode cJ2_setLength 7 = .ok (.dup, 1) := dk_89 (dk_at dksJ2_setLength_0 7 rfl rfl)
theorem dJ2_setLength_8 : decode cJ2_setLength 8 = .ok (.iload_n 1, 1) := dk_27 (dk_at dksJ2_setLength_0 8 rfl rfl)
theorem dJ2_setLength_9 : decode cJ2_setLength 9 = .ok (.invokespecial 131, 3) := dk_183 0 131 (dk_at dksJ2_setLength_0 9 rfl rfl)
theorem dJ2_setLength_12 : decode cJ2_setLength 12 = .ok (.athrow, 1) := dk_191 (dk_at dksJ2_setLength_0 12 rfl rfl)
theorem dJ2_setLength_13 : decode cJ2_setLength 13 = .ok (.aload_n 0, 1) := dk_42 (dk_at dksJ2_setLength_0 13 rfl rfl)
theorem dJ2_setLength_14 : decode cJ2_setLength 14 = .ok (.iload_n 1, 1) := dk_27 (dk_at dksJ2_setLength_0 14 rfl rfl)
theorem dJ2_setLength_15 : decode cJ2_setLength 15 = .ok (.invokevirtual 100, 3) := dk_182 0 100 (dk_at dksJ2_setLength_0 15 rfl rfl)
theorem dJ2_setLength_18 : decode cJ2_setLength 18 = .ok (.aload_n 0, 1) := dk_42 (dk_at dksJ2_setLength_0 18 rfl rfl)
theorem dJ2_setLength_19 : decode cJ2_setLength 19 = .ok (.getfield 79, 3) := dk_180 0 79 (dk_at dksJ2_setLength_0 19 rfl rfl)
theorem dJ2_setLength_22 : decode cJ2_setLength 22 = .ok (.iload_n 1, 1) := dk_27 (dk_at dksJ2_setLength_0 22 rfl rfl)
theorem dJ2_setLength_23 : decode cJ2_setLength 23 = .ok (.if_icmp .ge 40, 3) := dk_162 0 40 (dk_at dksJ2_setLength_1 0 rfl rfl)
theorem dJ2_setLength_26 : decode cJ2_setLength 26 = .ok (.aload_n 0, 1) := dk_42 (dk_at dksJ2_setLength_1 3 rfl rfl)
theorem dJ2_setLength_27 : decode cJ2_setLength 27 = .ok (.invokevirtual 83, 3) := dk_182 0 83 (dk_at dksJ2_setLength_1 4 rfl rfl)
theorem dJ2_setLength_30 : decode cJ2_setLength 30 = .ok (.ifCond .eq 18, 3) := dk_153 0 18 (dk_at dksJ2_setLength_1 7 rfl rfl)
theorem dJ2_setLength_33 : decode cJ2_setLength 33 = .ok (.aload_n 0, 1) := dk_42 (dk_at dksJ2_setLength_1 10 rfl rfl)
theorem dJ2_setLength_34 : decode cJ2_setLength 34 = .ok (.getfield 15, 3) := dk_180 0 15 (dk_at dksJ2_setLength_1 11 rfl rfl)
theorem dJ2_setLength_37 : decode cJ2_setLength 37 = .ok (.aload_n 0, 1) := dk_42 (dk_at dksJ2_setLength_1 14 rfl rfl)
theorem dJ2_setLength_38 : decode cJ2_setLength 38 = .ok (.getfield 79, 3) := dk_180 0 79 (dk_at dksJ2_setLength_1 15 rfl rfl)
theorem dJ2_setLength_41 : decode cJ2_setLength 41 = .ok (.iload_n 1, 1) := dk_27 (dk_at dksJ2_setLength_1 18 rfl rfl)
theorem dJ2_setLength_42 : decode cJ2_setLength 42 = .ok (.invokestatic 133, 3) := dk_184 0 133 (dk_at dksJ2_setLength_1 19 rfl rfl)
theorem dJ2_setLength_45 : decode cJ2_setLength 45 = .ok (.goto 31, 3) := dk_167 0 31 (dk_at dksJ2_setLength_2 0 rfl rfl)
theorem dJ2_setLength_48 : decode cJ2_setLength 48 = .ok (.aload_n 0, 1) := dk_42 (dk_at dksJ2_setLength_2 3 rfl rfl)
theorem dJ2_setLength_49 : decode cJ2_setLength 49 = .ok (.getfield 15, 3) := dk_180 0 15 (dk_at dksJ2_setLength_2 4 rfl rfl)
theorem dJ2_setLength_52 : decode cJ2_setLength 52 = .ok (.aload_n 0, 1) := dk_42 (dk_at dksJ2_setLength_2 7 rfl rfl)
theorem dJ2_setLength_53 : decode cJ2_setLength 53 = .ok (.getfield 79, 3) := dk_180 0 79 (dk_at dksJ2_setLength_2 8 rfl rfl)
theorem dJ2_setLength_56 : decode cJ2_setLength 56 = .ok (.iload_n 1, 1) := dk_27 (dk_at dksJ2_setLength_2 11 rfl rfl)
theorem dJ2_setLength_57 : decode cJ2_setLength 57 = .ok (.invokestatic 137, 3) := dk_184 0 137 (dk_at dksJ2_setLength_2 12 rfl rfl)
theorem dJ2_setLength_60 : decode cJ2_setLength 60 = .ok (.goto 16, 3) := dk_167 0 16 (dk_at dksJ2_setLength_2 15 rfl rfl)
theorem dJ2_setLength_63 : decode cJ2_setLength 63 = .ok (.aload_n 0, 1) := dk_42 (dk_at dksJ2_setLength_2 18 rfl rfl)
theorem dJ2_setLength_64 : decode cJ2_setLength 64 = .ok (.getfield 79, 3) := dk_180 0 79 (dk_at dksJ2_setLength_2 19 rfl rfl)
theorem dJ2_setLength_67 : decode cJ2_setLength 67 = .ok (.iload_n 1, 1) := dk_27 (dk_at dksJ2_setLength_2 22 rfl rfl)
theorem dJ2_setLength_68 : decode cJ2_setLength 68 = .ok (.if_icmp .le 8, 3) := dk_164 0 8 (dk_at dksJ2_setLength_3 0 rfl rfl)
theorem dJ2_setLength_71 : decode cJ2_setLength 71 = .ok (.aload_n 0, 1) := dk_42 (dk_at dksJ2_setLength_3 3 rfl rfl)
theorem dJ2_setLength_72 : decode cJ2_setLength 72 = .ok (.iconst 1, 1) := dk_4 (dk_at dksJ2_setLength_3 4 rfl rfl)
theorem dJ2_setLength_73 : decode cJ2_setLength 73 = .ok (.putfield 73, 3) := dk_181 0 73 (dk_at dksJ2_setLength_3 5 rfl rfl)
theorem dJ2_setLength_76 : decode cJ2_setLength 76 = .ok (.aload_n 0, 1) := dk_42 (dk_at dksJ2_setLength_3 8 rfl rfl)
theorem dJ2_setLength_77 : decode cJ2_setLength 77 = .ok (.iload_n 1, 1) := dk_27 (dk_at dksJ2_setLength_3 9 rfl rfl)
theorem dJ2_setLength_78 : decode cJ2_setLength 78 = .ok (.putfield 79, 3) := dk_181 0 79 (dk_at dksJ2_setLength_3 10 rfl rfl)
theorem dJ2_setLength_81 : decode cJ2_setLength 81 = .ok (.return_, 1) := dk_177 (dk_at dksJ2_setLength_3 13 rfl rfl)
abbrev cJ2_append_2 : ByteArray := prog_15_method_22_code
def yJ2_append_2 : MethodName := ⟨RJ2, "append", "(Ljava/lang/String;)Ljava/lang/AbstractStringBuilder;"⟩
def dkwJ2_append_2_1 : List UInt8 := [42, 42, 180, 0, 79, 43, 182, 0, 208, 42, 89, 180, 0, 79, 28, 96, 181, 0, 79, 42, 176]
abbrev dktJ2_append_2_1 : List UInt8 := dkwJ2_append_2_1 ++ []
def dkwJ2_append_2_0 : List UInt8 := [43, 199, 0, 8, 42, 182, 0, 204, 176, 43, 182, 0, 32, 61, 42, 42, 180, 0, 79, 28, 96, 182, 0, 100]
abbrev dktJ2_append_2_0 : List UInt8 := dkwJ2_append_2_0 ++ dktJ2_append_2_1
theorem dksJ2_append_2_0 : cJ2_append_2.data.toList.drop 0 = dktJ2_append_2_0 := by decide +kernel
theorem dksJ2_append_2_1 : cJ2_append_2.data.toList.drop 24 = dktJ2_append_2_1 := dk_seg dksJ2_append_2_0 24 rfl rfl
theorem dJ2_append_2_0 : decode cJ2_append_2 0 = .ok (.aload_n 1, 1) := dk_43 (dk_at dksJ2_append_2_0 0 rfl rfl)
theorem dJ2_append_2_1 : decode cJ2_append_2 1 = .ok (.ifnonnull 8, 3) := dk_199 0 8 (dk_at dksJ2_append_2_0 1 rfl rfl)
theorem dJ2_append_2_4 : decode cJ2_append_2 4 = .ok (.aload_n 0, 1) := dk_42 (dk_at dksJ2_append_2_0 4 rfl rfl)
theorem dJ2_append_2_5 : decode cJ2_append_2 5 = .ok (.invokevirtual 204, 3) := dk_182 0 204 (dk_at dksJ2_append_2_0 5 rfl rfl)
theorem dJ2_append_2_8 : decode cJ2_append_2 8 = .ok (.areturn, 1) := dk_176 (dk_at dksJ2_append_2_0 8 rfl rfl)
theorem dJ2_append_2_9 : decode cJ2_append_2 9 = .ok (.aload_n 1, 1) := dk_43 (dk_at dksJ2_append_2_0 9 rfl rfl)
theorem dJ2_append_2_10 : decode cJ2_append_2 10 = .ok (.invokevirtual 32, 3) := dk_182 0 32 (dk_at dksJ2_append_2_0 10 rfl rfl)
theorem dJ2_append_2_13 : decode cJ2_append_2 13 = .ok (.istore_n 2, 1) := dk_61 (dk_at dksJ2_append_2_0 13 rfl rfl)
theorem dJ2_append_2_14 : decode cJ2_append_2 14 = .ok (.aload_n 0, 1) := dk_42 (dk_at dksJ2_append_2_0 14 rfl rfl)
theorem dJ2_append_2_15 : decode cJ2_append_2 15 = .ok (.aload_n 0, 1) := dk_42 (dk_at dksJ2_append_2_0 15 rfl rfl)
theorem dJ2_append_2_16 : decode cJ2_append_2 16 = .ok (.getfield 79, 3) := dk_180 0 79 (dk_at dksJ2_append_2_0 16 rfl rfl)
theorem dJ2_append_2_19 : decode cJ2_append_2 19 = .ok (.iload_n 2, 1) := dk_28 (dk_at dksJ2_append_2_0 19 rfl rfl)
theorem dJ2_append_2_20 : decode cJ2_append_2 20 = .ok (.iadd, 1) := dk_96 (dk_at dksJ2_append_2_0 20 rfl rfl)
theorem dJ2_append_2_21 : decode cJ2_append_2 21 = .ok (.invokevirtual 100, 3) := dk_182 0 100 (dk_at dksJ2_append_2_0 21 rfl rfl)
theorem dJ2_append_2_24 : decode cJ2_append_2 24 = .ok (.aload_n 0, 1) := dk_42 (dk_at dksJ2_append_2_1 0 rfl rfl)
theorem dJ2_append_2_25 : decode cJ2_append_2 25 = .ok (.aload_n 0, 1) := dk_42 (dk_at dksJ2_append_2_1 1 rfl rfl)
theorem dJ2_append_2_26 : decode cJ2_append_2 26 = .ok (.getfield 79, 3) := dk_180 0 79 (dk_at dksJ2_append_2_1 2 rfl rfl)
theorem dJ2_append_2_29 : decode cJ2_append_2 29 = .ok (.aload_n 1, 1) := dk_43 (dk_at dksJ2_append_2_1 5 rfl rfl)
theorem dJ2_append_2_30 : decode cJ2_append_2 30 = .ok (.invokevirtual 208, 3) := dk_182 0 208 (dk_at dksJ2_append_2_1 6 rfl rfl)
theorem dJ2_append_2_33 : decode cJ2_append_2 33 = .ok (.aload_n 0, 1) := dk_42 (dk_at dksJ2_append_2_1 9 rfl rfl)
theorem dJ2_append_2_34 : decode cJ2_append_2 34 = .ok (.dup, 1) := dk_89 (dk_at dksJ2_append_2_1 10 rfl rfl)
theorem dJ2_append_2_35 : decode cJ2_append_2 35 = .ok (.getfield 79, 3) := dk_180 0 79 (dk_at dksJ2_append_2_1 11 rfl rfl)
theorem dJ2_append_2_38 : decode cJ2_append_2 38 = .ok (.iload_n 2, 1) := dk_28 (dk_at dksJ2_append_2_1 14 rfl rfl)
theorem dJ2_append_2_39 : decode cJ2_append_2 39 = .ok (.iadd, 1) := dk_96 (dk_at dksJ2_append_2_1 15 rfl rfl)
theorem dJ2_append_2_40 : decode cJ2_append_2 40 = .ok (.putfield 79, 3) := dk_181 0 79 (dk_at dksJ2_append_2_1 16 rfl rfl)
theorem dJ2_append_2_43 : decode cJ2_append_2 43 = .ok (.aload_n 0, 1) := dk_42 (dk_at dksJ2_append_2_1 19 rfl rfl)
theorem dJ2_append_2_44 : decode cJ2_append_2 44 = .ok (.areturn, 1) := dk_176 (dk_at dksJ2_append_2_1 20 rfl rfl)
abbrev cJ2_appendNull : ByteArray := prog_15_method_26_code
def yJ2_appendNull : MethodName := ⟨RJ2, "appendNull", "()Ljava/lang/AbstractStringBuilder;"⟩
def dkwJ2_appendNull_3 : List UInt8 := [184, 0, 226, 60, 42, 27, 181, 0, 79, 42, 176]
abbrev dktJ2_appendNull_3 : List UInt8 := dkwJ2_appendNull_3 ++ []
def dkwJ2_appendNull_2 : List UInt8 := [16, 108, 84, 44, 27, 132, 1, 1, 16, 108, 84, 167, 0, 17, 44, 27, 16, 110, 16, 117, 16, 108, 16, 108]
abbrev dktJ2_appendNull_2 : List UInt8 := dkwJ2_appendNull_2 ++ dktJ2_appendNull_3
def dkwJ2_appendNull_1 : List UInt8 := [153, 0, 38, 44, 27, 132, 1, 1, 16, 110, 84, 44, 27, 132, 1, 1, 16, 117, 84, 44, 27, 132, 1, 1]
abbrev dktJ2_appendNull_1 : List UInt8 := dkwJ2_appendNull_1 ++ dktJ2_appendNull_2
def dkwJ2_appendNull_0 : List UInt8 := [42, 42, 180, 0, 79, 7, 96, 182, 0, 100, 42, 180, 0, 79, 60, 42, 180, 0, 15, 77, 42, 182, 0, 83]
abbrev dktJ2_appendNull_0 : List UInt8 := dkwJ2_appendNull_0 ++ dktJ2_appendNull_1
theorem dksJ2_appendNull_0 : cJ2_appendNull.data.toList.drop 0 = dktJ2_appendNull_0 := by decide +kernel
theorem dksJ2_appendNull_1 : cJ2_appendNull.data.toList.drop 24 = dktJ2_appendNull_1 := dk_seg dksJ2_appendNull_0 24 rfl rfl
theorem dksJ2_appendNull_2 : cJ2_appendNull.data.toList.drop 48 = dktJ2_appendNull_2 := dk_seg dksJ2_appendNull_1 24 rfl rfl
theorem dksJ2_appendNull_3 : cJ2_appendNull.data.toList.drop 72 = dktJ2_appendNull_3 := dk_seg dksJ2_appendNull_2 24 rfl rfl
theorem dJ2_appendNull_0 : decode cJ2_appendNull 0 = .ok (.aload_n 0, 1) := dk_42 (dk_at dksJ2_appendNull_0 0 rfl rfl)
theorem dJ2_appendNull_1 : decode cJ2_appendNull 1 = .ok (.aload_n 0, 1) := dk_42 (dk_at dksJ2_appendNull_0 1 rfl rfl)
theorem dJ2_appendNull_2 : decode cJ2_appendNull 2 = .ok (.getfield 79, 3) := dk_180 0 79 (dk_at dksJ2_appendNull_0 2 rfl rfl)
theorem dJ2_appendNull_5 : decode cJ2_appendNull 5 = .ok (.iconst 4, 1) := dk_7 (dk_at dksJ2_appendNull_0 5 rfl rfl)
theorem dJ2_appendNull_6 : decode cJ2_appendNull 6 = .ok (.iadd, 1) := dk_96 (dk_at dksJ2_appendNull_0 6 rfl rfl)
theorem dJ2_appendNull_7 : decode cJ2_appendNull 7 = .ok (.invokevirtual 100, 3) := dk_182 0 100 (dk_at dksJ2_appendNull_0 7 rfl rfl)
theorem dJ2_appendNull_10 : decode cJ2_appendNull 10 = .ok (.aload_n 0, 1) := dk_42 (dk_at dksJ2_appendNull_0 10 rfl rfl)
theorem dJ2_appendNull_11 : decode cJ2_appendNull 11 = .ok (.getfield 79, 3) := dk_180 0 79 (dk_at dksJ2_appendNull_0 11 rfl rfl)
theorem dJ2_appendNull_14 : decode cJ2_appendNull 14 = .ok (.istore_n 1, 1) := dk_60 (dk_at dksJ2_appendNull_0 14 rfl rfl)
theorem dJ2_appendNull_15 : decode cJ2_appendNull 15 = .ok (.aload_n 0, 1) := dk_42 (dk_at dksJ2_appendNull_0 15 rfl rfl)
theorem dJ2_appendNull_16 : decode cJ2_appendNull 16 = .ok (.getfield 15, 3) := dk_180 0 15 (dk_at dksJ2_appendNull_0 16 rfl rfl)
theorem dJ2_appendNull_19 : decode cJ2_appendNull 19 = .ok (.astore_n 2, 1) := dk_77 (dk_at dksJ2_appendNull_0 19 rfl rfl)
theorem dJ2_appendNull_20 : decode cJ2_appendNull 20 = .ok (.aload_n 0, 1) := dk_42 (dk_at dksJ2_appendNull_0 20 rfl rfl)
theorem dJ2_appendNull_21 : decode cJ2_appendNull 21 = .ok (.invokevirtual 83, 3) := dk_182 0 83 (dk_at dksJ2_appendNull_0 21 rfl rfl)
theorem dJ2_appendNull_24 : decode cJ2_appendNull 24 = .ok (.ifCond .eq 38, 3) := dk_153 0 38 (dk_at dksJ2_appendNull_1 0 rfl rfl)
theorem dJ2_appendNull_27 : decode cJ2_appendNull 27 = .ok (.aload_n 2, 1) := dk_44 (dk_at dksJ2_appendNull_1 3 rfl rfl)
theorem dJ2_appendNull_28 : decode cJ2_appendNull 28 = .ok (.iload_n 1, 1) := dk_27 (dk_at dksJ2_appendNull_1 4 rfl rfl)
theorem dJ2_appendNull_29 : decode cJ2_appendNull 29 = .ok (.iinc 1 1, 3) := dk_132 1 1 (dk_at dksJ2_appendNull_1 5 rfl rfl)
theorem dJ2_appendNull_32 : decode cJ2_appendNull 32 = .ok (.bipush 110, 2) := dk_16 110 (dk_at dksJ2_appendNull_1 8 rfl rfl)
theorem dJ2_appendNull_34 : decode cJ2_appendNull 34 = .ok (.bastore, 1) := dk_84 (dk_at dksJ2_appendNull_1 10 rfl rfl)
theorem dJ2_appendNull_35 : decode cJ2_appendNull 35 = .ok (.aload_n 2, 1) := dk_44 (dk_at dksJ2_appendNull_1 11 rfl rfl)
theorem dJ2_appendNull_36 : decode cJ2_appendNull 36 = .ok (.iload_n 1, 1) := dk_27 (dk_at dksJ2_appendNull_1 12 rfl rfl)
theorem dJ2_appendNull_37 : decode cJ2_appendNull 37 = .ok (.iinc 1 1, 3) := dk_132 1 1 (dk_at dksJ2_appendNull_1 13 rfl rfl)
theorem dJ2_appendNull_40 : decode cJ2_appendNull 40 = .ok (.bipush 117, 2) := dk_16 117 (dk_at dksJ2_appendNull_1 16 rfl rfl)
theorem dJ2_appendNull_42 : decode cJ2_appendNull 42 = .ok (.bastore, 1) := dk_84 (dk_at dksJ2_appendNull_1 18 rfl rfl)
theorem dJ2_appendNull_43 : decode cJ2_appendNull 43 = .ok (.aload_n 2, 1) := dk_44 (dk_at dksJ2_appendNull_1 19 rfl rfl)
theorem dJ2_appendNull_44 : decode cJ2_appendNull 44 = .ok (.iload_n 1, 1) := dk_27 (dk_at dksJ2_appendNull_1 20 rfl rfl)
theorem dJ2_appendNull_45 : decode cJ2_appendNull 45 = .ok (.iinc 1 1, 3) := dk_132 1 1 (dk_at dksJ2_appendNull_1 21 rfl rfl)
theorem dJ2_appendNull_48 : decode cJ2_appendNull 48 = .ok (.bipush 108, 2) := dk_16 108 (dk_at dksJ2_appendNull_2 0 rfl rfl)
theorem dJ2_appendNull_50 : decode cJ2_appendNull 50 = .ok (.bastore, 1) := dk_84 (dk_at dksJ2_appendNull_2 2 rfl rfl)
theorem dJ2_appendNull_51 : decode cJ2_appendNull 51 = .ok (.aload_n 2, 1) := dk_44 (dk_at dksJ2_appendNull_2 3 rfl rfl)
theorem dJ2_appendNull_52 : decode cJ2_appendNull 52 = .ok (.iload_n 1, 1) := dk_27 (dk_at dksJ2_appendNull_2 4 rfl rfl)
theorem dJ2_appendNull_53 : decode cJ2_appendNull 53 = .ok (.iinc 1 1, 3) := dk_132 1 1 (dk_at dksJ2_appendNull_2 5 rfl rfl)
theorem dJ2_appendNull_56 : decode cJ2_appendNull 56 = .ok (.bipush 108, 2) := dk_16 108 (dk_at dksJ2_appendNull_2 8 rfl rfl)
theorem dJ2_appendNull_58 : decode cJ2_appendNull 58 = .ok (.bastore, 1) := dk_84 (dk_at dksJ2_appendNull_2 10 rfl rfl)
theorem dJ2_appendNull_59 : decode cJ2_appendNull 59 = .ok (.goto 17, 3) := dk_167 0 17 (dk_at dksJ2_appendNull_2 11 rfl rfl)
theorem dJ2_appendNull_62 : decode cJ2_appendNull 62 = .ok (.aload_n 2, 1) := dk_44 (dk_at dksJ2_appendNull_2 14 rfl rfl)
theorem dJ2_appendNull_63 : decode cJ2_appendNull 63 = .ok (.iload_n 1, 1) := dk_27 (dk_at dksJ2_appendNull_2 15 rfl rfl)
theorem dJ2_appendNull_64 : decode cJ2_appendNull 64 = .ok (.bipush 110, 2) := dk_16 110 (dk_at dksJ2_appendNull_2 16 rfl rfl)
theorem dJ2_appendNull_66 : decode cJ2_appendNull 66 = .ok (.bipush 117, 2) := dk_16 117 (dk_at dksJ2_appendNull_2 18 rfl rfl)
theorem dJ2_appendNull_68 : decode cJ2_appendNull 68 = .ok (.bipush 108, 2) := dk_16 108 (dk_at dksJ2_appendNull_2 20 rfl rfl)
theorem dJ2_appendNull_70 : decode cJ2_appendNull 70 = .ok (.bipush 108, 2) := dk_16 108 (dk_at dksJ2_appendNull_2 22 rfl rfl)
theorem dJ2_appendNull_72 : decode cJ2_appendNull 72 = .ok (.invokestatic 226, 3) := dk_184 0 226 (dk_at dksJ2_appendNull_3 0 rfl rfl)
theorem dJ2_appendNull_75 : decode cJ2_appendNull 75 = .ok (.istore_n 1, 1) := dk_60 (dk_at dksJ2_appendNull_3 3 rfl rfl)
theorem dJ2_appendNull_76 : decode cJ2_appendNull 76 = .ok (.aload_n 0, 1) := dk_42 (dk_at dksJ2_appendNull_3 4 rfl rfl)
theorem dJ2_appendNull_77 : decode cJ2_appendNull 77 = .ok (.iload_n 1, 1) := dk_27 (dk_at dksJ2_appendNull_3 5 rfl rfl)
theorem dJ2_appendNull_78 : decode cJ2_appendNull 78 = .ok (.putfield 79, 3) := dk_181 0 79 (dk_at dksJ2_appendNull_3 6 rfl rfl)
theorem dJ2_appendNull_81 : decode cJ2_appendNull 81 = .ok (.aload_n 0, 1) := dk_42 (dk_at dksJ2_appendNull_3 9 rfl rfl)
theorem dJ2_appendNull_82 : decode cJ2_appendNull 82 = .ok (.areturn, 1) := dk_176 (dk_at dksJ2_appendNull_3 10 rfl rfl)
abbrev cJ2_putStringAt : ByteArray := prog_15_method_73_code
def yJ2_putStringAt : MethodName := ⟨RJ2, "putStringAt", "(ILjava/lang/String;)V"⟩
def dkwJ2_putStringAt_0 : List UInt8 := [42, 44, 182, 1, 141, 44, 42, 180, 0, 15, 27, 42, 180, 0, 22, 182, 1, 143, 177]
abbrev dktJ2_putStringAt_0 : List UInt8 := dkwJ2_putStringAt_0 ++ []
theorem dksJ2_putStringAt_0 : cJ2_putStringAt.data.toList.drop 0 = dktJ2_putStringAt_0 := by decide +kernel
theorem dJ2_putStringAt_0 : decode cJ2_putStringAt 0 = .ok (.aload_n 0, 1) := dk_42 (dk_at dksJ2_putStringAt_0 0 rfl rfl)
theorem dJ2_putStringAt_1 : decode cJ2_putStringAt 1 = .ok (.aload_n 2, 1) := dk_44 (dk_at dksJ2_putStringAt_0 1 rfl rfl)
theorem dJ2_putStringAt_2 : decode cJ2_putStringAt 2 = .ok (.invokevirtual 397, 3) := dk_182 1 141 (dk_at dksJ2_putStringAt_0 2 rfl rfl)
theorem dJ2_putStringAt_5 : decode cJ2_putStringAt 5 = .ok (.aload_n 2, 1) := dk_44 (dk_at dksJ2_putStringAt_0 5 rfl rfl)
theorem dJ2_putStringAt_6 : decode cJ2_putStringAt 6 = .ok (.aload_n 0, 1) := dk_42 (dk_at dksJ2_putStringAt_0 6 rfl rfl)
theorem dJ2_putStringAt_7 : decode cJ2_putStringAt 7 = .ok (.getfield 15, 3) := dk_180 0 15 (dk_at dksJ2_putStringAt_0 7 rfl rfl)
theorem dJ2_putStringAt_10 : decode cJ2_putStringAt 10 = .ok (.iload_n 1, 1) := dk_27 (dk_at dksJ2_putStringAt_0 10 rfl rfl)
theorem dJ2_putStringAt_11 : decode cJ2_putStringAt 11 = .ok (.aload_n 0, 1) := dk_42 (dk_at dksJ2_putStringAt_0 11 rfl rfl)
theorem dJ2_putStringAt_12 : decode cJ2_putStringAt 12 = .ok (.getfield 22, 3) := dk_180 0 22 (dk_at dksJ2_putStringAt_0 12 rfl rfl)
theorem dJ2_putStringAt_15 : decode cJ2_putStringAt 15 = .ok (.invokevirtual 399, 3) := dk_182 1 143 (dk_at dksJ2_putStringAt_0 15 rfl rfl)
theorem dJ2_putStringAt_18 : decode cJ2_putStringAt 18 = .ok (.return_, 1) := dk_177 (dk_at dksJ2_putStringAt_0 18 rfl rfl)
abbrev cJ2_inflateIfNeededFor : ByteArray := prog_15_method_71_code
def yJ2_inflateIfNeededFor : MethodName := ⟨RJ2, "inflateIfNeededFor", "(Ljava/lang/String;)V"⟩
def dkwJ2_inflateIfNeededFor_0 : List UInt8 := [178, 0, 18, 153, 0, 18, 42, 180, 0, 22, 43, 182, 0, 40, 159, 0, 7, 42, 182, 0, 195, 177]
abbrev dktJ2_inflateIfNeededFor_0 : List UInt8 := dkwJ2_inflateIfNeededFor_0 ++ []
theorem dksJ2_inflateIfNeededFor_0 : cJ2_inflateIfNeededFor.data.toList.drop 0 = dktJ2_inflateIfNeededFor_0 := by decide +kernel
theorem dJ2_inflateIfNeededFor_0 : decode cJ2_inflateIfNeededFor 0 = .ok (.getstatic 18, 3) := dk_178 0 18 (dk_at dksJ2_inflateIfNeededFor_0 0 rfl rfl)
theorem dJ2_inflateIfNeededFor_3 : decode cJ2_inflateIfNeededFor 3 = .ok (.ifCond .eq 18, 3) := dk_153 0 18 (dk_at dksJ2_inflateIfNeededFor_0 3 rfl rfl)
theorem dJ2_inflateIfNeededFor_6 : decode cJ2_inflateIfNeededFor 6 = .ok (.aload_n 0, 1) := dk_42 (dk_at dksJ2_inflateIfNeededFor_0 6 rfl rfl)
theorem dJ2_inflateIfNeededFor_7 : decode cJ2_inflateIfNeededFor 7 = .ok (.getfield 22, 3) := dk_180 0 22 (dk_at dksJ2_inflateIfNeededFor_0 7 rfl rfl)
theorem dJ2_inflateIfNeededFor_10 : decode cJ2_inflateIfNeededFor 10 = .ok (.aload_n 1, 1) := dk_43 (dk_at dksJ2_inflateIfNeededFor_0 10 rfl rfl)
theorem dJ2_inflateIfNeededFor_11 : decode cJ2_inflateIfNeededFor 11 = .ok (.invokevirtual 40, 3) := dk_182 0 40 (dk_at dksJ2_inflateIfNeededFor_0 11 rfl rfl)
theorem dJ2_inflateIfNeededFor_14 : decode cJ2_inflateIfNeededFor 14 = .ok (.if_icmp .eq 7, 3) := dk_159 0 7 (dk_at dksJ2_inflateIfNeededFor_0 14 rfl rfl)
theorem dJ2_inflateIfNeededFor_17 : decode cJ2_inflateIfNeededFor 17 = .ok (.aload_n 0, 1) := dk_42 (dk_at dksJ2_inflateIfNeededFor_0 17 rfl rfl)
theorem dJ2_inflateIfNeededFor_18 : decode cJ2_inflateIfNeededFor 18 = .ok (.invokevirtual 195, 3) := dk_182 0 195 (dk_at dksJ2_inflateIfNeededFor_0 18 rfl rfl)
theorem dJ2_inflateIfNeededFor_21 : decode cJ2_inflateIfNeededFor 21 = .ok (.return_, 1) := dk_177 (dk_at dksJ2_inflateIfNeededFor_0 21 rfl rfl)
abbrev cJ2_append_3 : ByteArray := prog_15_method_32_code
def yJ2_append_3 : MethodName := ⟨RJ2, "append", "(I)Ljava/lang/AbstractStringBuilder;"⟩
def dkwJ2_append_3_2 : List UInt8 := [42, 29, 181, 0, 79, 42, 176]
abbrev dktJ2_append_3_2 : List UInt8 := dkwJ2_append_3_2 ++ []
def dkwJ2_append_3_1 : List UInt8 := [27, 29, 42, 180, 0, 15, 184, 0, 248, 87, 167, 0, 14, 27, 28, 29, 42, 180, 0, 15, 184, 0, 251, 87]
abbrev dktJ2_append_3_1 : List UInt8 := dkwJ2_append_3_1 ++ dktJ2_append_3_2
def dkwJ2_append_3_0 : List UInt8 := [42, 180, 0, 79, 61, 28, 27, 184, 0, 245, 96, 62, 42, 29, 182, 0, 100, 42, 182, 0, 83, 153, 0, 16]
abbrev dktJ2_append_3_0 : List UInt8 := dkwJ2_append_3_0 ++ dktJ2_append_3_1
theorem dksJ2_append_3_0 : cJ2_append_3.data.toList.drop 0 = dktJ2_append_3_0 := by decide +kernel
theorem dksJ2_append_3_1 : cJ2_append_3.data.toList.drop 24 = dktJ2_append_3_1 := dk_seg dksJ2_append_3_0 24 rfl rfl
theorem dksJ2_append_3_2 : cJ2_append_3.data.toList.drop 48 = dktJ2_append_3_2 := dk_seg dksJ2_append_3_1 24 rfl rfl
theorem dJ2_append_3_0 : decode cJ2_append_3 0 = .ok (.aload_n 0, 1) := dk_42 (dk_at dksJ2_append_3_0 0 rfl rfl)
theorem dJ2_append_3_1 : decode cJ2_append_3 1 = .ok (.getfield 79, 3) := dk_180 0 79 (dk_at dksJ2_append_3_0 1 rfl rfl)
theorem dJ2_append_3_4 : decode cJ2_append_3 4 = .ok (.istore_n 2, 1) := dk_61 (dk_at dksJ2_append_3_0 4 rfl rfl)
theorem dJ2_append_3_5 : decode cJ2_append_3 5 = .ok (.iload_n 2, 1) := dk_28 (dk_at dksJ2_append_3_0 5 rfl rfl)
theorem dJ2_append_3_6 : decode cJ2_append_3 6 = .ok (.iload_n 1, 1) := dk_27 (dk_at dksJ2_append_3_0 6 rfl rfl)
theorem dJ2_append_3_7 : decode cJ2_append_3 7 = .ok (.invokestatic 245, 3) := dk_184 0 245 (dk_at dksJ2_append_3_0 7 rfl rfl)
theorem dJ2_append_3_10 : decode cJ2_append_3 10 = .ok (.iadd, 1) := dk_96 (dk_at dksJ2_append_3_0 10 rfl rfl)
theorem dJ2_append_3_11 : decode cJ2_append_3 11 = .ok (.istore_n 3, 1) := dk_62 (dk_at dksJ2_append_3_0 11 rfl rfl)
theorem dJ2_append_3_12 : decode cJ2_append_3 12 = .ok (.aload_n 0, 1) := dk_42 (dk_at dksJ2_append_3_0 12 rfl rfl)
theorem dJ2_append_3_13 : decode cJ2_append_3 13 = .ok (.iload_n 3, 1) := dk_29 (dk_at dksJ2_append_3_0 13 rfl rfl)
theorem dJ2_append_3_14 : decode cJ2_append_3 14 = .ok (.invokevirtual 100, 3) := dk_182 0 100 (dk_at dksJ2_append_3_0 14 rfl rfl)
theorem dJ2_append_3_17 : decode cJ2_append_3 17 = .ok (.aload_n 0, 1) := dk_42 (dk_at dksJ2_append_3_0 17 rfl rfl)
theorem dJ2_append_3_18 : decode cJ2_append_3 18 = .ok (.invokevirtual 83, 3) := dk_182 0 83 (dk_at dksJ2_append_3_0 18 rfl rfl)
theorem dJ2_append_3_21 : decode cJ2_append_3 21 = .ok (.ifCond .eq 16, 3) := dk_153 0 16 (dk_at dksJ2_append_3_0 21 rfl rfl)
theorem dJ2_append_3_24 : decode cJ2_append_3 24 = .ok (.iload_n 1, 1) := dk_27 (dk_at dksJ2_append_3_1 0 rfl rfl)
theorem dJ2_append_3_25 : decode cJ2_append_3 25 = .ok (.iload_n 3, 1) := dk_29 (dk_at dksJ2_append_3_1 1 rfl rfl)
theorem dJ2_append_3_26 : decode cJ2_append_3 26 = .ok (.aload_n 0, 1) := dk_42 (dk_at dksJ2_append_3_1 2 rfl rfl)
theorem dJ2_append_3_27 : decode cJ2_append_3 27 = .ok (.getfield 15, 3) := dk_180 0 15 (dk_at dksJ2_append_3_1 3 rfl rfl)
theorem dJ2_append_3_30 : decode cJ2_append_3 30 = .ok (.invokestatic 248, 3) := dk_184 0 248 (dk_at dksJ2_append_3_1 6 rfl rfl)
theorem dJ2_append_3_33 : decode cJ2_append_3 33 = .ok (.pop, 1) := dk_87 (dk_at dksJ2_append_3_1 9 rfl rfl)
theorem dJ2_append_3_34 : decode cJ2_append_3 34 = .ok (.goto 14, 3) := dk_167 0 14 (dk_at dksJ2_append_3_1 10 rfl rfl)
theorem dJ2_append_3_37 : decode cJ2_append_3 37 = .ok (.iload_n 1, 1) := dk_27 (dk_at dksJ2_append_3_1 13 rfl rfl)
theorem dJ2_append_3_38 : decode cJ2_append_3 38 = .ok (.iload_n 2, 1) := dk_28 (dk_at dksJ2_append_3_1 14 rfl rfl)
theorem dJ2_append_3_39 : decode cJ2_append_3 39 = .ok (.iload_n 3, 1) := dk_29 (dk_at dksJ2_append_3_1 15 rfl rfl)
theorem dJ2_append_3_40 : decode cJ2_append_3 40 = .ok (.aload_n 0, 1) := dk_42 (dk_at dksJ2_append_3_1 16 rfl rfl)
theorem dJ2_append_3_41 : decode cJ2_append_3 41 = .ok (.getfield 15, 3) := dk_180 0 15 (dk_at dksJ2_append_3_1 17 rfl rfl)
theorem dJ2_append_3_44 : decode cJ2_append_3 44 = .ok (.invokestatic 251, 3) := dk_184 0 251 (dk_at dksJ2_append_3_1 20 rfl rfl)
theorem dJ2_append_3_47 : decode cJ2_append_3 47 = .ok (.pop, 1) := dk_87 (dk_at dksJ2_append_3_1 23 rfl rfl)
theorem dJ2_append_3_48 : decode cJ2_append_3 48 = .ok (.aload_n 0, 1) := dk_42 (dk_at dksJ2_append_3_2 0 rfl rfl)
theorem dJ2_append_3_49 : decode cJ2_append_3 49 = .ok (.iload_n 3, 1) := dk_29 (dk_at dksJ2_append_3_2 1 rfl rfl)
theorem dJ2_append_3_50 : decode cJ2_append_3 50 = .ok (.putfield 79, 3) := dk_181 0 79 (dk_at dksJ2_append_3_2 2 rfl rfl)
theorem dJ2_append_3_53 : decode cJ2_append_3 53 = .ok (.aload_n 0, 1) := dk_42 (dk_at dksJ2_append_3_2 5 rfl rfl)
theorem dJ2_append_3_54 : decode cJ2_append_3 54 = .ok (.areturn, 1) := dk_176 (dk_at dksJ2_append_3_2 6 rfl rfl)
abbrev cJ2_getValue : ByteArray := prog_15_method_64_code
def yJ2_getValue : MethodName := ⟨RJ2, "getValue", "()[B"⟩
theorem dJ2_getValue_0 : decode cJ2_getValue 0 = .ok (.aload_n 0, 1) := by decide +kernel
theorem dJ2_getValue_1 : decode cJ2_getValue 1 = .ok (.getfield 15, 3) := by decide +kernel
theorem dJ2_getValue_4 : decode cJ2_getValue 4 = .ok (.areturn, 1) := by decide +kernel
theorem q68 : (Jvm.Cond.initialized "java/lang/AbstractStringBuilder") ∈ lw_all := lw_g (lw_at lw_m1 11 rfl) rfl
theorem q333 : (Jvm.Cond.instanceMethod ({ cls := "java/lang/AbstractStringBuilder", name := "<init>", desc := "(I)V" } : Jvm.MethodName)) ∈ lw_all := lw_g (lw_at lw_m2 36 rfl) rfl
theorem q334 : (Jvm.Cond.code ({ cls := "java/lang/AbstractStringBuilder", name := "<init>", desc := "(I)V" } : Jvm.MethodName) prog_15_method_2_code (2 : Nat) (Option.none : Option Jvm.ClassFile.FieldType)) ∈ lw_all := lw_g (lw_at lw_m2 37 rfl) rfl
theorem q335 : (Jvm.Cond.methodLink "java/lang/AbstractStringBuilder" (3 : Nat) ({ cls := "java/lang/Object", name := "<init>", desc := "()V" } : Jvm.MethodName)) ∈ lw_all := lw_g (lw_at lw_m2 38 rfl) rfl
theorem q336 : (Jvm.Cond.fieldLink "java/lang/AbstractStringBuilder" (18 : Nat) "java/lang/String" "COMPACT_STRINGS" "Z") ∈ lw_all := lw_g (lw_at lw_m2 39 rfl) rfl
theorem q338 : (Jvm.Cond.methodLink "java/lang/AbstractStringBuilder" (26 : Nat) ({ cls := "java/lang/StringUTF16", name := "newBytesFor", desc := "(I)[B" } : Jvm.MethodName)) ∈ lw_all := lw_g (lw_at lw_m2 41 rfl) rfl
theorem q345 : (Jvm.Cond.fieldLink "java/lang/AbstractStringBuilder" (15 : Nat) "java/lang/AbstractStringBuilder" "value" "[B") ∈ lw_all := lw_g (lw_at lw_m2 48 rfl) rfl
theorem q346 : (Jvm.Cond.fieldLink "java/lang/AbstractStringBuilder" (22 : Nat) "java/lang/AbstractStringBuilder" "coder" "B") ∈ lw_all := lw_g (lw_at lw_m2 49 rfl) rfl
theorem q347 : (Jvm.Cond.fieldLink "java/lang/AbstractStringBuilder" (73 : Nat) "java/lang/AbstractStringBuilder" "maybeLatin1" "Z") ∈ lw_all := lw_g (lw_at lw_m2 50 rfl) rfl
theorem q349 : (Jvm.Cond.fieldLink "java/lang/AbstractStringBuilder" (79 : Nat) "java/lang/AbstractStringBuilder" "count" "I") ∈ lw_all := lw_g (lw_at lw_m2 52 rfl) rfl
theorem q351 : (Jvm.Cond.soleField "java/lang/AbstractStringBuilder" "value") ∈ lw_all := lw_g (lw_at lw_m2 54 rfl) rfl
theorem q353 : (Jvm.Cond.soleField "java/lang/AbstractStringBuilder" "coder") ∈ lw_all := lw_g (lw_at lw_m2 56 rfl) rfl
theorem q355 : (Jvm.Cond.soleField "java/lang/AbstractStringBuilder" "maybeLatin1") ∈ lw_all := lw_g (lw_at lw_m2 58 rfl) rfl
theorem q357 : (Jvm.Cond.soleField "java/lang/AbstractStringBuilder" "count") ∈ lw_all := lw_g (lw_at lw_m2 60 rfl) rfl
theorem q1254 : (Jvm.Cond.instanceMethod ({ cls := "java/lang/AbstractStringBuilder", name := "length", desc := "()I" } : Jvm.MethodName)) ∈ lw_all := lw_g (lw_at lw_m5 237 rfl) rfl
theorem q1255 : (Jvm.Cond.code ({ cls := "java/lang/AbstractStringBuilder", name := "length", desc := "()I" } : Jvm.MethodName) prog_15_method_6_code (1 : Nat) (Option.some Jvm.ClassFile.FieldType.int)) ∈ lw_all := lw_g (lw_at lw_m5 238 rfl) rfl
theorem q1269 : (Jvm.Cond.instanceMethod ({ cls := "java/lang/AbstractStringBuilder", name := "append", desc := "(C)Ljava/lang/AbstractStringBuilder;" } : Jvm.MethodName)) ∈ lw_all := lw_g (lw_at lw_m6 12 rfl) rfl
theorem q1270 : (Jvm.Cond.code ({ cls := "java/lang/AbstractStringBuilder", name := "append", desc := "(C)Ljava/lang/AbstractStringBuilder;" } : Jvm.MethodName) prog_15_method_31_code (2 : Nat) (Option.some (Jvm.ClassFile.FieldType.object "java/lang/AbstractStringBuilder"))) ∈ lw_all := lw_g (lw_at lw_m6 13 rfl) rfl
theorem q1271 : (Jvm.Cond.methodLink "java/lang/AbstractStringBuilder" (100 : Nat) ({ cls := "java/lang/AbstractStringBuilder", name := "ensureCapacityInternal", desc := "(I)V" } : Jvm.MethodName)) ∈ lw_all := lw_g (lw_at lw_m6 14 rfl) rfl
theorem q1272 : (Jvm.Cond.privateMethod ({ cls := "java/lang/AbstractStringBuilder", name := "ensureCapacityInternal", desc := "(I)V" } : Jvm.MethodName)) ∈ lw_tbl := lw_at lw_m6 15 rfl
theorem q1273 : (Jvm.Cond.instanceMethod ({ cls := "java/lang/AbstractStringBuilder", name := "ensureCapacityInternal", desc := "(I)V" } : Jvm.MethodName)) ∈ lw_all := lw_g (lw_at lw_m6 16 rfl) rfl
theorem q1274 : (Jvm.Cond.code ({ cls := "java/lang/AbstractStringBuilder", name := "ensureCapacityInternal", desc := "(I)V" } : Jvm.MethodName) prog_15_method_9_code (3 : Nat) (Option.none : Option Jvm.ClassFile.FieldType)) ∈ lw_all := lw_g (lw_at lw_m6 17 rfl) rfl
theorem q1275 : (Jvm.Cond.methodLink "java/lang/AbstractStringBuilder" (104 : Nat) ({ cls := "java/lang/AbstractStringBuilder", name := "newCapacity", desc := "(I)I" } : Jvm.MethodName)) ∈ lw_all := lw_g (lw_at lw_m6 18 rfl) rfl
theorem q1276 : (Jvm.Cond.privateMethod ({ cls := "java/lang/AbstractStringBuilder", name := "newCapacity", desc := "(I)I" } : Jvm.MethodName)) ∈ lw_tbl := lw_at lw_m6 19 rfl
theorem q1277 : (Jvm.Cond.instanceMethod ({ cls := "java/lang/AbstractStringBuilder", name := "newCapacity", desc := "(I)I" } : Jvm.MethodName)) ∈ lw_all := lw_g (lw_at lw_m6 20 rfl) rfl
theorem q1278 : (Jvm.Cond.code ({ cls := "java/lang/AbstractStringBuilder", name := "newCapacity", desc := "(I)I" } : Jvm.MethodName) prog_15_method_10_code (6 : Nat) (Option.some Jvm.ClassFile.FieldType.int)) ∈ lw_all := lw_g (lw_at lw_m6 21 rfl) rfl
theorem q1279 : (Jvm.Cond.methodLink "java/lang/AbstractStringBuilder" (114 : Nat) ({ cls := "jdk/internal/util/ArraysSupport", name := "newLength", desc := "(III)I" } : Jvm.MethodName)) ∈ lw_all := lw_g (lw_at lw_m6 22 rfl) rfl
theorem q1287 : (Jvm.Cond.constant "java/lang/AbstractStringBuilder" (39 : Nat) (2147483647 : Int32)) ∈ lw_all := lw_g (lw_at lw_m6 30 rfl) rfl
theorem q1288 : (Jvm.Cond.methodLink "java/lang/AbstractStringBuilder" (108 : Nat) ({ cls := "java/util/Arrays", name := "copyOf", desc := "([BI)[B" } : Jvm.MethodName)) ∈ lw_all := lw_g (lw_at lw_m6 31 rfl) rfl
theorem q1296 : (Jvm.Cond.methodLink "java/lang/AbstractStringBuilder" (83 : Nat) ({ cls := "java/lang/AbstractStringBuilder", name := "isLatin1", desc := "()Z" } : Jvm.MethodName)) ∈ lw_all := lw_g (lw_at lw_m6 39 rfl) rfl
theorem q1297 : (Jvm.Cond.instanceMethod ({ cls := "java/lang/AbstractStringBuilder", name := "isLatin1", desc := "()Z" } : Jvm.MethodName)) ∈ lw_all := lw_g (lw_at lw_m6 40 rfl) rfl
theorem q1298 : (Jvm.Cond.sameMethod "java/lang/AbstractStringBuilder" "java/lang/AbstractStringBuilder" "isLatin1" "()Z") ∈ lw_all := lw_g (lw_at lw_m6 41 rfl) rfl
theorem q1300 : (Jvm.Cond.code ({ cls := "java/lang/AbstractStringBuilder", name := "isLatin1", desc := "()Z" } : Jvm.MethodName) prog_15_method_68_code (1 : Nat) (Option.some Jvm.ClassFile.FieldType.boolean)) ∈ lw_all := lw_g (lw_at lw_m6 43 rfl) rfl
theorem q1301 : (Jvm.Cond.methodLink "java/lang/AbstractStringBuilder" (191 : Nat) ({ cls := "java/lang/StringLatin1", name := "canEncode", desc := "(C)Z" } : Jvm.MethodName)) ∈ lw_all := lw_g (lw_at lw_m6 44 rfl) rfl
theorem q1304 : (Jvm.Cond.methodLink "java/lang/AbstractStringBuilder" (195 : Nat) ({ cls := "java/lang/AbstractStringBuilder", name := "inflate", desc := "()V" } : Jvm.MethodName)) ∈ lw_all := lw_g (lw_at lw_m6 47 rfl) rfl
theorem q1305 : (Jvm.Cond.privateMethod ({ cls := "java/lang/AbstractStringBuilder", name := "inflate", desc := "()V" } : Jvm.MethodName)) ∈ lw_tbl := lw_at lw_m6 48 rfl
theorem q1306 : (Jvm.Cond.instanceMethod ({ cls := "java/lang/AbstractStringBuilder", name := "inflate", desc := "()V" } : Jvm.MethodName)) ∈ lw_all := lw_g (lw_at lw_m6 49 rfl) rfl
theorem q1307 : (Jvm.Cond.code ({ cls := "java/lang/AbstractStringBuilder", name := "inflate", desc := "()V" } : Jvm.MethodName) prog_15_method_11_code (2 : Nat) (Option.none : Option Jvm.ClassFile.FieldType)) ∈ lw_all := lw_g (lw_at lw_m6 50 rfl) rfl
theorem q1308 : (Jvm.Cond.methodLink "java/lang/AbstractStringBuilder" (125 : Nat) ({ cls := "java/lang/StringLatin1", name := "inflate", desc := "([BI[BII)V" } : Jvm.MethodName)) ∈ lw_all := lw_g (lw_at lw_m6 51 rfl) rfl
theorem q1337 : (Jvm.Cond.methodLink "java/lang/AbstractStringBuilder" (197 : Nat) ({ cls := "java/lang/StringUTF16", name := "putCharSB", desc := "([BII)V" } : Jvm.MethodName)) ∈ lw_all := lw_g (lw_at lw_m6 80 rfl) rfl
theorem q1379 : (Jvm.Cond.instanceMethod ({ cls := "java/lang/AbstractStringBuilder", name := "charAt", desc := "(I)C" } : Jvm.MethodName)) ∈ lw_all := lw_g (lw_at lw_m6 122 rfl) rfl
theorem q1380 : (Jvm.Cond.code ({ cls := "java/lang/AbstractStringBuilder", name := "charAt", desc := "(I)C" } : Jvm.MethodName) prog_15_method_14_code (5 : Nat) (Option.some Jvm.ClassFile.FieldType.char)) ∈ lw_all := lw_g (lw_at lw_m6 123 rfl) rfl
theorem q1381 : (Jvm.Cond.methodLink "java/lang/AbstractStringBuilder" (138 : Nat) ({ cls := "java/lang/Math", name := "min", desc := "(II)I" } : Jvm.MethodName)) ∈ lw_all := lw_g (lw_at lw_m6 124 rfl) rfl
theorem q1382 : (Jvm.Cond.methodLink "java/lang/AbstractStringBuilder" (144 : Nat) ({ cls := "java/lang/String", name := "checkIndex", desc := "(II)V" } : Jvm.MethodName)) ∈ lw_all := lw_g (lw_at lw_m6 125 rfl) rfl
theorem q1383 : (Jvm.Cond.methodLink "java/lang/AbstractStringBuilder" (148 : Nat) ({ cls := "java/lang/StringUTF16", name := "getChar", desc := "([BI)C" } : Jvm.MethodName)) ∈ lw_all := lw_g (lw_at lw_m6 126 rfl) rfl
theorem q1427 : (Jvm.Cond.instanceMethod ({ cls := "java/lang/AbstractStringBuilder", name := "setLength", desc := "(I)V" } : Jvm.MethodName)) ∈ lw_all := lw_g (lw_at lw_m6 170 rfl) rfl
theorem q1428 : (Jvm.Cond.code ({ cls := "java/lang/AbstractStringBuilder", name := "setLength", desc := "(I)V" } : Jvm.MethodName) prog_15_method_13_code (2 : Nat) (Option.none : Option Jvm.ClassFile.FieldType)) ∈ lw_all := lw_g (lw_at lw_m6 171 rfl) rfl
theorem q1429 : (Jvm.Cond.classLink "java/lang/AbstractStringBuilder" (129 : Nat) "java/lang/StringIndexOutOfBoundsException") ∈ lw_all := lw_g (lw_at lw_m6 172 rfl) rfl
theorem q1431 : (Jvm.Cond.methodLink "java/lang/AbstractStringBuilder" (131 : Nat) ({ cls := "java/lang/StringIndexOutOfBoundsException", name := "<init>", desc := "(I)V" } : Jvm.MethodName)) ∈ lw_all := lw_g (lw_at lw_m6 174 rfl) rfl
theorem q1442 : (Jvm.Cond.instanceMethod ({ cls := "java/lang/AbstractStringBuilder", name := "append", desc := "(Ljava/lang/String;)Ljava/lang/AbstractStringBuilder;" } : Jvm.MethodName)) ∈ lw_all := lw_g (lw_at lw_m6 185 rfl) rfl
theorem q1443 : (Jvm.Cond.code ({ cls := "java/lang/AbstractStringBuilder", name := "append", desc := "(Ljava/lang/String;)Ljava/lang/AbstractStringBuilder;" } : Jvm.MethodName) prog_15_method_22_code (3 : Nat) (Option.some (Jvm.ClassFile.FieldType.object "java/lang/AbstractStringBuilder"))) ∈ lw_all := lw_g (lw_at lw_m6 186 rfl) rfl
theorem q1444 : (Jvm.Cond.methodLink "java/lang/AbstractStringBuilder" (204 : Nat) ({ cls := "java/lang/AbstractStringBuilder", name := "appendNull", desc := "()Ljava/lang/AbstractStringBuilder;" } : Jvm.MethodName)) ∈ lw_all := lw_g (lw_at lw_m6 187 rfl) rfl
theorem q1445 : (Jvm.Cond.privateMethod ({ cls := "java/lang/AbstractStringBuilder", name := "appendNull", desc := "()Ljava/lang/AbstractStringBuilder;" } : Jvm.MethodName)) ∈ lw_tbl := lw_at lw_m6 188 rfl
theorem q1446 : (Jvm.Cond.instanceMethod ({ cls := "java/lang/AbstractStringBuilder", name := "appendNull", desc := "()Ljava/lang/AbstractStringBuilder;" } : Jvm.MethodName)) ∈ lw_all := lw_g (lw_at lw_m6 189 rfl) rfl
theorem q1447 : (Jvm.Cond.code ({ cls := "java/lang/AbstractStringBuilder", name := "appendNull", desc := "()Ljava/lang/AbstractStringBuilder;" } : Jvm.MethodName) prog_15_method_26_code (3 : Nat) (Option.some (Jvm.ClassFile.FieldType.object "java/lang/AbstractStringBuilder"))) ∈ lw_all := lw_g (lw_at lw_m6 190 rfl) rfl
theorem q1448 : (Jvm.Cond.methodLink "java/lang/AbstractStringBuilder" (226 : Nat) ({ cls := "java/lang/StringUTF16", name := "putCharsAt", desc := "([BICCCC)I" } : Jvm.MethodName)) ∈ lw_all := lw_g (lw_at lw_m6 191 rfl) rfl
theorem q1460 : (Jvm.Cond.methodLink "java/lang/AbstractStringBuilder" (32 : Nat) ({ cls := "java/lang/String", name := "length", desc := "()I" } : Jvm.MethodName)) ∈ lw_all := lw_g (lw_at lw_m6 203 rfl) rfl
theorem q1469 : (Jvm.Cond.methodLink "java/lang/AbstractStringBuilder" (208 : Nat) ({ cls := "java/lang/AbstractStringBuilder", name := "putStringAt", desc := "(ILjava/lang/String;)V" } : Jvm.MethodName)) ∈ lw_all := lw_g (lw_at lw_m6 212 rfl) rfl
theorem q1470 : (Jvm.Cond.privateMethod ({ cls := "java/lang/AbstractStringBuilder", name := "putStringAt", desc := "(ILjava/lang/String;)V" } : Jvm.MethodName)) ∈ lw_tbl := lw_at lw_m6 213 rfl
theorem q1471 : (Jvm.Cond.instanceMethod ({ cls := "java/lang/AbstractStringBuilder", name := "putStringAt", desc := "(ILjava/lang/String;)V" } : Jvm.MethodName)) ∈ lw_all := lw_g (lw_at lw_m6 214 rfl) rfl
theorem q1472 : (Jvm.Cond.code ({ cls := "java/lang/AbstractStringBuilder", name := "putStringAt", desc := "(ILjava/lang/String;)V" } : Jvm.MethodName) prog_15_method_73_code (3 : Nat) (Option.none : Option Jvm.ClassFile.FieldType)) ∈ lw_all := lw_g (lw_at lw_m6 215 rfl) rfl
theorem q1473 : (Jvm.Cond.methodLink "java/lang/AbstractStringBuilder" (397 : Nat) ({ cls := "java/lang/AbstractStringBuilder", name := "inflateIfNeededFor", desc := "(Ljava/lang/String;)V" } : Jvm.MethodName)) ∈ lw_all := lw_g (lw_at lw_m6 216 rfl) rfl
theorem q1474 : (Jvm.Cond.privateMethod ({ cls := "java/lang/AbstractStringBuilder", name := "inflateIfNeededFor", desc := "(Ljava/lang/String;)V" } : Jvm.MethodName)) ∈ lw_tbl := lw_at lw_m6 217 rfl
theorem q1475 : (Jvm.Cond.instanceMethod ({ cls := "java/lang/AbstractStringBuilder", name := "inflateIfNeededFor", desc := "(Ljava/lang/String;)V" } : Jvm.MethodName)) ∈ lw_all := lw_g (lw_at lw_m6 218 rfl) rfl
theorem q1476 : (Jvm.Cond.code ({ cls := "java/lang/AbstractStringBuilder", name := "inflateIfNeededFor", desc := "(Ljava/lang/String;)V" } : Jvm.MethodName) prog_15_method_71_code (2 : Nat) (Option.none : Option Jvm.ClassFile.FieldType)) ∈ lw_all := lw_g (lw_at lw_m6 219 rfl) rfl
theorem q1477 : (Jvm.Cond.methodLink "java/lang/AbstractStringBuilder" (40 : Nat) ({ cls := "java/lang/String", name := "coder", desc := "()B" } : Jvm.MethodName)) ∈ lw_all := lw_g (lw_at lw_m6 220 rfl) rfl
theorem q1478 : (Jvm.Cond.methodLink "java/lang/AbstractStringBuilder" (399 : Nat) ({ cls := "java/lang/String", name := "getBytes", desc := "([BIB)V" } : Jvm.MethodName)) ∈ lw_all := lw_g (lw_at lw_m6 221 rfl) rfl
theorem q1489 : (Jvm.Cond.instanceMethod ({ cls := "java/lang/AbstractStringBuilder", name := "append", desc := "(I)Ljava/lang/AbstractStringBuilder;" } : Jvm.MethodName)) ∈ lw_all := lw_g (lw_at lw_m6 232 rfl) rfl
theorem q1490 : (Jvm.Cond.code ({ cls := "java/lang/AbstractStringBuilder", name := "append", desc := "(I)Ljava/lang/AbstractStringBuilder;" } : Jvm.MethodName) prog_15_method_32_code (4 : Nat) (Option.some (Jvm.ClassFile.FieldType.object "java/lang/AbstractStringBuilder"))) ∈ lw_all := lw_g (lw_at lw_m6 233 rfl) rfl
theorem q1491 : (Jvm.Cond.methodLink "java/lang/AbstractStringBuilder" (245 : Nat) ({ cls := "java/lang/Integer", name := "stringSize", desc := "(I)I" } : Jvm.MethodName)) ∈ lw_all := lw_g (lw_at lw_m6 234 rfl) rfl
theorem q1494 : (Jvm.Cond.methodLink "java/lang/AbstractStringBuilder" (248 : Nat) ({ cls := "java/lang/Integer", name := "getChars", desc := "(II[B)I" } : Jvm.MethodName)) ∈ lw_all := lw_g (lw_at lw_m6 237 rfl) rfl
theorem q1501 : (Jvm.Cond.methodLink "java/lang/AbstractStringBuilder" (251 : Nat) ({ cls := "java/lang/StringUTF16", name := "getChars", desc := "(III[B)I" } : Jvm.MethodName)) ∈ lw_all := lw_g (lw_at lw_m7 4 rfl) rfl
theorem q1522 : (Jvm.Cond.instanceMethod ({ cls := "java/lang/AbstractStringBuilder", name := "getValue", desc := "()[B" } : Jvm.MethodName)) ∈ lw_all := lw_g (lw_at lw_m7 25 rfl) rfl
theorem q1523 : (Jvm.Cond.sameMethod "java/lang/AbstractStringBuilder" "java/lang/AbstractStringBuilder" "getValue" "()[B") ∈ lw_all := lw_g (lw_at lw_m7 26 rfl) rfl
theorem q1525 : (Jvm.Cond.code ({ cls := "java/lang/AbstractStringBuilder", name := "getValue", desc := "()[B" } : Jvm.MethodName) prog_15_method_64_code (1 : Nat) (Option.some (Jvm.ClassFile.FieldType.array Jvm.ClassFile.FieldType.byte))) ∈ lw_all := lw_g (lw_at lw_m7 28 rfl) rfl
theorem q1574 : (Jvm.Cond.methodLink "java/lang/AbstractStringBuilder" (133 : Nat) ({ cls := "java/lang/StringLatin1", name := "fillNull", desc := "([BII)V" } : Jvm.MethodName)) ∈ lw_all := lw_g (lw_at lw_m7 77 rfl) rfl
theorem q1596 : (Jvm.Cond.methodLink "java/lang/AbstractStringBuilder" (137 : Nat) ({ cls := "java/lang/StringUTF16", name := "fillNull", desc := "([BII)V" } : Jvm.MethodName)) ∈ lw_all := lw_g (lw_at lw_m7 99 rfl) rfl
theorem q2091 : (Jvm.Cond.sameMethod "java/lang/AbstractStringBuilder" "java/lang/AbstractStringBuilder" "length" "()I") ∈ lw_all := lw_g (lw_at lw_m9 114 rfl) rfl
theorem q2092 : (Jvm.Cond.sameMethod "java/lang/AbstractStringBuilder" "java/lang/AbstractStringBuilder" "append" "(C)Ljava/lang/AbstractStringBuilder;") ∈ lw_all := lw_g (lw_at lw_m9 115 rfl) rfl
theorem q2093 : (Jvm.Cond.sameMethod "java/lang/AbstractStringBuilder" "java/lang/AbstractStringBuilder" "ensureCapacityInternal" "(I)V") ∈ lw_all := lw_g (lw_at lw_m9 116 rfl) rfl
theorem q2094 : (Jvm.Cond.sameMethod "java/lang/AbstractStringBuilder" "java/lang/AbstractStringBuilder" "newCapacity" "(I)I") ∈ lw_all := lw_g (lw_at lw_m9 117 rfl) rfl
theorem q2095 : (Jvm.Cond.sameMethod "java/lang/AbstractStringBuilder" "java/lang/AbstractStringBuilder" "inflate" "()V") ∈ lw_all := lw_g (lw_at lw_m9 118 rfl) rfl
theorem q2096 : (Jvm.Cond.sameMethod "java/lang/AbstractStringBuilder" "java/lang/AbstractStringBuilder" "charAt" "(I)C") ∈ lw_all := lw_g (lw_at lw_m9 119 rfl) rfl
theorem q2097 : (Jvm.Cond.sameMethod "java/lang/AbstractStringBuilder" "java/lang/AbstractStringBuilder" "setLength" "(I)V") ∈ lw_all := lw_g (lw_at lw_m9 120 rfl) rfl
theorem q2098 : (Jvm.Cond.sameMethod "java/lang/AbstractStringBuilder" "java/lang/AbstractStringBuilder" "append" "(Ljava/lang/String;)Ljava/lang/AbstractStringBuilder;") ∈ lw_all := lw_g (lw_at lw_m9 121 rfl) rfl
theorem q2099 : (Jvm.Cond.sameMethod "java/lang/AbstractStringBuilder" "java/lang/AbstractStringBuilder" "appendNull" "()Ljava/lang/AbstractStringBuilder;") ∈ lw_all := lw_g (lw_at lw_m9 122 rfl) rfl
theorem q2100 : (Jvm.Cond.sameMethod "java/lang/AbstractStringBuilder" "java/lang/AbstractStringBuilder" "putStringAt" "(ILjava/lang/String;)V") ∈ lw_all := lw_g (lw_at lw_m9 123 rfl) rfl
theorem q2101 : (Jvm.Cond.sameMethod "java/lang/AbstractStringBuilder" "java/lang/AbstractStringBuilder" "inflateIfNeededFor" "(Ljava/lang/String;)V") ∈ lw_all := lw_g (lw_at lw_m9 124 rfl) rfl
theorem q2102 : (Jvm.Cond.sameMethod "java/lang/AbstractStringBuilder" "java/lang/AbstractStringBuilder" "append" "(I)Ljava/lang/AbstractStringBuilder;") ∈ lw_all := lw_g (lw_at lw_m9 125 rfl) rfl
/-! java/lang/StringBuilder -/
set_option maxRecDepth 100000
def RJ3 : String := "java/lang/StringBuilder"
def TJ3 : u_T := fun k => match k with
  | 0 => ("java/lang/AbstractStringBuilder", "value", "[B", false)
  | 1 => ("java/lang/AbstractStringBuilder", "coder", "B", false)
  | 2 => ("java/lang/AbstractStringBuilder", "maybeLatin1", "Z", false)
  | _ => ("java/lang/AbstractStringBuilder", "count", "I", false)
def tyJ3 : Nat → FieldType := fun k => match k with
  | 0 => .array .byte
  | 1 => .byte
  | 2 => .boolean
  | _ => .int
abbrev wsJ30 : List Cond := u_ws RJ3 TJ3 4
theorem nmJ3 : ∀ a, a < 4 → ∀ b, b < 4 → a ≠ b → (TJ3 a).2.1 ≠ (TJ3 b).2.1 := by decide +kernel
theorem tyJ3_ok : ∀ k, k < 4 → parseFieldDescriptor (TJ3 k).2.2.1 = some (tyJ3 k) := by decide +kernel
abbrev cJ3_init : ByteArray := prog_34_method_1_code
def yJ3_init : MethodName := ⟨RJ3, "<init>", "()V"⟩
def dkwJ3_init_0 : List UInt8 := [42, 16, 16, 183, 0, 1, 177]
abbrev dktJ3_init_0 : List UInt8 := dkwJ3_init_0 ++ []
theorem dksJ3_init_0 : cJ3_init.data.toList.drop 0 = dktJ3_init_0 := by decide +kernel
theorem dJ3_init_0 : decode cJ3_init 0 = .ok (.aload_n 0, 1) := dk_42 (dk_at dksJ3_init_0 0 rfl rfl)
theorem dJ3_init_1 : decode cJ3_init 1 = .ok (.bipush 16, 2) := dk_16 16 (dk_at dksJ3_init_0 1 rfl rfl)
theorem dJ3_init_3 : decode cJ3_init 3 = .ok (.invokespecial 1, 3) := dk_183 0 1 (dk_at dksJ3_init_0 3 rfl rfl)
theorem dJ3_init_6 : decode cJ3_init 6 = .ok (.return_, 1) := dk_177 (dk_at dksJ3_init_0 6 rfl rfl)
abbrev cJ3_length : ByteArray := prog_34_method_93_code
def yJ3_length : MethodName := ⟨RJ3, "length", "()I"⟩
theorem dJ3_length_0 : decode cJ3_length 0 = .ok (.aload_n 0, 1) := by decide +kernel
theorem dJ3_length_1 : decode cJ3_length 1 = .ok (.invokespecial 343, 3) := by decide +kernel
theorem dJ3_length_4 : decode cJ3_length 4 = .ok (.ireturn, 1) := by decide +kernel
abbrev cJ3_append : ByteArray := prog_34_method_14_code
def yJ3_append : MethodName := ⟨RJ3, "append", "(C)Ljava/lang/StringBuilder;"⟩
def dkwJ3_append_0 : List UInt8 := [42, 27, 183, 0, 50, 87, 42, 176]
abbrev dktJ3_append_0 : List UInt8 := dkwJ3_append_0 ++ []
theorem dksJ3_append_0 : cJ3_append.data.toList.drop 0 = dktJ3_append_0 := by decide +kernel
theorem dJ3_append_0 : decode cJ3_append 0 = .ok (.aload_n 0, 1) := dk_42 (dk_at dksJ3_append_0 0 rfl rfl)
theorem dJ3_append_1 : decode cJ3_append 1 = .ok (.iload_n 1, 1) := dk_27 (dk_at dksJ3_append_0 1 rfl rfl)
theorem dJ3_append_2 : decode cJ3_append 2 = .ok (.invokespecial 50, 3) := dk_183 0 50 (dk_at dksJ3_append_0 2 rfl rfl)
theorem dJ3_append_5 : decode cJ3_append 5 = .ok (.pop, 1) := dk_87 (dk_at dksJ3_append_0 5 rfl rfl)
theorem dJ3_append_6 : decode cJ3_append 6 = .ok (.aload_n 0, 1) := dk_42 (dk_at dksJ3_append_0 6 rfl rfl)
theorem dJ3_append_7 : decode cJ3_append 7 = .ok (.areturn, 1) := dk_176 (dk_at dksJ3_append_0 7 rfl rfl)
abbrev cJ3_charAt : ByteArray := prog_34_method_88_code
def yJ3_charAt : MethodName := ⟨RJ3, "charAt", "(I)C"⟩
def dkwJ3_charAt_0 : List UInt8 := [42, 27, 183, 1, 73, 172]
abbrev dktJ3_charAt_0 : List UInt8 := dkwJ3_charAt_0 ++ []
theorem dksJ3_charAt_0 : cJ3_charAt.data.toList.drop 0 = dktJ3_charAt_0 := by decide +kernel
theorem dJ3_charAt_0 : decode cJ3_charAt 0 = .ok (.aload_n 0, 1) := dk_42 (dk_at dksJ3_charAt_0 0 rfl rfl)
theorem dJ3_charAt_1 : decode cJ3_charAt 1 = .ok (.iload_n 1, 1) := dk_27 (dk_at dksJ3_charAt_0 1 rfl rfl)
theorem dJ3_charAt_2 : decode cJ3_charAt 2 = .ok (.invokespecial 329, 3) := dk_183 1 73 (dk_at dksJ3_charAt_0 2 rfl rfl)
theorem dJ3_charAt_5 : decode cJ3_charAt 5 = .ok (.ireturn, 1) := dk_172 (dk_at dksJ3_charAt_0 5 rfl rfl)
abbrev cJ3_setLength : ByteArray := prog_34_method_89_code
def yJ3_setLength : MethodName := ⟨RJ3, "setLength", "(I)V"⟩
def dkwJ3_setLength_0 : List UInt8 := [42, 27, 183, 1, 77, 177]
abbrev dktJ3_setLength_0 : List UInt8 := dkwJ3_setLength_0 ++ []
theorem dksJ3_setLength_0 : cJ3_setLength.data.toList.drop 0 = dktJ3_setLength_0 := by decide +kernel
theorem dJ3_setLength_0 : decode cJ3_setLength 0 = .ok (.aload_n 0, 1) := dk_42 (dk_at dksJ3_setLength_0 0 rfl rfl)
theorem dJ3_setLength_1 : decode cJ3_setLength 1 = .ok (.iload_n 1, 1) := dk_27 (dk_at dksJ3_setLength_0 1 rfl rfl)
theorem dJ3_setLength_2 : decode cJ3_setLength 2 = .ok (.invokespecial 333, 3) := dk_183 1 77 (dk_at dksJ3_setLength_0 2 rfl rfl)
theorem dJ3_setLength_5 : decode cJ3_setLength 5 = .ok (.return_, 1) := dk_177 (dk_at dksJ3_setLength_0 5 rfl rfl)
abbrev cJ3_append_2 : ByteArray := prog_34_method_7_code
def yJ3_append_2 : MethodName := ⟨RJ3, "append", "(Ljava/lang/String;)Ljava/lang/StringBuilder;"⟩
def dkwJ3_append_2_0 : List UInt8 := [42, 43, 183, 0, 29, 87, 42, 176]
abbrev dktJ3_append_2_0 : List UInt8 := dkwJ3_append_2_0 ++ []
theorem dksJ3_append_2_0 : cJ3_append_2.data.toList.drop 0 = dktJ3_append_2_0 := by decide +kernel
theorem dJ3_append_2_0 : decode cJ3_append_2 0 = .ok (.aload_n 0, 1) := dk_42 (dk_at dksJ3_append_2_0 0 rfl rfl)
theorem dJ3_append_2_1 : decode cJ3_append_2 1 = .ok (.aload_n 1, 1) := dk_43 (dk_at dksJ3_append_2_0 1 rfl rfl)
theorem dJ3_append_2_2 : decode cJ3_append_2 2 = .ok (.invokespecial 29, 3) := dk_183 0 29 (dk_at dksJ3_append_2_0 2 rfl rfl)
theorem dJ3_append_2_5 : decode cJ3_append_2 5 = .ok (.pop, 1) := dk_87 (dk_at dksJ3_append_2_0 5 rfl rfl)
theorem dJ3_append_2_6 : decode cJ3_append_2 6 = .ok (.aload_n 0, 1) := dk_42 (dk_at dksJ3_append_2_0 6 rfl rfl)
theorem dJ3_append_2_7 : decode cJ3_append_2 7 = .ok (.areturn, 1) := dk_176 (dk_at dksJ3_append_2_0 7 rfl rfl)
abbrev cJ3_append_3 : ByteArray := prog_34_method_15_code
def yJ3_append_3 : MethodName := ⟨RJ3, "append", "(I)Ljava/lang/StringBuilder;"⟩
def dkwJ3_append_3_0 : List UInt8 := [42, 27, 183, 0, 53, 87, 42, 176]
abbrev dktJ3_append_3_0 : List UInt8 := dkwJ3_append_3_0 ++ []
theorem dksJ3_append_3_0 : cJ3_append_3.data.toList.drop 0 = dktJ3_append_3_0 := by decide +kernel
theorem dJ3_append_3_0 : decode cJ3_append_3 0 = .ok (.aload_n 0, 1) := dk_42 (dk_at dksJ3_append_3_0 0 rfl rfl)
theorem dJ3_append_3_1 : decode cJ3_append_3 1 = .ok (.iload_n 1, 1) := dk_27 (dk_at dksJ3_append_3_0 1 rfl rfl)
theorem dJ3_append_3_2 : decode cJ3_append_3 2 = .ok (.invokespecial 53, 3) := dk_183 0 53 (dk_at dksJ3_append_3_0 2 rfl rfl)
theorem dJ3_append_3_5 : decode cJ3_append_3 5 = .ok (.pop, 1) := dk_87 (dk_at dksJ3_append_3_0 5 rfl rfl)
theorem dJ3_append_3_6 : decode cJ3_append_3 6 = .ok (.aload_n 0, 1) := dk_42 (dk_at dksJ3_append_3_0 6 rfl rfl)
theorem dJ3_append_3_7 : decode cJ3_append_3 7 = .ok (.areturn, 1) := dk_176 (dk_at dksJ3_append_3_0 7 rfl rfl)
abbrev cJ3_toString : ByteArray := prog_34_method_42_code
def yJ3_toString : MethodName := ⟨RJ3, "toString", "()Ljava/lang/String;"⟩
def dkwJ3_toString_0 : List UInt8 := [187, 0, 18, 89, 42, 183, 0, 137, 176]
abbrev dktJ3_toString_0 : List UInt8 := dkwJ3_toString_0 ++ []
theorem dksJ3_toString_0 : cJ3_toString.data.toList.drop 0 = dktJ3_toString_0 := by decide +kernel
theorem dJ3_toString_0 : decode cJ3_toString 0 = .ok (.new 18, 3) := dk_187 0 18 (dk_at dksJ3_toString_0 0 rfl rfl)
theorem dJ3_toString_3 : decode cJ3_toString 3 = .ok (.dup, 1) := dk_89 (dk_at dksJ3_toString_0 3 rfl rfl)
theorem dJ3_toString_4 : decode cJ3_toString 4 = .ok (.aload_n 0, 1) := dk_42 (dk_at dksJ3_toString_0 4 rfl rfl)
theorem dJ3_toString_5 : decode cJ3_toString 5 = .ok (.invokespecial 137, 3) := dk_183 0 137 (dk_at dksJ3_toString_0 5 rfl rfl)
theorem dJ3_toString_8 : decode cJ3_toString 8 = .ok (.areturn, 1) := dk_176 (dk_at dksJ3_toString_0 8 rfl rfl)
theorem q69 : (Jvm.Cond.initialized "java/lang/StringBuilder") ∈ lw_all := lw_g (lw_at lw_m1 12 rfl) rfl
theorem q328 : (Jvm.Cond.instantiable "java/lang/StringBuilder" (4 : Nat)) ∈ lw_all := lw_g (lw_at lw_m2 31 rfl) rfl
theorem q330 : (Jvm.Cond.instanceMethod ({ cls := "java/lang/StringBuilder", name := "<init>", desc := "()V" } : Jvm.MethodName)) ∈ lw_all := lw_g (lw_at lw_m2 33 rfl) rfl
theorem q331 : (Jvm.Cond.code ({ cls := "java/lang/StringBuilder", name := "<init>", desc := "()V" } : Jvm.MethodName) prog_34_method_1_code (1 : Nat) (Option.none : Option Jvm.ClassFile.FieldType)) ∈ lw_all := lw_g (lw_at lw_m2 34 rfl) rfl
theorem q332 : (Jvm.Cond.methodLink "java/lang/StringBuilder" (1 : Nat) ({ cls := "java/lang/AbstractStringBuilder", name := "<init>", desc := "(I)V" } : Jvm.MethodName)) ∈ lw_all := lw_g (lw_at lw_m2 35 rfl) rfl
theorem q350 : (Jvm.Cond.lays "java/lang/StringBuilder" "java/lang/AbstractStringBuilder" "value" "[B") ∈ lw_all := lw_g (lw_at lw_m2 53 rfl) rfl
theorem q352 : (Jvm.Cond.lays "java/lang/StringBuilder" "java/lang/AbstractStringBuilder" "coder" "B") ∈ lw_all := lw_g (lw_at lw_m2 55 rfl) rfl
theorem q354 : (Jvm.Cond.lays "java/lang/StringBuilder" "java/lang/AbstractStringBuilder" "maybeLatin1" "Z") ∈ lw_all := lw_g (lw_at lw_m2 57 rfl) rfl
theorem q356 : (Jvm.Cond.lays "java/lang/StringBuilder" "java/lang/AbstractStringBuilder" "count" "I") ∈ lw_all := lw_g (lw_at lw_m2 59 rfl) rfl
theorem q358 : (Jvm.Cond.superclass "java/lang/StringBuilder" "java/lang/AbstractStringBuilder") ∈ lw_all := lw_g (lw_at lw_m2 61 rfl) rfl
theorem q501 : (Jvm.Cond.selects "java/lang/StringBuilder" ({ cls := "java/lang/Object", name := "getClass", desc := "()Ljava/lang/Class;" } : Jvm.MethodName) ({ cls := "java/lang/Object", name := "getClass", desc := "()Ljava/lang/Class;" } : Jvm.MethodName)) ∈ lw_all := lw_g (lw_at lw_m2 204 rfl) rfl
theorem q1250 : (Jvm.Cond.instanceMethod ({ cls := "java/lang/StringBuilder", name := "length", desc := "()I" } : Jvm.MethodName)) ∈ lw_all := lw_g (lw_at lw_m5 233 rfl) rfl
theorem q1251 : (Jvm.Cond.selects "java/lang/StringBuilder" ({ cls := "java/lang/StringBuilder", name := "length", desc := "()I" } : Jvm.MethodName) ({ cls := "java/lang/StringBuilder", name := "length", desc := "()I" } : Jvm.MethodName)) ∈ lw_all := lw_g (lw_at lw_m5 234 rfl) rfl
theorem q1252 : (Jvm.Cond.code ({ cls := "java/lang/StringBuilder", name := "length", desc := "()I" } : Jvm.MethodName) prog_34_method_93_code (1 : Nat) (Option.some Jvm.ClassFile.FieldType.int)) ∈ lw_all := lw_g (lw_at lw_m5 235 rfl) rfl
theorem q1253 : (Jvm.Cond.methodLink "java/lang/StringBuilder" (343 : Nat) ({ cls := "java/lang/AbstractStringBuilder", name := "length", desc := "()I" } : Jvm.MethodName)) ∈ lw_all := lw_g (lw_at lw_m5 236 rfl) rfl
theorem q1265 : (Jvm.Cond.instanceMethod ({ cls := "java/lang/StringBuilder", name := "append", desc := "(C)Ljava/lang/StringBuilder;" } : Jvm.MethodName)) ∈ lw_all := lw_g (lw_at lw_m6 8 rfl) rfl
theorem q1266 : (Jvm.Cond.selects "java/lang/StringBuilder" ({ cls := "java/lang/StringBuilder", name := "append", desc := "(C)Ljava/lang/StringBuilder;" } : Jvm.MethodName) ({ cls := "java/lang/StringBuilder", name := "append", desc := "(C)Ljava/lang/StringBuilder;" } : Jvm.MethodName)) ∈ lw_all := lw_g (lw_at lw_m6 9 rfl) rfl
theorem q1267 : (Jvm.Cond.code ({ cls := "java/lang/StringBuilder", name := "append", desc := "(C)Ljava/lang/StringBuilder;" } : Jvm.MethodName) prog_34_method_14_code (2 : Nat) (Option.some (Jvm.ClassFile.FieldType.object "java/lang/StringBuilder"))) ∈ lw_all := lw_g (lw_at lw_m6 10 rfl) rfl
theorem q1268 : (Jvm.Cond.methodLink "java/lang/StringBuilder" (50 : Nat) ({ cls := "java/lang/AbstractStringBuilder", name := "append", desc := "(C)Ljava/lang/AbstractStringBuilder;" } : Jvm.MethodName)) ∈ lw_all := lw_g (lw_at lw_m6 11 rfl) rfl
theorem q1299 : (Jvm.Cond.selects "java/lang/StringBuilder" ({ cls := "java/lang/AbstractStringBuilder", name := "isLatin1", desc := "()Z" } : Jvm.MethodName) ({ cls := "java/lang/AbstractStringBuilder", name := "isLatin1", desc := "()Z" } : Jvm.MethodName)) ∈ lw_all := lw_g (lw_at lw_m6 42 rfl) rfl
theorem q1375 : (Jvm.Cond.instanceMethod ({ cls := "java/lang/StringBuilder", name := "charAt", desc := "(I)C" } : Jvm.MethodName)) ∈ lw_all := lw_g (lw_at lw_m6 118 rfl) rfl
theorem q1376 : (Jvm.Cond.selects "java/lang/StringBuilder" ({ cls := "java/lang/StringBuilder", name := "charAt", desc := "(I)C" } : Jvm.MethodName) ({ cls := "java/lang/StringBuilder", name := "charAt", desc := "(I)C" } : Jvm.MethodName)) ∈ lw_all := lw_g (lw_at lw_m6 119 rfl) rfl
theorem q1377 : (Jvm.Cond.code ({ cls := "java/lang/StringBuilder", name := "charAt", desc := "(I)C" } : Jvm.MethodName) prog_34_method_88_code (2 : Nat) (Option.some Jvm.ClassFile.FieldType.char)) ∈ lw_all := lw_g (lw_at lw_m6 120 rfl) rfl
theorem q1378 : (Jvm.Cond.methodLink "java/lang/StringBuilder" (329 : Nat) ({ cls := "java/lang/AbstractStringBuilder", name := "charAt", desc := "(I)C" } : Jvm.MethodName)) ∈ lw_all := lw_g (lw_at lw_m6 121 rfl) rfl
theorem q1423 : (Jvm.Cond.instanceMethod ({ cls := "java/lang/StringBuilder", name := "setLength", desc := "(I)V" } : Jvm.MethodName)) ∈ lw_all := lw_g (lw_at lw_m6 166 rfl) rfl
theorem q1424 : (Jvm.Cond.selects "java/lang/StringBuilder" ({ cls := "java/lang/StringBuilder", name := "setLength", desc := "(I)V" } : Jvm.MethodName) ({ cls := "java/lang/StringBuilder", name := "setLength", desc := "(I)V" } : Jvm.MethodName)) ∈ lw_all := lw_g (lw_at lw_m6 167 rfl) rfl
theorem q1425 : (Jvm.Cond.code ({ cls := "java/lang/StringBuilder", name := "setLength", desc := "(I)V" } : Jvm.MethodName) prog_34_method_89_code (2 : Nat) (Option.none : Option Jvm.ClassFile.FieldType)) ∈ lw_all := lw_g (lw_at lw_m6 168 rfl) rfl
theorem q1426 : (Jvm.Cond.methodLink "java/lang/StringBuilder" (333 : Nat) ({ cls := "java/lang/AbstractStringBuilder", name := "setLength", desc := "(I)V" } : Jvm.MethodName)) ∈ lw_all := lw_g (lw_at lw_m6 169 rfl) rfl
theorem q1438 : (Jvm.Cond.instanceMethod ({ cls := "java/lang/StringBuilder", name := "append", desc := "(Ljava/lang/String;)Ljava/lang/StringBuilder;" } : Jvm.MethodName)) ∈ lw_all := lw_g (lw_at lw_m6 181 rfl) rfl
theorem q1439 : (Jvm.Cond.selects "java/lang/StringBuilder" ({ cls := "java/lang/StringBuilder", name := "append", desc := "(Ljava/lang/String;)Ljava/lang/StringBuilder;" } : Jvm.MethodName) ({ cls := "java/lang/StringBuilder", name := "append", desc := "(Ljava/lang/String;)Ljava/lang/StringBuilder;" } : Jvm.MethodName)) ∈ lw_all := lw_g (lw_at lw_m6 182 rfl) rfl
theorem q1440 : (Jvm.Cond.code ({ cls := "java/lang/StringBuilder", name := "append", desc := "(Ljava/lang/String;)Ljava/lang/StringBuilder;" } : Jvm.MethodName) prog_34_method_7_code (2 : Nat) (Option.some (Jvm.ClassFile.FieldType.object "java/lang/StringBuilder"))) ∈ lw_all := lw_g (lw_at lw_m6 183 rfl) rfl
theorem q1441 : (Jvm.Cond.methodLink "java/lang/StringBuilder" (29 : Nat) ({ cls := "java/lang/AbstractStringBuilder", name := "append", desc := "(Ljava/lang/String;)Ljava/lang/AbstractStringBuilder;" } : Jvm.MethodName)) ∈ lw_all := lw_g (lw_at lw_m6 184 rfl) rfl
theorem q1485 : (Jvm.Cond.instanceMethod ({ cls := "java/lang/StringBuilder", name := "append", desc := "(I)Ljava/lang/StringBuilder;" } : Jvm.MethodName)) ∈ lw_all := lw_g (lw_at lw_m6 228 rfl) rfl
theorem q1486 : (Jvm.Cond.selects "java/lang/StringBuilder" ({ cls := "java/lang/StringBuilder", name := "append", desc := "(I)Ljava/lang/StringBuilder;" } : Jvm.MethodName) ({ cls := "java/lang/StringBuilder", name := "append", desc := "(I)Ljava/lang/StringBuilder;" } : Jvm.MethodName)) ∈ lw_all := lw_g (lw_at lw_m6 229 rfl) rfl
theorem q1487 : (Jvm.Cond.code ({ cls := "java/lang/StringBuilder", name := "append", desc := "(I)Ljava/lang/StringBuilder;" } : Jvm.MethodName) prog_34_method_15_code (2 : Nat) (Option.some (Jvm.ClassFile.FieldType.object "java/lang/StringBuilder"))) ∈ lw_all := lw_g (lw_at lw_m6 230 rfl) rfl
theorem q1488 : (Jvm.Cond.methodLink "java/lang/StringBuilder" (53 : Nat) ({ cls := "java/lang/AbstractStringBuilder", name := "append", desc := "(I)Ljava/lang/AbstractStringBuilder;" } : Jvm.MethodName)) ∈ lw_all := lw_g (lw_at lw_m6 231 rfl) rfl
theorem q1510 : (Jvm.Cond.instanceMethod ({ cls := "java/lang/StringBuilder", name := "toString", desc := "()Ljava/lang/String;" } : Jvm.MethodName)) ∈ lw_all := lw_g (lw_at lw_m7 13 rfl) rfl
theorem q1511 : (Jvm.Cond.selects "java/lang/StringBuilder" ({ cls := "java/lang/StringBuilder", name := "toString", desc := "()Ljava/lang/String;" } : Jvm.MethodName) ({ cls := "java/lang/StringBuilder", name := "toString", desc := "()Ljava/lang/String;" } : Jvm.MethodName)) ∈ lw_all := lw_g (lw_at lw_m7 14 rfl) rfl
theorem q1512 : (Jvm.Cond.code ({ cls := "java/lang/StringBuilder", name := "toString", desc := "()Ljava/lang/String;" } : Jvm.MethodName) prog_34_method_42_code (1 : Nat) (Option.some (Jvm.ClassFile.FieldType.object "java/lang/String"))) ∈ lw_all := lw_g (lw_at lw_m7 15 rfl) rfl
theorem q1513 : (Jvm.Cond.classLink "java/lang/StringBuilder" (18 : Nat) "java/lang/String") ∈ lw_all := lw_g (lw_at lw_m7 16 rfl) rfl
theorem q1514 : (Jvm.Cond.methodLink "java/lang/StringBuilder" (137 : Nat) ({ cls := "java/lang/String", name := "<init>", desc := "(Ljava/lang/StringBuilder;)V" } : Jvm.MethodName)) ∈ lw_all := lw_g (lw_at lw_m7 17 rfl) rfl
theorem q1524 : (Jvm.Cond.selects "java/lang/StringBuilder" ({ cls := "java/lang/AbstractStringBuilder", name := "getValue", desc := "()[B" } : Jvm.MethodName) ({ cls := "java/lang/AbstractStringBuilder", name := "getValue", desc := "()[B" } : Jvm.MethodName)) ∈ lw_all := lw_g (lw_at lw_m7 27 rfl) rfl
theorem q2103 : (Jvm.Cond.selects "java/lang/StringBuilder" ({ cls := "java/lang/AbstractStringBuilder", name := "length", desc := "()I" } : Jvm.MethodName) ({ cls := "java/lang/StringBuilder", name := "length", desc := "()I" } : Jvm.MethodName)) ∈ lw_all := lw_g (lw_at lw_m9 126 rfl) rfl
theorem q2116 : (Jvm.Cond.castable "java/lang/StringBuilder" "java/lang/Object") ∈ lw_tbl := lw_at lw_m9 139 rfl
theorem in_J3 : ∀ w ∈ wsJ30, w ∈ lw_all := lw_in wsJ30 [350, 352, 354, 356] (by decide +kernel) (by decide +kernel)
/-! java/lang/String -/
set_option maxRecDepth 100000
def RJ4 : String := "java/lang/String"
def TJ4 : u_T := fun k => match k with
  | 0 => ("java/lang/String", "value", "[B", true)
  | 1 => ("java/lang/String", "coder", "B", true)
  | 2 => ("java/lang/String", "hash", "I", false)
  | _ => ("java/lang/String", "hashIsZero", "Z", false)
def tyJ4 : Nat → FieldType := fun k => match k with
  | 0 => .array .byte
  | 1 => .byte
  | 2 => .int
  | _ => .boolean
abbrev wsJ40 : List Cond := u_ws RJ4 TJ4 4
theorem nmJ4 : ∀ a, a < 4 → ∀ b, b < 4 → a ≠ b → (TJ4 a).2.1 ≠ (TJ4 b).2.1 := by decide +kernel
theorem tyJ4_ok : ∀ k, k < 4 → parseFieldDescriptor (TJ4 k).2.2.1 = some (tyJ4 k) := by decide +kernel
abbrev cJ4_checkBoundsOffCount : ByteArray := prog_33_method_157_code
def yJ4_checkBoundsOffCount : MethodName := ⟨RJ4, "checkBoundsOffCount", "(III)I"⟩
def dkwJ4_checkBoundsOffCount_0 : List UInt8 := [26, 27, 28, 178, 4, 29, 184, 4, 41, 172]
abbrev dktJ4_checkBoundsOffCount_0 : List UInt8 := dkwJ4_checkBoundsOffCount_0 ++ []
theorem dksJ4_checkBoundsOffCount_0 : cJ4_checkBoundsOffCount.data.toList.drop 0 = dktJ4_checkBoundsOffCount_0 := by decide +kernel
theorem dJ4_checkBoundsOffCount_0 : decode cJ4_checkBoundsOffCount 0 = .ok (.iload_n 0, 1) := dk_26 (dk_at dksJ4_checkBoundsOffCount_0 0 rfl rfl)
theorem dJ4_checkBoundsOffCount_1 : decode cJ4_checkBoundsOffCount 1 = .ok (.iload_n 1, 1) := dk_27 (dk_at dksJ4_checkBoundsOffCount_0 1 rfl rfl)
theorem dJ4_checkBoundsOffCount_2 : decode cJ4_checkBoundsOffCount 2 = .ok (.iload_n 2, 1) := dk_28 (dk_at dksJ4_checkBoundsOffCount_0 2 rfl rfl)
theorem dJ4_checkBoundsOffCount_3 : decode cJ4_checkBoundsOffCount 3 = .ok (.getstatic 1053, 3) := dk_178 4 29 (dk_at dksJ4_checkBoundsOffCount_0 3 rfl rfl)
theorem dJ4_checkBoundsOffCount_6 : decode cJ4_checkBoundsOffCount 6 = .ok (.invokestatic 1065, 3) := dk_184 4 41 (dk_at dksJ4_checkBoundsOffCount_0 6 rfl rfl)
theorem dJ4_checkBoundsOffCount_9 : decode cJ4_checkBoundsOffCount 9 = .ok (.ireturn, 1) := dk_172 (dk_at dksJ4_checkBoundsOffCount_0 9 rfl rfl)
abbrev cJ4_checkIndex : ByteArray := prog_33_method_155_code
def yJ4_checkIndex : MethodName := ⟨RJ4, "checkIndex", "(II)V"⟩
def dkwJ4_checkIndex_0 : List UInt8 := [26, 27, 178, 4, 29, 184, 4, 35, 87, 177]
abbrev dktJ4_checkIndex_0 : List UInt8 := dkwJ4_checkIndex_0 ++ []
theorem dksJ4_checkIndex_0 : cJ4_checkIndex.data.toList.drop 0 = dktJ4_checkIndex_0 := by decide +kernel
theorem dJ4_checkIndex_0 : decode cJ4_checkIndex 0 = .ok (.iload_n 0, 1) := dk_26 (dk_at dksJ4_checkIndex_0 0 rfl rfl)
theorem dJ4_checkIndex_1 : decode cJ4_checkIndex 1 = .ok (.iload_n 1, 1) := dk_27 (dk_at dksJ4_checkIndex_0 1 rfl rfl)
theorem dJ4_checkIndex_2 : decode cJ4_checkIndex 2 = .ok (.getstatic 1053, 3) := dk_178 4 29 (dk_at dksJ4_checkIndex_0 2 rfl rfl)
theorem dJ4_checkIndex_5 : decode cJ4_checkIndex 5 = .ok (.invokestatic 1059, 3) := dk_184 4 35 (dk_at dksJ4_checkIndex_0 5 rfl rfl)
theorem dJ4_checkIndex_8 : decode cJ4_checkIndex 8 = .ok (.pop, 1) := dk_87 (dk_at dksJ4_checkIndex_0 8 rfl rfl)
theorem dJ4_checkIndex_9 : decode cJ4_checkIndex 9 = .ok (.return_, 1) := dk_177 (dk_at dksJ4_checkIndex_0 9 rfl rfl)
abbrev cJ4_checkBoundsBeginEnd : ByteArray := prog_33_method_158_code
def yJ4_checkBoundsBeginEnd : MethodName := ⟨RJ4, "checkBoundsBeginEnd", "(III)V"⟩
def dkwJ4_checkBoundsBeginEnd_0 : List UInt8 := [26, 27, 28, 178, 4, 29, 184, 4, 38, 87, 177]
abbrev dktJ4_checkBoundsBeginEnd_0 : List UInt8 := dkwJ4_checkBoundsBeginEnd_0 ++ []
theorem dksJ4_checkBoundsBeginEnd_0 : cJ4_checkBoundsBeginEnd.data.toList.drop 0 = dktJ4_checkBoundsBeginEnd_0 := by decide +kernel
theorem dJ4_checkBoundsBeginEnd_0 : decode cJ4_checkBoundsBeginEnd 0 = .ok (.iload_n 0, 1) := dk_26 (dk_at dksJ4_checkBoundsBeginEnd_0 0 rfl rfl)
theorem dJ4_checkBoundsBeginEnd_1 : decode cJ4_checkBoundsBeginEnd 1 = .ok (.iload_n 1, 1) := dk_27 (dk_at dksJ4_checkBoundsBeginEnd_0 1 rfl rfl)
theorem dJ4_checkBoundsBeginEnd_2 : decode cJ4_checkBoundsBeginEnd 2 = .ok (.iload_n 2, 1) := dk_28 (dk_at dksJ4_checkBoundsBeginEnd_0 2 rfl rfl)
theorem dJ4_checkBoundsBeginEnd_3 : decode cJ4_checkBoundsBeginEnd 3 = .ok (.getstatic 1053, 3) := dk_178 4 29 (dk_at dksJ4_checkBoundsBeginEnd_0 3 rfl rfl)
theorem dJ4_checkBoundsBeginEnd_6 : decode cJ4_checkBoundsBeginEnd 6 = .ok (.invokestatic 1062, 3) := dk_184 4 38 (dk_at dksJ4_checkBoundsBeginEnd_0 6 rfl rfl)
theorem dJ4_checkBoundsBeginEnd_9 : decode cJ4_checkBoundsBeginEnd 9 = .ok (.pop, 1) := dk_87 (dk_at dksJ4_checkBoundsBeginEnd_0 9 rfl rfl)
theorem dJ4_checkBoundsBeginEnd_10 : decode cJ4_checkBoundsBeginEnd 10 = .ok (.return_, 1) := dk_177 (dk_at dksJ4_checkBoundsBeginEnd_0 10 rfl rfl)
abbrev cJ4_length : ByteArray := prog_33_method_54_code
def yJ4_length : MethodName := ⟨RJ4, "length", "()I"⟩
def dkwJ4_length_0 : List UInt8 := [42, 180, 0, 9, 190, 42, 182, 1, 79, 122, 172]
abbrev dktJ4_length_0 : List UInt8 := dkwJ4_length_0 ++ []
theorem dksJ4_length_0 : cJ4_length.data.toList.drop 0 = dktJ4_length_0 := by decide +kernel
theorem dJ4_length_0 : decode cJ4_length 0 = .ok (.aload_n 0, 1) := dk_42 (dk_at dksJ4_length_0 0 rfl rfl)
theorem dJ4_length_1 : decode cJ4_length 1 = .ok (.getfield 9, 3) := dk_180 0 9 (dk_at dksJ4_length_0 1 rfl rfl)
theorem dJ4_length_4 : decode cJ4_length 4 = .ok (.arraylength, 1) := dk_190 (dk_at dksJ4_length_0 4 rfl rfl)
theorem dJ4_length_5 : decode cJ4_length 5 = .ok (.aload_n 0, 1) := dk_42 (dk_at dksJ4_length_0 5 rfl rfl)
theorem dJ4_length_6 : decode cJ4_length 6 = .ok (.invokevirtual 335, 3) := dk_182 1 79 (dk_at dksJ4_length_0 6 rfl rfl)
theorem dJ4_length_9 : decode cJ4_length 9 = .ok (.ishr, 1) := dk_122 (dk_at dksJ4_length_0 9 rfl rfl)
theorem dJ4_length_10 : decode cJ4_length 10 = .ok (.ireturn, 1) := dk_172 (dk_at dksJ4_length_0 10 rfl rfl)
abbrev cJ4_coder : ByteArray := prog_33_method_152_code
def yJ4_coder : MethodName := ⟨RJ4, "coder", "()B"⟩
def dkwJ4_coder_0 : List UInt8 := [178, 0, 38, 153, 0, 10, 42, 180, 0, 15, 167, 0, 4, 4, 172]
abbrev dktJ4_coder_0 : List UInt8 := dkwJ4_coder_0 ++ []
theorem dksJ4_coder_0 : cJ4_coder.data.toList.drop 0 = dktJ4_coder_0 := by decide +kernel
theorem dJ4_coder_0 : decode cJ4_coder 0 = .ok (.getstatic 38, 3) := dk_178 0 38 (dk_at dksJ4_coder_0 0 rfl rfl)
theorem dJ4_coder_3 : decode cJ4_coder 3 = .ok (.ifCond .eq 10, 3) := dk_153 0 10 (dk_at dksJ4_coder_0 3 rfl rfl)
theorem dJ4_coder_6 : decode cJ4_coder 6 = .ok (.aload_n 0, 1) := dk_42 (dk_at dksJ4_coder_0 6 rfl rfl)
theorem dJ4_coder_7 : decode cJ4_coder 7 = .ok (.getfield 15, 3) := dk_180 0 15 (dk_at dksJ4_coder_0 7 rfl rfl)
theorem dJ4_coder_10 : decode cJ4_coder 10 = .ok (.goto 4, 3) := dk_167 0 4 (dk_at dksJ4_coder_0 10 rfl rfl)
theorem dJ4_coder_13 : decode cJ4_coder 13 = .ok (.iconst 1, 1) := dk_4 (dk_at dksJ4_coder_0 13 rfl rfl)
theorem dJ4_coder_14 : decode cJ4_coder 14 = .ok (.ireturn, 1) := dk_172 (dk_at dksJ4_coder_0 14 rfl rfl)
abbrev cJ4_getBytes : ByteArray := prog_33_method_147_code
def yJ4_getBytes : MethodName := ⟨RJ4, "getBytes", "([BIB)V"⟩
def dkwJ4_getBytes_1 : List UInt8 := [184, 0, 212, 167, 0, 18, 42, 180, 0, 9, 3, 43, 28, 42, 180, 0, 9, 190, 184, 0, 106, 177]
abbrev dktJ4_getBytes_1 : List UInt8 := dkwJ4_getBytes_1 ++ []
def dkwJ4_getBytes_0 : List UInt8 := [42, 182, 1, 79, 29, 160, 0, 23, 42, 180, 0, 9, 3, 43, 28, 29, 120, 42, 180, 0, 9, 190]
abbrev dktJ4_getBytes_0 : List UInt8 := dkwJ4_getBytes_0 ++ dktJ4_getBytes_1
theorem dksJ4_getBytes_0 : cJ4_getBytes.data.toList.drop 0 = dktJ4_getBytes_0 := by decide +kernel
theorem dksJ4_getBytes_1 : cJ4_getBytes.data.toList.drop 22 = dktJ4_getBytes_1 := dk_seg dksJ4_getBytes_0 22 rfl rfl
theorem dJ4_getBytes_0 : decode cJ4_getBytes 0 = .ok (.aload_n 0, 1) := dk_42 (dk_at dksJ4_getBytes_0 0 rfl rfl)
theorem dJ4_getBytes_1 : decode cJ4_getBytes 1 = .ok (.invokevirtual 335, 3) := dk_182 1 79 (dk_at dksJ4_getBytes_0 1 rfl rfl)
theorem dJ4_getBytes_4 : decode cJ4_getBytes 4 = .ok (.iload_n 3, 1) := dk_29 (dk_at dksJ4_getBytes_0 4 rfl rfl)
theorem dJ4_getBytes_5 : decode cJ4_getBytes 5 = .ok (.if_icmp .ne 23, 3) := dk_160 0 23 (dk_at dksJ4_getBytes_0 5 rfl rfl)
theorem dJ4_getBytes_8 : decode cJ4_getBytes 8 = .ok (.aload_n 0, 1) := dk_42 (dk_at dksJ4_getBytes_0 8 rfl rfl)
theorem dJ4_getBytes_9 : decode cJ4_getBytes 9 = .ok (.getfield 9, 3) := dk_180 0 9 (dk_at dksJ4_getBytes_0 9 rfl rfl)
theorem dJ4_getBytes_12 : decode cJ4_getBytes 12 = .ok (.iconst 0, 1) := dk_3 (dk_at dksJ4_getBytes_0 12 rfl rfl)
theorem dJ4_getBytes_13 : decode cJ4_getBytes 13 = .ok (.aload_n 1, 1) := dk_43 (dk_at dksJ4_getBytes_0 13 rfl rfl)
theorem dJ4_getBytes_14 : decode cJ4_getBytes 14 = .ok (.iload_n 2, 1) := dk_28 (dk_at dksJ4_getBytes_0 14 rfl rfl)
theorem dJ4_getBytes_15 : decode cJ4_getBytes 15 = .ok (.iload_n 3, 1) := dk_29 (dk_at dksJ4_getBytes_0 15 rfl rfl)
theorem dJ4_getBytes_16 : decode cJ4_getBytes 16 = .ok (.ishl, 1) := dk_120 (dk_at dksJ4_getBytes_0 16 rfl rfl)
theorem dJ4_getBytes_17 : decode cJ4_getBytes 17 = .ok (.aload_n 0, 1) := dk_42 (dk_at dksJ4_getBytes_0 17 rfl rfl)
theorem dJ4_getBytes_18 : decode cJ4_getBytes 18 = .ok (.getfield 9, 3) := dk_180 0 9 (dk_at dksJ4_getBytes_0 18 rfl rfl)
theorem dJ4_getBytes_21 : decode cJ4_getBytes 21 = .ok (.arraylength, 1) := dk_190 (dk_at dksJ4_getBytes_0 21 rfl rfl)
theorem dJ4_getBytes_22 : decode cJ4_getBytes 22 = .ok (.invokestatic 212, 3) := dk_184 0 212 (dk_at dksJ4_getBytes_1 0 rfl rfl)
theorem dJ4_getBytes_25 : decode cJ4_getBytes 25 = .ok (.goto 18, 3) := dk_167 0 18 (dk_at dksJ4_getBytes_1 3 rfl rfl)
theorem dJ4_getBytes_28 : decode cJ4_getBytes 28 = .ok (.aload_n 0, 1) := dk_42 (dk_at dksJ4_getBytes_1 6 rfl rfl)
theorem dJ4_getBytes_29 : decode cJ4_getBytes 29 = .ok (.getfield 9, 3) := dk_180 0 9 (dk_at dksJ4_getBytes_1 7 rfl rfl)
theorem dJ4_getBytes_32 : decode cJ4_getBytes 32 = .ok (.iconst 0, 1) := dk_3 (dk_at dksJ4_getBytes_1 10 rfl rfl)
theorem dJ4_getBytes_33 : decode cJ4_getBytes 33 = .ok (.aload_n 1, 1) := dk_43 (dk_at dksJ4_getBytes_1 11 rfl rfl)
theorem dJ4_getBytes_34 : decode cJ4_getBytes 34 = .ok (.iload_n 2, 1) := dk_28 (dk_at dksJ4_getBytes_1 12 rfl rfl)
theorem dJ4_getBytes_35 : decode cJ4_getBytes 35 = .ok (.aload_n 0, 1) := dk_42 (dk_at dksJ4_getBytes_1 13 rfl rfl)
theorem dJ4_getBytes_36 : decode cJ4_getBytes 36 = .ok (.getfield 9, 3) := dk_180 0 9 (dk_at dksJ4_getBytes_1 14 rfl rfl)
theorem dJ4_getBytes_39 : decode cJ4_getBytes 39 = .ok (.arraylength, 1) := dk_190 (dk_at dksJ4_getBytes_1 17 rfl rfl)
theorem dJ4_getBytes_40 : decode cJ4_getBytes 40 = .ok (.invokestatic 106, 3) := dk_184 0 106 (dk_at dksJ4_getBytes_1 18 rfl rfl)
theorem dJ4_getBytes_43 : decode cJ4_getBytes 43 = .ok (.return_, 1) := dk_177 (dk_at dksJ4_getBytes_1 21 rfl rfl)
abbrev cJ4_init : ByteArray := prog_33_method_53_code
def yJ4_init : MethodName := ⟨RJ4, "<init>", "(Ljava/lang/StringBuilder;)V"⟩
def dkwJ4_init_0 : List UInt8 := [42, 43, 1, 183, 1, 233, 177]
abbrev dktJ4_init_0 : List UInt8 := dkwJ4_init_0 ++ []
theorem dksJ4_init_0 : cJ4_init.data.toList.drop 0 = dktJ4_init_0 := by decide +kernel
theorem dJ4_init_0 : decode cJ4_init 0 = .ok (.aload_n 0, 1) := dk_42 (dk_at dksJ4_init_0 0 rfl rfl)
theorem dJ4_init_1 : decode cJ4_init 1 = .ok (.aload_n 1, 1) := dk_43 (dk_at dksJ4_init_0 1 rfl rfl)
theorem dJ4_init_2 : decode cJ4_init 2 = .ok (.aconst_null, 1) := dk_1 (dk_at dksJ4_init_0 2 rfl rfl)
theorem dJ4_init_3 : decode cJ4_init 3 = .ok (.invokespecial 489, 3) := dk_183 1 233 (dk_at dksJ4_init_0 3 rfl rfl)
theorem dJ4_init_6 : decode cJ4_init 6 = .ok (.return_, 1) := dk_177 (dk_at dksJ4_init_0 6 rfl rfl)
abbrev cJ4_init_2 : ByteArray := prog_33_method_150_code
def yJ4_init_2 : MethodName := ⟨RJ4, "<init>", "(Ljava/lang/AbstractStringBuilder;Ljava/lang/Void;)V"⟩
def dkwJ4_init_2_4 : List UInt8 := [181, 0, 9, 177]
abbrev dktJ4_init_2_4 : List UInt8 := dkwJ4_init_2_4 ++ []
def dkwJ4_init_2_3 : List UInt8 := [184, 0, 47, 181, 0, 15, 177, 42, 4, 181, 0, 15, 42, 45, 3, 21, 4, 4, 120, 184, 0, 54]
abbrev dktJ4_init_2_3 : List UInt8 := dkwJ4_init_2_3 ++ dktJ4_init_2_4
def dkwJ4_init_2_2 : List UInt8 := [180, 4, 24, 153, 0, 28, 42, 45, 3, 21, 4, 184, 4, 27, 181, 0, 9, 42, 42, 180, 0, 9, 21, 4]
abbrev dktJ4_init_2_2 : List UInt8 := dkwJ4_init_2_2 ++ dktJ4_init_2_3
def dkwJ4_init_2_1 : List UInt8 := [181, 0, 15, 42, 45, 3, 21, 4, 184, 0, 54, 181, 0, 9, 167, 0, 59, 178, 0, 38, 153, 0, 35, 43]
abbrev dktJ4_init_2_1 : List UInt8 := dkwJ4_init_2_1 ++ dktJ4_init_2_2
def dkwJ4_init_2_0 : List UInt8 := [42, 183, 0, 1, 43, 182, 2, 40, 78, 43, 182, 2, 37, 54, 4, 43, 182, 4, 23, 153, 0, 22, 42, 3]
abbrev dktJ4_init_2_0 : List UInt8 := dkwJ4_init_2_0 ++ dktJ4_init_2_1
theorem dksJ4_init_2_0 : cJ4_init_2.data.toList.drop 0 = dktJ4_init_2_0 := by decide +kernel
theorem dksJ4_init_2_1 : cJ4_init_2.data.toList.drop 24 = dktJ4_init_2_1 := dk_seg dksJ4_init_2_0 24 rfl rfl
theorem dksJ4_init_2_2 : cJ4_init_2.data.toList.drop 48 = dktJ4_init_2_2 := dk_seg dksJ4_init_2_1 24 rfl rfl
theorem dksJ4_init_2_3 : cJ4_init_2.data.toList.drop 72 = dktJ4_init_2_3 := dk_seg dksJ4_init_2_2 24 rfl rfl
theorem dksJ4_init_2_4 : cJ4_init_2.data.toList.drop 94 = dktJ4_init_2_4 := dk_seg dksJ4_init_2_3 22 rfl rfl
theorem dJ4_init_2_0 : decode cJ4_init_2 0 = .ok (.aload_n 0, 1) := dk_42 (dk_at dksJ4_init_2_0 0 rfl rfl)
theorem dJ4_init_2_1 : decode cJ4_init_2 1 = .ok (.invokespecial 1, 3) := dk_183 0 1 (dk_at dksJ4_init_2_0 1 rfl rfl)
theorem dJ4_init_2_4 : decode cJ4_init_2 4 = .ok (.aload_n 1, 1) := dk_43 (dk_at dksJ4_init_2_0 4 rfl rfl)
theorem dJ4_init_2_5 : decode cJ4_init_2 5 = .ok (.invokevirtual 552, 3) := dk_182 2 40 (dk_at dksJ4_init_2_0 5 rfl rfl)
theorem dJ4_init_2_8 : decode cJ4_init_2 8 = .ok (.astore_n 3, 1) := dk_78 (dk_at dksJ4_init_2_0 8 rfl rfl)
theorem dJ4_init_2_9 : decode cJ4_init_2 9 = .ok (.aload_n 1, 1) := dk_43 (dk_at dksJ4_init_2_0 9 rfl rfl)
theorem dJ4_init_2_10 : decode cJ4_init_2 10 = .ok (.invokevirtual 549, 3) := dk_182 2 37 (dk_at dksJ4_init_2_0 10 rfl rfl)
theorem dJ4_init_2_13 : decode cJ4_init_2 13 = .ok (.istore 4, 2) := dk_54 4 (dk_at dksJ4_init_2_0 13 rfl rfl)
theorem dJ4_init_2_15 : decode cJ4_init_2 15 = .ok (.aload_n 1, 1) := dk_43 (dk_at dksJ4_init_2_0 15 rfl rfl)
theorem dJ4_init_2_16 : decode cJ4_init_2 16 = .ok (.invokevirtual 1047, 3) := dk_182 4 23 (dk_at dksJ4_init_2_0 16 rfl rfl)
theorem dJ4_init_2_19 : decode cJ4_init_2 19 = .ok (.ifCond .eq 22, 3) := dk_153 0 22 (dk_at dksJ4_init_2_0 19 rfl rfl)
theorem dJ4_init_2_22 : decode cJ4_init_2 22 = .ok (.aload_n 0, 1) := dk_42 (dk_at dksJ4_init_2_0 22 rfl rfl)
theorem dJ4_init_2_23 : decode cJ4_init_2 23 = .ok (.iconst 0, 1) := dk_3 (dk_at dksJ4_init_2_0 23 rfl rfl)
theorem dJ4_init_2_24 : decode cJ4_init_2 24 = .ok (.putfield 15, 3) := dk_181 0 15 (dk_at dksJ4_init_2_1 0 rfl rfl)
theorem dJ4_init_2_27 : decode cJ4_init_2 27 = .ok (.aload_n 0, 1) := dk_42 (dk_at dksJ4_init_2_1 3 rfl rfl)
theorem dJ4_init_2_28 : decode cJ4_init_2 28 = .ok (.aload_n 3, 1) := dk_45 (dk_at dksJ4_init_2_1 4 rfl rfl)
theorem dJ4_init_2_29 : decode cJ4_init_2 29 = .ok (.iconst 0, 1) := dk_3 (dk_at dksJ4_init_2_1 5 rfl rfl)
theorem dJ4_init_2_30 : decode cJ4_init_2 30 = .ok (.iload 4, 2) := dk_21 4 (dk_at dksJ4_init_2_1 6 rfl rfl)
theorem dJ4_init_2_32 : decode cJ4_init_2 32 = .ok (.invokestatic 54, 3) := dk_184 0 54 (dk_at dksJ4_init_2_1 8 rfl rfl)
theorem dJ4_init_2_35 : decode cJ4_init_2 35 = .ok (.putfield 9, 3) := dk_181 0 9 (dk_at dksJ4_init_2_1 11 rfl rfl)
theorem dJ4_init_2_38 : decode cJ4_init_2 38 = .ok (.goto 59, 3) := dk_167 0 59 (dk_at dksJ4_init_2_1 14 rfl rfl)
theorem dJ4_init_2_41 : decode cJ4_init_2 41 = .ok (.getstatic 38, 3) := dk_178 0 38 (dk_at dksJ4_init_2_1 17 rfl rfl)
theorem dJ4_init_2_44 : decode cJ4_init_2 44 = .ok (.ifCond .eq 35, 3) := dk_153 0 35 (dk_at dksJ4_init_2_1 20 rfl rfl)
theorem dJ4_init_2_47 : decode cJ4_init_2 47 = .ok (.aload_n 1, 1) := dk_43 (dk_at dksJ4_init_2_1 23 rfl rfl)
theorem dJ4_init_2_48 : decode cJ4_init_2 48 = .ok (.getfield 1048, 3) := dk_180 4 24 (dk_at dksJ4_init_2_2 0 rfl rfl)
theorem dJ4_init_2_51 : decode cJ4_init_2 51 = .ok (.ifCond .eq 28, 3) := dk_153 0 28 (dk_at dksJ4_init_2_2 3 rfl rfl)
theorem dJ4_init_2_54 : decode cJ4_init_2 54 = .ok (.aload_n 0, 1) := dk_42 (dk_at dksJ4_init_2_2 6 rfl rfl)
theorem dJ4_init_2_55 : decode cJ4_init_2 55 = .ok (.aload_n 3, 1) := dk_45 (dk_at dksJ4_init_2_2 7 rfl rfl)
theorem dJ4_init_2_56 : decode cJ4_init_2 56 = .ok (.iconst 0, 1) := dk_3 (dk_at dksJ4_init_2_2 8 rfl rfl)
theorem dJ4_init_2_57 : decode cJ4_init_2 57 = .ok (.iload 4, 2) := dk_21 4 (dk_at dksJ4_init_2_2 9 rfl rfl)
theorem dJ4_init_2_59 : decode cJ4_init_2 59 = .ok (.invokestatic 1051, 3) := dk_184 4 27 (dk_at dksJ4_init_2_2 11 rfl rfl)
theorem dJ4_init_2_62 : decode cJ4_init_2 62 = .ok (.putfield 9, 3) := dk_181 0 9 (dk_at dksJ4_init_2_2 14 rfl rfl)
theorem dJ4_init_2_65 : decode cJ4_init_2 65 = .ok (.aload_n 0, 1) := dk_42 (dk_at dksJ4_init_2_2 17 rfl rfl)
theorem dJ4_init_2_66 : decode cJ4_init_2 66 = .ok (.aload_n 0, 1) := dk_42 (dk_at dksJ4_init_2_2 18 rfl rfl)
theorem dJ4_init_2_67 : decode cJ4_init_2 67 = .ok (.getfield 9, 3) := dk_180 0 9 (dk_at dksJ4_init_2_2 19 rfl rfl)
theorem dJ4_init_2_70 : decode cJ4_init_2 70 = .ok (.iload 4, 2) := dk_21 4 (dk_at dksJ4_init_2_2 22 rfl rfl)
theorem dJ4_init_2_72 : decode cJ4_init_2 72 = .ok (.invokestatic 47, 3) := dk_184 0 47 (dk_at dksJ4_init_2_3 0 rfl rfl)
theorem dJ4_init_2_75 : decode cJ4_init_2 75 = .ok (.putfield 15, 3) := dk_181 0 15 (dk_at dksJ4_init_2_3 3 rfl rfl)
theorem dJ4_init_2_78 : decode cJ4_init_2 78 = .ok (.return_, 1) := dk_177 (dk_at dksJ4_init_2_3 6 rfl rfl)
theorem dJ4_init_2_79 : decode cJ4_init_2 79 = .ok (.aload_n 0, 1) := dk_42 (dk_at dksJ4_init_2_3 7 rfl rfl)
theorem dJ4_init_2_80 : decode cJ4_init_2 80 = .ok (.iconst 1, 1) := dk_4 (dk_at dksJ4_init_2_3 8 rfl rfl)
theorem dJ4_init_2_81 : decode cJ4_init_2 81 = .ok (.putfield 15, 3) := dk_181 0 15 (dk_at dksJ4_init_2_3 9 rfl rfl)
theorem dJ4_init_2_84 : decode cJ4_init_2 84 = .ok (.aload_n 0, 1) := dk_42 (dk_at dksJ4_init_2_3 12 rfl rfl)
theorem dJ4_init_2_85 : decode cJ4_init_2 85 = .ok (.aload_n 3, 1) := dk_45 (dk_at dksJ4_init_2_3 13 rfl rfl)
theorem dJ4_init_2_86 : decode cJ4_init_2 86 = .ok (.iconst 0, 1) := dk_3 (dk_at dksJ4_init_2_3 14 rfl rfl)
theorem dJ4_init_2_87 : decode cJ4_init_2 87 = .ok (.iload 4, 2) := dk_21 4 (dk_at dksJ4_init_2_3 15 rfl rfl)
theorem dJ4_init_2_89 : decode cJ4_init_2 89 = .ok (.iconst 1, 1) := dk_4 (dk_at dksJ4_init_2_3 17 rfl rfl)
theorem dJ4_init_2_90 : decode cJ4_init_2 90 = .ok (.ishl, 1) := dk_120 (dk_at dksJ4_init_2_3 18 rfl rfl)
theorem dJ4_init_2_91 : decode cJ4_init_2 91 = .ok (.invokestatic 54, 3) := dk_184 0 54 (dk_at dksJ4_init_2_3 19 rfl rfl)
theorem dJ4_init_2_94 : decode cJ4_init_2 94 = .ok (.putfield 9, 3) := dk_181 0 9 (dk_at dksJ4_init_2_4 0 rfl rfl)
theorem dJ4_init_2_97 : decode cJ4_init_2 97 = .ok (.return_, 1) := dk_177 (dk_at dksJ4_init_2_4 3 rfl rfl)
theorem q70 : (Jvm.Cond.initialized "java/lang/String") ∈ lw_all := lw_g (lw_at lw_m1 13 rfl) rfl
theorem q337 : (Jvm.Cond.laysStatic "java/lang/String" "COMPACT_STRINGS" "Z") ∈ lw_tbl := lw_at lw_m2 40 rfl
theorem q348 : (Jvm.Cond.fieldLink "java/lang/String" (1048 : Nat) "java/lang/AbstractStringBuilder" "maybeLatin1" "Z") ∈ lw_all := lw_g (lw_at lw_m2 51 rfl) rfl
theorem q500 : (Jvm.Cond.selects "java/lang/String" ({ cls := "java/lang/Object", name := "getClass", desc := "()Ljava/lang/Class;" } : Jvm.MethodName) ({ cls := "java/lang/Object", name := "getClass", desc := "()Ljava/lang/Class;" } : Jvm.MethodName)) ∈ lw_all := lw_g (lw_at lw_m2 203 rfl) rfl
theorem q824 : (Jvm.Cond.instantiable "java/lang/String" (4 : Nat)) ∈ lw_all := lw_g (lw_at lw_m4 47 rfl) rfl
theorem q825 : (Jvm.Cond.laysFinal "java/lang/String" "java/lang/String" "value" "[B") ∈ lw_all := lw_g (lw_at lw_m4 48 rfl) rfl
theorem q826 : (Jvm.Cond.soleField "java/lang/String" "value") ∈ lw_all := lw_g (lw_at lw_m4 49 rfl) rfl
theorem q827 : (Jvm.Cond.laysFinal "java/lang/String" "java/lang/String" "coder" "B") ∈ lw_all := lw_g (lw_at lw_m4 50 rfl) rfl
theorem q828 : (Jvm.Cond.soleField "java/lang/String" "coder") ∈ lw_all := lw_g (lw_at lw_m4 51 rfl) rfl
theorem q1321 : (Jvm.Cond.static ({ cls := "java/lang/String", name := "checkBoundsOffCount", desc := "(III)I" } : Jvm.MethodName)) ∈ lw_all := lw_g (lw_at lw_m6 64 rfl) rfl
theorem q1322 : (Jvm.Cond.code ({ cls := "java/lang/String", name := "checkBoundsOffCount", desc := "(III)I" } : Jvm.MethodName) prog_33_method_157_code (3 : Nat) (Option.some Jvm.ClassFile.FieldType.int)) ∈ lw_all := lw_g (lw_at lw_m6 65 rfl) rfl
theorem q1323 : (Jvm.Cond.fieldLink "java/lang/String" (1053 : Nat) "jdk/internal/util/Preconditions" "SIOOBE_FORMATTER" "Ljava/util/function/BiFunction;") ∈ lw_all := lw_g (lw_at lw_m6 66 rfl) rfl
theorem q1325 : (Jvm.Cond.methodLink "java/lang/String" (1065 : Nat) ({ cls := "jdk/internal/util/Preconditions", name := "checkFromIndexSize", desc := "(IIILjava/util/function/BiFunction;)I" } : Jvm.MethodName)) ∈ lw_all := lw_g (lw_at lw_m6 68 rfl) rfl
theorem q1344 : (Jvm.Cond.static ({ cls := "java/lang/String", name := "checkIndex", desc := "(II)V" } : Jvm.MethodName)) ∈ lw_all := lw_g (lw_at lw_m6 87 rfl) rfl
theorem q1345 : (Jvm.Cond.code ({ cls := "java/lang/String", name := "checkIndex", desc := "(II)V" } : Jvm.MethodName) prog_33_method_155_code (2 : Nat) (Option.none : Option Jvm.ClassFile.FieldType)) ∈ lw_all := lw_g (lw_at lw_m6 88 rfl) rfl
theorem q1346 : (Jvm.Cond.methodLink "java/lang/String" (1059 : Nat) ({ cls := "jdk/internal/util/Preconditions", name := "checkIndex", desc := "(IILjava/util/function/BiFunction;)I" } : Jvm.MethodName)) ∈ lw_all := lw_g (lw_at lw_m6 89 rfl) rfl
theorem q1455 : (Jvm.Cond.static ({ cls := "java/lang/String", name := "checkBoundsBeginEnd", desc := "(III)V" } : Jvm.MethodName)) ∈ lw_all := lw_g (lw_at lw_m6 198 rfl) rfl
theorem q1456 : (Jvm.Cond.code ({ cls := "java/lang/String", name := "checkBoundsBeginEnd", desc := "(III)V" } : Jvm.MethodName) prog_33_method_158_code (3 : Nat) (Option.none : Option Jvm.ClassFile.FieldType)) ∈ lw_all := lw_g (lw_at lw_m6 199 rfl) rfl
theorem q1457 : (Jvm.Cond.methodLink "java/lang/String" (1062 : Nat) ({ cls := "jdk/internal/util/Preconditions", name := "checkFromToIndex", desc := "(IIILjava/util/function/BiFunction;)I" } : Jvm.MethodName)) ∈ lw_all := lw_g (lw_at lw_m6 200 rfl) rfl
theorem q1461 : (Jvm.Cond.instanceMethod ({ cls := "java/lang/String", name := "length", desc := "()I" } : Jvm.MethodName)) ∈ lw_all := lw_g (lw_at lw_m6 204 rfl) rfl
theorem q1462 : (Jvm.Cond.selects "java/lang/String" ({ cls := "java/lang/String", name := "length", desc := "()I" } : Jvm.MethodName) ({ cls := "java/lang/String", name := "length", desc := "()I" } : Jvm.MethodName)) ∈ lw_all := lw_g (lw_at lw_m6 205 rfl) rfl
theorem q1463 : (Jvm.Cond.code ({ cls := "java/lang/String", name := "length", desc := "()I" } : Jvm.MethodName) prog_33_method_54_code (1 : Nat) (Option.some Jvm.ClassFile.FieldType.int)) ∈ lw_all := lw_g (lw_at lw_m6 206 rfl) rfl
theorem q1464 : (Jvm.Cond.methodLink "java/lang/String" (335 : Nat) ({ cls := "java/lang/String", name := "coder", desc := "()B" } : Jvm.MethodName)) ∈ lw_all := lw_g (lw_at lw_m6 207 rfl) rfl
theorem q1465 : (Jvm.Cond.instanceMethod ({ cls := "java/lang/String", name := "coder", desc := "()B" } : Jvm.MethodName)) ∈ lw_all := lw_g (lw_at lw_m6 208 rfl) rfl
theorem q1466 : (Jvm.Cond.selects "java/lang/String" ({ cls := "java/lang/String", name := "coder", desc := "()B" } : Jvm.MethodName) ({ cls := "java/lang/String", name := "coder", desc := "()B" } : Jvm.MethodName)) ∈ lw_all := lw_g (lw_at lw_m6 209 rfl) rfl
theorem q1467 : (Jvm.Cond.code ({ cls := "java/lang/String", name := "coder", desc := "()B" } : Jvm.MethodName) prog_33_method_152_code (1 : Nat) (Option.some Jvm.ClassFile.FieldType.byte)) ∈ lw_all := lw_g (lw_at lw_m6 210 rfl) rfl
theorem q1468 : (Jvm.Cond.fieldLink "java/lang/String" (38 : Nat) "java/lang/String" "COMPACT_STRINGS" "Z") ∈ lw_all := lw_g (lw_at lw_m6 211 rfl) rfl
theorem q1479 : (Jvm.Cond.instanceMethod ({ cls := "java/lang/String", name := "getBytes", desc := "([BIB)V" } : Jvm.MethodName)) ∈ lw_all := lw_g (lw_at lw_m6 222 rfl) rfl
theorem q1480 : (Jvm.Cond.selects "java/lang/String" ({ cls := "java/lang/String", name := "getBytes", desc := "([BIB)V" } : Jvm.MethodName) ({ cls := "java/lang/String", name := "getBytes", desc := "([BIB)V" } : Jvm.MethodName)) ∈ lw_all := lw_g (lw_at lw_m6 223 rfl) rfl
theorem q1481 : (Jvm.Cond.code ({ cls := "java/lang/String", name := "getBytes", desc := "([BIB)V" } : Jvm.MethodName) prog_33_method_147_code (4 : Nat) (Option.none : Option Jvm.ClassFile.FieldType)) ∈ lw_all := lw_g (lw_at lw_m6 224 rfl) rfl
theorem q1482 : (Jvm.Cond.methodLink "java/lang/String" (212 : Nat) ({ cls := "java/lang/System", name := "arraycopy", desc := "(Ljava/lang/Object;ILjava/lang/Object;II)V" } : Jvm.MethodName)) ∈ lw_all := lw_g (lw_at lw_m6 225 rfl) rfl
theorem q1483 : (Jvm.Cond.methodLink "java/lang/String" (106 : Nat) ({ cls := "java/lang/StringLatin1", name := "inflate", desc := "([BI[BII)V" } : Jvm.MethodName)) ∈ lw_all := lw_g (lw_at lw_m6 226 rfl) rfl
theorem q1515 : (Jvm.Cond.instanceMethod ({ cls := "java/lang/String", name := "<init>", desc := "(Ljava/lang/StringBuilder;)V" } : Jvm.MethodName)) ∈ lw_all := lw_g (lw_at lw_m7 18 rfl) rfl
theorem q1516 : (Jvm.Cond.code ({ cls := "java/lang/String", name := "<init>", desc := "(Ljava/lang/StringBuilder;)V" } : Jvm.MethodName) prog_33_method_53_code (2 : Nat) (Option.none : Option Jvm.ClassFile.FieldType)) ∈ lw_all := lw_g (lw_at lw_m7 19 rfl) rfl
theorem q1517 : (Jvm.Cond.methodLink "java/lang/String" (489 : Nat) ({ cls := "java/lang/String", name := "<init>", desc := "(Ljava/lang/AbstractStringBuilder;Ljava/lang/Void;)V" } : Jvm.MethodName)) ∈ lw_all := lw_g (lw_at lw_m7 20 rfl) rfl
theorem q1518 : (Jvm.Cond.instanceMethod ({ cls := "java/lang/String", name := "<init>", desc := "(Ljava/lang/AbstractStringBuilder;Ljava/lang/Void;)V" } : Jvm.MethodName)) ∈ lw_all := lw_g (lw_at lw_m7 21 rfl) rfl
theorem q1519 : (Jvm.Cond.code ({ cls := "java/lang/String", name := "<init>", desc := "(Ljava/lang/AbstractStringBuilder;Ljava/lang/Void;)V" } : Jvm.MethodName) prog_33_method_150_code (5 : Nat) (Option.none : Option Jvm.ClassFile.FieldType)) ∈ lw_all := lw_g (lw_at lw_m7 22 rfl) rfl
theorem q1520 : (Jvm.Cond.methodLink "java/lang/String" (1 : Nat) ({ cls := "java/lang/Object", name := "<init>", desc := "()V" } : Jvm.MethodName)) ∈ lw_all := lw_g (lw_at lw_m7 23 rfl) rfl
theorem q1521 : (Jvm.Cond.methodLink "java/lang/String" (552 : Nat) ({ cls := "java/lang/AbstractStringBuilder", name := "getValue", desc := "()[B" } : Jvm.MethodName)) ∈ lw_all := lw_g (lw_at lw_m7 24 rfl) rfl
theorem q1526 : (Jvm.Cond.methodLink "java/lang/String" (549 : Nat) ({ cls := "java/lang/AbstractStringBuilder", name := "length", desc := "()I" } : Jvm.MethodName)) ∈ lw_all := lw_g (lw_at lw_m7 29 rfl) rfl
theorem q1527 : (Jvm.Cond.methodLink "java/lang/String" (1047 : Nat) ({ cls := "java/lang/AbstractStringBuilder", name := "isLatin1", desc := "()Z" } : Jvm.MethodName)) ∈ lw_all := lw_g (lw_at lw_m7 30 rfl) rfl
theorem q1528 : (Jvm.Cond.methodLink "java/lang/String" (54 : Nat) ({ cls := "java/util/Arrays", name := "copyOfRange", desc := "([BII)[B" } : Jvm.MethodName)) ∈ lw_all := lw_g (lw_at lw_m7 31 rfl) rfl
theorem q1548 : (Jvm.Cond.methodLink "java/lang/String" (1051 : Nat) ({ cls := "java/lang/StringUTF16", name := "compress", desc := "([BII)[B" } : Jvm.MethodName)) ∈ lw_all := lw_g (lw_at lw_m7 51 rfl) rfl
theorem q1556 : (Jvm.Cond.methodLink "java/lang/String" (47 : Nat) ({ cls := "java/lang/StringUTF16", name := "coderFromArrayLen", desc := "([BI)B" } : Jvm.MethodName)) ∈ lw_all := lw_g (lw_at lw_m7 59 rfl) rfl
theorem q1559 : (Jvm.Cond.fieldLink "java/lang/String" (9 : Nat) "java/lang/String" "value" "[B") ∈ lw_all := lw_g (lw_at lw_m7 62 rfl) rfl
theorem q1560 : (Jvm.Cond.fieldLink "java/lang/String" (15 : Nat) "java/lang/String" "coder" "B") ∈ lw_all := lw_g (lw_at lw_m7 63 rfl) rfl
theorem q1561 : (Jvm.Cond.lays "java/lang/String" "java/lang/String" "hash" "I") ∈ lw_all := lw_g (lw_at lw_m7 64 rfl) rfl
theorem q1562 : (Jvm.Cond.soleField "java/lang/String" "hash") ∈ lw_all := lw_g (lw_at lw_m7 65 rfl) rfl
theorem q1563 : (Jvm.Cond.lays "java/lang/String" "java/lang/String" "hashIsZero" "Z") ∈ lw_all := lw_g (lw_at lw_m7 66 rfl) rfl
theorem q1564 : (Jvm.Cond.soleField "java/lang/String" "hashIsZero") ∈ lw_all := lw_g (lw_at lw_m7 67 rfl) rfl
theorem q1565 : (Jvm.Cond.superclass "java/lang/String" "java/lang/Object") ∈ lw_all := lw_g (lw_at lw_m7 68 rfl) rfl
theorem q2129 : (Jvm.Cond.castable "java/lang/String" "java/lang/Object") ∈ lw_tbl := lw_at lw_m9 152 rfl
theorem in_J4 : ∀ w ∈ wsJ40, w ∈ lw_all := lw_in wsJ40 [825, 827, 1561, 1563] (by decide +kernel) (by decide +kernel)
/-! java/lang/StringUTF16 -/
set_option maxRecDepth 100000
def RJ5 : String := "java/lang/StringUTF16"
abbrev cJ5_newBytesFor : ByteArray := prog_37_method_2_code
def yJ5_newBytesFor : MethodName := ⟨RJ5, "newBytesFor", "(I)[B"⟩
def dkwJ5_newBytesFor_0 : List UInt8 := [26, 184, 0, 11, 188, 8, 176]
abbrev dktJ5_newBytesFor_0 : List UInt8 := dkwJ5_newBytesFor_0 ++ []
theorem dksJ5_newBytesFor_0 : cJ5_newBytesFor.data.toList.drop 0 = dktJ5_newBytesFor_0 := by decide +kernel
theorem dJ5_newBytesFor_0 : decode cJ5_newBytesFor 0 = .ok (.iload_n 0, 1) := dk_26 (dk_at dksJ5_newBytesFor_0 0 rfl rfl)
theorem dJ5_newBytesFor_1 : decode cJ5_newBytesFor 1 = .ok (.invokestatic 11, 3) := dk_184 0 11 (dk_at dksJ5_newBytesFor_0 1 rfl rfl)
theorem dJ5_newBytesFor_4 : decode cJ5_newBytesFor 4 = .ok (.newarray .byte, 2) := dk_188_8 (dk_at dksJ5_newBytesFor_0 4 rfl rfl)
theorem dJ5_newBytesFor_6 : decode cJ5_newBytesFor 6 = .ok (.areturn, 1) := dk_176 (dk_at dksJ5_newBytesFor_0 6 rfl rfl)
abbrev cJ5_newBytesLength : ByteArray := prog_37_method_3_code
def yJ5_newBytesLength : MethodName := ⟨RJ5, "newBytesLength", "(I)I"⟩
def dkwJ5_newBytesLength_2 : List UInt8 := [182, 0, 32, 182, 0, 37, 183, 0, 41, 191, 26, 4, 120, 172]
abbrev dktJ5_newBytesLength_2 : List UInt8 := dkwJ5_newBytesLength_2 ++ []
def dkwJ5_newBytesLength_1 : List UInt8 := [187, 0, 23, 89, 183, 0, 25, 18, 26, 182, 0, 28, 26, 182, 0, 32, 18, 35, 182, 0, 28, 18, 20]
abbrev dktJ5_newBytesLength_1 : List UInt8 := dkwJ5_newBytesLength_1 ++ dktJ5_newBytesLength_2
def dkwJ5_newBytesLength_0 : List UInt8 := [26, 156, 0, 11, 187, 0, 17, 89, 183, 0, 19, 191, 26, 18, 20, 161, 0, 40, 187, 0, 21, 89]
abbrev dktJ5_newBytesLength_0 : List UInt8 := dkwJ5_newBytesLength_0 ++ dktJ5_newBytesLength_1
theorem dksJ5_newBytesLength_0 : cJ5_newBytesLength.data.toList.drop 0 = dktJ5_newBytesLength_0 := by decide +kernel
theorem dksJ5_newBytesLength_1 : cJ5_newBytesLength.data.toList.drop 22 = dktJ5_newBytesLength_1 := dk_seg dksJ5_newBytesLength_0 22 rfl rfl
theorem dksJ5_newBytesLength_2 : cJ5_newBytesLength.data.toList.drop 45 = dktJ5_newBytesLength_2 := dk_seg dksJ5_newBytesLength_1 23 rfl rfl
theorem dJ5_newBytesLength_0 : decode cJ5_newBytesLength 0 = .ok (.iload_n 0, 1) := dk_26 (dk_at dksJ5_newBytesLength_0 0 rfl rfl)
theorem dJ5_newBytesLength_1 : decode cJ5_newBytesLength 1 = .ok (.ifCond .ge 11, 3) := dk_156 0 11 (dk_at dksJ5_newBytesLength_0 1 rfl rfl)
theorem dJ5_newBytesLength_4 : decode cJ5_newBytesLength 4 = .ok (.new 17, 3) := dk_187 0 17 (dk_at dksJ5_newBytesLength_0 4 rfl rfl)
theorem dJ5_newBytesLength_7 : decode cJ5_newBytesLength 7 = .ok (.dup, 1) := dk_89 (dk_at dksJ5_newBytesLength_0 7 rfl rfl)
theorem dJ5_newBytesLength_8 : decode cJ5_newBytesLength 8 = .ok (.invokespecial 19, 3) := dk_183 0 19 (dk_at dksJ5_newBytesLength_0 8 rfl rfl)
theorem dJ5_newBytesLength_11 : decode cJ5_newBytesLength 11 = .ok (.athrow, 1) := dk_191 (dk_at dksJ5_newBytesLength_0 11 rfl rfl)
theorem dJ5_newBytesLength_12 : decode cJ5_newBytesLength 12 = .ok (.iload_n 0, 1) := dk_26 (dk_at dksJ5_newBytesLength_0 12 rfl rfl)
theorem dJ5_newBytesLength_13 : decode cJ5_newBytesLength 13 = .ok (.ldc 20, 2) := dk_18 20 (dk_at dksJ5_newBytesLength_0 13 rfl rfl)
theorem dJ5_newBytesLength_15 : decode cJ5_newBytesLength 15 = .ok (.if_icmp .lt 40, 3) := dk_161 0 40 (dk_at dksJ5_newBytesLength_0 15 rfl rfl)
theorem dJ5_newBytesLength_18 : decode cJ5_newBytesLength 18 = .ok (.new 21, 3) := dk_187 0 21 (dk_at dksJ5_newBytesLength_0 18 rfl rfl)
theorem dJ5_newBytesLength_21 : decode cJ5_newBytesLength 21 = .ok (.dup, 1) := dk_89 (dk_at dksJ5_newBytesLength_0 21 rfl rfl)
theorem dJ5_newBytesLength_22 : decode cJ5_newBytesLength 22 = .ok (.new 23, 3) := dk_187 0 23 (dk_at dksJ5_newBytesLength_1 0 rfl rfl)
theorem dJ5_newBytesLength_25 : decode cJ5_newBytesLength 25 = .ok (.dup, 1) := dk_89 (dk_at dksJ5_newBytesLength_1 3 rfl rfl)
theorem dJ5_newBytesLength_26 : decode cJ5_newBytesLength 26 = .ok (.invokespecial 25, 3) := dk_183 0 25 (dk_at dksJ5_newBytesLength_1 4 rfl rfl)
theorem dJ5_newBytesLength_29 : decode cJ5_newBytesLength 29 = .ok (.ldc 26, 2) := dk_18 26 (dk_at dksJ5_newBytesLength_1 7 rfl rfl)
theorem dJ5_newBytesLength_31 : decode cJ5_newBytesLength 31 = .ok (.invokevirtual 28, 3) := dk_182 0 28 (dk_at dksJ5_newBytesLength_1 9 rfl rfl)
theorem dJ5_newBytesLength_34 : decode cJ5_newBytesLength 34 = .ok (.iload_n 0, 1) := dk_26 (dk_at dksJ5_newBytesLength_1 12 rfl rfl)
theorem dJ5_newBytesLength_35 : decode cJ5_newBytesLength 35 = .ok (.invokevirtual 32, 3) := dk_182 0 32 (dk_at dksJ5_newBytesLength_1 13 rfl rfl)
theorem dJ5_newBytesLength_38 : decode cJ5_newBytesLength 38 = .ok (.ldc 35, 2) := dk_18 35 (dk_at dksJ5_newBytesLength_1 16 rfl rfl)
theorem dJ5_newBytesLength_40 : decode cJ5_newBytesLength 40 = .ok (.invokevirtual 28, 3) := dk_182 0 28 (dk_at dksJ5_newBytesLength_1 18 rfl rfl)
theorem dJ5_newBytesLength_43 : decode cJ5_newBytesLength 43 = .ok (.ldc 20, 2) := dk_18 20 (dk_at dksJ5_newBytesLength_1 21 rfl rfl)
theorem dJ5_newBytesLength_45 : decode cJ5_newBytesLength 45 = .ok (.invokevirtual 32, 3) := dk_182 0 32 (dk_at dksJ5_newBytesLength_2 0 rfl rfl)
theorem dJ5_newBytesLength_48 : decode cJ5_newBytesLength 48 = .ok (.invokevirtual 37, 3) := dk_182 0 37 (dk_at dksJ5_newBytesLength_2 3 rfl rfl)
theorem dJ5_newBytesLength_51 : decode cJ5_newBytesLength 51 = .ok (.invokespecial 41, 3) := dk_183 0 41 (dk_at dksJ5_newBytesLength_2 6 rfl rfl)
theorem dJ5_newBytesLength_54 : decode cJ5_newBytesLength 54 = .ok (.athrow, 1) := dk_191 (dk_at dksJ5_newBytesLength_2 9 rfl rfl)
theorem dJ5_newBytesLength_55 : decode cJ5_newBytesLength 55 = .ok (.iload_n 0, 1) := dk_26 (dk_at dksJ5_newBytesLength_2 10 rfl rfl)
theorem dJ5_newBytesLength_56 : decode cJ5_newBytesLength 56 = .ok (.iconst 1, 1) := dk_4 (dk_at dksJ5_newBytesLength_2 11 rfl rfl)
theorem dJ5_newBytesLength_57 : decode cJ5_newBytesLength 57 = .ok (.ishl, 1) := dk_120 (dk_at dksJ5_newBytesLength_2 12 rfl rfl)
theorem dJ5_newBytesLength_58 : decode cJ5_newBytesLength 58 = .ok (.ireturn, 1) := dk_172 (dk_at dksJ5_newBytesLength_2 13 rfl rfl)
abbrev cJ5_inflate : ByteArray := prog_37_method_86_code
def yJ5_inflate : MethodName := ⟨RJ5, "inflate", "([BI[BII)V"⟩
def dkwJ5_inflate_1 : List UInt8 := [132, 1, 1, 51, 17, 0, 255, 126, 184, 0, 111, 132, 5, 1, 167, 255, 228, 177]
abbrev dktJ5_inflate_1 : List UInt8 := dkwJ5_inflate_1 ++ []
def dkwJ5_inflate_0 : List UInt8 := [29, 21, 4, 44, 184, 0, 173, 3, 54, 5, 21, 5, 21, 4, 162, 0, 27, 44, 29, 132, 3, 1, 42, 27]
abbrev dktJ5_inflate_0 : List UInt8 := dkwJ5_inflate_0 ++ dktJ5_inflate_1
theorem dksJ5_inflate_0 : cJ5_inflate.data.toList.drop 0 = dktJ5_inflate_0 := by decide +kernel
theorem dksJ5_inflate_1 : cJ5_inflate.data.toList.drop 24 = dktJ5_inflate_1 := dk_seg dksJ5_inflate_0 24 rfl rfl
theorem dJ5_inflate_0 : decode cJ5_inflate 0 = .ok (.iload_n 3, 1) := dk_29 (dk_at dksJ5_inflate_0 0 rfl rfl)
theorem dJ5_inflate_1 : decode cJ5_inflate 1 = .ok (.iload 4, 2) := dk_21 4 (dk_at dksJ5_inflate_0 1 rfl rfl)
theorem dJ5_inflate_3 : decode cJ5_inflate 3 = .ok (.aload_n 2, 1) := dk_44 (dk_at dksJ5_inflate_0 3 rfl rfl)
theorem dJ5_inflate_4 : decode cJ5_inflate 4 = .ok (.invokestatic 173, 3) := dk_184 0 173 (dk_at dksJ5_inflate_0 4 rfl rfl)
theorem dJ5_inflate_7 : decode cJ5_inflate 7 = .ok (.iconst 0, 1) := dk_3 (dk_at dksJ5_inflate_0 7 rfl rfl)
theorem dJ5_inflate_8 : decode cJ5_inflate 8 = .ok (.istore 5, 2) := dk_54 5 (dk_at dksJ5_inflate_0 8 rfl rfl)
theorem dJ5_inflate_10 : decode cJ5_inflate 10 = .ok (.iload 5, 2) := dk_21 5 (dk_at dksJ5_inflate_0 10 rfl rfl)
theorem dJ5_inflate_12 : decode cJ5_inflate 12 = .ok (.iload 4, 2) := dk_21 4 (dk_at dksJ5_inflate_0 12 rfl rfl)
theorem dJ5_inflate_14 : decode cJ5_inflate 14 = .ok (.if_icmp .ge 27, 3) := dk_162 0 27 (dk_at dksJ5_inflate_0 14 rfl rfl)
theorem dJ5_inflate_17 : decode cJ5_inflate 17 = .ok (.aload_n 2, 1) := dk_44 (dk_at dksJ5_inflate_0 17 rfl rfl)
theorem dJ5_inflate_18 : decode cJ5_inflate 18 = .ok (.iload_n 3, 1) := dk_29 (dk_at dksJ5_inflate_0 18 rfl rfl)
theorem dJ5_inflate_19 : decode cJ5_inflate 19 = .ok (.iinc 3 1, 3) := dk_132 3 1 (dk_at dksJ5_inflate_0 19 rfl rfl)
theorem dJ5_inflate_22 : decode cJ5_inflate 22 = .ok (.aload_n 0, 1) := dk_42 (dk_at dksJ5_inflate_0 22 rfl rfl)
theorem dJ5_inflate_23 : decode cJ5_inflate 23 = .ok (.iload_n 1, 1) := dk_27 (dk_at dksJ5_inflate_0 23 rfl rfl)
theorem dJ5_inflate_24 : decode cJ5_inflate 24 = .ok (.iinc 1 1, 3) := dk_132 1 1 (dk_at dksJ5_inflate_1 0 rfl rfl)
theorem dJ5_inflate_27 : decode cJ5_inflate 27 = .ok (.baload, 1) := dk_51 (dk_at dksJ5_inflate_1 3 rfl rfl)
theorem dJ5_inflate_28 : decode cJ5_inflate 28 = .ok (.sipush 255, 3) := dk_17 0 255 (dk_at dksJ5_inflate_1 4 rfl rfl)
theorem dJ5_inflate_31 : decode cJ5_inflate 31 = .ok (.iand, 1) := dk_126 (dk_at dksJ5_inflate_1 7 rfl rfl)
theorem dJ5_inflate_32 : decode cJ5_inflate 32 = .ok (.invokestatic 111, 3) := dk_184 0 111 (dk_at dksJ5_inflate_1 8 rfl rfl)
theorem dJ5_inflate_35 : decode cJ5_inflate 35 = .ok (.iinc 5 1, 3) := dk_132 5 1 (dk_at dksJ5_inflate_1 11 rfl rfl)
theorem dJ5_inflate_38 : decode cJ5_inflate 38 = .ok (.goto (-28), 3) := dk_167 255 228 (dk_at dksJ5_inflate_1 14 rfl rfl)
theorem dJ5_inflate_41 : decode cJ5_inflate 41 = .ok (.return_, 1) := dk_177 (dk_at dksJ5_inflate_1 17 rfl rfl)
abbrev cJ5_checkBoundsOffCount : ByteArray := prog_37_method_94_code
def yJ5_checkBoundsOffCount : MethodName := ⟨RJ5, "checkBoundsOffCount", "(II[B)V"⟩
def dkwJ5_checkBoundsOffCount_0 : List UInt8 := [26, 27, 44, 184, 0, 48, 184, 1, 163, 87, 177]
abbrev dktJ5_checkBoundsOffCount_0 : List UInt8 := dkwJ5_checkBoundsOffCount_0 ++ []
theorem dksJ5_checkBoundsOffCount_0 : cJ5_checkBoundsOffCount.data.toList.drop 0 = dktJ5_checkBoundsOffCount_0 := by decide +kernel
theorem dJ5_checkBoundsOffCount_0 : decode cJ5_checkBoundsOffCount 0 = .ok (.iload_n 0, 1) := dk_26 (dk_at dksJ5_checkBoundsOffCount_0 0 rfl rfl)
theorem dJ5_checkBoundsOffCount_1 : decode cJ5_checkBoundsOffCount 1 = .ok (.iload_n 1, 1) := dk_27 (dk_at dksJ5_checkBoundsOffCount_0 1 rfl rfl)
theorem dJ5_checkBoundsOffCount_2 : decode cJ5_checkBoundsOffCount 2 = .ok (.aload_n 2, 1) := dk_44 (dk_at dksJ5_checkBoundsOffCount_0 2 rfl rfl)
theorem dJ5_checkBoundsOffCount_3 : decode cJ5_checkBoundsOffCount 3 = .ok (.invokestatic 48, 3) := dk_184 0 48 (dk_at dksJ5_checkBoundsOffCount_0 3 rfl rfl)
theorem dJ5_checkBoundsOffCount_6 : decode cJ5_checkBoundsOffCount 6 = .ok (.invokestatic 419, 3) := dk_184 1 163 (dk_at dksJ5_checkBoundsOffCount_0 6 rfl rfl)
theorem dJ5_checkBoundsOffCount_9 : decode cJ5_checkBoundsOffCount 9 = .ok (.pop, 1) := dk_87 (dk_at dksJ5_checkBoundsOffCount_0 9 rfl rfl)
theorem dJ5_checkBoundsOffCount_10 : decode cJ5_checkBoundsOffCount 10 = .ok (.return_, 1) := dk_177 (dk_at dksJ5_checkBoundsOffCount_0 10 rfl rfl)
abbrev cJ5_length : ByteArray := prog_37_method_6_code
def yJ5_length : MethodName := ⟨RJ5, "length", "([B)I"⟩
def dkwJ5_length_0 : List UInt8 := [42, 190, 4, 122, 172]
abbrev dktJ5_length_0 : List UInt8 := dkwJ5_length_0 ++ []
theorem dksJ5_length_0 : cJ5_length.data.toList.drop 0 = dktJ5_length_0 := by decide +kernel
theorem dJ5_length_0 : decode cJ5_length 0 = .ok (.aload_n 0, 1) := dk_42 (dk_at dksJ5_length_0 0 rfl rfl)
theorem dJ5_length_1 : decode cJ5_length 1 = .ok (.arraylength, 1) := dk_190 (dk_at dksJ5_length_0 1 rfl rfl)
theorem dJ5_length_2 : decode cJ5_length 2 = .ok (.iconst 1, 1) := dk_4 (dk_at dksJ5_length_0 2 rfl rfl)
theorem dJ5_length_3 : decode cJ5_length 3 = .ok (.ishr, 1) := dk_122 (dk_at dksJ5_length_0 3 rfl rfl)
theorem dJ5_length_4 : decode cJ5_length 4 = .ok (.ireturn, 1) := dk_172 (dk_at dksJ5_length_0 4 rfl rfl)
abbrev cJ5_putChar : ByteArray := prog_37_method_4_code
def yJ5_putChar : MethodName := ⟨RJ5, "putChar", "([BII)V"⟩
def dkwJ5_putChar_2 : List UInt8 := [178, 0, 63, 122, 145, 84, 177]
abbrev dktJ5_putChar_2 : List UInt8 := dkwJ5_putChar_2 ++ []
def dkwJ5_putChar_1 : List UInt8 := [183, 0, 56, 191, 27, 4, 120, 60, 42, 27, 132, 1, 1, 28, 178, 0, 59, 122, 145, 84, 42, 27, 28]
abbrev dktJ5_putChar_1 : List UInt8 := dkwJ5_putChar_1 ++ dktJ5_putChar_2
def dkwJ5_putChar_0 : List UInt8 := [178, 0, 44, 154, 0, 25, 27, 155, 0, 11, 27, 42, 184, 0, 48, 161, 0, 13, 187, 0, 52, 89, 18, 54]
abbrev dktJ5_putChar_0 : List UInt8 := dkwJ5_putChar_0 ++ dktJ5_putChar_1
theorem dksJ5_putChar_0 : cJ5_putChar.data.toList.drop 0 = dktJ5_putChar_0 := by decide +kernel
theorem dksJ5_putChar_1 : cJ5_putChar.data.toList.drop 24 = dktJ5_putChar_1 := dk_seg dksJ5_putChar_0 24 rfl rfl
theorem dksJ5_putChar_2 : cJ5_putChar.data.toList.drop 47 = dktJ5_putChar_2 := dk_seg dksJ5_putChar_1 23 rfl rfl
theorem dJ5_putChar_0 : decode cJ5_putChar 0 = .ok (.getstatic 44, 3) := dk_178 0 44 (dk_at dksJ5_putChar_0 0 rfl rfl)
theorem dJ5_putChar_3 : decode cJ5_putChar 3 = .ok (.ifCond .ne 25, 3) := dk_154 0 25 (dk_at dksJ5_putChar_0 3 rfl rfl)
theorem dJ5_putChar_6 : decode cJ5_putChar 6 = .ok (.iload_n 1, 1) := dk_27 (dk_at dksJ5_putChar_0 6 rfl rfl)
theorem dJ5_putChar_7 : decode cJ5_putChar 7 = .ok (.ifCond .lt 11, 3) := dk_155 0 11 (dk_at dksJ5_putChar_0 7 rfl rfl)
theorem dJ5_putChar_10 : decode cJ5_putChar 10 = .ok (.iload_n 1, 1) := dk_27 (dk_at dksJ5_putChar_0 10 rfl rfl)
theorem dJ5_putChar_11 : decode cJ5_putChar 11 = .ok (.aload_n 0, 1) := dk_42 (dk_at dksJ5_putChar_0 11 rfl rfl)
theorem dJ5_putChar_12 : decode cJ5_putChar 12 = .ok (.invokestatic 48, 3) := dk_184 0 48 (dk_at dksJ5_putChar_0 12 rfl rfl)
theorem dJ5_putChar_15 : decode cJ5_putChar 15 = .ok (.if_icmp .lt 13, 3) := dk_161 0 13 (dk_at dksJ5_putChar_0 15 rfl rfl)
theorem dJ5_putChar_18 : decode cJ5_putChar 18 = .ok (.new 52, 3) := dk_187 0 52 (dk_at dksJ5_putChar_0 18 rfl rfl)
theorem dJ5_putChar_21 : decode cJ5_putChar 21 = .ok (.dup, 1) := dk_89 (dk_at dksJ5_putChar_0 21 rfl rfl)
theorem dJ5_putChar_22 : decode cJ5_putChar 22 = .ok (.ldc 54, 2) := dk_18 54 (dk_at dksJ5_putChar_0 22 rfl rfl)
theorem dJ5_putChar_24 : decode cJ5_putChar 24 = .ok (.invokespecial 56, 3) := dk_183 0 56 (dk_at dksJ5_putChar_1 0 rfl rfl)
theorem dJ5_putChar_27 : decode cJ5_putChar 27 = .ok (.athrow, 1) := dk_191 (dk_at dksJ5_putChar_1 3 rfl rfl)
theorem dJ5_putChar_28 : decode cJ5_putChar 28 = .ok (.iload_n 1, 1) := dk_27 (dk_at dksJ5_putChar_1 4 rfl rfl)
theorem dJ5_putChar_29 : decode cJ5_putChar 29 = .ok (.iconst 1, 1) := dk_4 (dk_at dksJ5_putChar_1 5 rfl rfl)
theorem dJ5_putChar_30 : decode cJ5_putChar 30 = .ok (.ishl, 1) := dk_120 (dk_at dksJ5_putChar_1 6 rfl rfl)
theorem dJ5_putChar_31 : decode cJ5_putChar 31 = .ok (.istore_n 1, 1) := dk_60 (dk_at dksJ5_putChar_1 7 rfl rfl)
theorem dJ5_putChar_32 : decode cJ5_putChar 32 = .ok (.aload_n 0, 1) := dk_42 (dk_at dksJ5_putChar_1 8 rfl rfl)
theorem dJ5_putChar_33 : decode cJ5_putChar 33 = .ok (.iload_n 1, 1) := dk_27 (dk_at dksJ5_putChar_1 9 rfl rfl)
theorem dJ5_putChar_34 : decode cJ5_putChar 34 = .ok (.iinc 1 1, 3) := dk_132 1 1 (dk_at dksJ5_putChar_1 10 rfl rfl)
theorem dJ5_putChar_37 : decode cJ5_putChar 37 = .ok (.iload_n 2, 1) := dk_28 (dk_at dksJ5_putChar_1 13 rfl rfl)
theorem dJ5_putChar_38 : decode cJ5_putChar 38 = .ok (.getstatic 59, 3) := dk_178 0 59 (dk_at dksJ5_putChar_1 14 rfl rfl)
theorem dJ5_putChar_41 : decode cJ5_putChar 41 = .ok (.ishr, 1) := dk_122 (dk_at dksJ5_putChar_1 17 rfl rfl)
theorem dJ5_putChar_42 : decode cJ5_putChar 42 = .ok (.i2b, 1) := dk_145 (dk_at dksJ5_putChar_1 18 rfl rfl)
theorem dJ5_putChar_43 : decode cJ5_putChar 43 = .ok (.bastore, 1) := dk_84 (dk_at dksJ5_putChar_1 19 rfl rfl)
theorem dJ5_putChar_44 : decode cJ5_putChar 44 = .ok (.aload_n 0, 1) := dk_42 (dk_at dksJ5_putChar_1 20 rfl rfl)
theorem dJ5_putChar_45 : decode cJ5_putChar 45 = .ok (.iload_n 1, 1) := dk_27 (dk_at dksJ5_putChar_1 21 rfl rfl)
theorem dJ5_putChar_46 : decode cJ5_putChar 46 = .ok (.iload_n 2, 1) := dk_28 (dk_at dksJ5_putChar_1 22 rfl rfl)
theorem dJ5_putChar_47 : decode cJ5_putChar 47 = .ok (.getstatic 63, 3) := dk_178 0 63 (dk_at dksJ5_putChar_2 0 rfl rfl)
theorem dJ5_putChar_50 : decode cJ5_putChar 50 = .ok (.ishr, 1) := dk_122 (dk_at dksJ5_putChar_2 3 rfl rfl)
theorem dJ5_putChar_51 : decode cJ5_putChar 51 = .ok (.i2b, 1) := dk_145 (dk_at dksJ5_putChar_2 4 rfl rfl)
theorem dJ5_putChar_52 : decode cJ5_putChar 52 = .ok (.bastore, 1) := dk_84 (dk_at dksJ5_putChar_2 5 rfl rfl)
theorem dJ5_putChar_53 : decode cJ5_putChar 53 = .ok (.return_, 1) := dk_177 (dk_at dksJ5_putChar_2 6 rfl rfl)
abbrev cJ5_putCharSB : ByteArray := prog_37_method_71_code
def yJ5_putCharSB : MethodName := ⟨RJ5, "putCharSB", "([BII)V"⟩
def dkwJ5_putCharSB_0 : List UInt8 := [27, 42, 184, 0, 67, 42, 27, 28, 184, 0, 111, 177]
abbrev dktJ5_putCharSB_0 : List UInt8 := dkwJ5_putCharSB_0 ++ []
theorem dksJ5_putCharSB_0 : cJ5_putCharSB.data.toList.drop 0 = dktJ5_putCharSB_0 := by decide +kernel
theorem dJ5_putCharSB_0 : decode cJ5_putCharSB 0 = .ok (.iload_n 1, 1) := dk_27 (dk_at dksJ5_putCharSB_0 0 rfl rfl)
theorem dJ5_putCharSB_1 : decode cJ5_putCharSB 1 = .ok (.aload_n 0, 1) := dk_42 (dk_at dksJ5_putCharSB_0 1 rfl rfl)
theorem dJ5_putCharSB_2 : decode cJ5_putCharSB 2 = .ok (.invokestatic 67, 3) := dk_184 0 67 (dk_at dksJ5_putCharSB_0 2 rfl rfl)
theorem dJ5_putCharSB_5 : decode cJ5_putCharSB 5 = .ok (.aload_n 0, 1) := dk_42 (dk_at dksJ5_putCharSB_0 5 rfl rfl)
theorem dJ5_putCharSB_6 : decode cJ5_putCharSB 6 = .ok (.iload_n 1, 1) := dk_27 (dk_at dksJ5_putCharSB_0 6 rfl rfl)
theorem dJ5_putCharSB_7 : decode cJ5_putCharSB 7 = .ok (.iload_n 2, 1) := dk_28 (dk_at dksJ5_putCharSB_0 7 rfl rfl)
theorem dJ5_putCharSB_8 : decode cJ5_putCharSB 8 = .ok (.invokestatic 111, 3) := dk_184 0 111 (dk_at dksJ5_putCharSB_0 8 rfl rfl)
theorem dJ5_putCharSB_11 : decode cJ5_putCharSB 11 = .ok (.return_, 1) := dk_177 (dk_at dksJ5_putCharSB_0 11 rfl rfl)
abbrev cJ5_checkIndex : ByteArray := prog_37_method_91_code
def yJ5_checkIndex : MethodName := ⟨RJ5, "checkIndex", "(I[B)V"⟩
def dkwJ5_checkIndex_0 : List UInt8 := [26, 43, 184, 0, 48, 184, 1, 158, 177]
abbrev dktJ5_checkIndex_0 : List UInt8 := dkwJ5_checkIndex_0 ++ []
theorem dksJ5_checkIndex_0 : cJ5_checkIndex.data.toList.drop 0 = dktJ5_checkIndex_0 := by decide +kernel
theorem dJ5_checkIndex_0 : decode cJ5_checkIndex 0 = .ok (.iload_n 0, 1) := dk_26 (dk_at dksJ5_checkIndex_0 0 rfl rfl)
theorem dJ5_checkIndex_1 : decode cJ5_checkIndex 1 = .ok (.aload_n 1, 1) := dk_43 (dk_at dksJ5_checkIndex_0 1 rfl rfl)
theorem dJ5_checkIndex_2 : decode cJ5_checkIndex 2 = .ok (.invokestatic 48, 3) := dk_184 0 48 (dk_at dksJ5_checkIndex_0 2 rfl rfl)
theorem dJ5_checkIndex_5 : decode cJ5_checkIndex 5 = .ok (.invokestatic 414, 3) := dk_184 1 158 (dk_at dksJ5_checkIndex_0 5 rfl rfl)
theorem dJ5_checkIndex_8 : decode cJ5_checkIndex 8 = .ok (.return_, 1) := dk_177 (dk_at dksJ5_checkIndex_0 8 rfl rfl)
abbrev cJ5_getChar : ByteArray := prog_37_method_5_code
def yJ5_getChar : MethodName := ⟨RJ5, "getChar", "([BI)C"⟩
def dkwJ5_getChar_2 : List UInt8 := [51, 17, 0, 255, 126, 178, 0, 63, 120, 128, 146, 172]
abbrev dktJ5_getChar_2 : List UInt8 := dkwJ5_getChar_2 ++ []
def dkwJ5_getChar_1 : List UInt8 := [183, 0, 56, 191, 27, 4, 120, 60, 42, 27, 132, 1, 1, 51, 17, 0, 255, 126, 178, 0, 59, 120, 42, 27]
abbrev dktJ5_getChar_1 : List UInt8 := dkwJ5_getChar_1 ++ dktJ5_getChar_2
def dkwJ5_getChar_0 : List UInt8 := [178, 0, 44, 154, 0, 25, 27, 155, 0, 11, 27, 42, 184, 0, 48, 161, 0, 13, 187, 0, 52, 89, 18, 54]
abbrev dktJ5_getChar_0 : List UInt8 := dkwJ5_getChar_0 ++ dktJ5_getChar_1
theorem dksJ5_getChar_0 : cJ5_getChar.data.toList.drop 0 = dktJ5_getChar_0 := by decide +kernel
theorem dksJ5_getChar_1 : cJ5_getChar.data.toList.drop 24 = dktJ5_getChar_1 := dk_seg dksJ5_getChar_0 24 rfl rfl
theorem dksJ5_getChar_2 : cJ5_getChar.data.toList.drop 48 = dktJ5_getChar_2 := dk_seg dksJ5_getChar_1 24 rfl rfl
theorem dJ5_getChar_0 : decode cJ5_getChar 0 = .ok (.getstatic 44, 3) := dk_178 0 44 (dk_at dksJ5_getChar_0 0 rfl rfl)
theorem dJ5_getChar_3 : decode cJ5_getChar 3 = .ok (.ifCond .ne 25, 3) := dk_154 0 25 (dk_at dksJ5_getChar_0 3 rfl rfl)
theorem dJ5_getChar_6 : decode cJ5_getChar 6 = .ok (.iload_n 1, 1) := dk_27 (dk_at dksJ5_getChar_0 6 rfl rfl)
theorem dJ5_getChar_7 : decode cJ5_getChar 7 = .ok (.ifCond .lt 11, 3) := dk_155 0 11 (dk_at dksJ5_getChar_0 7 rfl rfl)
theorem dJ5_getChar_10 : decode cJ5_getChar 10 = .ok (.iload_n 1, 1) := dk_27 (dk_at dksJ5_getChar_0 10 rfl rfl)
theorem dJ5_getChar_11 : decode cJ5_getChar 11 = .ok (.aload_n 0, 1) := dk_42 (dk_at dksJ5_getChar_0 11 rfl rfl)
theorem dJ5_getChar_12 : decode cJ5_getChar 12 = .ok (.invokestatic 48, 3) := dk_184 0 48 (dk_at dksJ5_getChar_0 12 rfl rfl)
theorem dJ5_getChar_15 : decode cJ5_getChar 15 = .ok (.if_icmp .lt 13, 3) := dk_161 0 13 (dk_at dksJ5_getChar_0 15 rfl rfl)
theorem dJ5_getChar_18 : decode cJ5_getChar 18 = .ok (.new 52, 3) := dk_187 0 52 (dk_at dksJ5_getChar_0 18 rfl rfl)
theorem dJ5_getChar_21 : decode cJ5_getChar 21 = .ok (.dup, 1) := dk_89 (dk_at dksJ5_getChar_0 21 rfl rfl)
theorem dJ5_getChar_22 : decode cJ5_getChar 22 = .ok (.ldc 54, 2) := dk_18 54 (dk_at dksJ5_getChar_0 22 rfl rfl)
theorem dJ5_getChar_24 : decode cJ5_getChar 24 = .ok (.invokespecial 56, 3) := dk_183 0 56 (dk_at dksJ5_getChar_1 0 rfl rfl)
theorem dJ5_getChar_27 : decode cJ5_getChar 27 = .ok (.athrow, 1) := dk_191 (dk_at dksJ5_getChar_1 3 rfl rfl)
theorem dJ5_getChar_28 : decode cJ5_getChar 28 = .ok (.iload_n 1, 1) := dk_27 (dk_at dksJ5_getChar_1 4 rfl rfl)
theorem dJ5_getChar_29 : decode cJ5_getChar 29 = .ok (.iconst 1, 1) := dk_4 (dk_at dksJ5_getChar_1 5 rfl rfl)
theorem dJ5_getChar_30 : decode cJ5_getChar 30 = .ok (.ishl, 1) := dk_120 (dk_at dksJ5_getChar_1 6 rfl rfl)
theorem dJ5_getChar_31 : decode cJ5_getChar 31 = .ok (.istore_n 1, 1) := dk_60 (dk_at dksJ5_getChar_1 7 rfl rfl)
theorem dJ5_getChar_32 : decode cJ5_getChar 32 = .ok (.aload_n 0, 1) := dk_42 (dk_at dksJ5_getChar_1 8 rfl rfl)
theorem dJ5_getChar_33 : decode cJ5_getChar 33 = .ok (.iload_n 1, 1) := dk_27 (dk_at dksJ5_getChar_1 9 rfl rfl)
theorem dJ5_getChar_34 : decode cJ5_getChar 34 = .ok (.iinc 1 1, 3) := dk_132 1 1 (dk_at dksJ5_getChar_1 10 rfl rfl)
theorem dJ5_getChar_37 : decode cJ5_getChar 37 = .ok (.baload, 1) := dk_51 (dk_at dksJ5_getChar_1 13 rfl rfl)
theorem dJ5_getChar_38 : decode cJ5_getChar 38 = .ok (.sipush 255, 3) := dk_17 0 255 (dk_at dksJ5_getChar_1 14 rfl rfl)
theorem dJ5_getChar_41 : decode cJ5_getChar 41 = .ok (.iand, 1) := dk_126 (dk_at dksJ5_getChar_1 17 rfl rfl)
theorem dJ5_getChar_42 : decode cJ5_getChar 42 = .ok (.getstatic 59, 3) := dk_178 0 59 (dk_at dksJ5_getChar_1 18 rfl rfl)
theorem dJ5_getChar_45 : decode cJ5_getChar 45 = .ok (.ishl, 1) := dk_120 (dk_at dksJ5_getChar_1 21 rfl rfl)
theorem dJ5_getChar_46 : decode cJ5_getChar 46 = .ok (.aload_n 0, 1) := dk_42 (dk_at dksJ5_getChar_1 22 rfl rfl)
theorem dJ5_getChar_47 : decode cJ5_getChar 47 = .ok (.iload_n 1, 1) := dk_27 (dk_at dksJ5_getChar_1 23 rfl rfl)
theorem dJ5_getChar_48 : decode cJ5_getChar 48 = .ok (.baload, 1) := dk_51 (dk_at dksJ5_getChar_2 0 rfl rfl)
theorem dJ5_getChar_49 : decode cJ5_getChar 49 = .ok (.sipush 255, 3) := dk_17 0 255 (dk_at dksJ5_getChar_2 1 rfl rfl)
theorem dJ5_getChar_52 : decode cJ5_getChar 52 = .ok (.iand, 1) := dk_126 (dk_at dksJ5_getChar_2 4 rfl rfl)
theorem dJ5_getChar_53 : decode cJ5_getChar 53 = .ok (.getstatic 63, 3) := dk_178 0 63 (dk_at dksJ5_getChar_2 5 rfl rfl)
theorem dJ5_getChar_56 : decode cJ5_getChar 56 = .ok (.ishl, 1) := dk_120 (dk_at dksJ5_getChar_2 8 rfl rfl)
theorem dJ5_getChar_57 : decode cJ5_getChar 57 = .ok (.ior, 1) := dk_128 (dk_at dksJ5_getChar_2 9 rfl rfl)
theorem dJ5_getChar_58 : decode cJ5_getChar 58 = .ok (.i2c, 1) := dk_146 (dk_at dksJ5_getChar_2 10 rfl rfl)
theorem dJ5_getChar_59 : decode cJ5_getChar 59 = .ok (.ireturn, 1) := dk_172 (dk_at dksJ5_getChar_2 11 rfl rfl)
abbrev cJ5_putCharsAt : ByteArray := prog_37_method_81_code
def yJ5_putCharsAt : MethodName := ⟨RJ5, "putCharsAt", "([BICCCC)I"⟩
def dkwJ5_putCharsAt_3 : List UInt8 := [21, 6, 172]
abbrev dktJ5_putCharsAt_3 : List UInt8 := dkwJ5_putCharsAt_3 ++ []
def dkwJ5_putCharsAt_2 : List UInt8 := [184, 0, 111, 178, 0, 44, 154, 0, 17, 27, 21, 6, 159, 0, 11, 187, 0, 52, 89, 183, 0, 66, 191]
abbrev dktJ5_putCharsAt_2 : List UInt8 := dkwJ5_putCharsAt_2 ++ dktJ5_putCharsAt_3
def dkwJ5_putCharsAt_1 : List UInt8 := [132, 1, 1, 29, 184, 0, 111, 42, 27, 132, 1, 1, 21, 4, 184, 0, 111, 42, 27, 132, 1, 1, 21, 5]
abbrev dktJ5_putCharsAt_1 : List UInt8 := dkwJ5_putCharsAt_1 ++ dktJ5_putCharsAt_2
def dkwJ5_putCharsAt_0 : List UInt8 := [27, 7, 96, 54, 6, 27, 21, 6, 42, 184, 0, 96, 42, 27, 132, 1, 1, 28, 184, 0, 111, 42, 27]
abbrev dktJ5_putCharsAt_0 : List UInt8 := dkwJ5_putCharsAt_0 ++ dktJ5_putCharsAt_1
theorem dksJ5_putCharsAt_0 : cJ5_putCharsAt.data.toList.drop 0 = dktJ5_putCharsAt_0 := by decide +kernel
theorem dksJ5_putCharsAt_1 : cJ5_putCharsAt.data.toList.drop 23 = dktJ5_putCharsAt_1 := dk_seg dksJ5_putCharsAt_0 23 rfl rfl
theorem dksJ5_putCharsAt_2 : cJ5_putCharsAt.data.toList.drop 47 = dktJ5_putCharsAt_2 := dk_seg dksJ5_putCharsAt_1 24 rfl rfl
theorem dksJ5_putCharsAt_3 : cJ5_putCharsAt.data.toList.drop 70 = dktJ5_putCharsAt_3 := dk_seg dksJ5_putCharsAt_2 23 rfl rfl
theorem dJ5_putCharsAt_0 : decode cJ5_putCharsAt 0 = .ok (.iload_n 1, 1) := dk_27 (dk_at dksJ5_putCharsAt_0 0 rfl rfl)
theorem dJ5_putCharsAt_1 : decode cJ5_putCharsAt 1 = .ok (.iconst 4, 1) := dk_7 (dk_at dksJ5_putCharsAt_0 1 rfl rfl)
theorem dJ5_putCharsAt_2 : decode cJ5_putCharsAt 2 = .ok (.iadd, 1) := dk_96 (dk_at dksJ5_putCharsAt_0 2 rfl rfl)
theorem dJ5_putCharsAt_3 : decode cJ5_putCharsAt 3 = .ok (.istore 6, 2) := dk_54 6 (dk_at dksJ5_putCharsAt_0 3 rfl rfl)
theorem dJ5_putCharsAt_5 : decode cJ5_putCharsAt 5 = .ok (.iload_n 1, 1) := dk_27 (dk_at dksJ5_putCharsAt_0 5 rfl rfl)
theorem dJ5_putCharsAt_6 : decode cJ5_putCharsAt 6 = .ok (.iload 6, 2) := dk_21 6 (dk_at dksJ5_putCharsAt_0 6 rfl rfl)
theorem dJ5_putCharsAt_8 : decode cJ5_putCharsAt 8 = .ok (.aload_n 0, 1) := dk_42 (dk_at dksJ5_putCharsAt_0 8 rfl rfl)
theorem dJ5_putCharsAt_9 : decode cJ5_putCharsAt 9 = .ok (.invokestatic 96, 3) := dk_184 0 96 (dk_at dksJ5_putCharsAt_0 9 rfl rfl)
theorem dJ5_putCharsAt_12 : decode cJ5_putCharsAt 12 = .ok (.aload_n 0, 1) := dk_42 (dk_at dksJ5_putCharsAt_0 12 rfl rfl)
theorem dJ5_putCharsAt_13 : decode cJ5_putCharsAt 13 = .ok (.iload_n 1, 1) := dk_27 (dk_at dksJ5_putCharsAt_0 13 rfl rfl)
theorem dJ5_putCharsAt_14 : decode cJ5_putCharsAt 14 = .ok (.iinc 1 1, 3) := dk_132 1 1 (dk_at dksJ5_putCharsAt_0 14 rfl rfl)
theorem dJ5_putCharsAt_17 : decode cJ5_putCharsAt 17 = .ok (.iload_n 2, 1) := dk_28 (dk_at dksJ5_putCharsAt_0 17 rfl rfl)
theorem dJ5_putCharsAt_18 : decode cJ5_putCharsAt 18 = .ok (.invokestatic 111, 3) := dk_184 0 111 (dk_at dksJ5_putCharsAt_0 18 rfl rfl)
theorem dJ5_putCharsAt_21 : decode cJ5_putCharsAt 21 = .ok (.aload_n 0, 1) := dk_42 (dk_at dksJ5_putCharsAt_0 21 rfl rfl)
theorem dJ5_putCharsAt_22 : decode cJ5_putCharsAt 22 = .ok (.iload_n 1, 1) := dk_27 (dk_at dksJ5_putCharsAt_0 22 rfl rfl)
theorem dJ5_putCharsAt_23 : decode cJ5_putCharsAt 23 = .ok (.iinc 1 1, 3) := dk_132 1 1 (dk_at dksJ5_putCharsAt_1 0 rfl rfl)
theorem dJ5_putCharsAt_26 : decode cJ5_putCharsAt 26 = .ok (.iload_n 3, 1) := dk_29 (dk_at dksJ5_putCharsAt_1 3 rfl rfl)
theorem dJ5_putCharsAt_27 : decode cJ5_putCharsAt 27 = .ok (.invokestatic 111, 3) := dk_184 0 111 (dk_at dksJ5_putCharsAt_1 4 rfl rfl)
theorem dJ5_putCharsAt_30 : decode cJ5_putCharsAt 30 = .ok (.aload_n 0, 1) := dk_42 (dk_at dksJ5_putCharsAt_1 7 rfl rfl)
theorem dJ5_putCharsAt_31 : decode cJ5_putCharsAt 31 = .ok (.iload_n 1, 1) := dk_27 (dk_at dksJ5_putCharsAt_1 8 rfl rfl)
theorem dJ5_putCharsAt_32 : decode cJ5_putCharsAt 32 = .ok (.iinc 1 1, 3) := dk_132 1 1 (dk_at dksJ5_putCharsAt_1 9 rfl rfl)
theorem dJ5_putCharsAt_35 : decode cJ5_putCharsAt 35 = .ok (.iload 4, 2) := dk_21 4 (dk_at dksJ5_putCharsAt_1 12 rfl rfl)
theorem dJ5_putCharsAt_37 : decode cJ5_putCharsAt 37 = .ok (.invokestatic 111, 3) := dk_184 0 111 (dk_at dksJ5_putCharsAt_1 14 rfl rfl)
theorem dJ5_putCharsAt_40 : decode cJ5_putCharsAt 40 = .ok (.aload_n 0, 1) := dk_42 (dk_at dksJ5_putCharsAt_1 17 rfl rfl)
theorem dJ5_putCharsAt_41 : decode cJ5_putCharsAt 41 = .ok (.iload_n 1, 1) := dk_27 (dk_at dksJ5_putCharsAt_1 18 rfl rfl)
theorem dJ5_putCharsAt_42 : decode cJ5_putCharsAt 42 = .ok (.iinc 1 1, 3) := dk_132 1 1 (dk_at dksJ5_putCharsAt_1 19 rfl rfl)
theorem dJ5_putCharsAt_45 : decode cJ5_putCharsAt 45 = .ok (.iload 5, 2) := dk_21 5 (dk_at dksJ5_putCharsAt_1 22 rfl rfl)
theorem dJ5_putCharsAt_47 : decode cJ5_putCharsAt 47 = .ok (.invokestatic 111, 3) := dk_184 0 111 (dk_at dksJ5_putCharsAt_2 0 rfl rfl)
theorem dJ5_putCharsAt_50 : decode cJ5_putCharsAt 50 = .ok (.getstatic 44, 3) := dk_178 0 44 (dk_at dksJ5_putCharsAt_2 3 rfl rfl)
theorem dJ5_putCharsAt_53 : decode cJ5_putCharsAt 53 = .ok (.ifCond .ne 17, 3) := dk_154 0 17 (dk_at dksJ5_putCharsAt_2 6 rfl rfl)
theorem dJ5_putCharsAt_56 : decode cJ5_putCharsAt 56 = .ok (.iload_n 1, 1) := dk_27 (dk_at dksJ5_putCharsAt_2 9 rfl rfl)
theorem dJ5_putCharsAt_57 : decode cJ5_putCharsAt 57 = .ok (.iload 6, 2) := dk_21 6 (dk_at dksJ5_putCharsAt_2 10 rfl rfl)
theorem dJ5_putCharsAt_59 : decode cJ5_putCharsAt 59 = .ok (.if_icmp .eq 11, 3) := dk_159 0 11 (dk_at dksJ5_putCharsAt_2 12 rfl rfl)
theorem dJ5_putCharsAt_62 : decode cJ5_putCharsAt 62 = .ok (.new 52, 3) := dk_187 0 52 (dk_at dksJ5_putCharsAt_2 15 rfl rfl)
theorem dJ5_putCharsAt_65 : decode cJ5_putCharsAt 65 = .ok (.dup, 1) := dk_89 (dk_at dksJ5_putCharsAt_2 18 rfl rfl)
theorem dJ5_putCharsAt_66 : decode cJ5_putCharsAt 66 = .ok (.invokespecial 66, 3) := dk_183 0 66 (dk_at dksJ5_putCharsAt_2 19 rfl rfl)
theorem dJ5_putCharsAt_69 : decode cJ5_putCharsAt 69 = .ok (.athrow, 1) := dk_191 (dk_at dksJ5_putCharsAt_2 22 rfl rfl)
theorem dJ5_putCharsAt_70 : decode cJ5_putCharsAt 70 = .ok (.iload 6, 2) := dk_21 6 (dk_at dksJ5_putCharsAt_3 0 rfl rfl)
theorem dJ5_putCharsAt_72 : decode cJ5_putCharsAt 72 = .ok (.ireturn, 1) := dk_172 (dk_at dksJ5_putCharsAt_3 2 rfl rfl)
abbrev cJ5_checkBoundsBeginEnd : ByteArray := prog_37_method_93_code
def yJ5_checkBoundsBeginEnd : MethodName := ⟨RJ5, "checkBoundsBeginEnd", "(II[B)V"⟩
def dkwJ5_checkBoundsBeginEnd_0 : List UInt8 := [26, 27, 44, 184, 0, 48, 184, 0, 241, 177]
abbrev dktJ5_checkBoundsBeginEnd_0 : List UInt8 := dkwJ5_checkBoundsBeginEnd_0 ++ []
theorem dksJ5_checkBoundsBeginEnd_0 : cJ5_checkBoundsBeginEnd.data.toList.drop 0 = dktJ5_checkBoundsBeginEnd_0 := by decide +kernel
theorem dJ5_checkBoundsBeginEnd_0 : decode cJ5_checkBoundsBeginEnd 0 = .ok (.iload_n 0, 1) := dk_26 (dk_at dksJ5_checkBoundsBeginEnd_0 0 rfl rfl)
theorem dJ5_checkBoundsBeginEnd_1 : decode cJ5_checkBoundsBeginEnd 1 = .ok (.iload_n 1, 1) := dk_27 (dk_at dksJ5_checkBoundsBeginEnd_0 1 rfl rfl)
theorem dJ5_checkBoundsBeginEnd_2 : decode cJ5_checkBoundsBeginEnd 2 = .ok (.aload_n 2, 1) := dk_44 (dk_at dksJ5_checkBoundsBeginEnd_0 2 rfl rfl)
theorem dJ5_checkBoundsBeginEnd_3 : decode cJ5_checkBoundsBeginEnd 3 = .ok (.invokestatic 48, 3) := dk_184 0 48 (dk_at dksJ5_checkBoundsBeginEnd_0 3 rfl rfl)
theorem dJ5_checkBoundsBeginEnd_6 : decode cJ5_checkBoundsBeginEnd 6 = .ok (.invokestatic 241, 3) := dk_184 0 241 (dk_at dksJ5_checkBoundsBeginEnd_0 6 rfl rfl)
theorem dJ5_checkBoundsBeginEnd_9 : decode cJ5_checkBoundsBeginEnd 9 = .ok (.return_, 1) := dk_177 (dk_at dksJ5_checkBoundsBeginEnd_0 9 rfl rfl)
abbrev cJ5_getChars : ByteArray := prog_37_method_77_code
def yJ5_getChars : MethodName := ⟨RJ5, "getChars", "(III[B)I"⟩
def dkwJ5_getChars_1 : List UInt8 := [159, 0, 11, 187, 0, 52, 89, 183, 0, 66, 191, 21, 4, 172]
abbrev dktJ5_getChars_1 : List UInt8 := dkwJ5_getChars_1 ++ []
def dkwJ5_getChars_0 : List UInt8 := [27, 28, 45, 184, 0, 96, 26, 28, 45, 184, 1, 137, 54, 4, 178, 0, 44, 154, 0, 17, 27, 21, 4]
abbrev dktJ5_getChars_0 : List UInt8 := dkwJ5_getChars_0 ++ dktJ5_getChars_1
theorem dksJ5_getChars_0 : cJ5_getChars.data.toList.drop 0 = dktJ5_getChars_0 := by decide +kernel
theorem dksJ5_getChars_1 : cJ5_getChars.data.toList.drop 23 = dktJ5_getChars_1 := dk_seg dksJ5_getChars_0 23 rfl rfl
theorem dJ5_getChars_0 : decode cJ5_getChars 0 = .ok (.iload_n 1, 1) := dk_27 (dk_at dksJ5_getChars_0 0 rfl rfl)
theorem dJ5_getChars_1 : decode cJ5_getChars 1 = .ok (.iload_n 2, 1) := dk_28 (dk_at dksJ5_getChars_0 1 rfl rfl)
theorem dJ5_getChars_2 : decode cJ5_getChars 2 = .ok (.aload_n 3, 1) := dk_45 (dk_at dksJ5_getChars_0 2 rfl rfl)
theorem dJ5_getChars_3 : decode cJ5_getChars 3 = .ok (.invokestatic 96, 3) := dk_184 0 96 (dk_at dksJ5_getChars_0 3 rfl rfl)
theorem dJ5_getChars_6 : decode cJ5_getChars 6 = .ok (.iload_n 0, 1) := dk_26 (dk_at dksJ5_getChars_0 6 rfl rfl)
theorem dJ5_getChars_7 : decode cJ5_getChars 7 = .ok (.iload_n 2, 1) := dk_28 (dk_at dksJ5_getChars_0 7 rfl rfl)
theorem dJ5_getChars_8 : decode cJ5_getChars 8 = .ok (.aload_n 3, 1) := dk_45 (dk_at dksJ5_getChars_0 8 rfl rfl)
theorem dJ5_getChars_9 : decode cJ5_getChars 9 = .ok (.invokestatic 393, 3) := dk_184 1 137 (dk_at dksJ5_getChars_0 9 rfl rfl)
theorem dJ5_getChars_12 : decode cJ5_getChars 12 = .ok (.istore 4, 2) := dk_54 4 (dk_at dksJ5_getChars_0 12 rfl rfl)
theorem dJ5_getChars_14 : decode cJ5_getChars 14 = .ok (.getstatic 44, 3) := dk_178 0 44 (dk_at dksJ5_getChars_0 14 rfl rfl)
theorem dJ5_getChars_17 : decode cJ5_getChars 17 = .ok (.ifCond .ne 17, 3) := dk_154 0 17 (dk_at dksJ5_getChars_0 17 rfl rfl)
theorem dJ5_getChars_20 : decode cJ5_getChars 20 = .ok (.iload_n 1, 1) := dk_27 (dk_at dksJ5_getChars_0 20 rfl rfl)
theorem dJ5_getChars_21 : decode cJ5_getChars 21 = .ok (.iload 4, 2) := dk_21 4 (dk_at dksJ5_getChars_0 21 rfl rfl)
theorem dJ5_getChars_23 : decode cJ5_getChars 23 = .ok (.if_icmp .eq 11, 3) := dk_159 0 11 (dk_at dksJ5_getChars_1 0 rfl rfl)
theorem dJ5_getChars_26 : decode cJ5_getChars 26 = .ok (.new 52, 3) := dk_187 0 52 (dk_at dksJ5_getChars_1 3 rfl rfl)
theorem dJ5_getChars_29 : decode cJ5_getChars 29 = .ok (.dup, 1) := dk_89 (dk_at dksJ5_getChars_1 6 rfl rfl)
theorem dJ5_getChars_30 : decode cJ5_getChars 30 = .ok (.invokespecial 66, 3) := dk_183 0 66 (dk_at dksJ5_getChars_1 7 rfl rfl)
theorem dJ5_getChars_33 : decode cJ5_getChars 33 = .ok (.athrow, 1) := dk_191 (dk_at dksJ5_getChars_1 10 rfl rfl)
theorem dJ5_getChars_34 : decode cJ5_getChars 34 = .ok (.iload 4, 2) := dk_21 4 (dk_at dksJ5_getChars_1 11 rfl rfl)
theorem dJ5_getChars_36 : decode cJ5_getChars 36 = .ok (.ireturn, 1) := dk_172 (dk_at dksJ5_getChars_1 13 rfl rfl)
abbrev cJ5_getChars_2 : ByteArray := prog_37_method_89_code
def yJ5_getChars_2 : MethodName := ⟨RJ5, "getChars", "(II[B)I"⟩
def dkwJ5_getChars_2_5 : List UInt8 := [132, 5, 255, 21, 5, 16, 45, 184, 0, 111, 21, 5, 172]
abbrev dktJ5_getChars_2_5 : List UInt8 := dkwJ5_getChars_2_5 ++ []
def dkwJ5_getChars_2_4 : List UInt8 := [162, 0, 18, 44, 132, 5, 255, 21, 5, 178, 1, 151, 26, 116, 51, 184, 0, 111, 21, 6, 153, 0, 14, 44]
abbrev dktJ5_getChars_2_4 : List UInt8 := dkwJ5_getChars_2_4 ++ dktJ5_getChars_2_5
def dkwJ5_getChars_2_3 : List UInt8 := [184, 0, 111, 167, 255, 205, 44, 132, 5, 255, 21, 5, 178, 1, 147, 26, 116, 51, 184, 0, 111, 26, 16, 247]
abbrev dktJ5_getChars_2_3 : List UInt8 := dkwJ5_getChars_2_3 ++ dktJ5_getChars_2_4
def dkwJ5_getChars_2_2 : List UInt8 := [21, 5, 178, 1, 147, 21, 4, 51, 184, 0, 111, 44, 132, 5, 255, 21, 5, 178, 1, 151, 21, 4, 51]
abbrev dktJ5_getChars_2_2 : List UInt8 := dkwJ5_getChars_2_2 ++ dktJ5_getChars_2_3
def dkwJ5_getChars_2_1 : List UInt8 := [16, 156, 163, 0, 51, 26, 16, 100, 108, 62, 29, 16, 100, 104, 26, 100, 54, 4, 29, 59, 44, 132, 5, 255]
abbrev dktJ5_getChars_2_1 : List UInt8 := dkwJ5_getChars_2_1 ++ dktJ5_getChars_2_2
def dkwJ5_getChars_2_0 : List UInt8 := [27, 54, 5, 26, 156, 0, 7, 4, 167, 0, 4, 3, 54, 6, 21, 6, 154, 0, 6, 26, 116, 59, 26]
abbrev dktJ5_getChars_2_0 : List UInt8 := dkwJ5_getChars_2_0 ++ dktJ5_getChars_2_1
theorem dksJ5_getChars_2_0 : cJ5_getChars_2.data.toList.drop 0 = dktJ5_getChars_2_0 := by decide +kernel
theorem dksJ5_getChars_2_1 : cJ5_getChars_2.data.toList.drop 23 = dktJ5_getChars_2_1 := dk_seg dksJ5_getChars_2_0 23 rfl rfl
theorem dksJ5_getChars_2_2 : cJ5_getChars_2.data.toList.drop 47 = dktJ5_getChars_2_2 := dk_seg dksJ5_getChars_2_1 24 rfl rfl
theorem dksJ5_getChars_2_3 : cJ5_getChars_2.data.toList.drop 70 = dktJ5_getChars_2_3 := dk_seg dksJ5_getChars_2_2 23 rfl rfl
theorem dksJ5_getChars_2_4 : cJ5_getChars_2.data.toList.drop 94 = dktJ5_getChars_2_4 := dk_seg dksJ5_getChars_2_3 24 rfl rfl
theorem dksJ5_getChars_2_5 : cJ5_getChars_2.data.toList.drop 118 = dktJ5_getChars_2_5 := dk_seg dksJ5_getChars_2_4 24 rfl rfl
theorem dJ5_getChars_2_0 : decode cJ5_getChars_2 0 = .ok (.iload_n 1, 1) := dk_27 (dk_at dksJ5_getChars_2_0 0 rfl rfl)
theorem dJ5_getChars_2_1 : decode cJ5_getChars_2 1 = .ok (.istore 5, 2) := dk_54 5 (dk_at dksJ5_getChars_2_0 1 rfl rfl)
theorem dJ5_getChars_2_3 : decode cJ5_getChars_2 3 = .ok (.iload_n 0, 1) := dk_26 (dk_at dksJ5_getChars_2_0 3 rfl rfl)
theorem dJ5_getChars_2_4 : decode cJ5_getChars_2 4 = .ok (.ifCond .ge 7, 3) := dk_156 0 7 (dk_at dksJ5_getChars_2_0 4 rfl rfl)
theorem dJ5_getChars_2_7 : decode cJ5_getChars_2 7 = .ok (.iconst 1, 1) := dk_4 (dk_at dksJ5_getChars_2_0 7 rfl rfl)
theorem dJ5_getChars_2_8 : decode cJ5_getChars_2 8 = .ok (.goto 4, 3) := dk_167 0 4 (dk_at dksJ5_getChars_2_0 8 rfl rfl)
theorem dJ5_getChars_2_11 : decode cJ5_getChars_2 11 = .ok (.iconst 0, 1) := dk_3 (dk_at dksJ5_getChars_2_0 11 rfl rfl)
theorem dJ5_getChars_2_12 : decode cJ5_getChars_2 12 = .ok (.istore 6, 2) := dk_54 6 (dk_at dksJ5_getChars_2_0 12 rfl rfl)
theorem dJ5_getChars_2_14 : decode cJ5_getChars_2 14 = .ok (.iload 6, 2) := dk_21 6 (dk_at dksJ5_getChars_2_0 14 rfl rfl)
theorem dJ5_getChars_2_16 : decode cJ5_getChars_2 16 = .ok (.ifCond .ne 6, 3) := dk_154 0 6 (dk_at dksJ5_getChars_2_0 16 rfl rfl)
theorem dJ5_getChars_2_19 : decode cJ5_getChars_2 19 = .ok (.iload_n 0, 1) := dk_26 (dk_at dksJ5_getChars_2_0 19 rfl rfl)
theorem dJ5_getChars_2_20 : decode cJ5_getChars_2 20 = .ok (.ineg, 1) := dk_116 (dk_at dksJ5_getChars_2_0 20 rfl rfl)
theorem dJ5_getChars_2_21 : decode cJ5_getChars_2 21 = .ok (.istore_n 0, 1) := dk_59 (dk_at dksJ5_getChars_2_0 21 rfl rfl)
theorem dJ5_getChars_2_22 : decode cJ5_getChars_2 22 = .ok (.iload_n 0, 1) := dk_26 (dk_at dksJ5_getChars_2_0 22 rfl rfl)
theorem dJ5_getChars_2_23 : decode cJ5_getChars_2 23 = .ok (.bipush (-100), 2) := dk_16 156 (dk_at dksJ5_getChars_2_1 0 rfl rfl)
theorem dJ5_getChars_2_25 : decode cJ5_getChars_2 25 = .ok (.if_icmp .gt 51, 3) := dk_163 0 51 (dk_at dksJ5_getChars_2_1 2 rfl rfl)
theorem dJ5_getChars_2_28 : decode cJ5_getChars_2 28 = .ok (.iload_n 0, 1) := dk_26 (dk_at dksJ5_getChars_2_1 5 rfl rfl)
theorem dJ5_getChars_2_29 : decode cJ5_getChars_2 29 = .ok (.bipush 100, 2) := dk_16 100 (dk_at dksJ5_getChars_2_1 6 rfl rfl)
theorem dJ5_getChars_2_31 : decode cJ5_getChars_2 31 = .ok (.idiv, 1) := dk_108 (dk_at dksJ5_getChars_2_1 8 rfl rfl)
theorem dJ5_getChars_2_32 : decode cJ5_getChars_2 32 = .ok (.istore_n 3, 1) := dk_62 (dk_at dksJ5_getChars_2_1 9 rfl rfl)
theorem dJ5_getChars_2_33 : decode cJ5_getChars_2 33 = .ok (.iload_n 3, 1) := dk_29 (dk_at dksJ5_getChars_2_1 10 rfl rfl)
theorem dJ5_getChars_2_34 : decode cJ5_getChars_2 34 = .ok (.bipush 100, 2) := dk_16 100 (dk_at dksJ5_getChars_2_1 11 rfl rfl)
theorem dJ5_getChars_2_36 : decode cJ5_getChars_2 36 = .ok (.imul, 1) := dk_104 (dk_at dksJ5_getChars_2_1 13 rfl rfl)
theorem dJ5_getChars_2_37 : decode cJ5_getChars_2 37 = .ok (.iload_n 0, 1) := dk_26 (dk_at dksJ5_getChars_2_1 14 rfl rfl)
theorem dJ5_getChars_2_38 : decode cJ5_getChars_2 38 = .ok (.isub, 1) := dk_100 (dk_at dksJ5_getChars_2_1 15 rfl rfl)
theorem dJ5_getChars_2_39 : decode cJ5_getChars_2 39 = .ok (.istore 4, 2) := dk_54 4 (dk_at dksJ5_getChars_2_1 16 rfl rfl)
theorem dJ5_getChars_2_41 : decode cJ5_getChars_2 41 = .ok (.iload_n 3, 1) := dk_29 (dk_at dksJ5_getChars_2_1 18 rfl rfl)
theorem dJ5_getChars_2_42 : decode cJ5_getChars_2 42 = .ok (.istore_n 0, 1) := dk_59 (dk_at dksJ5_getChars_2_1 19 rfl rfl)
theorem dJ5_getChars_2_43 : decode cJ5_getChars_2 43 = .ok (.aload_n 2, 1) := dk_44 (dk_at dksJ5_getChars_2_1 20 rfl rfl)
theorem dJ5_getChars_2_44 : decode cJ5_getChars_2 44 = .ok (.iinc 5 (-1), 3) := dk_132 5 255 (dk_at dksJ5_getChars_2_1 21 rfl rfl)
theorem dJ5_getChars_2_47 : decode cJ5_getChars_2 47 = .ok (.iload 5, 2) := dk_21 5 (dk_at dksJ5_getChars_2_2 0 rfl rfl)
theorem dJ5_getChars_2_49 : decode cJ5_getChars_2 49 = .ok (.getstatic 403, 3) := dk_178 1 147 (dk_at dksJ5_getChars_2_2 2 rfl rfl)
theorem dJ5_getChars_2_52 : decode cJ5_getChars_2 52 = .ok (.iload 4, 2) := dk_21 4 (dk_at dksJ5_getChars_2_2 5 rfl rfl)
theorem dJ5_getChars_2_54 : decode cJ5_getChars_2 54 = .ok (.baload, 1) := dk_51 (dk_at dksJ5_getChars_2_2 7 rfl rfl)
theorem dJ5_getChars_2_55 : decode cJ5_getChars_2 55 = .ok (.invokestatic 111, 3) := dk_184 0 111 (dk_at dksJ5_getChars_2_2 8 rfl rfl)
theorem dJ5_getChars_2_58 : decode cJ5_getChars_2 58 = .ok (.aload_n 2, 1) := dk_44 (dk_at dksJ5_getChars_2_2 11 rfl rfl)
theorem dJ5_getChars_2_59 : decode cJ5_getChars_2 59 = .ok (.iinc 5 (-1), 3) := dk_132 5 255 (dk_at dksJ5_getChars_2_2 12 rfl rfl)
theorem dJ5_getChars_2_62 : decode cJ5_getChars_2 62 = .ok (.iload 5, 2) := dk_21 5 (dk_at dksJ5_getChars_2_2 15 rfl rfl)
theorem dJ5_getChars_2_64 : decode cJ5_getChars_2 64 = .ok (.getstatic 407, 3) := dk_178 1 151 (dk_at dksJ5_getChars_2_2 17 rfl rfl)
theorem dJ5_getChars_2_67 : decode cJ5_getChars_2 67 = .ok (.iload 4, 2) := dk_21 4 (dk_at dksJ5_getChars_2_2 20 rfl rfl)
theorem dJ5_getChars_2_69 : decode cJ5_getChars_2 69 = .ok (.baload, 1) := dk_51 (dk_at dksJ5_getChars_2_2 22 rfl rfl)
theorem dJ5_getChars_2_70 : decode cJ5_getChars_2 70 = .ok (.invokestatic 111, 3) := dk_184 0 111 (dk_at dksJ5_getChars_2_3 0 rfl rfl)
theorem dJ5_getChars_2_73 : decode cJ5_getChars_2 73 = .ok (.goto (-51), 3) := dk_167 255 205 (dk_at dksJ5_getChars_2_3 3 rfl rfl)
theorem dJ5_getChars_2_76 : decode cJ5_getChars_2 76 = .ok (.aload_n 2, 1) := dk_44 (dk_at dksJ5_getChars_2_3 6 rfl rfl)
theorem dJ5_getChars_2_77 : decode cJ5_getChars_2 77 = .ok (.iinc 5 (-1), 3) := dk_132 5 255 (dk_at dksJ5_getChars_2_3 7 rfl rfl)
theorem dJ5_getChars_2_80 : decode cJ5_getChars_2 80 = .ok (.iload 5, 2) := dk_21 5 (dk_at dksJ5_getChars_2_3 10 rfl rfl)
theorem dJ5_getChars_2_82 : decode cJ5_getChars_2 82 = .ok (.getstatic 403, 3) := dk_178 1 147 (dk_at dksJ5_getChars_2_3 12 rfl rfl)
theorem dJ5_getChars_2_85 : decode cJ5_getChars_2 85 = .ok (.iload_n 0, 1) := dk_26 (dk_at dksJ5_getChars_2_3 15 rfl rfl)
theorem dJ5_getChars_2_86 : decode cJ5_getChars_2 86 = .ok (.ineg, 1) := dk_116 (dk_at dksJ5_getChars_2_3 16 rfl rfl)
theorem dJ5_getChars_2_87 : decode cJ5_getChars_2 87 = .ok (.baload, 1) := dk_51 (dk_at dksJ5_getChars_2_3 17 rfl rfl)
theorem dJ5_getChars_2_88 : decode cJ5_getChars_2 88 = .ok (.invokestatic 111, 3) := dk_184 0 111 (dk_at dksJ5_getChars_2_3 18 rfl rfl)
theorem dJ5_getChars_2_91 : decode cJ5_getChars_2 91 = .ok (.iload_n 0, 1) := dk_26 (dk_at dksJ5_getChars_2_3 21 rfl rfl)
theorem dJ5_getChars_2_92 : decode cJ5_getChars_2 92 = .ok (.bipush (-9), 2) := dk_16 247 (dk_at dksJ5_getChars_2_3 22 rfl rfl)
theorem dJ5_getChars_2_94 : decode cJ5_getChars_2 94 = .ok (.if_icmp .ge 18, 3) := dk_162 0 18 (dk_at dksJ5_getChars_2_4 0 rfl rfl)
theorem dJ5_getChars_2_97 : decode cJ5_getChars_2 97 = .ok (.aload_n 2, 1) := dk_44 (dk_at dksJ5_getChars_2_4 3 rfl rfl)
theorem dJ5_getChars_2_98 : decode cJ5_getChars_2 98 = .ok (.iinc 5 (-1), 3) := dk_132 5 255 (dk_at dksJ5_getChars_2_4 4 rfl rfl)
theorem dJ5_getChars_2_101 : decode cJ5_getChars_2 101 = .ok (.iload 5, 2) := dk_21 5 (dk_at dksJ5_getChars_2_4 7 rfl rfl)
theorem dJ5_getChars_2_103 : decode cJ5_getChars_2 103 = .ok (.getstatic 407, 3) := dk_178 1 151 (dk_at dksJ5_getChars_2_4 9 rfl rfl)
theorem dJ5_getChars_2_106 : decode cJ5_getChars_2 106 = .ok (.iload_n 0, 1) := dk_26 (dk_at dksJ5_getChars_2_4 12 rfl rfl)
theorem dJ5_getChars_2_107 : decode cJ5_getChars_2 107 = .ok (.ineg, 1) := dk_116 (dk_at dksJ5_getChars_2_4 13 rfl rfl)
theorem dJ5_getChars_2_108 : decode cJ5_getChars_2 108 = .ok (.baload, 1) := dk_51 (dk_at dksJ5_getChars_2_4 14 rfl rfl)
theorem dJ5_getChars_2_109 : decode cJ5_getChars_2 109 = .ok (.invokestatic 111, 3) := dk_184 0 111 (dk_at dksJ5_getChars_2_4 15 rfl rfl)
theorem dJ5_getChars_2_112 : decode cJ5_getChars_2 112 = .ok (.iload 6, 2) := dk_21 6 (dk_at dksJ5_getChars_2_4 18 rfl rfl)
theorem dJ5_getChars_2_114 : decode cJ5_getChars_2 114 = .ok (.ifCond .eq 14, 3) := dk_153 0 14 (dk_at dksJ5_getChars_2_4 20 rfl rfl)
theorem dJ5_getChars_2_117 : decode cJ5_getChars_2 117 = .ok (.aload_n 2, 1) := dk_44 (dk_at dksJ5_getChars_2_4 23 rfl rfl)
theorem dJ5_getChars_2_118 : decode cJ5_getChars_2 118 = .ok (.iinc 5 (-1), 3) := dk_132 5 255 (dk_at dksJ5_getChars_2_5 0 rfl rfl)
theorem dJ5_getChars_2_121 : decode cJ5_getChars_2 121 = .ok (.iload 5, 2) := dk_21 5 (dk_at dksJ5_getChars_2_5 3 rfl rfl)
theorem dJ5_getChars_2_123 : decode cJ5_getChars_2 123 = .ok (.bipush 45, 2) := dk_16 45 (dk_at dksJ5_getChars_2_5 5 rfl rfl)
theorem dJ5_getChars_2_125 : decode cJ5_getChars_2 125 = .ok (.invokestatic 111, 3) := dk_184 0 111 (dk_at dksJ5_getChars_2_5 7 rfl rfl)
theorem dJ5_getChars_2_128 : decode cJ5_getChars_2 128 = .ok (.iload 5, 2) := dk_21 5 (dk_at dksJ5_getChars_2_5 10 rfl rfl)
theorem dJ5_getChars_2_130 : decode cJ5_getChars_2 130 = .ok (.ireturn, 1) := dk_172 (dk_at dksJ5_getChars_2_5 12 rfl rfl)
abbrev cJ5_compress : ByteArray := prog_37_method_17_code
def yJ5_compress : MethodName := ⟨RJ5, "compress", "([BII)[B"⟩
def dkwJ5_compress_2 : List UInt8 := [25, 5, 3, 45, 3, 28, 184, 0, 123, 28, 159, 0, 6, 25, 5, 176, 45, 176]
abbrev dktJ5_compress_2 : List UInt8 := dkwJ5_compress_2 ++ []
def dkwJ5_compress_1 : List UInt8 := [27, 28, 96, 184, 0, 11, 184, 0, 126, 58, 5, 25, 5, 21, 4, 184, 0, 71, 17, 0, 255, 163, 0, 16]
abbrev dktJ5_compress_1 : List UInt8 := dkwJ5_compress_1 ++ dktJ5_compress_2
def dkwJ5_compress_0 : List UInt8 := [28, 188, 8, 78, 42, 27, 45, 3, 28, 184, 0, 123, 54, 4, 21, 4, 28, 159, 0, 47, 42, 27, 4, 120]
abbrev dktJ5_compress_0 : List UInt8 := dkwJ5_compress_0 ++ dktJ5_compress_1
theorem dksJ5_compress_0 : cJ5_compress.data.toList.drop 0 = dktJ5_compress_0 := by decide +kernel
theorem dksJ5_compress_1 : cJ5_compress.data.toList.drop 24 = dktJ5_compress_1 := dk_seg dksJ5_compress_0 24 rfl rfl
theorem dksJ5_compress_2 : cJ5_compress.data.toList.drop 48 = dktJ5_compress_2 := dk_seg dksJ5_compress_1 24 rfl rfl
theorem dJ5_compress_0 : decode cJ5_compress 0 = .ok (.iload_n 2, 1) := dk_28 (dk_at dksJ5_compress_0 0 rfl rfl)
theorem dJ5_compress_1 : decode cJ5_compress 1 = .ok (.newarray .byte, 2) := dk_188_8 (dk_at dksJ5_compress_0 1 rfl rfl)
theorem dJ5_compress_3 : decode cJ5_compress 3 = .ok (.astore_n 3, 1) := dk_78 (dk_at dksJ5_compress_0 3 rfl rfl)
theorem dJ5_compress_4 : decode cJ5_compress 4 = .ok (.aload_n 0, 1) := dk_42 (dk_at dksJ5_compress_0 4 rfl rfl)
theorem dJ5_compress_5 : decode cJ5_compress 5 = .ok (.iload_n 1, 1) := dk_27 (dk_at dksJ5_compress_0 5 rfl rfl)
theorem dJ5_compress_6 : decode cJ5_compress 6 = .ok (.aload_n 3, 1) := dk_45 (dk_at dksJ5_compress_0 6 rfl rfl)
theorem dJ5_compress_7 : decode cJ5_compress 7 = .ok (.iconst 0, 1) := dk_3 (dk_at dksJ5_compress_0 7 rfl rfl)
theorem dJ5_compress_8 : decode cJ5_compress 8 = .ok (.iload_n 2, 1) := dk_28 (dk_at dksJ5_compress_0 8 rfl rfl)
theorem dJ5_compress_9 : decode cJ5_compress 9 = .ok (.invokestatic 123, 3) := dk_184 0 123 (dk_at dksJ5_compress_0 9 rfl rfl)
theorem dJ5_compress_12 : decode cJ5_compress 12 = .ok (.istore 4, 2) := dk_54 4 (dk_at dksJ5_compress_0 12 rfl rfl)
theorem dJ5_compress_14 : decode cJ5_compress 14 = .ok (.iload 4, 2) := dk_21 4 (dk_at dksJ5_compress_0 14 rfl rfl)
theorem dJ5_compress_16 : decode cJ5_compress 16 = .ok (.iload_n 2, 1) := dk_28 (dk_at dksJ5_compress_0 16 rfl rfl)
theorem dJ5_compress_17 : decode cJ5_compress 17 = .ok (.if_icmp .eq 47, 3) := dk_159 0 47 (dk_at dksJ5_compress_0 17 rfl rfl)
theorem dJ5_compress_20 : decode cJ5_compress 20 = .ok (.aload_n 0, 1) := dk_42 (dk_at dksJ5_compress_0 20 rfl rfl)
theorem dJ5_compress_21 : decode cJ5_compress 21 = .ok (.iload_n 1, 1) := dk_27 (dk_at dksJ5_compress_0 21 rfl rfl)
theorem dJ5_compress_22 : decode cJ5_compress 22 = .ok (.iconst 1, 1) := dk_4 (dk_at dksJ5_compress_0 22 rfl rfl)
theorem dJ5_compress_23 : decode cJ5_compress 23 = .ok (.ishl, 1) := dk_120 (dk_at dksJ5_compress_0 23 rfl rfl)
theorem dJ5_compress_24 : decode cJ5_compress 24 = .ok (.iload_n 1, 1) := dk_27 (dk_at dksJ5_compress_1 0 rfl rfl)
theorem dJ5_compress_25 : decode cJ5_compress 25 = .ok (.iload_n 2, 1) := dk_28 (dk_at dksJ5_compress_1 1 rfl rfl)
theorem dJ5_compress_26 : decode cJ5_compress 26 = .ok (.iadd, 1) := dk_96 (dk_at dksJ5_compress_1 2 rfl rfl)
theorem dJ5_compress_27 : decode cJ5_compress 27 = .ok (.invokestatic 11, 3) := dk_184 0 11 (dk_at dksJ5_compress_1 3 rfl rfl)
theorem dJ5_compress_30 : decode cJ5_compress 30 = .ok (.invokestatic 126, 3) := dk_184 0 126 (dk_at dksJ5_compress_1 6 rfl rfl)
theorem dJ5_compress_33 : decode cJ5_compress 33 = .ok (.astore 5, 2) := dk_58 5 (dk_at dksJ5_compress_1 9 rfl rfl)
theorem dJ5_compress_35 : decode cJ5_compress 35 = .ok (.aload 5, 2) := dk_25 5 (dk_at dksJ5_compress_1 11 rfl rfl)
theorem dJ5_compress_37 : decode cJ5_compress 37 = .ok (.iload 4, 2) := dk_21 4 (dk_at dksJ5_compress_1 13 rfl rfl)
theorem dJ5_compress_39 : decode cJ5_compress 39 = .ok (.invokestatic 71, 3) := dk_184 0 71 (dk_at dksJ5_compress_1 15 rfl rfl)
theorem dJ5_compress_42 : decode cJ5_compress 42 = .ok (.sipush 255, 3) := dk_17 0 255 (dk_at dksJ5_compress_1 18 rfl rfl)
theorem dJ5_compress_45 : decode cJ5_compress 45 = .ok (.if_icmp .gt 16, 3) := dk_163 0 16 (dk_at dksJ5_compress_1 21 rfl rfl)
theorem dJ5_compress_48 : decode cJ5_compress 48 = .ok (.aload 5, 2) := dk_25 5 (dk_at dksJ5_compress_2 0 rfl rfl)
theorem dJ5_compress_50 : decode cJ5_compress 50 = .ok (.iconst 0, 1) := dk_3 (dk_at dksJ5_compress_2 2 rfl rfl)
theorem dJ5_compress_51 : decode cJ5_compress 51 = .ok (.aload_n 3, 1) := dk_45 (dk_at dksJ5_compress_2 3 rfl rfl)
theorem dJ5_compress_52 : decode cJ5_compress 52 = .ok (.iconst 0, 1) := dk_3 (dk_at dksJ5_compress_2 4 rfl rfl)
theorem dJ5_compress_53 : decode cJ5_compress 53 = .ok (.iload_n 2, 1) := dk_28 (dk_at dksJ5_compress_2 5 rfl rfl)
theorem dJ5_compress_54 : decode cJ5_compress 54 = .ok (.invokestatic 123, 3) := dk_184 0 123 (dk_at dksJ5_compress_2 6 rfl rfl)
theorem dJ5_compress_57 : decode cJ5_compress 57 = .ok (.iload_n 2, 1) := dk_28 (dk_at dksJ5_compress_2 9 rfl rfl)
theorem dJ5_compress_58 : decode cJ5_compress 58 = .ok (.if_icmp .eq 6, 3) := dk_159 0 6 (dk_at dksJ5_compress_2 10 rfl rfl)
theorem dJ5_compress_61 : decode cJ5_compress 61 = .ok (.aload 5, 2) := dk_25 5 (dk_at dksJ5_compress_2 13 rfl rfl)
theorem dJ5_compress_63 : decode cJ5_compress 63 = .ok (.areturn, 1) := dk_176 (dk_at dksJ5_compress_2 15 rfl rfl)
theorem dJ5_compress_64 : decode cJ5_compress 64 = .ok (.aload_n 3, 1) := dk_45 (dk_at dksJ5_compress_2 16 rfl rfl)
theorem dJ5_compress_65 : decode cJ5_compress 65 = .ok (.areturn, 1) := dk_176 (dk_at dksJ5_compress_2 17 rfl rfl)
abbrev cJ5_compress_2 : ByteArray := prog_37_method_22_code
def yJ5_compress_2 : MethodName := ⟨RJ5, "compress", "([BI[BII)I"⟩
def dkwJ5_compress_2_2 : List UInt8 := [132, 5, 1, 167, 255, 216, 21, 4, 172]
abbrev dktJ5_compress_2_2 : List UInt8 := dkwJ5_compress_2_2 ++ []
def dkwJ5_compress_2_1 : List UInt8 := [21, 6, 17, 0, 255, 164, 0, 6, 21, 5, 172, 44, 29, 21, 6, 145, 84, 132, 1, 1, 132, 3, 1]
abbrev dktJ5_compress_2_1 : List UInt8 := dkwJ5_compress_2_1 ++ dktJ5_compress_2_2
def dkwJ5_compress_2_0 : List UInt8 := [27, 21, 4, 42, 184, 0, 173, 3, 54, 5, 21, 5, 21, 4, 162, 0, 39, 42, 27, 184, 0, 71, 54, 6]
abbrev dktJ5_compress_2_0 : List UInt8 := dkwJ5_compress_2_0 ++ dktJ5_compress_2_1
theorem dksJ5_compress_2_0 : cJ5_compress_2.data.toList.drop 0 = dktJ5_compress_2_0 := by decide +kernel
theorem dksJ5_compress_2_1 : cJ5_compress_2.data.toList.drop 24 = dktJ5_compress_2_1 := dk_seg dksJ5_compress_2_0 24 rfl rfl
theorem dksJ5_compress_2_2 : cJ5_compress_2.data.toList.drop 47 = dktJ5_compress_2_2 := dk_seg dksJ5_compress_2_1 23 rfl rfl
theorem dJ5_compress_2_0 : decode cJ5_compress_2 0 = .ok (.iload_n 1, 1) := dk_27 (dk_at dksJ5_compress_2_0 0 rfl rfl)
theorem dJ5_compress_2_1 : decode cJ5_compress_2 1 = .ok (.iload 4, 2) := dk_21 4 (dk_at dksJ5_compress_2_0 1 rfl rfl)
theorem dJ5_compress_2_3 : decode cJ5_compress_2 3 = .ok (.aload_n 0, 1) := dk_42 (dk_at dksJ5_compress_2_0 3 rfl rfl)
theorem dJ5_compress_2_4 : decode cJ5_compress_2 4 = .ok (.invokestatic 173, 3) := dk_184 0 173 (dk_at dksJ5_compress_2_0 4 rfl rfl)
theorem dJ5_compress_2_7 : decode cJ5_compress_2 7 = .ok (.iconst 0, 1) := dk_3 (dk_at dksJ5_compress_2_0 7 rfl rfl)
theorem dJ5_compress_2_8 : decode cJ5_compress_2 8 = .ok (.istore 5, 2) := dk_54 5 (dk_at dksJ5_compress_2_0 8 rfl rfl)
theorem dJ5_compress_2_10 : decode cJ5_compress_2 10 = .ok (.iload 5, 2) := dk_21 5 (dk_at dksJ5_compress_2_0 10 rfl rfl)
theorem dJ5_compress_2_12 : decode cJ5_compress_2 12 = .ok (.iload 4, 2) := dk_21 4 (dk_at dksJ5_compress_2_0 12 rfl rfl)
theorem dJ5_compress_2_14 : decode cJ5_compress_2 14 = .ok (.if_icmp .ge 39, 3) := dk_162 0 39 (dk_at dksJ5_compress_2_0 14 rfl rfl)
theorem dJ5_compress_2_17 : decode cJ5_compress_2 17 = .ok (.aload_n 0, 1) := dk_42 (dk_at dksJ5_compress_2_0 17 rfl rfl)
theorem dJ5_compress_2_18 : decode cJ5_compress_2 18 = .ok (.iload_n 1, 1) := dk_27 (dk_at dksJ5_compress_2_0 18 rfl rfl)
theorem dJ5_compress_2_19 : decode cJ5_compress_2 19 = .ok (.invokestatic 71, 3) := dk_184 0 71 (dk_at dksJ5_compress_2_0 19 rfl rfl)
theorem dJ5_compress_2_22 : decode cJ5_compress_2 22 = .ok (.istore 6, 2) := dk_54 6 (dk_at dksJ5_compress_2_0 22 rfl rfl)
theorem dJ5_compress_2_24 : decode cJ5_compress_2 24 = .ok (.iload 6, 2) := dk_21 6 (dk_at dksJ5_compress_2_1 0 rfl rfl)
theorem dJ5_compress_2_26 : decode cJ5_compress_2 26 = .ok (.sipush 255, 3) := dk_17 0 255 (dk_at dksJ5_compress_2_1 2 rfl rfl)
theorem dJ5_compress_2_29 : decode cJ5_compress_2 29 = .ok (.if_icmp .le 6, 3) := dk_164 0 6 (dk_at dksJ5_compress_2_1 5 rfl rfl)
theorem dJ5_compress_2_32 : decode cJ5_compress_2 32 = .ok (.iload 5, 2) := dk_21 5 (dk_at dksJ5_compress_2_1 8 rfl rfl)
theorem dJ5_compress_2_34 : decode cJ5_compress_2 34 = .ok (.ireturn, 1) := dk_172 (dk_at dksJ5_compress_2_1 10 rfl rfl)
theorem dJ5_compress_2_35 : decode cJ5_compress_2 35 = .ok (.aload_n 2, 1) := dk_44 (dk_at dksJ5_compress_2_1 11 rfl rfl)
theorem dJ5_compress_2_36 : decode cJ5_compress_2 36 = .ok (.iload_n 3, 1) := dk_29 (dk_at dksJ5_compress_2_1 12 rfl rfl)
theorem dJ5_compress_2_37 : decode cJ5_compress_2 37 = .ok (.iload 6, 2) := dk_21 6 (dk_at dksJ5_compress_2_1 13 rfl rfl)
theorem dJ5_compress_2_39 : decode cJ5_compress_2 39 = .ok (.i2b, 1) := dk_145 (dk_at dksJ5_compress_2_1 15 rfl rfl)
theorem dJ5_compress_2_40 : decode cJ5_compress_2 40 = .ok (.bastore, 1) := dk_84 (dk_at dksJ5_compress_2_1 16 rfl rfl)
theorem dJ5_compress_2_41 : decode cJ5_compress_2 41 = .ok (.iinc 1 1, 3) := dk_132 1 1 (dk_at dksJ5_compress_2_1 17 rfl rfl)
theorem dJ5_compress_2_44 : decode cJ5_compress_2 44 = .ok (.iinc 3 1, 3) := dk_132 3 1 (dk_at dksJ5_compress_2_1 20 rfl rfl)
theorem dJ5_compress_2_47 : decode cJ5_compress_2 47 = .ok (.iinc 5 1, 3) := dk_132 5 1 (dk_at dksJ5_compress_2_2 0 rfl rfl)
theorem dJ5_compress_2_50 : decode cJ5_compress_2 50 = .ok (.goto (-40), 3) := dk_167 255 216 (dk_at dksJ5_compress_2_2 3 rfl rfl)
theorem dJ5_compress_2_53 : decode cJ5_compress_2 53 = .ok (.iload 4, 2) := dk_21 4 (dk_at dksJ5_compress_2_2 6 rfl rfl)
theorem dJ5_compress_2_55 : decode cJ5_compress_2 55 = .ok (.ireturn, 1) := dk_172 (dk_at dksJ5_compress_2_2 8 rfl rfl)
abbrev cJ5_coderFromArrayLen : ByteArray := prog_37_method_15_code
def yJ5_coderFromArrayLen : MethodName := ⟨RJ5, "coderFromArrayLen", "([BI)B"⟩
def dkwJ5_coderFromArrayLen_0 : List UInt8 := [27, 42, 190, 100, 16, 31, 124, 145, 172]
abbrev dktJ5_coderFromArrayLen_0 : List UInt8 := dkwJ5_coderFromArrayLen_0 ++ []
theorem dksJ5_coderFromArrayLen_0 : cJ5_coderFromArrayLen.data.toList.drop 0 = dktJ5_coderFromArrayLen_0 := by decide +kernel
theorem dJ5_coderFromArrayLen_0 : decode cJ5_coderFromArrayLen 0 = .ok (.iload_n 1, 1) := dk_27 (dk_at dksJ5_coderFromArrayLen_0 0 rfl rfl)
theorem dJ5_coderFromArrayLen_1 : decode cJ5_coderFromArrayLen 1 = .ok (.aload_n 0, 1) := dk_42 (dk_at dksJ5_coderFromArrayLen_0 1 rfl rfl)
theorem dJ5_coderFromArrayLen_2 : decode cJ5_coderFromArrayLen 2 = .ok (.arraylength, 1) := dk_190 (dk_at dksJ5_coderFromArrayLen_0 2 rfl rfl)
theorem dJ5_coderFromArrayLen_3 : decode cJ5_coderFromArrayLen 3 = .ok (.isub, 1) := dk_100 (dk_at dksJ5_coderFromArrayLen_0 3 rfl rfl)
theorem dJ5_coderFromArrayLen_4 : decode cJ5_coderFromArrayLen 4 = .ok (.bipush 31, 2) := dk_16 31 (dk_at dksJ5_coderFromArrayLen_0 4 rfl rfl)
theorem dJ5_coderFromArrayLen_6 : decode cJ5_coderFromArrayLen 6 = .ok (.iushr, 1) := dk_124 (dk_at dksJ5_coderFromArrayLen_0 6 rfl rfl)
theorem dJ5_coderFromArrayLen_7 : decode cJ5_coderFromArrayLen 7 = .ok (.i2b, 1) := dk_145 (dk_at dksJ5_coderFromArrayLen_0 7 rfl rfl)
theorem dJ5_coderFromArrayLen_8 : decode cJ5_coderFromArrayLen 8 = .ok (.ireturn, 1) := dk_172 (dk_at dksJ5_coderFromArrayLen_0 8 rfl rfl)
abbrev cJ5_fillNull : ByteArray := prog_37_method_70_code
def yJ5_fillNull : MethodName := ⟨RJ5, "fillNull", "([BII)V"⟩
def dkwJ5_fillNull_0 : List UInt8 := [42, 27, 4, 120, 28, 4, 120, 3, 184, 1, 124, 177]
abbrev dktJ5_fillNull_0 : List UInt8 := dkwJ5_fillNull_0 ++ []
theorem dksJ5_fillNull_0 : cJ5_fillNull.data.toList.drop 0 = dktJ5_fillNull_0 := by decide +kernel
theorem dJ5_fillNull_0 : decode cJ5_fillNull 0 = .ok (.aload_n 0, 1) := dk_42 (dk_at dksJ5_fillNull_0 0 rfl rfl)
theorem dJ5_fillNull_1 : decode cJ5_fillNull 1 = .ok (.iload_n 1, 1) := dk_27 (dk_at dksJ5_fillNull_0 1 rfl rfl)
theorem dJ5_fillNull_2 : decode cJ5_fillNull 2 = .ok (.iconst 1, 1) := dk_4 (dk_at dksJ5_fillNull_0 2 rfl rfl)
theorem dJ5_fillNull_3 : decode cJ5_fillNull 3 = .ok (.ishl, 1) := dk_120 (dk_at dksJ5_fillNull_0 3 rfl rfl)
theorem dJ5_fillNull_4 : decode cJ5_fillNull 4 = .ok (.iload_n 2, 1) := dk_28 (dk_at dksJ5_fillNull_0 4 rfl rfl)
theorem dJ5_fillNull_5 : decode cJ5_fillNull 5 = .ok (.iconst 1, 1) := dk_4 (dk_at dksJ5_fillNull_0 5 rfl rfl)
theorem dJ5_fillNull_6 : decode cJ5_fillNull 6 = .ok (.ishl, 1) := dk_120 (dk_at dksJ5_fillNull_0 6 rfl rfl)
theorem dJ5_fillNull_7 : decode cJ5_fillNull 7 = .ok (.iconst 0, 1) := dk_3 (dk_at dksJ5_fillNull_0 7 rfl rfl)
theorem dJ5_fillNull_8 : decode cJ5_fillNull 8 = .ok (.invokestatic 380, 3) := dk_184 1 124 (dk_at dksJ5_fillNull_0 8 rfl rfl)
theorem dJ5_fillNull_11 : decode cJ5_fillNull 11 = .ok (.return_, 1) := dk_177 (dk_at dksJ5_fillNull_0 11 rfl rfl)
theorem q71 : (Jvm.Cond.initialized "java/lang/StringUTF16") ∈ lw_all := lw_g (lw_at lw_m1 14 rfl) rfl
theorem q339 : (Jvm.Cond.static ({ cls := "java/lang/StringUTF16", name := "newBytesFor", desc := "(I)[B" } : Jvm.MethodName)) ∈ lw_all := lw_g (lw_at lw_m2 42 rfl) rfl
theorem q340 : (Jvm.Cond.code ({ cls := "java/lang/StringUTF16", name := "newBytesFor", desc := "(I)[B" } : Jvm.MethodName) prog_37_method_2_code (1 : Nat) (Option.some (Jvm.ClassFile.FieldType.array Jvm.ClassFile.FieldType.byte))) ∈ lw_all := lw_g (lw_at lw_m2 43 rfl) rfl
theorem q341 : (Jvm.Cond.methodLink "java/lang/StringUTF16" (11 : Nat) ({ cls := "java/lang/StringUTF16", name := "newBytesLength", desc := "(I)I" } : Jvm.MethodName)) ∈ lw_all := lw_g (lw_at lw_m2 44 rfl) rfl
theorem q342 : (Jvm.Cond.static ({ cls := "java/lang/StringUTF16", name := "newBytesLength", desc := "(I)I" } : Jvm.MethodName)) ∈ lw_all := lw_g (lw_at lw_m2 45 rfl) rfl
theorem q343 : (Jvm.Cond.code ({ cls := "java/lang/StringUTF16", name := "newBytesLength", desc := "(I)I" } : Jvm.MethodName) prog_37_method_3_code (1 : Nat) (Option.some Jvm.ClassFile.FieldType.int)) ∈ lw_all := lw_g (lw_at lw_m2 46 rfl) rfl
theorem q344 : (Jvm.Cond.constant "java/lang/StringUTF16" (20 : Nat) (1073741823 : Int32)) ∈ lw_all := lw_g (lw_at lw_m2 47 rfl) rfl
theorem q1312 : (Jvm.Cond.static ({ cls := "java/lang/StringUTF16", name := "inflate", desc := "([BI[BII)V" } : Jvm.MethodName)) ∈ lw_all := lw_g (lw_at lw_m6 55 rfl) rfl
theorem q1313 : (Jvm.Cond.code ({ cls := "java/lang/StringUTF16", name := "inflate", desc := "([BI[BII)V" } : Jvm.MethodName) prog_37_method_86_code (6 : Nat) (Option.none : Option Jvm.ClassFile.FieldType)) ∈ lw_all := lw_g (lw_at lw_m6 56 rfl) rfl
theorem q1314 : (Jvm.Cond.methodLink "java/lang/StringUTF16" (173 : Nat) ({ cls := "java/lang/StringUTF16", name := "checkBoundsOffCount", desc := "(II[B)V" } : Jvm.MethodName)) ∈ lw_all := lw_g (lw_at lw_m6 57 rfl) rfl
theorem q1315 : (Jvm.Cond.static ({ cls := "java/lang/StringUTF16", name := "checkBoundsOffCount", desc := "(II[B)V" } : Jvm.MethodName)) ∈ lw_all := lw_g (lw_at lw_m6 58 rfl) rfl
theorem q1316 : (Jvm.Cond.code ({ cls := "java/lang/StringUTF16", name := "checkBoundsOffCount", desc := "(II[B)V" } : Jvm.MethodName) prog_37_method_94_code (3 : Nat) (Option.none : Option Jvm.ClassFile.FieldType)) ∈ lw_all := lw_g (lw_at lw_m6 59 rfl) rfl
theorem q1317 : (Jvm.Cond.methodLink "java/lang/StringUTF16" (48 : Nat) ({ cls := "java/lang/StringUTF16", name := "length", desc := "([B)I" } : Jvm.MethodName)) ∈ lw_all := lw_g (lw_at lw_m6 60 rfl) rfl
theorem q1318 : (Jvm.Cond.static ({ cls := "java/lang/StringUTF16", name := "length", desc := "([B)I" } : Jvm.MethodName)) ∈ lw_all := lw_g (lw_at lw_m6 61 rfl) rfl
theorem q1319 : (Jvm.Cond.code ({ cls := "java/lang/StringUTF16", name := "length", desc := "([B)I" } : Jvm.MethodName) prog_37_method_6_code (1 : Nat) (Option.some Jvm.ClassFile.FieldType.int)) ∈ lw_all := lw_g (lw_at lw_m6 62 rfl) rfl
theorem q1320 : (Jvm.Cond.methodLink "java/lang/StringUTF16" (419 : Nat) ({ cls := "java/lang/String", name := "checkBoundsOffCount", desc := "(III)I" } : Jvm.MethodName)) ∈ lw_all := lw_g (lw_at lw_m6 63 rfl) rfl
theorem q1328 : (Jvm.Cond.methodLink "java/lang/StringUTF16" (111 : Nat) ({ cls := "java/lang/StringUTF16", name := "putChar", desc := "([BII)V" } : Jvm.MethodName)) ∈ lw_all := lw_g (lw_at lw_m6 71 rfl) rfl
theorem q1329 : (Jvm.Cond.static ({ cls := "java/lang/StringUTF16", name := "putChar", desc := "([BII)V" } : Jvm.MethodName)) ∈ lw_all := lw_g (lw_at lw_m6 72 rfl) rfl
theorem q1330 : (Jvm.Cond.code ({ cls := "java/lang/StringUTF16", name := "putChar", desc := "([BII)V" } : Jvm.MethodName) prog_37_method_4_code (3 : Nat) (Option.none : Option Jvm.ClassFile.FieldType)) ∈ lw_all := lw_g (lw_at lw_m6 73 rfl) rfl
theorem q1331 : (Jvm.Cond.fieldLink "java/lang/StringUTF16" (44 : Nat) "java/lang/StringUTF16" "$assertionsDisabled" "Z") ∈ lw_all := lw_g (lw_at lw_m6 74 rfl) rfl
theorem q1332 : (Jvm.Cond.laysStatic "java/lang/StringUTF16" "$assertionsDisabled" "Z") ∈ lw_tbl := lw_at lw_m6 75 rfl
theorem q1333 : (Jvm.Cond.fieldLink "java/lang/StringUTF16" (59 : Nat) "java/lang/StringUTF16" "HI_BYTE_SHIFT" "I") ∈ lw_all := lw_g (lw_at lw_m6 76 rfl) rfl
theorem q1334 : (Jvm.Cond.laysStatic "java/lang/StringUTF16" "HI_BYTE_SHIFT" "I") ∈ lw_tbl := lw_at lw_m6 77 rfl
theorem q1335 : (Jvm.Cond.fieldLink "java/lang/StringUTF16" (63 : Nat) "java/lang/StringUTF16" "LO_BYTE_SHIFT" "I") ∈ lw_all := lw_g (lw_at lw_m6 78 rfl) rfl
theorem q1336 : (Jvm.Cond.laysStatic "java/lang/StringUTF16" "LO_BYTE_SHIFT" "I") ∈ lw_tbl := lw_at lw_m6 79 rfl
theorem q1338 : (Jvm.Cond.static ({ cls := "java/lang/StringUTF16", name := "putCharSB", desc := "([BII)V" } : Jvm.MethodName)) ∈ lw_all := lw_g (lw_at lw_m6 81 rfl) rfl
theorem q1339 : (Jvm.Cond.code ({ cls := "java/lang/StringUTF16", name := "putCharSB", desc := "([BII)V" } : Jvm.MethodName) prog_37_method_71_code (3 : Nat) (Option.none : Option Jvm.ClassFile.FieldType)) ∈ lw_all := lw_g (lw_at lw_m6 82 rfl) rfl
theorem q1340 : (Jvm.Cond.methodLink "java/lang/StringUTF16" (67 : Nat) ({ cls := "java/lang/StringUTF16", name := "checkIndex", desc := "(I[B)V" } : Jvm.MethodName)) ∈ lw_all := lw_g (lw_at lw_m6 83 rfl) rfl
theorem q1341 : (Jvm.Cond.static ({ cls := "java/lang/StringUTF16", name := "checkIndex", desc := "(I[B)V" } : Jvm.MethodName)) ∈ lw_all := lw_g (lw_at lw_m6 84 rfl) rfl
theorem q1342 : (Jvm.Cond.code ({ cls := "java/lang/StringUTF16", name := "checkIndex", desc := "(I[B)V" } : Jvm.MethodName) prog_37_method_91_code (2 : Nat) (Option.none : Option Jvm.ClassFile.FieldType)) ∈ lw_all := lw_g (lw_at lw_m6 85 rfl) rfl
theorem q1343 : (Jvm.Cond.methodLink "java/lang/StringUTF16" (414 : Nat) ({ cls := "java/lang/String", name := "checkIndex", desc := "(II)V" } : Jvm.MethodName)) ∈ lw_all := lw_g (lw_at lw_m6 86 rfl) rfl
theorem q1384 : (Jvm.Cond.static ({ cls := "java/lang/StringUTF16", name := "getChar", desc := "([BI)C" } : Jvm.MethodName)) ∈ lw_all := lw_g (lw_at lw_m6 127 rfl) rfl
theorem q1385 : (Jvm.Cond.code ({ cls := "java/lang/StringUTF16", name := "getChar", desc := "([BI)C" } : Jvm.MethodName) prog_37_method_5_code (2 : Nat) (Option.some Jvm.ClassFile.FieldType.char)) ∈ lw_all := lw_g (lw_at lw_m6 128 rfl) rfl
theorem q1449 : (Jvm.Cond.static ({ cls := "java/lang/StringUTF16", name := "putCharsAt", desc := "([BICCCC)I" } : Jvm.MethodName)) ∈ lw_all := lw_g (lw_at lw_m6 192 rfl) rfl
theorem q1450 : (Jvm.Cond.code ({ cls := "java/lang/StringUTF16", name := "putCharsAt", desc := "([BICCCC)I" } : Jvm.MethodName) prog_37_method_81_code (7 : Nat) (Option.some Jvm.ClassFile.FieldType.int)) ∈ lw_all := lw_g (lw_at lw_m6 193 rfl) rfl
theorem q1451 : (Jvm.Cond.methodLink "java/lang/StringUTF16" (96 : Nat) ({ cls := "java/lang/StringUTF16", name := "checkBoundsBeginEnd", desc := "(II[B)V" } : Jvm.MethodName)) ∈ lw_all := lw_g (lw_at lw_m6 194 rfl) rfl
theorem q1452 : (Jvm.Cond.static ({ cls := "java/lang/StringUTF16", name := "checkBoundsBeginEnd", desc := "(II[B)V" } : Jvm.MethodName)) ∈ lw_all := lw_g (lw_at lw_m6 195 rfl) rfl
theorem q1453 : (Jvm.Cond.code ({ cls := "java/lang/StringUTF16", name := "checkBoundsBeginEnd", desc := "(II[B)V" } : Jvm.MethodName) prog_37_method_93_code (3 : Nat) (Option.none : Option Jvm.ClassFile.FieldType)) ∈ lw_all := lw_g (lw_at lw_m6 196 rfl) rfl
theorem q1454 : (Jvm.Cond.methodLink "java/lang/StringUTF16" (241 : Nat) ({ cls := "java/lang/String", name := "checkBoundsBeginEnd", desc := "(III)V" } : Jvm.MethodName)) ∈ lw_all := lw_g (lw_at lw_m6 197 rfl) rfl
theorem q1502 : (Jvm.Cond.static ({ cls := "java/lang/StringUTF16", name := "getChars", desc := "(III[B)I" } : Jvm.MethodName)) ∈ lw_all := lw_g (lw_at lw_m7 5 rfl) rfl
theorem q1503 : (Jvm.Cond.code ({ cls := "java/lang/StringUTF16", name := "getChars", desc := "(III[B)I" } : Jvm.MethodName) prog_37_method_77_code (5 : Nat) (Option.some Jvm.ClassFile.FieldType.int)) ∈ lw_all := lw_g (lw_at lw_m7 6 rfl) rfl
theorem q1504 : (Jvm.Cond.methodLink "java/lang/StringUTF16" (393 : Nat) ({ cls := "java/lang/StringUTF16", name := "getChars", desc := "(II[B)I" } : Jvm.MethodName)) ∈ lw_all := lw_g (lw_at lw_m7 7 rfl) rfl
theorem q1505 : (Jvm.Cond.static ({ cls := "java/lang/StringUTF16", name := "getChars", desc := "(II[B)I" } : Jvm.MethodName)) ∈ lw_all := lw_g (lw_at lw_m7 8 rfl) rfl
theorem q1506 : (Jvm.Cond.code ({ cls := "java/lang/StringUTF16", name := "getChars", desc := "(II[B)I" } : Jvm.MethodName) prog_37_method_89_code (7 : Nat) (Option.some Jvm.ClassFile.FieldType.int)) ∈ lw_all := lw_g (lw_at lw_m7 9 rfl) rfl
theorem q1507 : (Jvm.Cond.fieldLink "java/lang/StringUTF16" (403 : Nat) "java/lang/Integer" "DigitOnes" "[B") ∈ lw_all := lw_g (lw_at lw_m7 10 rfl) rfl
theorem q1508 : (Jvm.Cond.fieldLink "java/lang/StringUTF16" (407 : Nat) "java/lang/Integer" "DigitTens" "[B") ∈ lw_all := lw_g (lw_at lw_m7 11 rfl) rfl
theorem q1549 : (Jvm.Cond.static ({ cls := "java/lang/StringUTF16", name := "compress", desc := "([BII)[B" } : Jvm.MethodName)) ∈ lw_all := lw_g (lw_at lw_m7 52 rfl) rfl
theorem q1550 : (Jvm.Cond.code ({ cls := "java/lang/StringUTF16", name := "compress", desc := "([BII)[B" } : Jvm.MethodName) prog_37_method_17_code (6 : Nat) (Option.some (Jvm.ClassFile.FieldType.array Jvm.ClassFile.FieldType.byte))) ∈ lw_all := lw_g (lw_at lw_m7 53 rfl) rfl
theorem q1551 : (Jvm.Cond.methodLink "java/lang/StringUTF16" (123 : Nat) ({ cls := "java/lang/StringUTF16", name := "compress", desc := "([BI[BII)I" } : Jvm.MethodName)) ∈ lw_all := lw_g (lw_at lw_m7 54 rfl) rfl
theorem q1552 : (Jvm.Cond.static ({ cls := "java/lang/StringUTF16", name := "compress", desc := "([BI[BII)I" } : Jvm.MethodName)) ∈ lw_all := lw_g (lw_at lw_m7 55 rfl) rfl
theorem q1553 : (Jvm.Cond.code ({ cls := "java/lang/StringUTF16", name := "compress", desc := "([BI[BII)I" } : Jvm.MethodName) prog_37_method_22_code (7 : Nat) (Option.some Jvm.ClassFile.FieldType.int)) ∈ lw_all := lw_g (lw_at lw_m7 56 rfl) rfl
theorem q1554 : (Jvm.Cond.methodLink "java/lang/StringUTF16" (71 : Nat) ({ cls := "java/lang/StringUTF16", name := "getChar", desc := "([BI)C" } : Jvm.MethodName)) ∈ lw_all := lw_g (lw_at lw_m7 57 rfl) rfl
theorem q1555 : (Jvm.Cond.methodLink "java/lang/StringUTF16" (126 : Nat) ({ cls := "java/util/Arrays", name := "copyOfRange", desc := "([BII)[B" } : Jvm.MethodName)) ∈ lw_all := lw_g (lw_at lw_m7 58 rfl) rfl
theorem q1557 : (Jvm.Cond.static ({ cls := "java/lang/StringUTF16", name := "coderFromArrayLen", desc := "([BI)B" } : Jvm.MethodName)) ∈ lw_all := lw_g (lw_at lw_m7 60 rfl) rfl
theorem q1558 : (Jvm.Cond.code ({ cls := "java/lang/StringUTF16", name := "coderFromArrayLen", desc := "([BI)B" } : Jvm.MethodName) prog_37_method_15_code (2 : Nat) (Option.some Jvm.ClassFile.FieldType.byte)) ∈ lw_all := lw_g (lw_at lw_m7 61 rfl) rfl
theorem q1597 : (Jvm.Cond.static ({ cls := "java/lang/StringUTF16", name := "fillNull", desc := "([BII)V" } : Jvm.MethodName)) ∈ lw_all := lw_g (lw_at lw_m7 100 rfl) rfl
theorem q1598 : (Jvm.Cond.code ({ cls := "java/lang/StringUTF16", name := "fillNull", desc := "([BII)V" } : Jvm.MethodName) prog_37_method_70_code (3 : Nat) (Option.none : Option Jvm.ClassFile.FieldType)) ∈ lw_all := lw_g (lw_at lw_m7 101 rfl) rfl
theorem q1599 : (Jvm.Cond.methodLink "java/lang/StringUTF16" (380 : Nat) ({ cls := "java/util/Arrays", name := "fill", desc := "([BIIB)V" } : Jvm.MethodName)) ∈ lw_all := lw_g (lw_at lw_m7 102 rfl) rfl
/-! java/lang/Throwable -/
set_option maxRecDepth 100000
def RJ6 : String := "java/lang/Throwable"
def TJ6 : u_T := fun k => match k with
  | 0 => ("java/lang/Throwable", "cause", "Ljava/lang/Throwable;", false)
  | 1 => ("java/lang/Throwable", "stackTrace", "[Ljava/lang/StackTraceElement;", false)
  | 2 => ("java/lang/Throwable", "suppressedExceptions", "Ljava/util/List;", false)
  | 3 => ("java/lang/Throwable", "detailMessage", "Ljava/lang/String;", false)
  | _ => ("java/lang/Throwable", "backtrace", "Ljava/lang/Object;", false)
def tyJ6 : Nat → FieldType := fun k => match k with
  | 0 => .object "java/lang/Throwable"
  | 1 => .array (.object "java/lang/StackTraceElement")
  | 2 => .object "java/util/List"
  | 3 => .object "java/lang/String"
  | _ => .object "java/lang/Object"
abbrev wsJ60 : List Cond := u_ws RJ6 TJ6 5
theorem nmJ6 : ∀ a, a < 5 → ∀ b, b < 5 → a ≠ b → (TJ6 a).2.1 ≠ (TJ6 b).2.1 := by decide +kernel
theorem tyJ6_ok : ∀ k, k < 5 → parseFieldDescriptor (TJ6 k).2.2.1 = some (tyJ6 k) := by decide +kernel
abbrev cJ6_init : ByteArray := prog_39_method_1_code
def yJ6_init : MethodName := ⟨RJ6, "<init>", "()V"⟩
def dkwJ6_init_1 : List UInt8 := [182, 0, 27, 87, 177]
abbrev dktJ6_init_1 : List UInt8 := dkwJ6_init_1 ++ []
def dkwJ6_init_0 : List UInt8 := [42, 183, 0, 1, 42, 42, 181, 0, 7, 42, 178, 0, 13, 181, 0, 17, 42, 178, 0, 20, 181, 0, 24, 42]
abbrev dktJ6_init_0 : List UInt8 := dkwJ6_init_0 ++ dktJ6_init_1
theorem dksJ6_init_0 : cJ6_init.data.toList.drop 0 = dktJ6_init_0 := by decide +kernel
theorem dksJ6_init_1 : cJ6_init.data.toList.drop 24 = dktJ6_init_1 := dk_seg dksJ6_init_0 24 rfl rfl
theorem dJ6_init_0 : decode cJ6_init 0 = .ok (.aload_n 0, 1) := dk_42 (dk_at dksJ6_init_0 0 rfl rfl)
theorem dJ6_init_1 : decode cJ6_init 1 = .ok (.invokespecial 1, 3) := dk_183 0 1 (dk_at dksJ6_init_0 1 rfl rfl)
theorem dJ6_init_4 : decode cJ6_init 4 = .ok (.aload_n 0, 1) := dk_42 (dk_at dksJ6_init_0 4 rfl rfl)
theorem dJ6_init_5 : decode cJ6_init 5 = .ok (.aload_n 0, 1) := dk_42 (dk_at dksJ6_init_0 5 rfl rfl)
theorem dJ6_init_6 : decode cJ6_init 6 = .ok (.putfield 7, 3) := dk_181 0 7 (dk_at dksJ6_init_0 6 rfl rfl)
theorem dJ6_init_9 : decode cJ6_init 9 = .ok (.aload_n 0, 1) := dk_42 (dk_at dksJ6_init_0 9 rfl rfl)
theorem dJ6_init_10 : decode cJ6_init 10 = .ok (.getstatic 13, 3) := dk_178 0 13 (dk_at dksJ6_init_0 10 rfl rfl)
theorem dJ6_init_13 : decode cJ6_init 13 = .ok (.putfield 17, 3) := dk_181 0 17 (dk_at dksJ6_init_0 13 rfl rfl)
theorem dJ6_init_16 : decode cJ6_init 16 = .ok (.aload_n 0, 1) := dk_42 (dk_at dksJ6_init_0 16 rfl rfl)
theorem dJ6_init_17 : decode cJ6_init 17 = .ok (.getstatic 20, 3) := dk_178 0 20 (dk_at dksJ6_init_0 17 rfl rfl)
theorem dJ6_init_20 : decode cJ6_init 20 = .ok (.putfield 24, 3) := dk_181 0 24 (dk_at dksJ6_init_0 20 rfl rfl)
theorem dJ6_init_23 : decode cJ6_init 23 = .ok (.aload_n 0, 1) := dk_42 (dk_at dksJ6_init_0 23 rfl rfl)
theorem dJ6_init_24 : decode cJ6_init 24 = .ok (.invokevirtual 27, 3) := dk_182 0 27 (dk_at dksJ6_init_1 0 rfl rfl)
theorem dJ6_init_27 : decode cJ6_init 27 = .ok (.pop, 1) := dk_87 (dk_at dksJ6_init_1 3 rfl rfl)
theorem dJ6_init_28 : decode cJ6_init 28 = .ok (.return_, 1) := dk_177 (dk_at dksJ6_init_1 4 rfl rfl)
abbrev cJ6_init_2 : ByteArray := prog_39_method_2_code
def yJ6_init_2 : MethodName := ⟨RJ6, "<init>", "(Ljava/lang/String;)V"⟩
def dkwJ6_init_2_1 : List UInt8 := [182, 0, 27, 87, 42, 43, 181, 0, 31, 177]
abbrev dktJ6_init_2_1 : List UInt8 := dkwJ6_init_2_1 ++ []
def dkwJ6_init_2_0 : List UInt8 := [42, 183, 0, 1, 42, 42, 181, 0, 7, 42, 178, 0, 13, 181, 0, 17, 42, 178, 0, 20, 181, 0, 24, 42]
abbrev dktJ6_init_2_0 : List UInt8 := dkwJ6_init_2_0 ++ dktJ6_init_2_1
theorem dksJ6_init_2_0 : cJ6_init_2.data.toList.drop 0 = dktJ6_init_2_0 := by decide +kernel
theorem dksJ6_init_2_1 : cJ6_init_2.data.toList.drop 24 = dktJ6_init_2_1 := dk_seg dksJ6_init_2_0 24 rfl rfl
theorem dJ6_init_2_0 : decode cJ6_init_2 0 = .ok (.aload_n 0, 1) := dk_42 (dk_at dksJ6_init_2_0 0 rfl rfl)
theorem dJ6_init_2_1 : decode cJ6_init_2 1 = .ok (.invokespecial 1, 3) := dk_183 0 1 (dk_at dksJ6_init_2_0 1 rfl rfl)
theorem dJ6_init_2_4 : decode cJ6_init_2 4 = .ok (.aload_n 0, 1) := dk_42 (dk_at dksJ6_init_2_0 4 rfl rfl)
theorem dJ6_init_2_5 : decode cJ6_init_2 5 = .ok (.aload_n 0, 1) := dk_42 (dk_at dksJ6_init_2_0 5 rfl rfl)
theorem dJ6_init_2_6 : decode cJ6_init_2 6 = .ok (.putfield 7, 3) := dk_181 0 7 (dk_at dksJ6_init_2_0 6 rfl rfl)
theorem dJ6_init_2_9 : decode cJ6_init_2 9 = .ok (.aload_n 0, 1) := dk_42 (dk_at dksJ6_init_2_0 9 rfl rfl)
theorem dJ6_init_2_10 : decode cJ6_init_2 10 = .ok (.getstatic 13, 3) := dk_178 0 13 (dk_at dksJ6_init_2_0 10 rfl rfl)
theorem dJ6_init_2_13 : decode cJ6_init_2 13 = .ok (.putfield 17, 3) := dk_181 0 17 (dk_at dksJ6_init_2_0 13 rfl rfl)
theorem dJ6_init_2_16 : decode cJ6_init_2 16 = .ok (.aload_n 0, 1) := dk_42 (dk_at dksJ6_init_2_0 16 rfl rfl)
theorem dJ6_init_2_17 : decode cJ6_init_2 17 = .ok (.getstatic 20, 3) := dk_178 0 20 (dk_at dksJ6_init_2_0 17 rfl rfl)
theorem dJ6_init_2_20 : decode cJ6_init_2 20 = .ok (.putfield 24, 3) := dk_181 0 24 (dk_at dksJ6_init_2_0 20 rfl rfl)
theorem dJ6_init_2_23 : decode cJ6_init_2 23 = .ok (.aload_n 0, 1) := dk_42 (dk_at dksJ6_init_2_0 23 rfl rfl)
theorem dJ6_init_2_24 : decode cJ6_init_2 24 = .ok (.invokevirtual 27, 3) := dk_182 0 27 (dk_at dksJ6_init_2_1 0 rfl rfl)
theorem dJ6_init_2_27 : decode cJ6_init_2 27 = .ok (.pop, 1) := dk_87 (dk_at dksJ6_init_2_1 3 rfl rfl)
theorem dJ6_init_2_28 : decode cJ6_init_2 28 = .ok (.aload_n 0, 1) := dk_42 (dk_at dksJ6_init_2_1 4 rfl rfl)
theorem dJ6_init_2_29 : decode cJ6_init_2 29 = .ok (.aload_n 1, 1) := dk_43 (dk_at dksJ6_init_2_1 5 rfl rfl)
theorem dJ6_init_2_30 : decode cJ6_init_2 30 = .ok (.putfield 31, 3) := dk_181 0 31 (dk_at dksJ6_init_2_1 6 rfl rfl)
theorem dJ6_init_2_33 : decode cJ6_init_2 33 = .ok (.return_, 1) := dk_177 (dk_at dksJ6_init_2_1 9 rfl rfl)
theorem q73 : (Jvm.Cond.initialized "java/lang/Throwable") ∈ lw_all := lw_g (lw_at lw_m1 16 rfl) rfl
theorem q410 : (Jvm.Cond.declares ({ cls := "java/lang/Throwable", name := "<init>", desc := "()V" } : Jvm.MethodName)) ∈ lw_tbl := lw_at lw_m2 113 rfl
theorem q411 : (Jvm.Cond.declares ({ cls := "java/lang/Throwable", name := "<init>", desc := "(Ljava/lang/String;)V" } : Jvm.MethodName)) ∈ lw_tbl := lw_at lw_m2 114 rfl
theorem q415 : (Jvm.Cond.lays "java/lang/Throwable" "java/lang/Throwable" "cause" "Ljava/lang/Throwable;") ∈ lw_all := lw_g (lw_at lw_m2 118 rfl) rfl
theorem q417 : (Jvm.Cond.lays "java/lang/Throwable" "java/lang/Throwable" "stackTrace" "[Ljava/lang/StackTraceElement;") ∈ lw_all := lw_g (lw_at lw_m2 120 rfl) rfl
theorem q419 : (Jvm.Cond.lays "java/lang/Throwable" "java/lang/Throwable" "suppressedExceptions" "Ljava/util/List;") ∈ lw_all := lw_g (lw_at lw_m2 122 rfl) rfl
theorem q421 : (Jvm.Cond.lays "java/lang/Throwable" "java/lang/Throwable" "detailMessage" "Ljava/lang/String;") ∈ lw_all := lw_g (lw_at lw_m2 124 rfl) rfl
theorem q423 : (Jvm.Cond.lays "java/lang/Throwable" "java/lang/Throwable" "backtrace" "Ljava/lang/Object;") ∈ lw_all := lw_g (lw_at lw_m2 126 rfl) rfl
theorem q424 : (Jvm.Cond.fieldLink "java/lang/Throwable" (198 : Nat) "java/lang/Throwable" "backtrace" "Ljava/lang/Object;") ∈ lw_all := lw_g (lw_at lw_m2 127 rfl) rfl
theorem q425 : (Jvm.Cond.superclass "java/lang/Throwable" "java/lang/Object") ∈ lw_all := lw_g (lw_at lw_m2 128 rfl) rfl
theorem q426 : (Jvm.Cond.instanceMethod ({ cls := "java/lang/Throwable", name := "<init>", desc := "()V" } : Jvm.MethodName)) ∈ lw_all := lw_g (lw_at lw_m2 129 rfl) rfl
theorem q427 : (Jvm.Cond.code ({ cls := "java/lang/Throwable", name := "<init>", desc := "()V" } : Jvm.MethodName) prog_39_method_1_code (1 : Nat) (Option.none : Option Jvm.ClassFile.FieldType)) ∈ lw_all := lw_g (lw_at lw_m2 130 rfl) rfl
theorem q428 : (Jvm.Cond.methodLink "java/lang/Throwable" (1 : Nat) ({ cls := "java/lang/Object", name := "<init>", desc := "()V" } : Jvm.MethodName)) ∈ lw_all := lw_g (lw_at lw_m2 131 rfl) rfl
theorem q429 : (Jvm.Cond.fieldLink "java/lang/Throwable" (13 : Nat) "java/lang/Throwable" "UNASSIGNED_STACK" "[Ljava/lang/StackTraceElement;") ∈ lw_all := lw_g (lw_at lw_m2 132 rfl) rfl
theorem q430 : (Jvm.Cond.laysStatic "java/lang/Throwable" "UNASSIGNED_STACK" "[Ljava/lang/StackTraceElement;") ∈ lw_tbl := lw_at lw_m2 133 rfl
theorem q431 : (Jvm.Cond.fieldLink "java/lang/Throwable" (20 : Nat) "java/lang/Throwable" "SUPPRESSED_SENTINEL" "Ljava/util/List;") ∈ lw_all := lw_g (lw_at lw_m2 134 rfl) rfl
theorem q432 : (Jvm.Cond.laysStatic "java/lang/Throwable" "SUPPRESSED_SENTINEL" "Ljava/util/List;") ∈ lw_tbl := lw_at lw_m2 135 rfl
theorem q433 : (Jvm.Cond.methodLink "java/lang/Throwable" (27 : Nat) ({ cls := "java/lang/Throwable", name := "fillInStackTrace", desc := "()Ljava/lang/Throwable;" } : Jvm.MethodName)) ∈ lw_all := lw_g (lw_at lw_m2 136 rfl) rfl
theorem q434 : (Jvm.Cond.instanceMethod ({ cls := "java/lang/Throwable", name := "fillInStackTrace", desc := "()Ljava/lang/Throwable;" } : Jvm.MethodName)) ∈ lw_all := lw_g (lw_at lw_m2 137 rfl) rfl
theorem q435 : (Jvm.Cond.sameMethod "java/lang/Throwable" "java/lang/Throwable" "fillInStackTrace" "()Ljava/lang/Throwable;") ∈ lw_all := lw_g (lw_at lw_m2 138 rfl) rfl
theorem q445 : (Jvm.Cond.codeSync ({ cls := "java/lang/Throwable", name := "fillInStackTrace", desc := "()Ljava/lang/Throwable;" } : Jvm.MethodName) prog_39_method_18_code (1 : Nat) (Option.some (Jvm.ClassFile.FieldType.object "java/lang/Throwable"))) ∈ lw_all := lw_g (lw_at lw_m2 148 rfl) rfl
theorem q446 : (Jvm.Cond.methodLink "java/lang/Throwable" (202 : Nat) ({ cls := "java/lang/Throwable", name := "fillInStackTrace", desc := "(I)Ljava/lang/Throwable;" } : Jvm.MethodName)) ∈ lw_all := lw_g (lw_at lw_m2 149 rfl) rfl
theorem q447 : (Jvm.Cond.privateMethod ({ cls := "java/lang/Throwable", name := "fillInStackTrace", desc := "(I)Ljava/lang/Throwable;" } : Jvm.MethodName)) ∈ lw_tbl := lw_at lw_m2 150 rfl
theorem q448 : (Jvm.Cond.instanceMethod ({ cls := "java/lang/Throwable", name := "fillInStackTrace", desc := "(I)Ljava/lang/Throwable;" } : Jvm.MethodName)) ∈ lw_all := lw_g (lw_at lw_m2 151 rfl) rfl
theorem q449 : (Jvm.Cond.instantiable "java/lang/Throwable" (6 : Nat)) ∈ lw_all := lw_g (lw_at lw_m2 152 rfl) rfl
theorem q450 : (Jvm.Cond.native ({ cls := "java/lang/Throwable", name := "fillInStackTrace", desc := "(I)Ljava/lang/Throwable;" } : Jvm.MethodName)) ∈ lw_all := lw_g (lw_at lw_m2 153 rfl) rfl
theorem q462 : (Jvm.Cond.instanceMethod ({ cls := "java/lang/Throwable", name := "<init>", desc := "(Ljava/lang/String;)V" } : Jvm.MethodName)) ∈ lw_all := lw_g (lw_at lw_m2 165 rfl) rfl
theorem q463 : (Jvm.Cond.code ({ cls := "java/lang/Throwable", name := "<init>", desc := "(Ljava/lang/String;)V" } : Jvm.MethodName) prog_39_method_2_code (2 : Nat) (Option.none : Option Jvm.ClassFile.FieldType)) ∈ lw_all := lw_g (lw_at lw_m2 166 rfl) rfl
theorem q464 : (Jvm.Cond.fieldLink "java/lang/Throwable" (198 : Nat) "java/lang/Throwable" "backtrace" "Ljava/lang/Object;") ∈ lw_all := lw_g (lw_at lw_m2 167 rfl) rfl
theorem q465 : (Jvm.Cond.fieldLink "java/lang/Throwable" (31 : Nat) "java/lang/Throwable" "detailMessage" "Ljava/lang/String;") ∈ lw_all := lw_g (lw_at lw_m2 168 rfl) rfl
theorem q466 : (Jvm.Cond.fieldLink "java/lang/Throwable" (7 : Nat) "java/lang/Throwable" "cause" "Ljava/lang/Throwable;") ∈ lw_all := lw_g (lw_at lw_m2 169 rfl) rfl
theorem q467 : (Jvm.Cond.fieldLink "java/lang/Throwable" (17 : Nat) "java/lang/Throwable" "stackTrace" "[Ljava/lang/StackTraceElement;") ∈ lw_all := lw_g (lw_at lw_m2 170 rfl) rfl
theorem q468 : (Jvm.Cond.fieldLink "java/lang/Throwable" (24 : Nat) "java/lang/Throwable" "suppressedExceptions" "Ljava/util/List;") ∈ lw_all := lw_g (lw_at lw_m2 171 rfl) rfl
theorem q469 : (Jvm.Cond.soleField "java/lang/Throwable" "backtrace") ∈ lw_all := lw_g (lw_at lw_m2 172 rfl) rfl
theorem q470 : (Jvm.Cond.soleField "java/lang/Throwable" "detailMessage") ∈ lw_all := lw_g (lw_at lw_m2 173 rfl) rfl
theorem q471 : (Jvm.Cond.soleField "java/lang/Throwable" "cause") ∈ lw_all := lw_g (lw_at lw_m2 174 rfl) rfl
theorem q472 : (Jvm.Cond.soleField "java/lang/Throwable" "stackTrace") ∈ lw_all := lw_g (lw_at lw_m2 175 rfl) rfl
theorem q474 : (Jvm.Cond.soleField "java/lang/Throwable" "depth") ∈ lw_all := lw_g (lw_at lw_m2 177 rfl) rfl
theorem q475 : (Jvm.Cond.soleField "java/lang/Throwable" "suppressedExceptions") ∈ lw_all := lw_g (lw_at lw_m2 178 rfl) rfl
theorem q2090 : (Jvm.Cond.sameMethod "java/lang/Throwable" "java/lang/Throwable" "fillInStackTrace" "(I)Ljava/lang/Throwable;") ∈ lw_all := lw_g (lw_at lw_m9 113 rfl) rfl
theorem q2130 : (Jvm.Cond.castable "java/lang/Throwable" "java/lang/Object") ∈ lw_tbl := lw_at lw_m9 153 rfl
theorem in_J6 : ∀ w ∈ wsJ60, w ∈ lw_all := lw_in wsJ60 [415, 417, 419, 421, 423] (by decide +kernel) (by decide +kernel)
/-! java/lang/Exception -/
set_option maxRecDepth 100000
def RJ7 : String := "java/lang/Exception"
abbrev cJ7_init : ByteArray := prog_23_method_2_code
def yJ7_init : MethodName := ⟨RJ7, "<init>", "(Ljava/lang/String;)V"⟩
def dkwJ7_init_0 : List UInt8 := [42, 43, 183, 0, 7, 177]
abbrev dktJ7_init_0 : List UInt8 := dkwJ7_init_0 ++ []
theorem dksJ7_init_0 : cJ7_init.data.toList.drop 0 = dktJ7_init_0 := by decide +kernel
theorem dJ7_init_0 : decode cJ7_init 0 = .ok (.aload_n 0, 1) := dk_42 (dk_at dksJ7_init_0 0 rfl rfl)
theorem dJ7_init_1 : decode cJ7_init 1 = .ok (.aload_n 1, 1) := dk_43 (dk_at dksJ7_init_0 1 rfl rfl)
theorem dJ7_init_2 : decode cJ7_init 2 = .ok (.invokespecial 7, 3) := dk_183 0 7 (dk_at dksJ7_init_0 2 rfl rfl)
theorem dJ7_init_5 : decode cJ7_init 5 = .ok (.return_, 1) := dk_177 (dk_at dksJ7_init_0 5 rfl rfl)
abbrev cJ7_init_2 : ByteArray := prog_23_method_1_code
def yJ7_init_2 : MethodName := ⟨RJ7, "<init>", "()V"⟩
theorem dJ7_init_2_0 : decode cJ7_init_2 0 = .ok (.aload_n 0, 1) := by decide +kernel
theorem dJ7_init_2_1 : decode cJ7_init_2 1 = .ok (.invokespecial 1, 3) := by decide +kernel
theorem dJ7_init_2_4 : decode cJ7_init_2 4 = .ok (.return_, 1) := by decide +kernel
theorem q74 : (Jvm.Cond.initialized "java/lang/Exception") ∈ lw_all := lw_g (lw_at lw_m1 17 rfl) rfl
theorem q408 : (Jvm.Cond.declares ({ cls := "java/lang/Exception", name := "<init>", desc := "()V" } : Jvm.MethodName)) ∈ lw_tbl := lw_at lw_m2 111 rfl
theorem q409 : (Jvm.Cond.declares ({ cls := "java/lang/Exception", name := "<init>", desc := "(Ljava/lang/String;)V" } : Jvm.MethodName)) ∈ lw_tbl := lw_at lw_m2 112 rfl
theorem q459 : (Jvm.Cond.instanceMethod ({ cls := "java/lang/Exception", name := "<init>", desc := "(Ljava/lang/String;)V" } : Jvm.MethodName)) ∈ lw_all := lw_g (lw_at lw_m2 162 rfl) rfl
theorem q460 : (Jvm.Cond.code ({ cls := "java/lang/Exception", name := "<init>", desc := "(Ljava/lang/String;)V" } : Jvm.MethodName) prog_23_method_2_code (2 : Nat) (Option.none : Option Jvm.ClassFile.FieldType)) ∈ lw_all := lw_g (lw_at lw_m2 163 rfl) rfl
theorem q461 : (Jvm.Cond.methodLink "java/lang/Exception" (7 : Nat) ({ cls := "java/lang/Throwable", name := "<init>", desc := "(Ljava/lang/String;)V" } : Jvm.MethodName)) ∈ lw_all := lw_g (lw_at lw_m2 164 rfl) rfl
theorem q721 : (Jvm.Cond.instanceMethod ({ cls := "java/lang/Exception", name := "<init>", desc := "()V" } : Jvm.MethodName)) ∈ lw_all := lw_g (lw_at lw_m3 184 rfl) rfl
theorem q722 : (Jvm.Cond.code ({ cls := "java/lang/Exception", name := "<init>", desc := "()V" } : Jvm.MethodName) prog_23_method_1_code (1 : Nat) (Option.none : Option Jvm.ClassFile.FieldType)) ∈ lw_all := lw_g (lw_at lw_m3 185 rfl) rfl
theorem q723 : (Jvm.Cond.methodLink "java/lang/Exception" (1 : Nat) ({ cls := "java/lang/Throwable", name := "<init>", desc := "()V" } : Jvm.MethodName)) ∈ lw_all := lw_g (lw_at lw_m3 186 rfl) rfl
/-! java/lang/RuntimeException -/
set_option maxRecDepth 100000
def RJ8 : String := "java/lang/RuntimeException"
abbrev cJ8_init : ByteArray := prog_32_method_2_code
def yJ8_init : MethodName := ⟨RJ8, "<init>", "(Ljava/lang/String;)V"⟩
def dkwJ8_init_0 : List UInt8 := [42, 43, 183, 0, 7, 177]
abbrev dktJ8_init_0 : List UInt8 := dkwJ8_init_0 ++ []
theorem dksJ8_init_0 : cJ8_init.data.toList.drop 0 = dktJ8_init_0 := by decide +kernel
theorem dJ8_init_0 : decode cJ8_init 0 = .ok (.aload_n 0, 1) := dk_42 (dk_at dksJ8_init_0 0 rfl rfl)
theorem dJ8_init_1 : decode cJ8_init 1 = .ok (.aload_n 1, 1) := dk_43 (dk_at dksJ8_init_0 1 rfl rfl)
theorem dJ8_init_2 : decode cJ8_init 2 = .ok (.invokespecial 7, 3) := dk_183 0 7 (dk_at dksJ8_init_0 2 rfl rfl)
theorem dJ8_init_5 : decode cJ8_init 5 = .ok (.return_, 1) := dk_177 (dk_at dksJ8_init_0 5 rfl rfl)
abbrev cJ8_init_2 : ByteArray := prog_32_method_1_code
def yJ8_init_2 : MethodName := ⟨RJ8, "<init>", "()V"⟩
theorem dJ8_init_2_0 : decode cJ8_init_2 0 = .ok (.aload_n 0, 1) := by decide +kernel
theorem dJ8_init_2_1 : decode cJ8_init_2 1 = .ok (.invokespecial 1, 3) := by decide +kernel
theorem dJ8_init_2_4 : decode cJ8_init_2 4 = .ok (.return_, 1) := by decide +kernel
theorem q75 : (Jvm.Cond.initialized "java/lang/RuntimeException") ∈ lw_all := lw_g (lw_at lw_m1 18 rfl) rfl
theorem q406 : (Jvm.Cond.declares ({ cls := "java/lang/RuntimeException", name := "<init>", desc := "()V" } : Jvm.MethodName)) ∈ lw_tbl := lw_at lw_m2 109 rfl
theorem q407 : (Jvm.Cond.declares ({ cls := "java/lang/RuntimeException", name := "<init>", desc := "(Ljava/lang/String;)V" } : Jvm.MethodName)) ∈ lw_tbl := lw_at lw_m2 110 rfl
theorem q456 : (Jvm.Cond.instanceMethod ({ cls := "java/lang/RuntimeException", name := "<init>", desc := "(Ljava/lang/String;)V" } : Jvm.MethodName)) ∈ lw_all := lw_g (lw_at lw_m2 159 rfl) rfl
theorem q457 : (Jvm.Cond.code ({ cls := "java/lang/RuntimeException", name := "<init>", desc := "(Ljava/lang/String;)V" } : Jvm.MethodName) prog_32_method_2_code (2 : Nat) (Option.none : Option Jvm.ClassFile.FieldType)) ∈ lw_all := lw_g (lw_at lw_m2 160 rfl) rfl
theorem q458 : (Jvm.Cond.methodLink "java/lang/RuntimeException" (7 : Nat) ({ cls := "java/lang/Exception", name := "<init>", desc := "(Ljava/lang/String;)V" } : Jvm.MethodName)) ∈ lw_all := lw_g (lw_at lw_m2 161 rfl) rfl
theorem q718 : (Jvm.Cond.instanceMethod ({ cls := "java/lang/RuntimeException", name := "<init>", desc := "()V" } : Jvm.MethodName)) ∈ lw_all := lw_g (lw_at lw_m3 181 rfl) rfl
theorem q719 : (Jvm.Cond.code ({ cls := "java/lang/RuntimeException", name := "<init>", desc := "()V" } : Jvm.MethodName) prog_32_method_1_code (1 : Nat) (Option.none : Option Jvm.ClassFile.FieldType)) ∈ lw_all := lw_g (lw_at lw_m3 182 rfl) rfl
theorem q720 : (Jvm.Cond.methodLink "java/lang/RuntimeException" (1 : Nat) ({ cls := "java/lang/Exception", name := "<init>", desc := "()V" } : Jvm.MethodName)) ∈ lw_all := lw_g (lw_at lw_m3 183 rfl) rfl
/-! java/lang/IllegalStateException -/
set_option maxRecDepth 100000
def RJ9 : String := "java/lang/IllegalStateException"
def TJ9 : u_T := fun k => match k with
  | 0 => ("java/lang/Throwable", "cause", "Ljava/lang/Throwable;", false)
  | 1 => ("java/lang/Throwable", "stackTrace", "[Ljava/lang/StackTraceElement;", false)
  | 2 => ("java/lang/Throwable", "suppressedExceptions", "Ljava/util/List;", false)
  | 3 => ("java/lang/Throwable", "detailMessage", "Ljava/lang/String;", false)
  | 4 => ("java/lang/Throwable", "backtrace", "Ljava/lang/Object;", false)
  | _ => ("java/lang/Throwable", "depth", "I", false)
def tyJ9 : Nat → FieldType := fun k => match k with
  | 0 => .object "java/lang/Throwable"
  | 1 => .array (.object "java/lang/StackTraceElement")
  | 2 => .object "java/util/List"
  | 3 => .object "java/lang/String"
  | 4 => .object "java/lang/Object"
  | _ => .int
abbrev wsJ90 : List Cond := u_ws RJ9 TJ9 6
theorem nmJ9 : ∀ a, a < 6 → ∀ b, b < 6 → a ≠ b → (TJ9 a).2.1 ≠ (TJ9 b).2.1 := by decide +kernel
theorem tyJ9_ok : ∀ k, k < 6 → parseFieldDescriptor (TJ9 k).2.2.1 = some (tyJ9 k) := by decide +kernel
abbrev cJ9_init : ByteArray := prog_26_method_2_code
def yJ9_init : MethodName := ⟨RJ9, "<init>", "(Ljava/lang/String;)V"⟩
def dkwJ9_init_0 : List UInt8 := [42, 43, 183, 0, 7, 177]
abbrev dktJ9_init_0 : List UInt8 := dkwJ9_init_0 ++ []
theorem dksJ9_init_0 : cJ9_init.data.toList.drop 0 = dktJ9_init_0 := by decide +kernel
theorem dJ9_init_0 : decode cJ9_init 0 = .ok (.aload_n 0, 1) := dk_42 (dk_at dksJ9_init_0 0 rfl rfl)
theorem dJ9_init_1 : decode cJ9_init 1 = .ok (.aload_n 1, 1) := dk_43 (dk_at dksJ9_init_0 1 rfl rfl)
theorem dJ9_init_2 : decode cJ9_init 2 = .ok (.invokespecial 7, 3) := dk_183 0 7 (dk_at dksJ9_init_0 2 rfl rfl)
theorem dJ9_init_5 : decode cJ9_init 5 = .ok (.return_, 1) := dk_177 (dk_at dksJ9_init_0 5 rfl rfl)
abbrev cJ9_init_2 : ByteArray := prog_26_method_1_code
def yJ9_init_2 : MethodName := ⟨RJ9, "<init>", "()V"⟩
theorem dJ9_init_2_0 : decode cJ9_init_2 0 = .ok (.aload_n 0, 1) := by decide +kernel
theorem dJ9_init_2_1 : decode cJ9_init_2 1 = .ok (.invokespecial 1, 3) := by decide +kernel
theorem dJ9_init_2_4 : decode cJ9_init_2 4 = .ok (.return_, 1) := by decide +kernel
theorem q76 : (Jvm.Cond.initialized "java/lang/IllegalStateException") ∈ lw_all := lw_g (lw_at lw_m1 19 rfl) rfl
theorem q404 : (Jvm.Cond.instantiable "java/lang/IllegalStateException" (6 : Nat)) ∈ lw_all := lw_g (lw_at lw_m2 107 rfl) rfl
theorem q405 : (Jvm.Cond.castable "java/lang/IllegalStateException" "java/lang/IllegalStateException") ∈ lw_tbl := lw_at lw_m2 108 rfl
theorem q412 : (Jvm.Cond.selects "java/lang/IllegalStateException" ({ cls := "java/lang/Throwable", name := "fillInStackTrace", desc := "(I)Ljava/lang/Throwable;" } : Jvm.MethodName) ({ cls := "java/lang/Throwable", name := "fillInStackTrace", desc := "(I)Ljava/lang/Throwable;" } : Jvm.MethodName)) ∈ lw_all := lw_g (lw_at lw_m2 115 rfl) rfl
theorem q413 : (Jvm.Cond.selects "java/lang/IllegalStateException" ({ cls := "java/lang/Throwable", name := "fillInStackTrace", desc := "()Ljava/lang/Throwable;" } : Jvm.MethodName) ({ cls := "java/lang/Throwable", name := "fillInStackTrace", desc := "()Ljava/lang/Throwable;" } : Jvm.MethodName)) ∈ lw_all := lw_g (lw_at lw_m2 116 rfl) rfl
theorem q414 : (Jvm.Cond.lays "java/lang/IllegalStateException" "java/lang/Throwable" "cause" "Ljava/lang/Throwable;") ∈ lw_all := lw_g (lw_at lw_m2 117 rfl) rfl
theorem q416 : (Jvm.Cond.lays "java/lang/IllegalStateException" "java/lang/Throwable" "stackTrace" "[Ljava/lang/StackTraceElement;") ∈ lw_all := lw_g (lw_at lw_m2 119 rfl) rfl
theorem q418 : (Jvm.Cond.lays "java/lang/IllegalStateException" "java/lang/Throwable" "suppressedExceptions" "Ljava/util/List;") ∈ lw_all := lw_g (lw_at lw_m2 121 rfl) rfl
theorem q420 : (Jvm.Cond.lays "java/lang/IllegalStateException" "java/lang/Throwable" "detailMessage" "Ljava/lang/String;") ∈ lw_all := lw_g (lw_at lw_m2 123 rfl) rfl
theorem q422 : (Jvm.Cond.lays "java/lang/IllegalStateException" "java/lang/Throwable" "backtrace" "Ljava/lang/Object;") ∈ lw_all := lw_g (lw_at lw_m2 125 rfl) rfl
theorem q453 : (Jvm.Cond.instanceMethod ({ cls := "java/lang/IllegalStateException", name := "<init>", desc := "(Ljava/lang/String;)V" } : Jvm.MethodName)) ∈ lw_all := lw_g (lw_at lw_m2 156 rfl) rfl
theorem q454 : (Jvm.Cond.code ({ cls := "java/lang/IllegalStateException", name := "<init>", desc := "(Ljava/lang/String;)V" } : Jvm.MethodName) prog_26_method_2_code (2 : Nat) (Option.none : Option Jvm.ClassFile.FieldType)) ∈ lw_all := lw_g (lw_at lw_m2 157 rfl) rfl
theorem q455 : (Jvm.Cond.methodLink "java/lang/IllegalStateException" (7 : Nat) ({ cls := "java/lang/RuntimeException", name := "<init>", desc := "(Ljava/lang/String;)V" } : Jvm.MethodName)) ∈ lw_all := lw_g (lw_at lw_m2 158 rfl) rfl
theorem q473 : (Jvm.Cond.lays "java/lang/IllegalStateException" "java/lang/Throwable" "depth" "I") ∈ lw_all := lw_g (lw_at lw_m2 176 rfl) rfl
theorem q476 : (Jvm.Cond.superclass "java/lang/IllegalStateException" "java/lang/RuntimeException") ∈ lw_all := lw_g (lw_at lw_m2 179 rfl) rfl
theorem q498 : (Jvm.Cond.selects "java/lang/IllegalStateException" ({ cls := "java/lang/Object", name := "getClass", desc := "()Ljava/lang/Class;" } : Jvm.MethodName) ({ cls := "java/lang/Object", name := "getClass", desc := "()Ljava/lang/Class;" } : Jvm.MethodName)) ∈ lw_all := lw_g (lw_at lw_m2 201 rfl) rfl
theorem q1261 : (Jvm.Cond.instanceMethod ({ cls := "java/lang/IllegalStateException", name := "<init>", desc := "()V" } : Jvm.MethodName)) ∈ lw_all := lw_g (lw_at lw_m6 4 rfl) rfl
theorem q1262 : (Jvm.Cond.code ({ cls := "java/lang/IllegalStateException", name := "<init>", desc := "()V" } : Jvm.MethodName) prog_26_method_1_code (1 : Nat) (Option.none : Option Jvm.ClassFile.FieldType)) ∈ lw_all := lw_g (lw_at lw_m6 5 rfl) rfl
theorem q1263 : (Jvm.Cond.methodLink "java/lang/IllegalStateException" (1 : Nat) ({ cls := "java/lang/RuntimeException", name := "<init>", desc := "()V" } : Jvm.MethodName)) ∈ lw_all := lw_g (lw_at lw_m6 6 rfl) rfl
theorem q2118 : (Jvm.Cond.castable "java/lang/IllegalStateException" "java/lang/Object") ∈ lw_tbl := lw_at lw_m9 141 rfl
theorem in_J9 : ∀ w ∈ wsJ90, w ∈ lw_all := lw_in wsJ90 [414, 416, 418, 420, 422, 473] (by decide +kernel) (by decide +kernel)
/-! java/util/Arrays -/
set_option maxRecDepth 100000
def RJ10 : String := "java/util/Arrays"
abbrev cJ10_copyOf : ByteArray := prog_45_method_119_code
def yJ10_copyOf : MethodName := ⟨RJ10, "copyOf", "([Ljava/lang/Object;I)[Ljava/lang/Object;"⟩
def dkwJ10_copyOf_0 : List UInt8 := [42, 27, 42, 182, 0, 86, 184, 1, 44, 176]
abbrev dktJ10_copyOf_0 : List UInt8 := dkwJ10_copyOf_0 ++ []
theorem dksJ10_copyOf_0 : cJ10_copyOf.data.toList.drop 0 = dktJ10_copyOf_0 := by decide +kernel
theorem dJ10_copyOf_0 : decode cJ10_copyOf 0 = .ok (.aload_n 0, 1) := dk_42 (dk_at dksJ10_copyOf_0 0 rfl rfl)
theorem dJ10_copyOf_1 : decode cJ10_copyOf 1 = .ok (.iload_n 1, 1) := dk_27 (dk_at dksJ10_copyOf_0 1 rfl rfl)
theorem dJ10_copyOf_2 : decode cJ10_copyOf 2 = .ok (.aload_n 0, 1) := dk_42 (dk_at dksJ10_copyOf_0 2 rfl rfl)
theorem dJ10_copyOf_3 : decode cJ10_copyOf 3 = .ok (.invokevirtual 86, 3) := dk_182 0 86 (dk_at dksJ10_copyOf_0 3 rfl rfl)
theorem dJ10_copyOf_6 : decode cJ10_copyOf 6 = .ok (.invokestatic 300, 3) := dk_184 1 44 (dk_at dksJ10_copyOf_0 6 rfl rfl)
theorem dJ10_copyOf_9 : decode cJ10_copyOf 9 = .ok (.areturn, 1) := dk_176 (dk_at dksJ10_copyOf_0 9 rfl rfl)
abbrev cJ10_copyOf_2 : ByteArray := prog_45_method_120_code
def yJ10_copyOf_2 : MethodName := ⟨RJ10, "copyOf", "([Ljava/lang/Object;ILjava/lang/Class;)[Ljava/lang/Object;"⟩
def dkwJ10_copyOf_2_1 : List UInt8 := [78, 42, 3, 45, 3, 42, 190, 27, 184, 1, 48, 184, 0, 150, 45, 176]
abbrev dktJ10_copyOf_2_1 : List UInt8 := dkwJ10_copyOf_2_1 ++ []
def dkwJ10_copyOf_2_0 : List UInt8 := [44, 18, 110, 166, 0, 10, 27, 189, 0, 2, 167, 0, 14, 44, 182, 0, 90, 27, 184, 0, 95, 192, 0, 110]
abbrev dktJ10_copyOf_2_0 : List UInt8 := dkwJ10_copyOf_2_0 ++ dktJ10_copyOf_2_1
theorem dksJ10_copyOf_2_0 : cJ10_copyOf_2.data.toList.drop 0 = dktJ10_copyOf_2_0 := by decide +kernel
theorem dksJ10_copyOf_2_1 : cJ10_copyOf_2.data.toList.drop 24 = dktJ10_copyOf_2_1 := dk_seg dksJ10_copyOf_2_0 24 rfl rfl
theorem dJ10_copyOf_2_0 : decode cJ10_copyOf_2 0 = .ok (.aload_n 2, 1) := dk_44 (dk_at dksJ10_copyOf_2_0 0 rfl rfl)
theorem dJ10_copyOf_2_1 : decode cJ10_copyOf_2 1 = .ok (.ldc 110, 2) := dk_18 110 (dk_at dksJ10_copyOf_2_0 1 rfl rfl)
theorem dJ10_copyOf_2_3 : decode cJ10_copyOf_2 3 = .ok (.if_acmp .ne 10, 3) := dk_166 0 10 (dk_at dksJ10_copyOf_2_0 3 rfl rfl)
theorem dJ10_copyOf_2_6 : decode cJ10_copyOf_2 6 = .ok (.iload_n 1, 1) := dk_27 (dk_at dksJ10_copyOf_2_0 6 rfl rfl)
theorem dJ10_copyOf_2_7 : decode cJ10_copyOf_2 7 = .ok (.anewarray 2, 3) := dk_189 0 2 (dk_at dksJ10_copyOf_2_0 7 rfl rfl)
theorem dJ10_copyOf_2_10 : decode cJ10_copyOf_2 10 = .ok (.goto 14, 3) := dk_167 0 14 (dk_at dksJ10_copyOf_2_0 10 rfl rfl)
theorem dJ10_copyOf_2_13 : decode cJ10_copyOf_2 13 = .ok (.aload_n 2, 1) := dk_44 (dk_at dksJ10_copyOf_2_0 13 rfl rfl)
theorem dJ10_copyOf_2_14 : decode cJ10_copyOf_2 14 = .ok (.invokevirtual 90, 3) := dk_182 0 90 (dk_at dksJ10_copyOf_2_0 14 rfl rfl)
theorem dJ10_copyOf_2_17 : decode cJ10_copyOf_2 17 = .ok (.iload_n 1, 1) := dk_27 (dk_at dksJ10_copyOf_2_0 17 rfl rfl)
theorem dJ10_copyOf_2_18 : decode cJ10_copyOf_2 18 = .ok (.invokestatic 95, 3) := dk_184 0 95 (dk_at dksJ10_copyOf_2_0 18 rfl rfl)
theorem dJ10_copyOf_2_21 : decode cJ10_copyOf_2 21 = .ok (.checkcast 110, 3) := dk_192 0 110 (dk_at dksJ10_copyOf_2_0 21 rfl rfl)
theorem dJ10_copyOf_2_24 : decode cJ10_copyOf_2 24 = .ok (.astore_n 3, 1) := dk_78 (dk_at dksJ10_copyOf_2_1 0 rfl rfl)
theorem dJ10_copyOf_2_25 : decode cJ10_copyOf_2 25 = .ok (.aload_n 0, 1) := dk_42 (dk_at dksJ10_copyOf_2_1 1 rfl rfl)
theorem dJ10_copyOf_2_26 : decode cJ10_copyOf_2 26 = .ok (.iconst 0, 1) := dk_3 (dk_at dksJ10_copyOf_2_1 2 rfl rfl)
theorem dJ10_copyOf_2_27 : decode cJ10_copyOf_2 27 = .ok (.aload_n 3, 1) := dk_45 (dk_at dksJ10_copyOf_2_1 3 rfl rfl)
theorem dJ10_copyOf_2_28 : decode cJ10_copyOf_2 28 = .ok (.iconst 0, 1) := dk_3 (dk_at dksJ10_copyOf_2_1 4 rfl rfl)
theorem dJ10_copyOf_2_29 : decode cJ10_copyOf_2 29 = .ok (.aload_n 0, 1) := dk_42 (dk_at dksJ10_copyOf_2_1 5 rfl rfl)
theorem dJ10_copyOf_2_30 : decode cJ10_copyOf_2 30 = .ok (.arraylength, 1) := dk_190 (dk_at dksJ10_copyOf_2_1 6 rfl rfl)
theorem dJ10_copyOf_2_31 : decode cJ10_copyOf_2 31 = .ok (.iload_n 1, 1) := dk_27 (dk_at dksJ10_copyOf_2_1 7 rfl rfl)
theorem dJ10_copyOf_2_32 : decode cJ10_copyOf_2 32 = .ok (.invokestatic 304, 3) := dk_184 1 48 (dk_at dksJ10_copyOf_2_1 8 rfl rfl)
theorem dJ10_copyOf_2_35 : decode cJ10_copyOf_2 35 = .ok (.invokestatic 150, 3) := dk_184 0 150 (dk_at dksJ10_copyOf_2_1 11 rfl rfl)
theorem dJ10_copyOf_2_38 : decode cJ10_copyOf_2 38 = .ok (.aload_n 3, 1) := dk_45 (dk_at dksJ10_copyOf_2_1 14 rfl rfl)
theorem dJ10_copyOf_2_39 : decode cJ10_copyOf_2 39 = .ok (.areturn, 1) := dk_176 (dk_at dksJ10_copyOf_2_1 15 rfl rfl)
abbrev cJ10_copyOf_3 : ByteArray := prog_45_method_121_code
def yJ10_copyOf_3 : MethodName := ⟨RJ10, "copyOf", "([BI)[B"⟩
def dkwJ10_copyOf_3_1 : List UInt8 := [27, 184, 1, 48, 184, 0, 150, 44, 176]
abbrev dktJ10_copyOf_3_1 : List UInt8 := dkwJ10_copyOf_3_1 ++ []
def dkwJ10_copyOf_3_0 : List UInt8 := [27, 42, 190, 160, 0, 11, 42, 182, 1, 54, 192, 1, 55, 176, 27, 188, 8, 77, 42, 3, 44, 3, 42, 190]
abbrev dktJ10_copyOf_3_0 : List UInt8 := dkwJ10_copyOf_3_0 ++ dktJ10_copyOf_3_1
theorem dksJ10_copyOf_3_0 : cJ10_copyOf_3.data.toList.drop 0 = dktJ10_copyOf_3_0 := by decide +kernel
theorem dksJ10_copyOf_3_1 : cJ10_copyOf_3.data.toList.drop 24 = dktJ10_copyOf_3_1 := dk_seg dksJ10_copyOf_3_0 24 rfl rfl
theorem dJ10_copyOf_3_0 : decode cJ10_copyOf_3 0 = .ok (.iload_n 1, 1) := dk_27 (dk_at dksJ10_copyOf_3_0 0 rfl rfl)
theorem dJ10_copyOf_3_1 : decode cJ10_copyOf_3 1 = .ok (.aload_n 0, 1) := dk_42 (dk_at dksJ10_copyOf_3_0 1 rfl rfl)
theorem dJ10_copyOf_3_2 : decode cJ10_copyOf_3 2 = .ok (.arraylength, 1) := dk_190 (dk_at dksJ10_copyOf_3_0 2 rfl rfl)
theorem dJ10_copyOf_3_3 : decode cJ10_copyOf_3 3 = .ok (.if_icmp .ne 11, 3) := dk_160 0 11 (dk_at dksJ10_copyOf_3_0 3 rfl rfl)
theorem dJ10_copyOf_3_6 : decode cJ10_copyOf_3 6 = .ok (.aload_n 0, 1) := dk_42 (dk_at dksJ10_copyOf_3_0 6 rfl rfl)
theorem dJ10_copyOf_3_7 : decode cJ10_copyOf_3 7 = .ok (.invokevirtual 310, 3) := dk_182 1 54 (dk_at dksJ10_copyOf_3_0 7 rfl rfl)
theorem dJ10_copyOf_3_10 : decode cJ10_copyOf_3 10 = .ok (.checkcast 311, 3) := dk_192 1 55 (dk_at dksJ10_copyOf_3_0 10 rfl rfl)
theorem dJ10_copyOf_3_13 : decode cJ10_copyOf_3 13 = .ok (.areturn, 1) := dk_176 (dk_at dksJ10_copyOf_3_0 13 rfl rfl)
theorem dJ10_copyOf_3_14 : decode cJ10_copyOf_3 14 = .ok (.iload_n 1, 1) := dk_27 (dk_at dksJ10_copyOf_3_0 14 rfl rfl)
theorem dJ10_copyOf_3_15 : decode cJ10_copyOf_3 15 = .ok (.newarray .byte, 2) := dk_188_8 (dk_at dksJ10_copyOf_3_0 15 rfl rfl)
theorem dJ10_copyOf_3_17 : decode cJ10_copyOf_3 17 = .ok (.astore_n 2, 1) := dk_77 (dk_at dksJ10_copyOf_3_0 17 rfl rfl)
theorem dJ10_copyOf_3_18 : decode cJ10_copyOf_3 18 = .ok (.aload_n 0, 1) := dk_42 (dk_at dksJ10_copyOf_3_0 18 rfl rfl)
theorem dJ10_copyOf_3_19 : decode cJ10_copyOf_3 19 = .ok (.iconst 0, 1) := dk_3 (dk_at dksJ10_copyOf_3_0 19 rfl rfl)
theorem dJ10_copyOf_3_20 : decode cJ10_copyOf_3 20 = .ok (.aload_n 2, 1) := dk_44 (dk_at dksJ10_copyOf_3_0 20 rfl rfl)
theorem dJ10_copyOf_3_21 : decode cJ10_copyOf_3 21 = .ok (.iconst 0, 1) := dk_3 (dk_at dksJ10_copyOf_3_0 21 rfl rfl)
theorem dJ10_copyOf_3_22 : decode cJ10_copyOf_3 22 = .ok (.aload_n 0, 1) := dk_42 (dk_at dksJ10_copyOf_3_0 22 rfl rfl)
theorem dJ10_copyOf_3_23 : decode cJ10_copyOf_3 23 = .ok (.arraylength, 1) := dk_190 (dk_at dksJ10_copyOf_3_0 23 rfl rfl)
theorem dJ10_copyOf_3_24 : decode cJ10_copyOf_3 24 = .ok (.iload_n 1, 1) := dk_27 (dk_at dksJ10_copyOf_3_1 0 rfl rfl)
theorem dJ10_copyOf_3_25 : decode cJ10_copyOf_3 25 = .ok (.invokestatic 304, 3) := dk_184 1 48 (dk_at dksJ10_copyOf_3_1 1 rfl rfl)
theorem dJ10_copyOf_3_28 : decode cJ10_copyOf_3 28 = .ok (.invokestatic 150, 3) := dk_184 0 150 (dk_at dksJ10_copyOf_3_1 4 rfl rfl)
theorem dJ10_copyOf_3_31 : decode cJ10_copyOf_3 31 = .ok (.aload_n 2, 1) := dk_44 (dk_at dksJ10_copyOf_3_1 7 rfl rfl)
theorem dJ10_copyOf_3_32 : decode cJ10_copyOf_3 32 = .ok (.areturn, 1) := dk_176 (dk_at dksJ10_copyOf_3_1 8 rfl rfl)
abbrev cJ10_copyOfRange : ByteArray := prog_45_method_132_code
def yJ10_copyOfRange : MethodName := ⟨RJ10, "copyOfRange", "([BII)[B"⟩
def dkwJ10_copyOfRange_1 : List UInt8 := [176]
abbrev dktJ10_copyOfRange_1 : List UInt8 := dkwJ10_copyOfRange_1 ++ []
def dkwJ10_copyOfRange_0 : List UInt8 := [27, 154, 0, 9, 28, 42, 190, 159, 0, 10, 42, 27, 28, 184, 1, 83, 176, 42, 182, 1, 54, 192, 1, 55]
abbrev dktJ10_copyOfRange_0 : List UInt8 := dkwJ10_copyOfRange_0 ++ dktJ10_copyOfRange_1
theorem dksJ10_copyOfRange_0 : cJ10_copyOfRange.data.toList.drop 0 = dktJ10_copyOfRange_0 := by decide +kernel
theorem dksJ10_copyOfRange_1 : cJ10_copyOfRange.data.toList.drop 24 = dktJ10_copyOfRange_1 := dk_seg dksJ10_copyOfRange_0 24 rfl rfl
theorem dJ10_copyOfRange_0 : decode cJ10_copyOfRange 0 = .ok (.iload_n 1, 1) := dk_27 (dk_at dksJ10_copyOfRange_0 0 rfl rfl)
theorem dJ10_copyOfRange_1 : decode cJ10_copyOfRange 1 = .ok (.ifCond .ne 9, 3) := dk_154 0 9 (dk_at dksJ10_copyOfRange_0 1 rfl rfl)
theorem dJ10_copyOfRange_4 : decode cJ10_copyOfRange 4 = .ok (.iload_n 2, 1) := dk_28 (dk_at dksJ10_copyOfRange_0 4 rfl rfl)
theorem dJ10_copyOfRange_5 : decode cJ10_copyOfRange 5 = .ok (.aload_n 0, 1) := dk_42 (dk_at dksJ10_copyOfRange_0 5 rfl rfl)
theorem dJ10_copyOfRange_6 : decode cJ10_copyOfRange 6 = .ok (.arraylength, 1) := dk_190 (dk_at dksJ10_copyOfRange_0 6 rfl rfl)
theorem dJ10_copyOfRange_7 : decode cJ10_copyOfRange 7 = .ok (.if_icmp .eq 10, 3) := dk_159 0 10 (dk_at dksJ10_copyOfRange_0 7 rfl rfl)
theorem dJ10_copyOfRange_10 : decode cJ10_copyOfRange 10 = .ok (.aload_n 0, 1) := dk_42 (dk_at dksJ10_copyOfRange_0 10 rfl rfl)
theorem dJ10_copyOfRange_11 : decode cJ10_copyOfRange 11 = .ok (.iload_n 1, 1) := dk_27 (dk_at dksJ10_copyOfRange_0 11 rfl rfl)
theorem dJ10_copyOfRange_12 : decode cJ10_copyOfRange 12 = .ok (.iload_n 2, 1) := dk_28 (dk_at dksJ10_copyOfRange_0 12 rfl rfl)
theorem dJ10_copyOfRange_13 : decode cJ10_copyOfRange 13 = .ok (.invokestatic 339, 3) := dk_184 1 83 (dk_at dksJ10_copyOfRange_0 13 rfl rfl)
theorem dJ10_copyOfRange_16 : decode cJ10_copyOfRange 16 = .ok (.areturn, 1) := dk_176 (dk_at dksJ10_copyOfRange_0 16 rfl rfl)
theorem dJ10_copyOfRange_17 : decode cJ10_copyOfRange 17 = .ok (.aload_n 0, 1) := dk_42 (dk_at dksJ10_copyOfRange_0 17 rfl rfl)
theorem dJ10_copyOfRange_18 : decode cJ10_copyOfRange 18 = .ok (.invokevirtual 310, 3) := dk_182 1 54 (dk_at dksJ10_copyOfRange_0 18 rfl rfl)
theorem dJ10_copyOfRange_21 : decode cJ10_copyOfRange 21 = .ok (.checkcast 311, 3) := dk_192 1 55 (dk_at dksJ10_copyOfRange_0 21 rfl rfl)
theorem dJ10_copyOfRange_24 : decode cJ10_copyOfRange 24 = .ok (.areturn, 1) := dk_176 (dk_at dksJ10_copyOfRange_1 0 rfl rfl)
abbrev cJ10_copyOfRangeByte : ByteArray := prog_45_method_133_code
def yJ10_copyOfRangeByte : MethodName := ⟨RJ10, "copyOfRangeByte", "([BII)[B"⟩
def dkwJ10_copyOfRangeByte_1 : List UInt8 := [184, 1, 48, 184, 0, 150, 25, 4, 176]
abbrev dktJ10_copyOfRangeByte_1 : List UInt8 := dkwJ10_copyOfRangeByte_1 ++ []
def dkwJ10_copyOfRangeByte_0 : List UInt8 := [27, 28, 184, 1, 87, 28, 27, 100, 62, 29, 188, 8, 58, 4, 42, 27, 25, 4, 3, 42, 190, 27, 100, 29]
abbrev dktJ10_copyOfRangeByte_0 : List UInt8 := dkwJ10_copyOfRangeByte_0 ++ dktJ10_copyOfRangeByte_1
theorem dksJ10_copyOfRangeByte_0 : cJ10_copyOfRangeByte.data.toList.drop 0 = dktJ10_copyOfRangeByte_0 := by decide +kernel
theorem dksJ10_copyOfRangeByte_1 : cJ10_copyOfRangeByte.data.toList.drop 24 = dktJ10_copyOfRangeByte_1 := dk_seg dksJ10_copyOfRangeByte_0 24 rfl rfl
theorem dJ10_copyOfRangeByte_0 : decode cJ10_copyOfRangeByte 0 = .ok (.iload_n 1, 1) := dk_27 (dk_at dksJ10_copyOfRangeByte_0 0 rfl rfl)
theorem dJ10_copyOfRangeByte_1 : decode cJ10_copyOfRangeByte 1 = .ok (.iload_n 2, 1) := dk_28 (dk_at dksJ10_copyOfRangeByte_0 1 rfl rfl)
theorem dJ10_copyOfRangeByte_2 : decode cJ10_copyOfRangeByte 2 = .ok (.invokestatic 343, 3) := dk_184 1 87 (dk_at dksJ10_copyOfRangeByte_0 2 rfl rfl)
theorem dJ10_copyOfRangeByte_5 : decode cJ10_copyOfRangeByte 5 = .ok (.iload_n 2, 1) := dk_28 (dk_at dksJ10_copyOfRangeByte_0 5 rfl rfl)
theorem dJ10_copyOfRangeByte_6 : decode cJ10_copyOfRangeByte 6 = .ok (.iload_n 1, 1) := dk_27 (dk_at dksJ10_copyOfRangeByte_0 6 rfl rfl)
theorem dJ10_copyOfRangeByte_7 : decode cJ10_copyOfRangeByte 7 = .ok (.isub, 1) := dk_100 (dk_at dksJ10_copyOfRangeByte_0 7 rfl rfl)
theorem dJ10_copyOfRangeByte_8 : decode cJ10_copyOfRangeByte 8 = .ok (.istore_n 3, 1) := dk_62 (dk_at dksJ10_copyOfRangeByte_0 8 rfl rfl)
theorem dJ10_copyOfRangeByte_9 : decode cJ10_copyOfRangeByte 9 = .ok (.iload_n 3, 1) := dk_29 (dk_at dksJ10_copyOfRangeByte_0 9 rfl rfl)
theorem dJ10_copyOfRangeByte_10 : decode cJ10_copyOfRangeByte 10 = .ok (.newarray .byte, 2) := dk_188_8 (dk_at dksJ10_copyOfRangeByte_0 10 rfl rfl)
theorem dJ10_copyOfRangeByte_12 : decode cJ10_copyOfRangeByte 12 = .ok (.astore 4, 2) := dk_58 4 (dk_at dksJ10_copyOfRangeByte_0 12 rfl rfl)
theorem dJ10_copyOfRangeByte_14 : decode cJ10_copyOfRangeByte 14 = .ok (.aload_n 0, 1) := dk_42 (dk_at dksJ10_copyOfRangeByte_0 14 rfl rfl)
theorem dJ10_copyOfRangeByte_15 : decode cJ10_copyOfRangeByte 15 = .ok (.iload_n 1, 1) := dk_27 (dk_at dksJ10_copyOfRangeByte_0 15 rfl rfl)
theorem dJ10_copyOfRangeByte_16 : decode cJ10_copyOfRangeByte 16 = .ok (.aload 4, 2) := dk_25 4 (dk_at dksJ10_copyOfRangeByte_0 16 rfl rfl)
theorem dJ10_copyOfRangeByte_18 : decode cJ10_copyOfRangeByte 18 = .ok (.iconst 0, 1) := dk_3 (dk_at dksJ10_copyOfRangeByte_0 18 rfl rfl)
theorem dJ10_copyOfRangeByte_19 : decode cJ10_copyOfRangeByte 19 = .ok (.aload_n 0, 1) := dk_42 (dk_at dksJ10_copyOfRangeByte_0 19 rfl rfl)
theorem dJ10_copyOfRangeByte_20 : decode cJ10_copyOfRangeByte 20 = .ok (.arraylength, 1) := dk_190 (dk_at dksJ10_copyOfRangeByte_0 20 rfl rfl)
theorem dJ10_copyOfRangeByte_21 : decode cJ10_copyOfRangeByte 21 = .ok (.iload_n 1, 1) := dk_27 (dk_at dksJ10_copyOfRangeByte_0 21 rfl rfl)
theorem dJ10_copyOfRangeByte_22 : decode cJ10_copyOfRangeByte 22 = .ok (.isub, 1) := dk_100 (dk_at dksJ10_copyOfRangeByte_0 22 rfl rfl)
theorem dJ10_copyOfRangeByte_23 : decode cJ10_copyOfRangeByte 23 = .ok (.iload_n 3, 1) := dk_29 (dk_at dksJ10_copyOfRangeByte_0 23 rfl rfl)
theorem dJ10_copyOfRangeByte_24 : decode cJ10_copyOfRangeByte 24 = .ok (.invokestatic 304, 3) := dk_184 1 48 (dk_at dksJ10_copyOfRangeByte_1 0 rfl rfl)
theorem dJ10_copyOfRangeByte_27 : decode cJ10_copyOfRangeByte 27 = .ok (.invokestatic 150, 3) := dk_184 0 150 (dk_at dksJ10_copyOfRangeByte_1 3 rfl rfl)
theorem dJ10_copyOfRangeByte_30 : decode cJ10_copyOfRangeByte 30 = .ok (.aload 4, 2) := dk_25 4 (dk_at dksJ10_copyOfRangeByte_1 6 rfl rfl)
theorem dJ10_copyOfRangeByte_32 : decode cJ10_copyOfRangeByte 32 = .ok (.areturn, 1) := dk_176 (dk_at dksJ10_copyOfRangeByte_1 8 rfl rfl)
abbrev cJ10_checkLength : ByteArray := prog_45_method_131_code
def yJ10_checkLength : MethodName := ⟨RJ10, "checkLength", "(II)V"⟩
def dkwJ10_checkLength_1 : List UInt8 := [182, 0, 50, 27, 182, 0, 54, 182, 0, 61, 183, 0, 65, 191, 177]
abbrev dktJ10_checkLength_1 : List UInt8 := dkwJ10_checkLength_1 ++ []
def dkwJ10_checkLength_0 : List UInt8 := [27, 26, 162, 0, 35, 187, 0, 43, 89, 187, 0, 45, 89, 183, 0, 47, 26, 182, 0, 54, 19, 1, 81]
abbrev dktJ10_checkLength_0 : List UInt8 := dkwJ10_checkLength_0 ++ dktJ10_checkLength_1
theorem dksJ10_checkLength_0 : cJ10_checkLength.data.toList.drop 0 = dktJ10_checkLength_0 := by decide +kernel
theorem dksJ10_checkLength_1 : cJ10_checkLength.data.toList.drop 23 = dktJ10_checkLength_1 := dk_seg dksJ10_checkLength_0 23 rfl rfl
theorem dJ10_checkLength_0 : decode cJ10_checkLength 0 = .ok (.iload_n 1, 1) := dk_27 (dk_at dksJ10_checkLength_0 0 rfl rfl)
theorem dJ10_checkLength_1 : decode cJ10_checkLength 1 = .ok (.iload_n 0, 1) := dk_26 (dk_at dksJ10_checkLength_0 1 rfl rfl)
theorem dJ10_checkLength_2 : decode cJ10_checkLength 2 = .ok (.if_icmp .ge 35, 3) := dk_162 0 35 (dk_at dksJ10_checkLength_0 2 rfl rfl)
theorem dJ10_checkLength_5 : decode cJ10_checkLength 5 = .ok (.new 43, 3) := dk_187 0 43 (dk_at dksJ10_checkLength_0 5 rfl rfl)
theorem dJ10_checkLength_8 : decode cJ10_checkLength 8 = .ok (.dup, 1) := dk_89 (dk_at dksJ10_checkLength_0 8 rfl rfl)
theorem dJ10_checkLength_9 : decode cJ10_checkLength 9 = .ok (.new 45, 3) := dk_187 0 45 (dk_at dksJ10_checkLength_0 9 rfl rfl)
theorem dJ10_checkLength_12 : decode cJ10_checkLength 12 = .ok (.dup, 1) := dk_89 (dk_at dksJ10_checkLength_0 12 rfl rfl)
theorem dJ10_checkLength_13 : decode cJ10_checkLength 13 = .ok (.invokespecial 47, 3) := dk_183 0 47 (dk_at dksJ10_checkLength_0 13 rfl rfl)
theorem dJ10_checkLength_16 : decode cJ10_checkLength 16 = .ok (.iload_n 0, 1) := dk_26 (dk_at dksJ10_checkLength_0 16 rfl rfl)
theorem dJ10_checkLength_17 : decode cJ10_checkLength 17 = .ok (.invokevirtual 54, 3) := dk_182 0 54 (dk_at dksJ10_checkLength_0 17 rfl rfl)
theorem dJ10_checkLength_20 : decode cJ10_checkLength 20 = .ok (.ldc_w 337, 3) := dk_19 1 81 (dk_at dksJ10_checkLength_0 20 rfl rfl)
theorem dJ10_checkLength_23 : decode cJ10_checkLength 23 = .ok (.invokevirtual 50, 3) := dk_182 0 50 (dk_at dksJ10_checkLength_1 0 rfl rfl)
theorem dJ10_checkLength_26 : decode cJ10_checkLength 26 = .ok (.iload_n 1, 1) := dk_27 (dk_at dksJ10_checkLength_1 3 rfl rfl)
theorem dJ10_checkLength_27 : decode cJ10_checkLength 27 = .ok (.invokevirtual 54, 3) := dk_182 0 54 (dk_at dksJ10_checkLength_1 4 rfl rfl)
theorem dJ10_checkLength_30 : decode cJ10_checkLength 30 = .ok (.invokevirtual 61, 3) := dk_182 0 61 (dk_at dksJ10_checkLength_1 7 rfl rfl)
theorem dJ10_checkLength_33 : decode cJ10_checkLength 33 = .ok (.invokespecial 65, 3) := dk_183 0 65 (dk_at dksJ10_checkLength_1 10 rfl rfl)
theorem dJ10_checkLength_36 : decode cJ10_checkLength 36 = .ok (.athrow, 1) := dk_191 (dk_at dksJ10_checkLength_1 13 rfl rfl)
theorem dJ10_checkLength_37 : decode cJ10_checkLength 37 = .ok (.return_, 1) := dk_177 (dk_at dksJ10_checkLength_1 14 rfl rfl)
abbrev cJ10_fill : ByteArray := prog_45_method_110_code
def yJ10_fill : MethodName := ⟨RJ10, "fill", "([BIIB)V"⟩
def dkwJ10_fill_1 : List UInt8 := [167, 255, 242, 177]
abbrev dktJ10_fill_1 : List UInt8 := dkwJ10_fill_1 ++ []
def dkwJ10_fill_0 : List UInt8 := [42, 190, 27, 28, 184, 0, 13, 27, 54, 4, 21, 4, 28, 162, 0, 14, 42, 21, 4, 29, 84, 132, 4, 1]
abbrev dktJ10_fill_0 : List UInt8 := dkwJ10_fill_0 ++ dktJ10_fill_1
theorem dksJ10_fill_0 : cJ10_fill.data.toList.drop 0 = dktJ10_fill_0 := by decide +kernel
theorem dksJ10_fill_1 : cJ10_fill.data.toList.drop 24 = dktJ10_fill_1 := dk_seg dksJ10_fill_0 24 rfl rfl
theorem dJ10_fill_0 : decode cJ10_fill 0 = .ok (.aload_n 0, 1) := dk_42 (dk_at dksJ10_fill_0 0 rfl rfl)
theorem dJ10_fill_1 : decode cJ10_fill 1 = .ok (.arraylength, 1) := dk_190 (dk_at dksJ10_fill_0 1 rfl rfl)
theorem dJ10_fill_2 : decode cJ10_fill 2 = .ok (.iload_n 1, 1) := dk_27 (dk_at dksJ10_fill_0 2 rfl rfl)
theorem dJ10_fill_3 : decode cJ10_fill 3 = .ok (.iload_n 2, 1) := dk_28 (dk_at dksJ10_fill_0 3 rfl rfl)
theorem dJ10_fill_4 : decode cJ10_fill 4 = .ok (.invokestatic 13, 3) := dk_184 0 13 (dk_at dksJ10_fill_0 4 rfl rfl)
theorem dJ10_fill_7 : decode cJ10_fill 7 = .ok (.iload_n 1, 1) := dk_27 (dk_at dksJ10_fill_0 7 rfl rfl)
theorem dJ10_fill_8 : decode cJ10_fill 8 = .ok (.istore 4, 2) := dk_54 4 (dk_at dksJ10_fill_0 8 rfl rfl)
theorem dJ10_fill_10 : decode cJ10_fill 10 = .ok (.iload 4, 2) := dk_21 4 (dk_at dksJ10_fill_0 10 rfl rfl)
theorem dJ10_fill_12 : decode cJ10_fill 12 = .ok (.iload_n 2, 1) := dk_28 (dk_at dksJ10_fill_0 12 rfl rfl)
theorem dJ10_fill_13 : decode cJ10_fill 13 = .ok (.if_icmp .ge 14, 3) := dk_162 0 14 (dk_at dksJ10_fill_0 13 rfl rfl)
theorem dJ10_fill_16 : decode cJ10_fill 16 = .ok (.aload_n 0, 1) := dk_42 (dk_at dksJ10_fill_0 16 rfl rfl)
theorem dJ10_fill_17 : decode cJ10_fill 17 = .ok (.iload 4, 2) := dk_21 4 (dk_at dksJ10_fill_0 17 rfl rfl)
theorem dJ10_fill_19 : decode cJ10_fill 19 = .ok (.iload_n 3, 1) := dk_29 (dk_at dksJ10_fill_0 19 rfl rfl)
theorem dJ10_fill_20 : decode cJ10_fill 20 = .ok (.bastore, 1) := dk_84 (dk_at dksJ10_fill_0 20 rfl rfl)
theorem dJ10_fill_21 : decode cJ10_fill 21 = .ok (.iinc 4 1, 3) := dk_132 4 1 (dk_at dksJ10_fill_0 21 rfl rfl)
theorem dJ10_fill_24 : decode cJ10_fill 24 = .ok (.goto (-14), 3) := dk_167 255 242 (dk_at dksJ10_fill_1 0 rfl rfl)
theorem dJ10_fill_27 : decode cJ10_fill 27 = .ok (.return_, 1) := dk_177 (dk_at dksJ10_fill_1 3 rfl rfl)
abbrev cJ10_rangeCheck : ByteArray := prog_45_method_30_code
def yJ10_rangeCheck : MethodName := ⟨RJ10, "rangeCheck", "(III)V"⟩
def dkwJ10_rangeCheck_3 : List UInt8 := [183, 0, 70, 191, 177]
abbrev dktJ10_rangeCheck_3 : List UInt8 := dkwJ10_rangeCheck_3 ++ []
def dkwJ10_rangeCheck_2 : List UInt8 := [27, 156, 0, 12, 187, 0, 68, 89, 27, 183, 0, 70, 191, 28, 26, 164, 0, 12, 187, 0, 68, 89, 28]
abbrev dktJ10_rangeCheck_2 : List UInt8 := dkwJ10_rangeCheck_2 ++ dktJ10_rangeCheck_3
def dkwJ10_rangeCheck_1 : List UInt8 := [182, 0, 54, 18, 57, 182, 0, 50, 28, 182, 0, 54, 18, 59, 182, 0, 50, 182, 0, 61, 183, 0, 65, 191]
abbrev dktJ10_rangeCheck_1 : List UInt8 := dkwJ10_rangeCheck_1 ++ dktJ10_rangeCheck_2
def dkwJ10_rangeCheck_0 : List UInt8 := [27, 28, 164, 0, 44, 187, 0, 43, 89, 187, 0, 45, 89, 183, 0, 47, 18, 48, 182, 0, 50, 27]
abbrev dktJ10_rangeCheck_0 : List UInt8 := dkwJ10_rangeCheck_0 ++ dktJ10_rangeCheck_1
theorem dksJ10_rangeCheck_0 : cJ10_rangeCheck.data.toList.drop 0 = dktJ10_rangeCheck_0 := by decide +kernel
theorem dksJ10_rangeCheck_1 : cJ10_rangeCheck.data.toList.drop 22 = dktJ10_rangeCheck_1 := dk_seg dksJ10_rangeCheck_0 22 rfl rfl
theorem dksJ10_rangeCheck_2 : cJ10_rangeCheck.data.toList.drop 46 = dktJ10_rangeCheck_2 := dk_seg dksJ10_rangeCheck_1 24 rfl rfl
theorem dksJ10_rangeCheck_3 : cJ10_rangeCheck.data.toList.drop 69 = dktJ10_rangeCheck_3 := dk_seg dksJ10_rangeCheck_2 23 rfl rfl
theorem dJ10_rangeCheck_0 : decode cJ10_rangeCheck 0 = .ok (.iload_n 1, 1) := dk_27 (dk_at dksJ10_rangeCheck_0 0 rfl rfl)
theorem dJ10_rangeCheck_1 : decode cJ10_rangeCheck 1 = .ok (.iload_n 2, 1) := dk_28 (dk_at dksJ10_rangeCheck_0 1 rfl rfl)
theorem dJ10_rangeCheck_2 : decode cJ10_rangeCheck 2 = .ok (.if_icmp .le 44, 3) := dk_164 0 44 (dk_at dksJ10_rangeCheck_0 2 rfl rfl)
theorem dJ10_rangeCheck_5 : decode cJ10_rangeCheck 5 = .ok (.new 43, 3) := dk_187 0 43 (dk_at dksJ10_rangeCheck_0 5 rfl rfl)
theorem dJ10_rangeCheck_8 : decode cJ10_rangeCheck 8 = .ok (.dup, 1) := dk_89 (dk_at dksJ10_rangeCheck_0 8 rfl rfl)
theorem dJ10_rangeCheck_9 : decode cJ10_rangeCheck 9 = .ok (.new 45, 3) := dk_187 0 45 (dk_at dksJ10_rangeCheck_0 9 rfl rfl)
theorem dJ10_rangeCheck_12 : decode cJ10_rangeCheck 12 = .ok (.dup, 1) := dk_89 (dk_at dksJ10_rangeCheck_0 12 rfl rfl)
theorem dJ10_rangeCheck_13 : decode cJ10_rangeCheck 13 = .ok (.invokespecial 47, 3) := dk_183 0 47 (dk_at dksJ10_rangeCheck_0 13 rfl rfl)
theorem dJ10_rangeCheck_16 : decode cJ10_rangeCheck 16 = .ok (.ldc 48, 2) := dk_18 48 (dk_at dksJ10_rangeCheck_0 16 rfl rfl)
theorem dJ10_rangeCheck_18 : decode cJ10_rangeCheck 18 = .ok (.invokevirtual 50, 3) := dk_182 0 50 (dk_at dksJ10_rangeCheck_0 18 rfl rfl)
theorem dJ10_rangeCheck_21 : decode cJ10_rangeCheck 21 = .ok (.iload_n 1, 1) := dk_27 (dk_at dksJ10_rangeCheck_0 21 rfl rfl)
theorem dJ10_rangeCheck_22 : decode cJ10_rangeCheck 22 = .ok (.invokevirtual 54, 3) := dk_182 0 54 (dk_at dksJ10_rangeCheck_1 0 rfl rfl)
theorem dJ10_rangeCheck_25 : decode cJ10_rangeCheck 25 = .ok (.ldc 57, 2) := dk_18 57 (dk_at dksJ10_rangeCheck_1 3 rfl rfl)
theorem dJ10_rangeCheck_27 : decode cJ10_rangeCheck 27 = .ok (.invokevirtual 50, 3) := dk_182 0 50 (dk_at dksJ10_rangeCheck_1 5 rfl rfl)
theorem dJ10_rangeCheck_30 : decode cJ10_rangeCheck 30 = .ok (.iload_n 2, 1) := dk_28 (dk_at dksJ10_rangeCheck_1 8 rfl rfl)
theorem dJ10_rangeCheck_31 : decode cJ10_rangeCheck 31 = .ok (.invokevirtual 54, 3) := dk_182 0 54 (dk_at dksJ10_rangeCheck_1 9 rfl rfl)
theorem dJ10_rangeCheck_34 : decode cJ10_rangeCheck 34 = .ok (.ldc 59, 2) := dk_18 59 (dk_at dksJ10_rangeCheck_1 12 rfl rfl)
theorem dJ10_rangeCheck_36 : decode cJ10_rangeCheck 36 = .ok (.invokevirtual 50, 3) := dk_182 0 50 (dk_at dksJ10_rangeCheck_1 14 rfl rfl)
theorem dJ10_rangeCheck_39 : decode cJ10_rangeCheck 39 = .ok (.invokevirtual 61, 3) := dk_182 0 61 (dk_at dksJ10_rangeCheck_1 17 rfl rfl)
theorem dJ10_rangeCheck_42 : decode cJ10_rangeCheck 42 = .ok (.invokespecial 65, 3) := dk_183 0 65 (dk_at dksJ10_rangeCheck_1 20 rfl rfl)
theorem dJ10_rangeCheck_45 : decode cJ10_rangeCheck 45 = .ok (.athrow, 1) := dk_191 (dk_at dksJ10_rangeCheck_1 23 rfl rfl)
theorem dJ10_rangeCheck_46 : decode cJ10_rangeCheck 46 = .ok (.iload_n 1, 1) := dk_27 (dk_at dksJ10_rangeCheck_2 0 rfl rfl)
theorem dJ10_rangeCheck_47 : decode cJ10_rangeCheck 47 = .ok (.ifCond .ge 12, 3) := dk_156 0 12 (dk_at dksJ10_rangeCheck_2 1 rfl rfl)
theorem dJ10_rangeCheck_50 : decode cJ10_rangeCheck 50 = .ok (.new 68, 3) := dk_187 0 68 (dk_at dksJ10_rangeCheck_2 4 rfl rfl)
theorem dJ10_rangeCheck_53 : decode cJ10_rangeCheck 53 = .ok (.dup, 1) := dk_89 (dk_at dksJ10_rangeCheck_2 7 rfl rfl)
theorem dJ10_rangeCheck_54 : decode cJ10_rangeCheck 54 = .ok (.iload_n 1, 1) := dk_27 (dk_at dksJ10_rangeCheck_2 8 rfl rfl)
theorem dJ10_rangeCheck_55 : decode cJ10_rangeCheck 55 = .ok (.invokespecial 70, 3) := dk_183 0 70 (dk_at dksJ10_rangeCheck_2 9 rfl rfl)
theorem dJ10_rangeCheck_58 : decode cJ10_rangeCheck 58 = .ok (.athrow, 1) := dk_191 (dk_at dksJ10_rangeCheck_2 12 rfl rfl)
theorem dJ10_rangeCheck_59 : decode cJ10_rangeCheck 59 = .ok (.iload_n 2, 1) := dk_28 (dk_at dksJ10_rangeCheck_2 13 rfl rfl)
theorem dJ10_rangeCheck_60 : decode cJ10_rangeCheck 60 = .ok (.iload_n 0, 1) := dk_26 (dk_at dksJ10_rangeCheck_2 14 rfl rfl)
theorem dJ10_rangeCheck_61 : decode cJ10_rangeCheck 61 = .ok (.if_icmp .le 12, 3) := dk_164 0 12 (dk_at dksJ10_rangeCheck_2 15 rfl rfl)
theorem dJ10_rangeCheck_64 : decode cJ10_rangeCheck 64 = .ok (.new 68, 3) := dk_187 0 68 (dk_at dksJ10_rangeCheck_2 18 rfl rfl)
theorem dJ10_rangeCheck_67 : decode cJ10_rangeCheck 67 = .ok (.dup, 1) := dk_89 (dk_at dksJ10_rangeCheck_2 21 rfl rfl)
theorem dJ10_rangeCheck_68 : decode cJ10_rangeCheck 68 = .ok (.iload_n 2, 1) := dk_28 (dk_at dksJ10_rangeCheck_2 22 rfl rfl)
theorem dJ10_rangeCheck_69 : decode cJ10_rangeCheck 69 = .ok (.invokespecial 70, 3) := dk_183 0 70 (dk_at dksJ10_rangeCheck_3 0 rfl rfl)
theorem dJ10_rangeCheck_72 : decode cJ10_rangeCheck 72 = .ok (.athrow, 1) := dk_191 (dk_at dksJ10_rangeCheck_3 3 rfl rfl)
theorem dJ10_rangeCheck_73 : decode cJ10_rangeCheck 73 = .ok (.return_, 1) := dk_177 (dk_at dksJ10_rangeCheck_3 4 rfl rfl)
theorem q77 : (Jvm.Cond.initialized "java/util/Arrays") ∈ lw_all := lw_g (lw_at lw_m1 20 rfl) rfl
theorem q479 : (Jvm.Cond.static ({ cls := "java/util/Arrays", name := "copyOf", desc := "([Ljava/lang/Object;I)[Ljava/lang/Object;" } : Jvm.MethodName)) ∈ lw_all := lw_g (lw_at lw_m2 182 rfl) rfl
theorem q480 : (Jvm.Cond.code ({ cls := "java/util/Arrays", name := "copyOf", desc := "([Ljava/lang/Object;I)[Ljava/lang/Object;" } : Jvm.MethodName) prog_45_method_119_code (2 : Nat) (Option.some (Jvm.ClassFile.FieldType.array (Jvm.ClassFile.FieldType.object "java/lang/Object")))) ∈ lw_all := lw_g (lw_at lw_m2 183 rfl) rfl
theorem q481 : (Jvm.Cond.methodLink "java/util/Arrays" (86 : Nat) ({ cls := "java/lang/Object", name := "getClass", desc := "()Ljava/lang/Class;" } : Jvm.MethodName)) ∈ lw_all := lw_g (lw_at lw_m2 184 rfl) rfl
theorem q507 : (Jvm.Cond.methodLink "java/util/Arrays" (300 : Nat) ({ cls := "java/util/Arrays", name := "copyOf", desc := "([Ljava/lang/Object;ILjava/lang/Class;)[Ljava/lang/Object;" } : Jvm.MethodName)) ∈ lw_all := lw_g (lw_at lw_m2 210 rfl) rfl
theorem q508 : (Jvm.Cond.static ({ cls := "java/util/Arrays", name := "copyOf", desc := "([Ljava/lang/Object;ILjava/lang/Class;)[Ljava/lang/Object;" } : Jvm.MethodName)) ∈ lw_all := lw_g (lw_at lw_m2 211 rfl) rfl
theorem q509 : (Jvm.Cond.code ({ cls := "java/util/Arrays", name := "copyOf", desc := "([Ljava/lang/Object;ILjava/lang/Class;)[Ljava/lang/Object;" } : Jvm.MethodName) prog_45_method_120_code (4 : Nat) (Option.some (Jvm.ClassFile.FieldType.array (Jvm.ClassFile.FieldType.object "java/lang/Object")))) ∈ lw_all := lw_g (lw_at lw_m2 212 rfl) rfl
theorem q510 : (Jvm.Cond.classLink "java/util/Arrays" (110 : Nat) "[Ljava/lang/Object;") ∈ lw_all := lw_g (lw_at lw_m2 213 rfl) rfl
theorem q511 : (Jvm.Cond.classLink "java/util/Arrays" (2 : Nat) "java/lang/Object") ∈ lw_all := lw_g (lw_at lw_m2 214 rfl) rfl
theorem q512 : (Jvm.Cond.methodLink "java/util/Arrays" (304 : Nat) ({ cls := "java/lang/Math", name := "min", desc := "(II)I" } : Jvm.MethodName)) ∈ lw_all := lw_g (lw_at lw_m2 215 rfl) rfl
theorem q515 : (Jvm.Cond.methodLink "java/util/Arrays" (150 : Nat) ({ cls := "java/lang/System", name := "arraycopy", desc := "(Ljava/lang/Object;ILjava/lang/Object;II)V" } : Jvm.MethodName)) ∈ lw_all := lw_g (lw_at lw_m2 218 rfl) rfl
theorem q1289 : (Jvm.Cond.static ({ cls := "java/util/Arrays", name := "copyOf", desc := "([BI)[B" } : Jvm.MethodName)) ∈ lw_all := lw_g (lw_at lw_m6 32 rfl) rfl
theorem q1290 : (Jvm.Cond.code ({ cls := "java/util/Arrays", name := "copyOf", desc := "([BI)[B" } : Jvm.MethodName) prog_45_method_121_code (3 : Nat) (Option.some (Jvm.ClassFile.FieldType.array Jvm.ClassFile.FieldType.byte))) ∈ lw_all := lw_g (lw_at lw_m6 33 rfl) rfl
theorem q1291 : (Jvm.Cond.methodLink "java/util/Arrays" (310 : Nat) ({ cls := "[B", name := "clone", desc := "()Ljava/lang/Object;" } : Jvm.MethodName)) ∈ lw_all := lw_g (lw_at lw_m6 34 rfl) rfl
theorem q1295 : (Jvm.Cond.classLink "java/util/Arrays" (311 : Nat) "[B") ∈ lw_all := lw_g (lw_at lw_m6 38 rfl) rfl
theorem q1529 : (Jvm.Cond.static ({ cls := "java/util/Arrays", name := "copyOfRange", desc := "([BII)[B" } : Jvm.MethodName)) ∈ lw_all := lw_g (lw_at lw_m7 32 rfl) rfl
theorem q1530 : (Jvm.Cond.code ({ cls := "java/util/Arrays", name := "copyOfRange", desc := "([BII)[B" } : Jvm.MethodName) prog_45_method_132_code (3 : Nat) (Option.some (Jvm.ClassFile.FieldType.array Jvm.ClassFile.FieldType.byte))) ∈ lw_all := lw_g (lw_at lw_m7 33 rfl) rfl
theorem q1531 : (Jvm.Cond.methodLink "java/util/Arrays" (339 : Nat) ({ cls := "java/util/Arrays", name := "copyOfRangeByte", desc := "([BII)[B" } : Jvm.MethodName)) ∈ lw_all := lw_g (lw_at lw_m7 34 rfl) rfl
theorem q1532 : (Jvm.Cond.static ({ cls := "java/util/Arrays", name := "copyOfRangeByte", desc := "([BII)[B" } : Jvm.MethodName)) ∈ lw_all := lw_g (lw_at lw_m7 35 rfl) rfl
theorem q1533 : (Jvm.Cond.code ({ cls := "java/util/Arrays", name := "copyOfRangeByte", desc := "([BII)[B" } : Jvm.MethodName) prog_45_method_133_code (5 : Nat) (Option.some (Jvm.ClassFile.FieldType.array Jvm.ClassFile.FieldType.byte))) ∈ lw_all := lw_g (lw_at lw_m7 36 rfl) rfl
theorem q1534 : (Jvm.Cond.methodLink "java/util/Arrays" (343 : Nat) ({ cls := "java/util/Arrays", name := "checkLength", desc := "(II)V" } : Jvm.MethodName)) ∈ lw_all := lw_g (lw_at lw_m7 37 rfl) rfl
theorem q1535 : (Jvm.Cond.static ({ cls := "java/util/Arrays", name := "checkLength", desc := "(II)V" } : Jvm.MethodName)) ∈ lw_all := lw_g (lw_at lw_m7 38 rfl) rfl
theorem q1536 : (Jvm.Cond.code ({ cls := "java/util/Arrays", name := "checkLength", desc := "(II)V" } : Jvm.MethodName) prog_45_method_131_code (2 : Nat) (Option.none : Option Jvm.ClassFile.FieldType)) ∈ lw_all := lw_g (lw_at lw_m7 39 rfl) rfl
theorem q1537 : (Jvm.Cond.classLink "java/util/Arrays" (43 : Nat) "java/lang/IllegalArgumentException") ∈ lw_all := lw_g (lw_at lw_m7 40 rfl) rfl
theorem q1538 : (Jvm.Cond.classLink "java/util/Arrays" (45 : Nat) "java/lang/StringBuilder") ∈ lw_all := lw_g (lw_at lw_m7 41 rfl) rfl
theorem q1539 : (Jvm.Cond.methodLink "java/util/Arrays" (47 : Nat) ({ cls := "java/lang/StringBuilder", name := "<init>", desc := "()V" } : Jvm.MethodName)) ∈ lw_all := lw_g (lw_at lw_m7 42 rfl) rfl
theorem q1540 : (Jvm.Cond.methodLink "java/util/Arrays" (54 : Nat) ({ cls := "java/lang/StringBuilder", name := "append", desc := "(I)Ljava/lang/StringBuilder;" } : Jvm.MethodName)) ∈ lw_all := lw_g (lw_at lw_m7 43 rfl) rfl
theorem q1541 : (Jvm.Cond.stringRef "java/util/Arrays" (337 : Nat) " > ") ∈ lw_tbl := lw_at lw_m7 44 rfl
theorem q1542 : (Jvm.Cond.methodLink "java/util/Arrays" (50 : Nat) ({ cls := "java/lang/StringBuilder", name := "append", desc := "(Ljava/lang/String;)Ljava/lang/StringBuilder;" } : Jvm.MethodName)) ∈ lw_all := lw_g (lw_at lw_m7 45 rfl) rfl
theorem q1543 : (Jvm.Cond.methodLink "java/util/Arrays" (61 : Nat) ({ cls := "java/lang/StringBuilder", name := "toString", desc := "()Ljava/lang/String;" } : Jvm.MethodName)) ∈ lw_all := lw_g (lw_at lw_m7 46 rfl) rfl
theorem q1544 : (Jvm.Cond.methodLink "java/util/Arrays" (65 : Nat) ({ cls := "java/lang/IllegalArgumentException", name := "<init>", desc := "(Ljava/lang/String;)V" } : Jvm.MethodName)) ∈ lw_all := lw_g (lw_at lw_m7 47 rfl) rfl
theorem q1578 : (Jvm.Cond.static ({ cls := "java/util/Arrays", name := "fill", desc := "([BIIB)V" } : Jvm.MethodName)) ∈ lw_all := lw_g (lw_at lw_m7 81 rfl) rfl
theorem q1579 : (Jvm.Cond.code ({ cls := "java/util/Arrays", name := "fill", desc := "([BIIB)V" } : Jvm.MethodName) prog_45_method_110_code (5 : Nat) (Option.none : Option Jvm.ClassFile.FieldType)) ∈ lw_all := lw_g (lw_at lw_m7 82 rfl) rfl
theorem q1580 : (Jvm.Cond.methodLink "java/util/Arrays" (13 : Nat) ({ cls := "java/util/Arrays", name := "rangeCheck", desc := "(III)V" } : Jvm.MethodName)) ∈ lw_all := lw_g (lw_at lw_m7 83 rfl) rfl
theorem q1581 : (Jvm.Cond.static ({ cls := "java/util/Arrays", name := "rangeCheck", desc := "(III)V" } : Jvm.MethodName)) ∈ lw_all := lw_g (lw_at lw_m7 84 rfl) rfl
theorem q1582 : (Jvm.Cond.code ({ cls := "java/util/Arrays", name := "rangeCheck", desc := "(III)V" } : Jvm.MethodName) prog_45_method_30_code (3 : Nat) (Option.none : Option Jvm.ClassFile.FieldType)) ∈ lw_all := lw_g (lw_at lw_m7 85 rfl) rfl
theorem q1583 : (Jvm.Cond.stringRef "java/util/Arrays" (48 : Nat) "fromIndex(") ∈ lw_tbl := lw_at lw_m7 86 rfl
theorem q1584 : (Jvm.Cond.stringRef "java/util/Arrays" (57 : Nat) ") > toIndex(") ∈ lw_tbl := lw_at lw_m7 87 rfl
theorem q1585 : (Jvm.Cond.stringRef "java/util/Arrays" (59 : Nat) ")") ∈ lw_tbl := lw_at lw_m7 88 rfl
theorem q1586 : (Jvm.Cond.classLink "java/util/Arrays" (68 : Nat) "java/lang/ArrayIndexOutOfBoundsException") ∈ lw_all := lw_g (lw_at lw_m7 89 rfl) rfl
theorem q1587 : (Jvm.Cond.methodLink "java/util/Arrays" (70 : Nat) ({ cls := "java/lang/ArrayIndexOutOfBoundsException", name := "<init>", desc := "(I)V" } : Jvm.MethodName)) ∈ lw_all := lw_g (lw_at lw_m7 90 rfl) rfl
/-! java/lang/Math -/
set_option maxRecDepth 100000
def RJ11 : String := "java/lang/Math"
abbrev cJ11_min : ByteArray := prog_30_method_69_code
def yJ11_min : MethodName := ⟨RJ11, "min", "(II)I"⟩
def dkwJ11_min_0 : List UInt8 := [26, 27, 163, 0, 7, 26, 167, 0, 4, 27, 172]
abbrev dktJ11_min_0 : List UInt8 := dkwJ11_min_0 ++ []
theorem dksJ11_min_0 : cJ11_min.data.toList.drop 0 = dktJ11_min_0 := by decide +kernel
theorem dJ11_min_0 : decode cJ11_min 0 = .ok (.iload_n 0, 1) := dk_26 (dk_at dksJ11_min_0 0 rfl rfl)
theorem dJ11_min_1 : decode cJ11_min 1 = .ok (.iload_n 1, 1) := dk_27 (dk_at dksJ11_min_0 1 rfl rfl)
theorem dJ11_min_2 : decode cJ11_min 2 = .ok (.if_icmp .gt 7, 3) := dk_163 0 7 (dk_at dksJ11_min_0 2 rfl rfl)
theorem dJ11_min_5 : decode cJ11_min 5 = .ok (.iload_n 0, 1) := dk_26 (dk_at dksJ11_min_0 5 rfl rfl)
theorem dJ11_min_6 : decode cJ11_min 6 = .ok (.goto 4, 3) := dk_167 0 4 (dk_at dksJ11_min_0 6 rfl rfl)
theorem dJ11_min_9 : decode cJ11_min 9 = .ok (.iload_n 1, 1) := dk_27 (dk_at dksJ11_min_0 9 rfl rfl)
theorem dJ11_min_10 : decode cJ11_min 10 = .ok (.ireturn, 1) := dk_172 (dk_at dksJ11_min_0 10 rfl rfl)
abbrev cJ11_max : ByteArray := prog_30_method_65_code
def yJ11_max : MethodName := ⟨RJ11, "max", "(II)I"⟩
def dkwJ11_max_0 : List UInt8 := [26, 27, 161, 0, 7, 26, 167, 0, 4, 27, 172]
abbrev dktJ11_max_0 : List UInt8 := dkwJ11_max_0 ++ []
theorem dksJ11_max_0 : cJ11_max.data.toList.drop 0 = dktJ11_max_0 := by decide +kernel
theorem dJ11_max_0 : decode cJ11_max 0 = .ok (.iload_n 0, 1) := dk_26 (dk_at dksJ11_max_0 0 rfl rfl)
theorem dJ11_max_1 : decode cJ11_max 1 = .ok (.iload_n 1, 1) := dk_27 (dk_at dksJ11_max_0 1 rfl rfl)
theorem dJ11_max_2 : decode cJ11_max 2 = .ok (.if_icmp .lt 7, 3) := dk_161 0 7 (dk_at dksJ11_max_0 2 rfl rfl)
theorem dJ11_max_5 : decode cJ11_max 5 = .ok (.iload_n 0, 1) := dk_26 (dk_at dksJ11_max_0 5 rfl rfl)
theorem dJ11_max_6 : decode cJ11_max 6 = .ok (.goto 4, 3) := dk_167 0 4 (dk_at dksJ11_max_0 6 rfl rfl)
theorem dJ11_max_9 : decode cJ11_max 9 = .ok (.iload_n 1, 1) := dk_27 (dk_at dksJ11_max_0 9 rfl rfl)
theorem dJ11_max_10 : decode cJ11_max 10 = .ok (.ireturn, 1) := dk_172 (dk_at dksJ11_max_0 10 rfl rfl)
abbrev cJ11_min_2 : ByteArray := prog_30_method_71_code
def yJ11_min_2 : MethodName := ⟨RJ11, "min", "(FF)F"⟩
def dkwJ11_min_2_1 : List UInt8 := [133, 178, 0, 170, 148, 154, 0, 5, 35, 174, 34, 35, 150, 157, 0, 7, 34, 167, 0, 4, 35, 174]
abbrev dktJ11_min_2_1 : List UInt8 := dkwJ11_min_2_1 ++ []
def dkwJ11_min_2_0 : List UInt8 := [34, 34, 149, 153, 0, 5, 34, 174, 34, 11, 149, 154, 0, 23, 35, 11, 149, 154, 0, 17, 35, 184, 0, 68]
abbrev dktJ11_min_2_0 : List UInt8 := dkwJ11_min_2_0 ++ dktJ11_min_2_1
theorem dksJ11_min_2_0 : cJ11_min_2.data.toList.drop 0 = dktJ11_min_2_0 := by decide +kernel
theorem dksJ11_min_2_1 : cJ11_min_2.data.toList.drop 24 = dktJ11_min_2_1 := dk_seg dksJ11_min_2_0 24 rfl rfl
theorem dJ11_min_2_0 : decode cJ11_min_2 0 = .ok (.fload_n 0, 1) := dk_34 (dk_at dksJ11_min_2_0 0 rfl rfl)
theorem dJ11_min_2_1 : decode cJ11_min_2 1 = .ok (.fload_n 0, 1) := dk_34 (dk_at dksJ11_min_2_0 1 rfl rfl)
theorem dJ11_min_2_2 : decode cJ11_min_2 2 = .ok (.fcmp .l, 1) := dk_149 (dk_at dksJ11_min_2_0 2 rfl rfl)
theorem dJ11_min_2_3 : decode cJ11_min_2 3 = .ok (.ifCond .eq 5, 3) := dk_153 0 5 (dk_at dksJ11_min_2_0 3 rfl rfl)
theorem dJ11_min_2_6 : decode cJ11_min_2 6 = .ok (.fload_n 0, 1) := dk_34 (dk_at dksJ11_min_2_0 6 rfl rfl)
theorem dJ11_min_2_7 : decode cJ11_min_2 7 = .ok (.freturn, 1) := dk_174 (dk_at dksJ11_min_2_0 7 rfl rfl)
theorem dJ11_min_2_8 : decode cJ11_min_2 8 = .ok (.fload_n 0, 1) := dk_34 (dk_at dksJ11_min_2_0 8 rfl rfl)
theorem dJ11_min_2_9 : decode cJ11_min_2 9 = .ok (.fconst 0, 1) := dk_11 (dk_at dksJ11_min_2_0 9 rfl rfl)
theorem dJ11_min_2_10 : decode cJ11_min_2 10 = .ok (.fcmp .l, 1) := dk_149 (dk_at dksJ11_min_2_0 10 rfl rfl)
theorem dJ11_min_2_11 : decode cJ11_min_2 11 = .ok (.ifCond .ne 23, 3) := dk_154 0 23 (dk_at dksJ11_min_2_0 11 rfl rfl)
theorem dJ11_min_2_14 : decode cJ11_min_2 14 = .ok (.fload_n 1, 1) := dk_35 (dk_at dksJ11_min_2_0 14 rfl rfl)
theorem dJ11_min_2_15 : decode cJ11_min_2 15 = .ok (.fconst 0, 1) := dk_11 (dk_at dksJ11_min_2_0 15 rfl rfl)
theorem dJ11_min_2_16 : decode cJ11_min_2 16 = .ok (.fcmp .l, 1) := dk_149 (dk_at dksJ11_min_2_0 16 rfl rfl)
theorem dJ11_min_2_17 : decode cJ11_min_2 17 = .ok (.ifCond .ne 17, 3) := dk_154 0 17 (dk_at dksJ11_min_2_0 17 rfl rfl)
theorem dJ11_min_2_20 : decode cJ11_min_2 20 = .ok (.fload_n 1, 1) := dk_35 (dk_at dksJ11_min_2_0 20 rfl rfl)
theorem dJ11_min_2_21 : decode cJ11_min_2 21 = .ok (.invokestatic 68, 3) := dk_184 0 68 (dk_at dksJ11_min_2_0 21 rfl rfl)
theorem dJ11_min_2_24 : decode cJ11_min_2 24 = .ok (.i2l, 1) := dk_133 (dk_at dksJ11_min_2_1 0 rfl rfl)
theorem dJ11_min_2_25 : decode cJ11_min_2 25 = .ok (.getstatic 170, 3) := dk_178 0 170 (dk_at dksJ11_min_2_1 1 rfl rfl)
theorem dJ11_min_2_28 : decode cJ11_min_2 28 = .ok (.lcmp, 1) := dk_148 (dk_at dksJ11_min_2_1 4 rfl rfl)
theorem dJ11_min_2_29 : decode cJ11_min_2 29 = .ok (.ifCond .ne 5, 3) := dk_154 0 5 (dk_at dksJ11_min_2_1 5 rfl rfl)
theorem dJ11_min_2_32 : decode cJ11_min_2 32 = .ok (.fload_n 1, 1) := dk_35 (dk_at dksJ11_min_2_1 8 rfl rfl)
theorem dJ11_min_2_33 : decode cJ11_min_2 33 = .ok (.freturn, 1) := dk_174 (dk_at dksJ11_min_2_1 9 rfl rfl)
theorem dJ11_min_2_34 : decode cJ11_min_2 34 = .ok (.fload_n 0, 1) := dk_34 (dk_at dksJ11_min_2_1 10 rfl rfl)
theorem dJ11_min_2_35 : decode cJ11_min_2 35 = .ok (.fload_n 1, 1) := dk_35 (dk_at dksJ11_min_2_1 11 rfl rfl)
theorem dJ11_min_2_36 : decode cJ11_min_2 36 = .ok (.fcmp .g, 1) := dk_150 (dk_at dksJ11_min_2_1 12 rfl rfl)
theorem dJ11_min_2_37 : decode cJ11_min_2 37 = .ok (.ifCond .gt 7, 3) := dk_157 0 7 (dk_at dksJ11_min_2_1 13 rfl rfl)
theorem dJ11_min_2_40 : decode cJ11_min_2 40 = .ok (.fload_n 0, 1) := dk_34 (dk_at dksJ11_min_2_1 16 rfl rfl)
theorem dJ11_min_2_41 : decode cJ11_min_2 41 = .ok (.goto 4, 3) := dk_167 0 4 (dk_at dksJ11_min_2_1 17 rfl rfl)
theorem dJ11_min_2_44 : decode cJ11_min_2 44 = .ok (.fload_n 1, 1) := dk_35 (dk_at dksJ11_min_2_1 20 rfl rfl)
theorem dJ11_min_2_45 : decode cJ11_min_2 45 = .ok (.freturn, 1) := dk_174 (dk_at dksJ11_min_2_1 21 rfl rfl)
abbrev cJ11_max_2 : ByteArray := prog_30_method_67_code
def yJ11_max_2 : MethodName := ⟨RJ11, "max", "(FF)F"⟩
def dkwJ11_max_2_1 : List UInt8 := [133, 178, 0, 170, 148, 154, 0, 5, 35, 174, 34, 35, 149, 155, 0, 7, 34, 167, 0, 4, 35, 174]
abbrev dktJ11_max_2_1 : List UInt8 := dkwJ11_max_2_1 ++ []
def dkwJ11_max_2_0 : List UInt8 := [34, 34, 149, 153, 0, 5, 34, 174, 34, 11, 149, 154, 0, 23, 35, 11, 149, 154, 0, 17, 34, 184, 0, 68]
abbrev dktJ11_max_2_0 : List UInt8 := dkwJ11_max_2_0 ++ dktJ11_max_2_1
theorem dksJ11_max_2_0 : cJ11_max_2.data.toList.drop 0 = dktJ11_max_2_0 := by decide +kernel
theorem dksJ11_max_2_1 : cJ11_max_2.data.toList.drop 24 = dktJ11_max_2_1 := dk_seg dksJ11_max_2_0 24 rfl rfl
theorem dJ11_max_2_0 : decode cJ11_max_2 0 = .ok (.fload_n 0, 1) := dk_34 (dk_at dksJ11_max_2_0 0 rfl rfl)
theorem dJ11_max_2_1 : decode cJ11_max_2 1 = .ok (.fload_n 0, 1) := dk_34 (dk_at dksJ11_max_2_0 1 rfl rfl)
theorem dJ11_max_2_2 : decode cJ11_max_2 2 = .ok (.fcmp .l, 1) := dk_149 (dk_at dksJ11_max_2_0 2 rfl rfl)
theorem dJ11_max_2_3 : decode cJ11_max_2 3 = .ok (.ifCond .eq 5, 3) := dk_153 0 5 (dk_at dksJ11_max_2_0 3 rfl rfl)
theorem dJ11_max_2_6 : decode cJ11_max_2 6 = .ok (.fload_n 0, 1) := dk_34 (dk_at dksJ11_max_2_0 6 rfl rfl)
theorem dJ11_max_2_7 : decode cJ11_max_2 7 = .ok (.freturn, 1) := dk_174 (dk_at dksJ11_max_2_0 7 rfl rfl)
theorem dJ11_max_2_8 : decode cJ11_max_2 8 = .ok (.fload_n 0, 1) := dk_34 (dk_at dksJ11_max_2_0 8 rfl rfl)
theorem dJ11_max_2_9 : decode cJ11_max_2 9 = .ok (.fconst 0, 1) := dk_11 (dk_at dksJ11_max_2_0 9 rfl rfl)
theorem dJ11_max_2_10 : decode cJ11_max_2 10 = .ok (.fcmp .l, 1) := dk_149 (dk_at dksJ11_max_2_0 10 rfl rfl)
theorem dJ11_max_2_11 : decode cJ11_max_2 11 = .ok (.ifCond .ne 23, 3) := dk_154 0 23 (dk_at dksJ11_max_2_0 11 rfl rfl)
theorem dJ11_max_2_14 : decode cJ11_max_2 14 = .ok (.fload_n 1, 1) := dk_35 (dk_at dksJ11_max_2_0 14 rfl rfl)
theorem dJ11_max_2_15 : decode cJ11_max_2 15 = .ok (.fconst 0, 1) := dk_11 (dk_at dksJ11_max_2_0 15 rfl rfl)
theorem dJ11_max_2_16 : decode cJ11_max_2 16 = .ok (.fcmp .l, 1) := dk_149 (dk_at dksJ11_max_2_0 16 rfl rfl)
theorem dJ11_max_2_17 : decode cJ11_max_2 17 = .ok (.ifCond .ne 17, 3) := dk_154 0 17 (dk_at dksJ11_max_2_0 17 rfl rfl)
theorem dJ11_max_2_20 : decode cJ11_max_2 20 = .ok (.fload_n 0, 1) := dk_34 (dk_at dksJ11_max_2_0 20 rfl rfl)
theorem dJ11_max_2_21 : decode cJ11_max_2 21 = .ok (.invokestatic 68, 3) := dk_184 0 68 (dk_at dksJ11_max_2_0 21 rfl rfl)
theorem dJ11_max_2_24 : decode cJ11_max_2 24 = .ok (.i2l, 1) := dk_133 (dk_at dksJ11_max_2_1 0 rfl rfl)
theorem dJ11_max_2_25 : decode cJ11_max_2 25 = .ok (.getstatic 170, 3) := dk_178 0 170 (dk_at dksJ11_max_2_1 1 rfl rfl)
theorem dJ11_max_2_28 : decode cJ11_max_2 28 = .ok (.lcmp, 1) := dk_148 (dk_at dksJ11_max_2_1 4 rfl rfl)
theorem dJ11_max_2_29 : decode cJ11_max_2 29 = .ok (.ifCond .ne 5, 3) := dk_154 0 5 (dk_at dksJ11_max_2_1 5 rfl rfl)
theorem dJ11_max_2_32 : decode cJ11_max_2 32 = .ok (.fload_n 1, 1) := dk_35 (dk_at dksJ11_max_2_1 8 rfl rfl)
theorem dJ11_max_2_33 : decode cJ11_max_2 33 = .ok (.freturn, 1) := dk_174 (dk_at dksJ11_max_2_1 9 rfl rfl)
theorem dJ11_max_2_34 : decode cJ11_max_2 34 = .ok (.fload_n 0, 1) := dk_34 (dk_at dksJ11_max_2_1 10 rfl rfl)
theorem dJ11_max_2_35 : decode cJ11_max_2 35 = .ok (.fload_n 1, 1) := dk_35 (dk_at dksJ11_max_2_1 11 rfl rfl)
theorem dJ11_max_2_36 : decode cJ11_max_2 36 = .ok (.fcmp .l, 1) := dk_149 (dk_at dksJ11_max_2_1 12 rfl rfl)
theorem dJ11_max_2_37 : decode cJ11_max_2 37 = .ok (.ifCond .lt 7, 3) := dk_155 0 7 (dk_at dksJ11_max_2_1 13 rfl rfl)
theorem dJ11_max_2_40 : decode cJ11_max_2 40 = .ok (.fload_n 0, 1) := dk_34 (dk_at dksJ11_max_2_1 16 rfl rfl)
theorem dJ11_max_2_41 : decode cJ11_max_2 41 = .ok (.goto 4, 3) := dk_167 0 4 (dk_at dksJ11_max_2_1 17 rfl rfl)
theorem dJ11_max_2_44 : decode cJ11_max_2 44 = .ok (.fload_n 1, 1) := dk_35 (dk_at dksJ11_max_2_1 20 rfl rfl)
theorem dJ11_max_2_45 : decode cJ11_max_2 45 = .ok (.freturn, 1) := dk_174 (dk_at dksJ11_max_2_1 21 rfl rfl)
theorem q78 : (Jvm.Cond.initialized "java/lang/Math") ∈ lw_all := lw_g (lw_at lw_m1 21 rfl) rfl
theorem q513 : (Jvm.Cond.static ({ cls := "java/lang/Math", name := "min", desc := "(II)I" } : Jvm.MethodName)) ∈ lw_all := lw_g (lw_at lw_m2 216 rfl) rfl
theorem q514 : (Jvm.Cond.code ({ cls := "java/lang/Math", name := "min", desc := "(II)I" } : Jvm.MethodName) prog_30_method_69_code (2 : Nat) (Option.some Jvm.ClassFile.FieldType.int)) ∈ lw_all := lw_g (lw_at lw_m2 217 rfl) rfl
theorem q660 : (Jvm.Cond.static ({ cls := "java/lang/Math", name := "max", desc := "(II)I" } : Jvm.MethodName)) ∈ lw_all := lw_g (lw_at lw_m3 123 rfl) rfl
theorem q661 : (Jvm.Cond.code ({ cls := "java/lang/Math", name := "max", desc := "(II)I" } : Jvm.MethodName) prog_30_method_65_code (2 : Nat) (Option.some Jvm.ClassFile.FieldType.int)) ∈ lw_all := lw_g (lw_at lw_m3 124 rfl) rfl
theorem q918 : (Jvm.Cond.static ({ cls := "java/lang/Math", name := "min", desc := "(FF)F" } : Jvm.MethodName)) ∈ lw_all := lw_g (lw_at lw_m4 141 rfl) rfl
theorem q919 : (Jvm.Cond.code ({ cls := "java/lang/Math", name := "min", desc := "(FF)F" } : Jvm.MethodName) prog_30_method_71_code (2 : Nat) (Option.some Jvm.ClassFile.FieldType.float)) ∈ lw_all := lw_g (lw_at lw_m4 142 rfl) rfl
theorem q920 : (Jvm.Cond.methodLink "java/lang/Math" (68 : Nat) ({ cls := "java/lang/Float", name := "floatToRawIntBits", desc := "(F)I" } : Jvm.MethodName)) ∈ lw_all := lw_g (lw_at lw_m4 143 rfl) rfl
theorem q923 : (Jvm.Cond.fieldLink "java/lang/Math" (170 : Nat) "java/lang/Math" "negativeZeroFloatBits" "J") ∈ lw_all := lw_g (lw_at lw_m4 146 rfl) rfl
theorem q924 : (Jvm.Cond.laysStatic "java/lang/Math" "negativeZeroFloatBits" "J") ∈ lw_tbl := lw_at lw_m4 147 rfl
theorem q928 : (Jvm.Cond.static ({ cls := "java/lang/Math", name := "max", desc := "(FF)F" } : Jvm.MethodName)) ∈ lw_all := lw_g (lw_at lw_m4 151 rfl) rfl
theorem q929 : (Jvm.Cond.code ({ cls := "java/lang/Math", name := "max", desc := "(FF)F" } : Jvm.MethodName) prog_30_method_67_code (2 : Nat) (Option.some Jvm.ClassFile.FieldType.float)) ∈ lw_all := lw_g (lw_at lw_m4 152 rfl) rfl
/-! java/lang/IllegalArgumentException -/
set_option maxRecDepth 100000
def RJ12 : String := "java/lang/IllegalArgumentException"
def TJ12 : u_T := fun k => match k with
  | 0 => ("java/lang/Throwable", "cause", "Ljava/lang/Throwable;", false)
  | 1 => ("java/lang/Throwable", "stackTrace", "[Ljava/lang/StackTraceElement;", false)
  | 2 => ("java/lang/Throwable", "suppressedExceptions", "Ljava/util/List;", false)
  | 3 => ("java/lang/Throwable", "detailMessage", "Ljava/lang/String;", false)
  | 4 => ("java/lang/Throwable", "backtrace", "Ljava/lang/Object;", false)
  | _ => ("java/lang/Throwable", "depth", "I", false)
def tyJ12 : Nat → FieldType := fun k => match k with
  | 0 => .object "java/lang/Throwable"
  | 1 => .array (.object "java/lang/StackTraceElement")
  | 2 => .object "java/util/List"
  | 3 => .object "java/lang/String"
  | 4 => .object "java/lang/Object"
  | _ => .int
abbrev wsJ120 : List Cond := u_ws RJ12 TJ12 6
theorem nmJ12 : ∀ a, a < 6 → ∀ b, b < 6 → a ≠ b → (TJ12 a).2.1 ≠ (TJ12 b).2.1 := by decide +kernel
theorem tyJ12_ok : ∀ k, k < 6 → parseFieldDescriptor (TJ12 k).2.2.1 = some (tyJ12 k) := by decide +kernel
abbrev cJ12_init : ByteArray := prog_25_method_1_code
def yJ12_init : MethodName := ⟨RJ12, "<init>", "()V"⟩
theorem dJ12_init_0 : decode cJ12_init 0 = .ok (.aload_n 0, 1) := by decide +kernel
theorem dJ12_init_1 : decode cJ12_init 1 = .ok (.invokespecial 1, 3) := by decide +kernel
theorem dJ12_init_4 : decode cJ12_init 4 = .ok (.return_, 1) := by decide +kernel
abbrev cJ12_init_2 : ByteArray := prog_25_method_2_code
def yJ12_init_2 : MethodName := ⟨RJ12, "<init>", "(Ljava/lang/String;)V"⟩
def dkwJ12_init_2_0 : List UInt8 := [42, 43, 183, 0, 7, 177]
abbrev dktJ12_init_2_0 : List UInt8 := dkwJ12_init_2_0 ++ []
theorem dksJ12_init_2_0 : cJ12_init_2.data.toList.drop 0 = dktJ12_init_2_0 := by decide +kernel
theorem dJ12_init_2_0 : decode cJ12_init_2 0 = .ok (.aload_n 0, 1) := dk_42 (dk_at dksJ12_init_2_0 0 rfl rfl)
theorem dJ12_init_2_1 : decode cJ12_init_2 1 = .ok (.aload_n 1, 1) := dk_43 (dk_at dksJ12_init_2_0 1 rfl rfl)
theorem dJ12_init_2_2 : decode cJ12_init_2 2 = .ok (.invokespecial 7, 3) := dk_183 0 7 (dk_at dksJ12_init_2_0 2 rfl rfl)
theorem dJ12_init_2_5 : decode cJ12_init_2 5 = .ok (.return_, 1) := dk_177 (dk_at dksJ12_init_2_0 5 rfl rfl)
theorem q81 : (Jvm.Cond.initialized "java/lang/IllegalArgumentException") ∈ lw_all := lw_g (lw_at lw_m1 24 rfl) rfl
theorem q440 : (Jvm.Cond.selects "java/lang/IllegalArgumentException" ({ cls := "java/lang/Throwable", name := "fillInStackTrace", desc := "()Ljava/lang/Throwable;" } : Jvm.MethodName) ({ cls := "java/lang/Throwable", name := "fillInStackTrace", desc := "()Ljava/lang/Throwable;" } : Jvm.MethodName)) ∈ lw_all := lw_g (lw_at lw_m2 143 rfl) rfl
theorem q497 : (Jvm.Cond.selects "java/lang/IllegalArgumentException" ({ cls := "java/lang/Object", name := "getClass", desc := "()Ljava/lang/Class;" } : Jvm.MethodName) ({ cls := "java/lang/Object", name := "getClass", desc := "()Ljava/lang/Class;" } : Jvm.MethodName)) ∈ lw_all := lw_g (lw_at lw_m2 200 rfl) rfl
theorem q706 : (Jvm.Cond.instantiable "java/lang/IllegalArgumentException" (6 : Nat)) ∈ lw_all := lw_g (lw_at lw_m3 169 rfl) rfl
theorem q707 : (Jvm.Cond.castable "java/lang/IllegalArgumentException" "java/lang/IllegalArgumentException") ∈ lw_tbl := lw_at lw_m3 170 rfl
theorem q708 : (Jvm.Cond.selects "java/lang/IllegalArgumentException" ({ cls := "java/lang/Throwable", name := "fillInStackTrace", desc := "(I)Ljava/lang/Throwable;" } : Jvm.MethodName) ({ cls := "java/lang/Throwable", name := "fillInStackTrace", desc := "(I)Ljava/lang/Throwable;" } : Jvm.MethodName)) ∈ lw_all := lw_g (lw_at lw_m3 171 rfl) rfl
theorem q709 : (Jvm.Cond.lays "java/lang/IllegalArgumentException" "java/lang/Throwable" "cause" "Ljava/lang/Throwable;") ∈ lw_all := lw_g (lw_at lw_m3 172 rfl) rfl
theorem q710 : (Jvm.Cond.lays "java/lang/IllegalArgumentException" "java/lang/Throwable" "stackTrace" "[Ljava/lang/StackTraceElement;") ∈ lw_all := lw_g (lw_at lw_m3 173 rfl) rfl
theorem q711 : (Jvm.Cond.lays "java/lang/IllegalArgumentException" "java/lang/Throwable" "suppressedExceptions" "Ljava/util/List;") ∈ lw_all := lw_g (lw_at lw_m3 174 rfl) rfl
theorem q712 : (Jvm.Cond.lays "java/lang/IllegalArgumentException" "java/lang/Throwable" "detailMessage" "Ljava/lang/String;") ∈ lw_all := lw_g (lw_at lw_m3 175 rfl) rfl
theorem q713 : (Jvm.Cond.lays "java/lang/IllegalArgumentException" "java/lang/Throwable" "backtrace" "Ljava/lang/Object;") ∈ lw_all := lw_g (lw_at lw_m3 176 rfl) rfl
theorem q715 : (Jvm.Cond.instanceMethod ({ cls := "java/lang/IllegalArgumentException", name := "<init>", desc := "()V" } : Jvm.MethodName)) ∈ lw_all := lw_g (lw_at lw_m3 178 rfl) rfl
theorem q716 : (Jvm.Cond.code ({ cls := "java/lang/IllegalArgumentException", name := "<init>", desc := "()V" } : Jvm.MethodName) prog_25_method_1_code (1 : Nat) (Option.none : Option Jvm.ClassFile.FieldType)) ∈ lw_all := lw_g (lw_at lw_m3 179 rfl) rfl
theorem q717 : (Jvm.Cond.methodLink "java/lang/IllegalArgumentException" (1 : Nat) ({ cls := "java/lang/RuntimeException", name := "<init>", desc := "()V" } : Jvm.MethodName)) ∈ lw_all := lw_g (lw_at lw_m3 180 rfl) rfl
theorem q724 : (Jvm.Cond.lays "java/lang/IllegalArgumentException" "java/lang/Throwable" "depth" "I") ∈ lw_all := lw_g (lw_at lw_m3 187 rfl) rfl
theorem q725 : (Jvm.Cond.superclass "java/lang/IllegalArgumentException" "java/lang/RuntimeException") ∈ lw_all := lw_g (lw_at lw_m3 188 rfl) rfl
theorem q1545 : (Jvm.Cond.instanceMethod ({ cls := "java/lang/IllegalArgumentException", name := "<init>", desc := "(Ljava/lang/String;)V" } : Jvm.MethodName)) ∈ lw_all := lw_g (lw_at lw_m7 48 rfl) rfl
theorem q1546 : (Jvm.Cond.code ({ cls := "java/lang/IllegalArgumentException", name := "<init>", desc := "(Ljava/lang/String;)V" } : Jvm.MethodName) prog_25_method_2_code (2 : Nat) (Option.none : Option Jvm.ClassFile.FieldType)) ∈ lw_all := lw_g (lw_at lw_m7 49 rfl) rfl
theorem q1547 : (Jvm.Cond.methodLink "java/lang/IllegalArgumentException" (7 : Nat) ({ cls := "java/lang/RuntimeException", name := "<init>", desc := "(Ljava/lang/String;)V" } : Jvm.MethodName)) ∈ lw_all := lw_g (lw_at lw_m7 50 rfl) rfl
theorem q2120 : (Jvm.Cond.castable "java/lang/IllegalArgumentException" "java/lang/Object") ∈ lw_tbl := lw_at lw_m9 143 rfl
theorem in_J12 : ∀ w ∈ wsJ120, w ∈ lw_all := lw_in wsJ120 [709, 710, 711, 712, 713, 724] (by decide +kernel) (by decide +kernel)
/-! java/lang/UnsupportedOperationException -/
set_option maxRecDepth 100000
def RJ13 : String := "java/lang/UnsupportedOperationException"
def TJ13 : u_T := fun k => match k with
  | 0 => ("java/lang/Throwable", "cause", "Ljava/lang/Throwable;", false)
  | 1 => ("java/lang/Throwable", "stackTrace", "[Ljava/lang/StackTraceElement;", false)
  | 2 => ("java/lang/Throwable", "suppressedExceptions", "Ljava/util/List;", false)
  | 3 => ("java/lang/Throwable", "detailMessage", "Ljava/lang/String;", false)
  | 4 => ("java/lang/Throwable", "backtrace", "Ljava/lang/Object;", false)
  | _ => ("java/lang/Throwable", "depth", "I", false)
def tyJ13 : Nat → FieldType := fun k => match k with
  | 0 => .object "java/lang/Throwable"
  | 1 => .array (.object "java/lang/StackTraceElement")
  | 2 => .object "java/util/List"
  | 3 => .object "java/lang/String"
  | 4 => .object "java/lang/Object"
  | _ => .int
abbrev wsJ130 : List Cond := u_ws RJ13 TJ13 6
theorem nmJ13 : ∀ a, a < 6 → ∀ b, b < 6 → a ≠ b → (TJ13 a).2.1 ≠ (TJ13 b).2.1 := by decide +kernel
theorem tyJ13_ok : ∀ k, k < 6 → parseFieldDescriptor (TJ13 k).2.2.1 = some (tyJ13 k) := by decide +kernel
abbrev cJ13_init : ByteArray := prog_40_method_1_code
def yJ13_init : MethodName := ⟨RJ13, "<init>", "()V"⟩
theorem dJ13_init_0 : decode cJ13_init 0 = .ok (.aload_n 0, 1) := by decide +kernel
theorem dJ13_init_1 : decode cJ13_init 1 = .ok (.invokespecial 1, 3) := by decide +kernel
theorem dJ13_init_4 : decode cJ13_init 4 = .ok (.return_, 1) := by decide +kernel
theorem q83 : (Jvm.Cond.initialized "java/lang/UnsupportedOperationException") ∈ lw_all := lw_g (lw_at lw_m1 26 rfl) rfl
theorem q443 : (Jvm.Cond.selects "java/lang/UnsupportedOperationException" ({ cls := "java/lang/Throwable", name := "fillInStackTrace", desc := "()Ljava/lang/Throwable;" } : Jvm.MethodName) ({ cls := "java/lang/Throwable", name := "fillInStackTrace", desc := "()Ljava/lang/Throwable;" } : Jvm.MethodName)) ∈ lw_all := lw_g (lw_at lw_m2 146 rfl) rfl
theorem q503 : (Jvm.Cond.selects "java/lang/UnsupportedOperationException" ({ cls := "java/lang/Object", name := "getClass", desc := "()Ljava/lang/Class;" } : Jvm.MethodName) ({ cls := "java/lang/Object", name := "getClass", desc := "()Ljava/lang/Class;" } : Jvm.MethodName)) ∈ lw_all := lw_g (lw_at lw_m2 206 rfl) rfl
theorem q788 : (Jvm.Cond.instantiable "java/lang/UnsupportedOperationException" (6 : Nat)) ∈ lw_all := lw_g (lw_at lw_m4 11 rfl) rfl
theorem q789 : (Jvm.Cond.castable "java/lang/UnsupportedOperationException" "java/lang/UnsupportedOperationException") ∈ lw_tbl := lw_at lw_m4 12 rfl
theorem q790 : (Jvm.Cond.selects "java/lang/UnsupportedOperationException" ({ cls := "java/lang/Throwable", name := "fillInStackTrace", desc := "(I)Ljava/lang/Throwable;" } : Jvm.MethodName) ({ cls := "java/lang/Throwable", name := "fillInStackTrace", desc := "(I)Ljava/lang/Throwable;" } : Jvm.MethodName)) ∈ lw_all := lw_g (lw_at lw_m4 13 rfl) rfl
theorem q791 : (Jvm.Cond.lays "java/lang/UnsupportedOperationException" "java/lang/Throwable" "cause" "Ljava/lang/Throwable;") ∈ lw_all := lw_g (lw_at lw_m4 14 rfl) rfl
theorem q792 : (Jvm.Cond.lays "java/lang/UnsupportedOperationException" "java/lang/Throwable" "stackTrace" "[Ljava/lang/StackTraceElement;") ∈ lw_all := lw_g (lw_at lw_m4 15 rfl) rfl
theorem q793 : (Jvm.Cond.lays "java/lang/UnsupportedOperationException" "java/lang/Throwable" "suppressedExceptions" "Ljava/util/List;") ∈ lw_all := lw_g (lw_at lw_m4 16 rfl) rfl
theorem q794 : (Jvm.Cond.lays "java/lang/UnsupportedOperationException" "java/lang/Throwable" "detailMessage" "Ljava/lang/String;") ∈ lw_all := lw_g (lw_at lw_m4 17 rfl) rfl
theorem q795 : (Jvm.Cond.lays "java/lang/UnsupportedOperationException" "java/lang/Throwable" "backtrace" "Ljava/lang/Object;") ∈ lw_all := lw_g (lw_at lw_m4 18 rfl) rfl
theorem q797 : (Jvm.Cond.instanceMethod ({ cls := "java/lang/UnsupportedOperationException", name := "<init>", desc := "()V" } : Jvm.MethodName)) ∈ lw_all := lw_g (lw_at lw_m4 20 rfl) rfl
theorem q798 : (Jvm.Cond.code ({ cls := "java/lang/UnsupportedOperationException", name := "<init>", desc := "()V" } : Jvm.MethodName) prog_40_method_1_code (1 : Nat) (Option.none : Option Jvm.ClassFile.FieldType)) ∈ lw_all := lw_g (lw_at lw_m4 21 rfl) rfl
theorem q799 : (Jvm.Cond.methodLink "java/lang/UnsupportedOperationException" (1 : Nat) ({ cls := "java/lang/RuntimeException", name := "<init>", desc := "()V" } : Jvm.MethodName)) ∈ lw_all := lw_g (lw_at lw_m4 22 rfl) rfl
theorem q800 : (Jvm.Cond.lays "java/lang/UnsupportedOperationException" "java/lang/Throwable" "depth" "I") ∈ lw_all := lw_g (lw_at lw_m4 23 rfl) rfl
theorem q801 : (Jvm.Cond.superclass "java/lang/UnsupportedOperationException" "java/lang/RuntimeException") ∈ lw_all := lw_g (lw_at lw_m4 24 rfl) rfl
theorem q2122 : (Jvm.Cond.castable "java/lang/UnsupportedOperationException" "java/lang/Object") ∈ lw_tbl := lw_at lw_m9 145 rfl
theorem in_J13 : ∀ w ∈ wsJ130, w ∈ lw_all := lw_in wsJ130 [791, 792, 793, 794, 795, 800] (by decide +kernel) (by decide +kernel)
/-! java/lang/IndexOutOfBoundsException -/
set_option maxRecDepth 100000
def RJ14 : String := "java/lang/IndexOutOfBoundsException"
def TJ14 : u_T := fun k => match k with
  | 0 => ("java/lang/Throwable", "cause", "Ljava/lang/Throwable;", false)
  | 1 => ("java/lang/Throwable", "stackTrace", "[Ljava/lang/StackTraceElement;", false)
  | 2 => ("java/lang/Throwable", "suppressedExceptions", "Ljava/util/List;", false)
  | 3 => ("java/lang/Throwable", "detailMessage", "Ljava/lang/String;", false)
  | 4 => ("java/lang/Throwable", "backtrace", "Ljava/lang/Object;", false)
  | _ => ("java/lang/Throwable", "depth", "I", false)
def tyJ14 : Nat → FieldType := fun k => match k with
  | 0 => .object "java/lang/Throwable"
  | 1 => .array (.object "java/lang/StackTraceElement")
  | 2 => .object "java/util/List"
  | 3 => .object "java/lang/String"
  | 4 => .object "java/lang/Object"
  | _ => .int
abbrev wsJ140 : List Cond := u_ws RJ14 TJ14 6
theorem nmJ14 : ∀ a, a < 6 → ∀ b, b < 6 → a ≠ b → (TJ14 a).2.1 ≠ (TJ14 b).2.1 := by decide +kernel
theorem tyJ14_ok : ∀ k, k < 6 → parseFieldDescriptor (TJ14 k).2.2.1 = some (tyJ14 k) := by decide +kernel
abbrev cJ14_init : ByteArray := prog_27_method_2_code
def yJ14_init : MethodName := ⟨RJ14, "<init>", "(Ljava/lang/String;)V"⟩
def dkwJ14_init_0 : List UInt8 := [42, 43, 183, 0, 7, 177]
abbrev dktJ14_init_0 : List UInt8 := dkwJ14_init_0 ++ []
theorem dksJ14_init_0 : cJ14_init.data.toList.drop 0 = dktJ14_init_0 := by decide +kernel
theorem dJ14_init_0 : decode cJ14_init 0 = .ok (.aload_n 0, 1) := dk_42 (dk_at dksJ14_init_0 0 rfl rfl)
theorem dJ14_init_1 : decode cJ14_init 1 = .ok (.aload_n 1, 1) := dk_43 (dk_at dksJ14_init_0 1 rfl rfl)
theorem dJ14_init_2 : decode cJ14_init 2 = .ok (.invokespecial 7, 3) := dk_183 0 7 (dk_at dksJ14_init_0 2 rfl rfl)
theorem dJ14_init_5 : decode cJ14_init 5 = .ok (.return_, 1) := dk_177 (dk_at dksJ14_init_0 5 rfl rfl)
abbrev cJ14_init_2 : ByteArray := prog_27_method_1_code
def yJ14_init_2 : MethodName := ⟨RJ14, "<init>", "()V"⟩
theorem dJ14_init_2_0 : decode cJ14_init_2 0 = .ok (.aload_n 0, 1) := by decide +kernel
theorem dJ14_init_2_1 : decode cJ14_init_2 1 = .ok (.invokespecial 1, 3) := by decide +kernel
theorem dJ14_init_2_4 : decode cJ14_init_2 4 = .ok (.return_, 1) := by decide +kernel
theorem q84 : (Jvm.Cond.initialized "java/lang/IndexOutOfBoundsException") ∈ lw_all := lw_g (lw_at lw_m1 27 rfl) rfl
theorem q441 : (Jvm.Cond.selects "java/lang/IndexOutOfBoundsException" ({ cls := "java/lang/Throwable", name := "fillInStackTrace", desc := "()Ljava/lang/Throwable;" } : Jvm.MethodName) ({ cls := "java/lang/Throwable", name := "fillInStackTrace", desc := "()Ljava/lang/Throwable;" } : Jvm.MethodName)) ∈ lw_all := lw_g (lw_at lw_m2 144 rfl) rfl
theorem q499 : (Jvm.Cond.selects "java/lang/IndexOutOfBoundsException" ({ cls := "java/lang/Object", name := "getClass", desc := "()Ljava/lang/Class;" } : Jvm.MethodName) ({ cls := "java/lang/Object", name := "getClass", desc := "()Ljava/lang/Class;" } : Jvm.MethodName)) ∈ lw_all := lw_g (lw_at lw_m2 202 rfl) rfl
theorem q810 : (Jvm.Cond.instanceMethod ({ cls := "java/lang/IndexOutOfBoundsException", name := "<init>", desc := "(Ljava/lang/String;)V" } : Jvm.MethodName)) ∈ lw_all := lw_g (lw_at lw_m4 33 rfl) rfl
theorem q811 : (Jvm.Cond.code ({ cls := "java/lang/IndexOutOfBoundsException", name := "<init>", desc := "(Ljava/lang/String;)V" } : Jvm.MethodName) prog_27_method_2_code (2 : Nat) (Option.none : Option Jvm.ClassFile.FieldType)) ∈ lw_all := lw_g (lw_at lw_m4 34 rfl) rfl
theorem q812 : (Jvm.Cond.methodLink "java/lang/IndexOutOfBoundsException" (7 : Nat) ({ cls := "java/lang/RuntimeException", name := "<init>", desc := "(Ljava/lang/String;)V" } : Jvm.MethodName)) ∈ lw_all := lw_g (lw_at lw_m4 35 rfl) rfl
theorem q821 : (Jvm.Cond.declares ({ cls := "java/lang/IndexOutOfBoundsException", name := "<init>", desc := "()V" } : Jvm.MethodName)) ∈ lw_tbl := lw_at lw_m4 44 rfl
theorem q822 : (Jvm.Cond.declares ({ cls := "java/lang/IndexOutOfBoundsException", name := "<init>", desc := "(Ljava/lang/String;)V" } : Jvm.MethodName)) ∈ lw_tbl := lw_at lw_m4 45 rfl
theorem q845 : (Jvm.Cond.instantiable "java/lang/IndexOutOfBoundsException" (6 : Nat)) ∈ lw_all := lw_g (lw_at lw_m4 68 rfl) rfl
theorem q846 : (Jvm.Cond.castable "java/lang/IndexOutOfBoundsException" "java/lang/IndexOutOfBoundsException") ∈ lw_tbl := lw_at lw_m4 69 rfl
theorem q847 : (Jvm.Cond.selects "java/lang/IndexOutOfBoundsException" ({ cls := "java/lang/Throwable", name := "fillInStackTrace", desc := "(I)Ljava/lang/Throwable;" } : Jvm.MethodName) ({ cls := "java/lang/Throwable", name := "fillInStackTrace", desc := "(I)Ljava/lang/Throwable;" } : Jvm.MethodName)) ∈ lw_all := lw_g (lw_at lw_m4 70 rfl) rfl
theorem q848 : (Jvm.Cond.lays "java/lang/IndexOutOfBoundsException" "java/lang/Throwable" "cause" "Ljava/lang/Throwable;") ∈ lw_all := lw_g (lw_at lw_m4 71 rfl) rfl
theorem q849 : (Jvm.Cond.lays "java/lang/IndexOutOfBoundsException" "java/lang/Throwable" "stackTrace" "[Ljava/lang/StackTraceElement;") ∈ lw_all := lw_g (lw_at lw_m4 72 rfl) rfl
theorem q850 : (Jvm.Cond.lays "java/lang/IndexOutOfBoundsException" "java/lang/Throwable" "suppressedExceptions" "Ljava/util/List;") ∈ lw_all := lw_g (lw_at lw_m4 73 rfl) rfl
theorem q851 : (Jvm.Cond.lays "java/lang/IndexOutOfBoundsException" "java/lang/Throwable" "detailMessage" "Ljava/lang/String;") ∈ lw_all := lw_g (lw_at lw_m4 74 rfl) rfl
theorem q852 : (Jvm.Cond.lays "java/lang/IndexOutOfBoundsException" "java/lang/Throwable" "backtrace" "Ljava/lang/Object;") ∈ lw_all := lw_g (lw_at lw_m4 75 rfl) rfl
theorem q854 : (Jvm.Cond.instanceMethod ({ cls := "java/lang/IndexOutOfBoundsException", name := "<init>", desc := "()V" } : Jvm.MethodName)) ∈ lw_all := lw_g (lw_at lw_m4 77 rfl) rfl
theorem q855 : (Jvm.Cond.code ({ cls := "java/lang/IndexOutOfBoundsException", name := "<init>", desc := "()V" } : Jvm.MethodName) prog_27_method_1_code (1 : Nat) (Option.none : Option Jvm.ClassFile.FieldType)) ∈ lw_all := lw_g (lw_at lw_m4 78 rfl) rfl
theorem q856 : (Jvm.Cond.methodLink "java/lang/IndexOutOfBoundsException" (1 : Nat) ({ cls := "java/lang/RuntimeException", name := "<init>", desc := "()V" } : Jvm.MethodName)) ∈ lw_all := lw_g (lw_at lw_m4 79 rfl) rfl
theorem q857 : (Jvm.Cond.lays "java/lang/IndexOutOfBoundsException" "java/lang/Throwable" "depth" "I") ∈ lw_all := lw_g (lw_at lw_m4 80 rfl) rfl
theorem q858 : (Jvm.Cond.superclass "java/lang/IndexOutOfBoundsException" "java/lang/RuntimeException") ∈ lw_all := lw_g (lw_at lw_m4 81 rfl) rfl
theorem q2124 : (Jvm.Cond.castable "java/lang/IndexOutOfBoundsException" "java/lang/Object") ∈ lw_tbl := lw_at lw_m9 147 rfl
theorem in_J14 : ∀ w ∈ wsJ140, w ∈ lw_all := lw_in wsJ140 [848, 849, 850, 851, 852, 857] (by decide +kernel) (by decide +kernel)
/-! java/lang/ArrayIndexOutOfBoundsException -/
set_option maxRecDepth 100000
def RJ15 : String := "java/lang/ArrayIndexOutOfBoundsException"
def TJ15 : u_T := fun k => match k with
  | 0 => ("java/lang/Throwable", "backtrace", "Ljava/lang/Object;", false)
  | 1 => ("java/lang/Throwable", "detailMessage", "Ljava/lang/String;", false)
  | 2 => ("java/lang/Throwable", "cause", "Ljava/lang/Throwable;", false)
  | 3 => ("java/lang/Throwable", "stackTrace", "[Ljava/lang/StackTraceElement;", false)
  | 4 => ("java/lang/Throwable", "depth", "I", false)
  | _ => ("java/lang/Throwable", "suppressedExceptions", "Ljava/util/List;", false)
def tyJ15 : Nat → FieldType := fun k => match k with
  | 0 => .object "java/lang/Object"
  | 1 => .object "java/lang/String"
  | 2 => .object "java/lang/Throwable"
  | 3 => .array (.object "java/lang/StackTraceElement")
  | 4 => .int
  | _ => .object "java/util/List"
abbrev wsJ150 : List Cond := u_ws RJ15 TJ15 6
theorem nmJ15 : ∀ a, a < 6 → ∀ b, b < 6 → a ≠ b → (TJ15 a).2.1 ≠ (TJ15 b).2.1 := by decide +kernel
theorem tyJ15_ok : ∀ k, k < 6 → parseFieldDescriptor (TJ15 k).2.2.1 = some (tyJ15 k) := by decide +kernel
abbrev cJ15_init : ByteArray := prog_17_method_2_code
def yJ15_init : MethodName := ⟨RJ15, "<init>", "(Ljava/lang/String;)V"⟩
def dkwJ15_init_0 : List UInt8 := [42, 43, 183, 0, 7, 177]
abbrev dktJ15_init_0 : List UInt8 := dkwJ15_init_0 ++ []
theorem dksJ15_init_0 : cJ15_init.data.toList.drop 0 = dktJ15_init_0 := by decide +kernel
theorem dJ15_init_0 : decode cJ15_init 0 = .ok (.aload_n 0, 1) := dk_42 (dk_at dksJ15_init_0 0 rfl rfl)
theorem dJ15_init_1 : decode cJ15_init 1 = .ok (.aload_n 1, 1) := dk_43 (dk_at dksJ15_init_0 1 rfl rfl)
theorem dJ15_init_2 : decode cJ15_init 2 = .ok (.invokespecial 7, 3) := dk_183 0 7 (dk_at dksJ15_init_0 2 rfl rfl)
theorem dJ15_init_5 : decode cJ15_init 5 = .ok (.return_, 1) := dk_177 (dk_at dksJ15_init_0 5 rfl rfl)
abbrev cJ15_init_2 : ByteArray := prog_17_method_3_code
def yJ15_init_2 : MethodName := ⟨RJ15, "<init>", "(I)V"⟩
def dkwJ15_init_2_0 : List UInt8 := [42, 187, 0, 10, 89, 183, 0, 12, 18, 13, 182, 0, 15, 27, 182, 0, 19, 182, 0, 22, 183, 0, 7, 177]
abbrev dktJ15_init_2_0 : List UInt8 := dkwJ15_init_2_0 ++ []
theorem dksJ15_init_2_0 : cJ15_init_2.data.toList.drop 0 = dktJ15_init_2_0 := by decide +kernel
theorem dJ15_init_2_0 : decode cJ15_init_2 0 = .ok (.aload_n 0, 1) := dk_42 (dk_at dksJ15_init_2_0 0 rfl rfl)
theorem dJ15_init_2_1 : decode cJ15_init_2 1 = .ok (.new 10, 3) := dk_187 0 10 (dk_at dksJ15_init_2_0 1 rfl rfl)
theorem dJ15_init_2_4 : decode cJ15_init_2 4 = .ok (.dup, 1) := dk_89 (dk_at dksJ15_init_2_0 4 rfl rfl)
theorem dJ15_init_2_5 : decode cJ15_init_2 5 = .ok (.invokespecial 12, 3) := dk_183 0 12 (dk_at dksJ15_init_2_0 5 rfl rfl)
theorem dJ15_init_2_8 : decode cJ15_init_2 8 = .ok (.ldc 13, 2) := dk_18 13 (dk_at dksJ15_init_2_0 8 rfl rfl)
theorem dJ15_init_2_10 : decode cJ15_init_2 10 = .ok (.invokevirtual 15, 3) := dk_182 0 15 (dk_at dksJ15_init_2_0 10 rfl rfl)
theorem dJ15_init_2_13 : decode cJ15_init_2 13 = .ok (.iload_n 1, 1) := dk_27 (dk_at dksJ15_init_2_0 13 rfl rfl)
theorem dJ15_init_2_14 : decode cJ15_init_2 14 = .ok (.invokevirtual 19, 3) := dk_182 0 19 (dk_at dksJ15_init_2_0 14 rfl rfl)
theorem dJ15_init_2_17 : decode cJ15_init_2 17 = .ok (.invokevirtual 22, 3) := dk_182 0 22 (dk_at dksJ15_init_2_0 17 rfl rfl)
theorem dJ15_init_2_20 : decode cJ15_init_2 20 = .ok (.invokespecial 7, 3) := dk_183 0 7 (dk_at dksJ15_init_2_0 20 rfl rfl)
theorem dJ15_init_2_23 : decode cJ15_init_2 23 = .ok (.return_, 1) := dk_177 (dk_at dksJ15_init_2_0 23 rfl rfl)
theorem q85 : (Jvm.Cond.initialized "java/lang/ArrayIndexOutOfBoundsException") ∈ lw_all := lw_g (lw_at lw_m1 28 rfl) rfl
theorem q438 : (Jvm.Cond.selects "java/lang/ArrayIndexOutOfBoundsException" ({ cls := "java/lang/Throwable", name := "fillInStackTrace", desc := "()Ljava/lang/Throwable;" } : Jvm.MethodName) ({ cls := "java/lang/Throwable", name := "fillInStackTrace", desc := "()Ljava/lang/Throwable;" } : Jvm.MethodName)) ∈ lw_all := lw_g (lw_at lw_m2 141 rfl) rfl
theorem q495 : (Jvm.Cond.selects "java/lang/ArrayIndexOutOfBoundsException" ({ cls := "java/lang/Object", name := "getClass", desc := "()Ljava/lang/Class;" } : Jvm.MethodName) ({ cls := "java/lang/Object", name := "getClass", desc := "()Ljava/lang/Class;" } : Jvm.MethodName)) ∈ lw_all := lw_g (lw_at lw_m2 198 rfl) rfl
theorem q806 : (Jvm.Cond.instantiable "java/lang/ArrayIndexOutOfBoundsException" (6 : Nat)) ∈ lw_all := lw_g (lw_at lw_m4 29 rfl) rfl
theorem q807 : (Jvm.Cond.instanceMethod ({ cls := "java/lang/ArrayIndexOutOfBoundsException", name := "<init>", desc := "(Ljava/lang/String;)V" } : Jvm.MethodName)) ∈ lw_all := lw_g (lw_at lw_m4 30 rfl) rfl
theorem q808 : (Jvm.Cond.code ({ cls := "java/lang/ArrayIndexOutOfBoundsException", name := "<init>", desc := "(Ljava/lang/String;)V" } : Jvm.MethodName) prog_17_method_2_code (2 : Nat) (Option.none : Option Jvm.ClassFile.FieldType)) ∈ lw_all := lw_g (lw_at lw_m4 31 rfl) rfl
theorem q809 : (Jvm.Cond.methodLink "java/lang/ArrayIndexOutOfBoundsException" (7 : Nat) ({ cls := "java/lang/IndexOutOfBoundsException", name := "<init>", desc := "(Ljava/lang/String;)V" } : Jvm.MethodName)) ∈ lw_all := lw_g (lw_at lw_m4 32 rfl) rfl
theorem q813 : (Jvm.Cond.lays "java/lang/ArrayIndexOutOfBoundsException" "java/lang/Throwable" "backtrace" "Ljava/lang/Object;") ∈ lw_all := lw_g (lw_at lw_m4 36 rfl) rfl
theorem q814 : (Jvm.Cond.lays "java/lang/ArrayIndexOutOfBoundsException" "java/lang/Throwable" "detailMessage" "Ljava/lang/String;") ∈ lw_all := lw_g (lw_at lw_m4 37 rfl) rfl
theorem q815 : (Jvm.Cond.lays "java/lang/ArrayIndexOutOfBoundsException" "java/lang/Throwable" "cause" "Ljava/lang/Throwable;") ∈ lw_all := lw_g (lw_at lw_m4 38 rfl) rfl
theorem q816 : (Jvm.Cond.lays "java/lang/ArrayIndexOutOfBoundsException" "java/lang/Throwable" "stackTrace" "[Ljava/lang/StackTraceElement;") ∈ lw_all := lw_g (lw_at lw_m4 39 rfl) rfl
theorem q817 : (Jvm.Cond.lays "java/lang/ArrayIndexOutOfBoundsException" "java/lang/Throwable" "depth" "I") ∈ lw_all := lw_g (lw_at lw_m4 40 rfl) rfl
theorem q818 : (Jvm.Cond.lays "java/lang/ArrayIndexOutOfBoundsException" "java/lang/Throwable" "suppressedExceptions" "Ljava/util/List;") ∈ lw_all := lw_g (lw_at lw_m4 41 rfl) rfl
theorem q819 : (Jvm.Cond.superclass "java/lang/ArrayIndexOutOfBoundsException" "java/lang/IndexOutOfBoundsException") ∈ lw_all := lw_g (lw_at lw_m4 42 rfl) rfl
theorem q820 : (Jvm.Cond.castable "java/lang/ArrayIndexOutOfBoundsException" "java/lang/ArrayIndexOutOfBoundsException") ∈ lw_tbl := lw_at lw_m4 43 rfl
theorem q823 : (Jvm.Cond.selects "java/lang/ArrayIndexOutOfBoundsException" ({ cls := "java/lang/Throwable", name := "fillInStackTrace", desc := "(I)Ljava/lang/Throwable;" } : Jvm.MethodName) ({ cls := "java/lang/Throwable", name := "fillInStackTrace", desc := "(I)Ljava/lang/Throwable;" } : Jvm.MethodName)) ∈ lw_all := lw_g (lw_at lw_m4 46 rfl) rfl
theorem q1588 : (Jvm.Cond.instanceMethod ({ cls := "java/lang/ArrayIndexOutOfBoundsException", name := "<init>", desc := "(I)V" } : Jvm.MethodName)) ∈ lw_all := lw_g (lw_at lw_m7 91 rfl) rfl
theorem q1589 : (Jvm.Cond.code ({ cls := "java/lang/ArrayIndexOutOfBoundsException", name := "<init>", desc := "(I)V" } : Jvm.MethodName) prog_17_method_3_code (2 : Nat) (Option.none : Option Jvm.ClassFile.FieldType)) ∈ lw_all := lw_g (lw_at lw_m7 92 rfl) rfl
theorem q1590 : (Jvm.Cond.classLink "java/lang/ArrayIndexOutOfBoundsException" (10 : Nat) "java/lang/StringBuilder") ∈ lw_all := lw_g (lw_at lw_m7 93 rfl) rfl
theorem q1591 : (Jvm.Cond.methodLink "java/lang/ArrayIndexOutOfBoundsException" (12 : Nat) ({ cls := "java/lang/StringBuilder", name := "<init>", desc := "()V" } : Jvm.MethodName)) ∈ lw_all := lw_g (lw_at lw_m7 94 rfl) rfl
theorem q1592 : (Jvm.Cond.stringRef "java/lang/ArrayIndexOutOfBoundsException" (13 : Nat) "Array index out of range: ") ∈ lw_tbl := lw_at lw_m7 95 rfl
theorem q1593 : (Jvm.Cond.methodLink "java/lang/ArrayIndexOutOfBoundsException" (15 : Nat) ({ cls := "java/lang/StringBuilder", name := "append", desc := "(Ljava/lang/String;)Ljava/lang/StringBuilder;" } : Jvm.MethodName)) ∈ lw_all := lw_g (lw_at lw_m7 96 rfl) rfl
theorem q1594 : (Jvm.Cond.methodLink "java/lang/ArrayIndexOutOfBoundsException" (19 : Nat) ({ cls := "java/lang/StringBuilder", name := "append", desc := "(I)Ljava/lang/StringBuilder;" } : Jvm.MethodName)) ∈ lw_all := lw_g (lw_at lw_m7 97 rfl) rfl
theorem q1595 : (Jvm.Cond.methodLink "java/lang/ArrayIndexOutOfBoundsException" (22 : Nat) ({ cls := "java/lang/StringBuilder", name := "toString", desc := "()Ljava/lang/String;" } : Jvm.MethodName)) ∈ lw_all := lw_g (lw_at lw_m7 98 rfl) rfl
theorem q2105 : (Jvm.Cond.castable "java/lang/ArrayIndexOutOfBoundsException" "java/lang/IndexOutOfBoundsException") ∈ lw_tbl := lw_at lw_m9 128 rfl
theorem q2123 : (Jvm.Cond.castable "java/lang/ArrayIndexOutOfBoundsException" "java/lang/Object") ∈ lw_tbl := lw_at lw_m9 146 rfl
theorem in_J15 : ∀ w ∈ wsJ150, w ∈ lw_all := lw_in wsJ150 [813, 814, 815, 816, 817, 818] (by decide +kernel) (by decide +kernel)
/-! java/lang/Float -/
set_option maxRecDepth 100000
def RJ16 : String := "java/lang/Float"
abbrev cJ16_floatToIntBits : ByteArray := prog_24_method_24_code
def yJ16_floatToIntBits : MethodName := ⟨RJ16, "floatToIntBits", "(F)I"⟩
def dkwJ16_floatToIntBits_0 : List UInt8 := [34, 184, 0, 59, 154, 0, 8, 34, 184, 0, 74, 172, 18, 77, 172]
abbrev dktJ16_floatToIntBits_0 : List UInt8 := dkwJ16_floatToIntBits_0 ++ []
theorem dksJ16_floatToIntBits_0 : cJ16_floatToIntBits.data.toList.drop 0 = dktJ16_floatToIntBits_0 := by decide +kernel
theorem dJ16_floatToIntBits_0 : decode cJ16_floatToIntBits 0 = .ok (.fload_n 0, 1) := dk_34 (dk_at dksJ16_floatToIntBits_0 0 rfl rfl)
theorem dJ16_floatToIntBits_1 : decode cJ16_floatToIntBits 1 = .ok (.invokestatic 59, 3) := dk_184 0 59 (dk_at dksJ16_floatToIntBits_0 1 rfl rfl)
theorem dJ16_floatToIntBits_4 : decode cJ16_floatToIntBits 4 = .ok (.ifCond .ne 8, 3) := dk_154 0 8 (dk_at dksJ16_floatToIntBits_0 4 rfl rfl)
theorem dJ16_floatToIntBits_7 : decode cJ16_floatToIntBits 7 = .ok (.fload_n 0, 1) := dk_34 (dk_at dksJ16_floatToIntBits_0 7 rfl rfl)
theorem dJ16_floatToIntBits_8 : decode cJ16_floatToIntBits 8 = .ok (.invokestatic 74, 3) := dk_184 0 74 (dk_at dksJ16_floatToIntBits_0 8 rfl rfl)
theorem dJ16_floatToIntBits_11 : decode cJ16_floatToIntBits 11 = .ok (.ireturn, 1) := dk_172 (dk_at dksJ16_floatToIntBits_0 11 rfl rfl)
theorem dJ16_floatToIntBits_12 : decode cJ16_floatToIntBits 12 = .ok (.ldc 77, 2) := dk_18 77 (dk_at dksJ16_floatToIntBits_0 12 rfl rfl)
theorem dJ16_floatToIntBits_14 : decode cJ16_floatToIntBits 14 = .ok (.ireturn, 1) := dk_172 (dk_at dksJ16_floatToIntBits_0 14 rfl rfl)
abbrev cJ16_isNaN : ByteArray := prog_24_method_6_code
def yJ16_isNaN : MethodName := ⟨RJ16, "isNaN", "(F)Z"⟩
def dkwJ16_isNaN_0 : List UInt8 := [34, 34, 149, 153, 0, 7, 4, 167, 0, 4, 3, 172]
abbrev dktJ16_isNaN_0 : List UInt8 := dkwJ16_isNaN_0 ++ []
theorem dksJ16_isNaN_0 : cJ16_isNaN.data.toList.drop 0 = dktJ16_isNaN_0 := by decide +kernel
theorem dJ16_isNaN_0 : decode cJ16_isNaN 0 = .ok (.fload_n 0, 1) := dk_34 (dk_at dksJ16_isNaN_0 0 rfl rfl)
theorem dJ16_isNaN_1 : decode cJ16_isNaN 1 = .ok (.fload_n 0, 1) := dk_34 (dk_at dksJ16_isNaN_0 1 rfl rfl)
theorem dJ16_isNaN_2 : decode cJ16_isNaN 2 = .ok (.fcmp .l, 1) := dk_149 (dk_at dksJ16_isNaN_0 2 rfl rfl)
theorem dJ16_isNaN_3 : decode cJ16_isNaN 3 = .ok (.ifCond .eq 7, 3) := dk_153 0 7 (dk_at dksJ16_isNaN_0 3 rfl rfl)
theorem dJ16_isNaN_6 : decode cJ16_isNaN 6 = .ok (.iconst 1, 1) := dk_4 (dk_at dksJ16_isNaN_0 6 rfl rfl)
theorem dJ16_isNaN_7 : decode cJ16_isNaN 7 = .ok (.goto 4, 3) := dk_167 0 4 (dk_at dksJ16_isNaN_0 7 rfl rfl)
theorem dJ16_isNaN_10 : decode cJ16_isNaN 10 = .ok (.iconst 0, 1) := dk_3 (dk_at dksJ16_isNaN_0 10 rfl rfl)
theorem dJ16_isNaN_11 : decode cJ16_isNaN 11 = .ok (.ireturn, 1) := dk_172 (dk_at dksJ16_isNaN_0 11 rfl rfl)
theorem q87 : (Jvm.Cond.initialized "java/lang/Float") ∈ lw_all := lw_g (lw_at lw_m1 30 rfl) rfl
theorem q921 : (Jvm.Cond.static ({ cls := "java/lang/Float", name := "floatToRawIntBits", desc := "(F)I" } : Jvm.MethodName)) ∈ lw_all := lw_g (lw_at lw_m4 144 rfl) rfl
theorem q922 : (Jvm.Cond.native ({ cls := "java/lang/Float", name := "floatToRawIntBits", desc := "(F)I" } : Jvm.MethodName)) ∈ lw_all := lw_g (lw_at lw_m4 145 rfl) rfl
theorem q931 : (Jvm.Cond.static ({ cls := "java/lang/Float", name := "floatToIntBits", desc := "(F)I" } : Jvm.MethodName)) ∈ lw_all := lw_g (lw_at lw_m4 154 rfl) rfl
theorem q932 : (Jvm.Cond.code ({ cls := "java/lang/Float", name := "floatToIntBits", desc := "(F)I" } : Jvm.MethodName) prog_24_method_24_code (1 : Nat) (Option.some Jvm.ClassFile.FieldType.int)) ∈ lw_all := lw_g (lw_at lw_m4 155 rfl) rfl
theorem q933 : (Jvm.Cond.methodLink "java/lang/Float" (59 : Nat) ({ cls := "java/lang/Float", name := "isNaN", desc := "(F)Z" } : Jvm.MethodName)) ∈ lw_all := lw_g (lw_at lw_m4 156 rfl) rfl
theorem q934 : (Jvm.Cond.static ({ cls := "java/lang/Float", name := "isNaN", desc := "(F)Z" } : Jvm.MethodName)) ∈ lw_all := lw_g (lw_at lw_m4 157 rfl) rfl
theorem q935 : (Jvm.Cond.code ({ cls := "java/lang/Float", name := "isNaN", desc := "(F)Z" } : Jvm.MethodName) prog_24_method_6_code (1 : Nat) (Option.some Jvm.ClassFile.FieldType.boolean)) ∈ lw_all := lw_g (lw_at lw_m4 158 rfl) rfl
theorem q936 : (Jvm.Cond.methodLink "java/lang/Float" (74 : Nat) ({ cls := "java/lang/Float", name := "floatToRawIntBits", desc := "(F)I" } : Jvm.MethodName)) ∈ lw_all := lw_g (lw_at lw_m4 159 rfl) rfl
theorem q937 : (Jvm.Cond.constant "java/lang/Float" (77 : Nat) (2143289344 : Int32)) ∈ lw_all := lw_g (lw_at lw_m4 160 rfl) rfl
/-! java/lang/ArrayStoreException -/
set_option maxRecDepth 100000
def RJ17 : String := "java/lang/ArrayStoreException"
def TJ17 : u_T := fun k => match k with
  | 0 => ("java/lang/Throwable", "backtrace", "Ljava/lang/Object;", false)
  | 1 => ("java/lang/Throwable", "detailMessage", "Ljava/lang/String;", false)
  | 2 => ("java/lang/Throwable", "cause", "Ljava/lang/Throwable;", false)
  | 3 => ("java/lang/Throwable", "stackTrace", "[Ljava/lang/StackTraceElement;", false)
  | 4 => ("java/lang/Throwable", "depth", "I", false)
  | _ => ("java/lang/Throwable", "suppressedExceptions", "Ljava/util/List;", false)
def tyJ17 : Nat → FieldType := fun k => match k with
  | 0 => .object "java/lang/Object"
  | 1 => .object "java/lang/String"
  | 2 => .object "java/lang/Throwable"
  | 3 => .array (.object "java/lang/StackTraceElement")
  | 4 => .int
  | _ => .object "java/util/List"
abbrev wsJ170 : List Cond := u_ws RJ17 TJ17 6
theorem nmJ17 : ∀ a, a < 6 → ∀ b, b < 6 → a ≠ b → (TJ17 a).2.1 ≠ (TJ17 b).2.1 := by decide +kernel
theorem tyJ17_ok : ∀ k, k < 6 → parseFieldDescriptor (TJ17 k).2.2.1 = some (tyJ17 k) := by decide +kernel
abbrev cJ17_init : ByteArray := prog_18_method_2_code
def yJ17_init : MethodName := ⟨RJ17, "<init>", "(Ljava/lang/String;)V"⟩
def dkwJ17_init_0 : List UInt8 := [42, 43, 183, 0, 7, 177]
abbrev dktJ17_init_0 : List UInt8 := dkwJ17_init_0 ++ []
theorem dksJ17_init_0 : cJ17_init.data.toList.drop 0 = dktJ17_init_0 := by decide +kernel
theorem dJ17_init_0 : decode cJ17_init 0 = .ok (.aload_n 0, 1) := dk_42 (dk_at dksJ17_init_0 0 rfl rfl)
theorem dJ17_init_1 : decode cJ17_init 1 = .ok (.aload_n 1, 1) := dk_43 (dk_at dksJ17_init_0 1 rfl rfl)
theorem dJ17_init_2 : decode cJ17_init 2 = .ok (.invokespecial 7, 3) := dk_183 0 7 (dk_at dksJ17_init_0 2 rfl rfl)
theorem dJ17_init_5 : decode cJ17_init 5 = .ok (.return_, 1) := dk_177 (dk_at dksJ17_init_0 5 rfl rfl)
theorem q88 : (Jvm.Cond.initialized "java/lang/ArrayStoreException") ∈ lw_all := lw_g (lw_at lw_m1 31 rfl) rfl
theorem q439 : (Jvm.Cond.selects "java/lang/ArrayStoreException" ({ cls := "java/lang/Throwable", name := "fillInStackTrace", desc := "()Ljava/lang/Throwable;" } : Jvm.MethodName) ({ cls := "java/lang/Throwable", name := "fillInStackTrace", desc := "()Ljava/lang/Throwable;" } : Jvm.MethodName)) ∈ lw_all := lw_g (lw_at lw_m2 142 rfl) rfl
theorem q496 : (Jvm.Cond.selects "java/lang/ArrayStoreException" ({ cls := "java/lang/Object", name := "getClass", desc := "()Ljava/lang/Class;" } : Jvm.MethodName) ({ cls := "java/lang/Object", name := "getClass", desc := "()Ljava/lang/Class;" } : Jvm.MethodName)) ∈ lw_all := lw_g (lw_at lw_m2 199 rfl) rfl
theorem q1012 : (Jvm.Cond.instantiable "java/lang/ArrayStoreException" (6 : Nat)) ∈ lw_all := lw_g (lw_at lw_m4 235 rfl) rfl
theorem q1013 : (Jvm.Cond.instanceMethod ({ cls := "java/lang/ArrayStoreException", name := "<init>", desc := "(Ljava/lang/String;)V" } : Jvm.MethodName)) ∈ lw_all := lw_g (lw_at lw_m4 236 rfl) rfl
theorem q1014 : (Jvm.Cond.code ({ cls := "java/lang/ArrayStoreException", name := "<init>", desc := "(Ljava/lang/String;)V" } : Jvm.MethodName) prog_18_method_2_code (2 : Nat) (Option.none : Option Jvm.ClassFile.FieldType)) ∈ lw_all := lw_g (lw_at lw_m4 237 rfl) rfl
theorem q1015 : (Jvm.Cond.methodLink "java/lang/ArrayStoreException" (7 : Nat) ({ cls := "java/lang/RuntimeException", name := "<init>", desc := "(Ljava/lang/String;)V" } : Jvm.MethodName)) ∈ lw_all := lw_g (lw_at lw_m4 238 rfl) rfl
theorem q1016 : (Jvm.Cond.lays "java/lang/ArrayStoreException" "java/lang/Throwable" "backtrace" "Ljava/lang/Object;") ∈ lw_all := lw_g (lw_at lw_m4 239 rfl) rfl
theorem q1017 : (Jvm.Cond.lays "java/lang/ArrayStoreException" "java/lang/Throwable" "detailMessage" "Ljava/lang/String;") ∈ lw_all := lw_g (lw_at lw_m5 0 rfl) rfl
theorem q1018 : (Jvm.Cond.lays "java/lang/ArrayStoreException" "java/lang/Throwable" "cause" "Ljava/lang/Throwable;") ∈ lw_all := lw_g (lw_at lw_m5 1 rfl) rfl
theorem q1019 : (Jvm.Cond.lays "java/lang/ArrayStoreException" "java/lang/Throwable" "stackTrace" "[Ljava/lang/StackTraceElement;") ∈ lw_all := lw_g (lw_at lw_m5 2 rfl) rfl
theorem q1020 : (Jvm.Cond.lays "java/lang/ArrayStoreException" "java/lang/Throwable" "depth" "I") ∈ lw_all := lw_g (lw_at lw_m5 3 rfl) rfl
theorem q1021 : (Jvm.Cond.lays "java/lang/ArrayStoreException" "java/lang/Throwable" "suppressedExceptions" "Ljava/util/List;") ∈ lw_all := lw_g (lw_at lw_m5 4 rfl) rfl
theorem q1022 : (Jvm.Cond.superclass "java/lang/ArrayStoreException" "java/lang/RuntimeException") ∈ lw_all := lw_g (lw_at lw_m5 5 rfl) rfl
theorem q1023 : (Jvm.Cond.castable "java/lang/ArrayStoreException" "java/lang/ArrayStoreException") ∈ lw_tbl := lw_at lw_m5 6 rfl
theorem q1024 : (Jvm.Cond.selects "java/lang/ArrayStoreException" ({ cls := "java/lang/Throwable", name := "fillInStackTrace", desc := "(I)Ljava/lang/Throwable;" } : Jvm.MethodName) ({ cls := "java/lang/Throwable", name := "fillInStackTrace", desc := "(I)Ljava/lang/Throwable;" } : Jvm.MethodName)) ∈ lw_all := lw_g (lw_at lw_m5 7 rfl) rfl
theorem q2125 : (Jvm.Cond.castable "java/lang/ArrayStoreException" "java/lang/Object") ∈ lw_tbl := lw_at lw_m9 148 rfl
theorem in_J17 : ∀ w ∈ wsJ170, w ∈ lw_all := lw_in wsJ170 [1016, 1017, 1018, 1019, 1020, 1021] (by decide +kernel) (by decide +kernel)
/-! java/util/NoSuchElementException -/
set_option maxRecDepth 100000
def RJ18 : String := "java/util/NoSuchElementException"
def TJ18 : u_T := fun k => match k with
  | 0 => ("java/lang/Throwable", "cause", "Ljava/lang/Throwable;", false)
  | 1 => ("java/lang/Throwable", "stackTrace", "[Ljava/lang/StackTraceElement;", false)
  | 2 => ("java/lang/Throwable", "suppressedExceptions", "Ljava/util/List;", false)
  | 3 => ("java/lang/Throwable", "detailMessage", "Ljava/lang/String;", false)
  | 4 => ("java/lang/Throwable", "backtrace", "Ljava/lang/Object;", false)
  | _ => ("java/lang/Throwable", "depth", "I", false)
def tyJ18 : Nat → FieldType := fun k => match k with
  | 0 => .object "java/lang/Throwable"
  | 1 => .array (.object "java/lang/StackTraceElement")
  | 2 => .object "java/util/List"
  | 3 => .object "java/lang/String"
  | 4 => .object "java/lang/Object"
  | _ => .int
abbrev wsJ180 : List Cond := u_ws RJ18 TJ18 6
theorem nmJ18 : ∀ a, a < 6 → ∀ b, b < 6 → a ≠ b → (TJ18 a).2.1 ≠ (TJ18 b).2.1 := by decide +kernel
theorem tyJ18_ok : ∀ k, k < 6 → parseFieldDescriptor (TJ18 k).2.2.1 = some (tyJ18 k) := by decide +kernel
abbrev cJ18_init : ByteArray := prog_48_method_1_code
def yJ18_init : MethodName := ⟨RJ18, "<init>", "()V"⟩
theorem dJ18_init_0 : decode cJ18_init 0 = .ok (.aload_n 0, 1) := by decide +kernel
theorem dJ18_init_1 : decode cJ18_init 1 = .ok (.invokespecial 1, 3) := by decide +kernel
theorem dJ18_init_4 : decode cJ18_init 4 = .ok (.return_, 1) := by decide +kernel
theorem q89 : (Jvm.Cond.initialized "java/util/NoSuchElementException") ∈ lw_all := lw_g (lw_at lw_m1 32 rfl) rfl
theorem q444 : (Jvm.Cond.selects "java/util/NoSuchElementException" ({ cls := "java/lang/Throwable", name := "fillInStackTrace", desc := "()Ljava/lang/Throwable;" } : Jvm.MethodName) ({ cls := "java/lang/Throwable", name := "fillInStackTrace", desc := "()Ljava/lang/Throwable;" } : Jvm.MethodName)) ∈ lw_all := lw_g (lw_at lw_m2 147 rfl) rfl
theorem q505 : (Jvm.Cond.selects "java/util/NoSuchElementException" ({ cls := "java/lang/Object", name := "getClass", desc := "()Ljava/lang/Class;" } : Jvm.MethodName) ({ cls := "java/lang/Object", name := "getClass", desc := "()Ljava/lang/Class;" } : Jvm.MethodName)) ∈ lw_all := lw_g (lw_at lw_m2 208 rfl) rfl
theorem q1047 : (Jvm.Cond.instantiable "java/util/NoSuchElementException" (6 : Nat)) ∈ lw_all := lw_g (lw_at lw_m5 30 rfl) rfl
theorem q1048 : (Jvm.Cond.castable "java/util/NoSuchElementException" "java/util/NoSuchElementException") ∈ lw_tbl := lw_at lw_m5 31 rfl
theorem q1049 : (Jvm.Cond.selects "java/util/NoSuchElementException" ({ cls := "java/lang/Throwable", name := "fillInStackTrace", desc := "(I)Ljava/lang/Throwable;" } : Jvm.MethodName) ({ cls := "java/lang/Throwable", name := "fillInStackTrace", desc := "(I)Ljava/lang/Throwable;" } : Jvm.MethodName)) ∈ lw_all := lw_g (lw_at lw_m5 32 rfl) rfl
theorem q1050 : (Jvm.Cond.lays "java/util/NoSuchElementException" "java/lang/Throwable" "cause" "Ljava/lang/Throwable;") ∈ lw_all := lw_g (lw_at lw_m5 33 rfl) rfl
theorem q1051 : (Jvm.Cond.lays "java/util/NoSuchElementException" "java/lang/Throwable" "stackTrace" "[Ljava/lang/StackTraceElement;") ∈ lw_all := lw_g (lw_at lw_m5 34 rfl) rfl
theorem q1052 : (Jvm.Cond.lays "java/util/NoSuchElementException" "java/lang/Throwable" "suppressedExceptions" "Ljava/util/List;") ∈ lw_all := lw_g (lw_at lw_m5 35 rfl) rfl
theorem q1053 : (Jvm.Cond.lays "java/util/NoSuchElementException" "java/lang/Throwable" "detailMessage" "Ljava/lang/String;") ∈ lw_all := lw_g (lw_at lw_m5 36 rfl) rfl
theorem q1054 : (Jvm.Cond.lays "java/util/NoSuchElementException" "java/lang/Throwable" "backtrace" "Ljava/lang/Object;") ∈ lw_all := lw_g (lw_at lw_m5 37 rfl) rfl
theorem q1056 : (Jvm.Cond.instanceMethod ({ cls := "java/util/NoSuchElementException", name := "<init>", desc := "()V" } : Jvm.MethodName)) ∈ lw_all := lw_g (lw_at lw_m5 39 rfl) rfl
theorem q1057 : (Jvm.Cond.code ({ cls := "java/util/NoSuchElementException", name := "<init>", desc := "()V" } : Jvm.MethodName) prog_48_method_1_code (1 : Nat) (Option.none : Option Jvm.ClassFile.FieldType)) ∈ lw_all := lw_g (lw_at lw_m5 40 rfl) rfl
theorem q1058 : (Jvm.Cond.methodLink "java/util/NoSuchElementException" (1 : Nat) ({ cls := "java/lang/RuntimeException", name := "<init>", desc := "()V" } : Jvm.MethodName)) ∈ lw_all := lw_g (lw_at lw_m5 41 rfl) rfl
theorem q1059 : (Jvm.Cond.lays "java/util/NoSuchElementException" "java/lang/Throwable" "depth" "I") ∈ lw_all := lw_g (lw_at lw_m5 42 rfl) rfl
theorem q1060 : (Jvm.Cond.superclass "java/util/NoSuchElementException" "java/lang/RuntimeException") ∈ lw_all := lw_g (lw_at lw_m5 43 rfl) rfl
theorem q2126 : (Jvm.Cond.castable "java/util/NoSuchElementException" "java/lang/Object") ∈ lw_tbl := lw_at lw_m9 149 rfl
theorem in_J18 : ∀ w ∈ wsJ180, w ∈ lw_all := lw_in wsJ180 [1050, 1051, 1052, 1053, 1054, 1059] (by decide +kernel) (by decide +kernel)
/-! jdk/internal/util/ArraysSupport -/
set_option maxRecDepth 100000
def RJ19 : String := "jdk/internal/util/ArraysSupport"
abbrev cJ19_newLength : ByteArray := prog_51_method_27_code
def yJ19_newLength : MethodName := ⟨RJ19, "newLength", "(III)I"⟩
def dkwJ19_newLength_1 : List UInt8 := [184, 0, 201, 172]
abbrev dktJ19_newLength_1 : List UInt8 := dkwJ19_newLength_1 ++ []
def dkwJ19_newLength_0 : List UInt8 := [26, 27, 28, 184, 0, 194, 96, 62, 3, 29, 162, 0, 11, 29, 18, 200, 163, 0, 5, 29, 172, 26, 27]
abbrev dktJ19_newLength_0 : List UInt8 := dkwJ19_newLength_0 ++ dktJ19_newLength_1
theorem dksJ19_newLength_0 : cJ19_newLength.data.toList.drop 0 = dktJ19_newLength_0 := by decide +kernel
theorem dksJ19_newLength_1 : cJ19_newLength.data.toList.drop 23 = dktJ19_newLength_1 := dk_seg dksJ19_newLength_0 23 rfl rfl
theorem dJ19_newLength_0 : decode cJ19_newLength 0 = .ok (.iload_n 0, 1) := dk_26 (dk_at dksJ19_newLength_0 0 rfl rfl)
theorem dJ19_newLength_1 : decode cJ19_newLength 1 = .ok (.iload_n 1, 1) := dk_27 (dk_at dksJ19_newLength_0 1 rfl rfl)
theorem dJ19_newLength_2 : decode cJ19_newLength 2 = .ok (.iload_n 2, 1) := dk_28 (dk_at dksJ19_newLength_0 2 rfl rfl)
theorem dJ19_newLength_3 : decode cJ19_newLength 3 = .ok (.invokestatic 194, 3) := dk_184 0 194 (dk_at dksJ19_newLength_0 3 rfl rfl)
theorem dJ19_newLength_6 : decode cJ19_newLength 6 = .ok (.iadd, 1) := dk_96 (dk_at dksJ19_newLength_0 6 rfl rfl)
theorem dJ19_newLength_7 : decode cJ19_newLength 7 = .ok (.istore_n 3, 1) := dk_62 (dk_at dksJ19_newLength_0 7 rfl rfl)
theorem dJ19_newLength_8 : decode cJ19_newLength 8 = .ok (.iconst 0, 1) := dk_3 (dk_at dksJ19_newLength_0 8 rfl rfl)
theorem dJ19_newLength_9 : decode cJ19_newLength 9 = .ok (.iload_n 3, 1) := dk_29 (dk_at dksJ19_newLength_0 9 rfl rfl)
theorem dJ19_newLength_10 : decode cJ19_newLength 10 = .ok (.if_icmp .ge 11, 3) := dk_162 0 11 (dk_at dksJ19_newLength_0 10 rfl rfl)
theorem dJ19_newLength_13 : decode cJ19_newLength 13 = .ok (.iload_n 3, 1) := dk_29 (dk_at dksJ19_newLength_0 13 rfl rfl)
theorem dJ19_newLength_14 : decode cJ19_newLength 14 = .ok (.ldc 200, 2) := dk_18 200 (dk_at dksJ19_newLength_0 14 rfl rfl)
theorem dJ19_newLength_16 : decode cJ19_newLength 16 = .ok (.if_icmp .gt 5, 3) := dk_163 0 5 (dk_at dksJ19_newLength_0 16 rfl rfl)
theorem dJ19_newLength_19 : decode cJ19_newLength 19 = .ok (.iload_n 3, 1) := dk_29 (dk_at dksJ19_newLength_0 19 rfl rfl)
theorem dJ19_newLength_20 : decode cJ19_newLength 20 = .ok (.ireturn, 1) := dk_172 (dk_at dksJ19_newLength_0 20 rfl rfl)
theorem dJ19_newLength_21 : decode cJ19_newLength 21 = .ok (.iload_n 0, 1) := dk_26 (dk_at dksJ19_newLength_0 21 rfl rfl)
theorem dJ19_newLength_22 : decode cJ19_newLength 22 = .ok (.iload_n 1, 1) := dk_27 (dk_at dksJ19_newLength_0 22 rfl rfl)
theorem dJ19_newLength_23 : decode cJ19_newLength 23 = .ok (.invokestatic 201, 3) := dk_184 0 201 (dk_at dksJ19_newLength_1 0 rfl rfl)
theorem dJ19_newLength_26 : decode cJ19_newLength 26 = .ok (.ireturn, 1) := dk_172 (dk_at dksJ19_newLength_1 3 rfl rfl)
abbrev cJ19_hugeLength : ByteArray := prog_51_method_28_code
def yJ19_hugeLength : MethodName := ⟨RJ19, "hugeLength", "(II)I"⟩
def dkwJ19_hugeLength_2 : List UInt8 := [191, 28, 18, 200, 163, 0, 6, 18, 200, 172, 28, 172]
abbrev dktJ19_hugeLength_2 : List UInt8 := dkwJ19_hugeLength_2 ++ []
def dkwJ19_hugeLength_1 : List UInt8 := [26, 182, 0, 98, 18, 208, 182, 0, 94, 27, 182, 0, 98, 18, 210, 182, 0, 94, 182, 0, 101, 183, 0, 212]
abbrev dktJ19_hugeLength_1 : List UInt8 := dkwJ19_hugeLength_1 ++ dktJ19_hugeLength_2
def dkwJ19_hugeLength_0 : List UInt8 := [26, 27, 96, 61, 28, 156, 0, 44, 187, 0, 204, 89, 187, 0, 89, 89, 183, 0, 91, 18, 206, 182, 0, 94]
abbrev dktJ19_hugeLength_0 : List UInt8 := dkwJ19_hugeLength_0 ++ dktJ19_hugeLength_1
theorem dksJ19_hugeLength_0 : cJ19_hugeLength.data.toList.drop 0 = dktJ19_hugeLength_0 := by decide +kernel
theorem dksJ19_hugeLength_1 : cJ19_hugeLength.data.toList.drop 24 = dktJ19_hugeLength_1 := dk_seg dksJ19_hugeLength_0 24 rfl rfl
theorem dksJ19_hugeLength_2 : cJ19_hugeLength.data.toList.drop 48 = dktJ19_hugeLength_2 := dk_seg dksJ19_hugeLength_1 24 rfl rfl
theorem dJ19_hugeLength_0 : decode cJ19_hugeLength 0 = .ok (.iload_n 0, 1) := dk_26 (dk_at dksJ19_hugeLength_0 0 rfl rfl)
theorem dJ19_hugeLength_1 : decode cJ19_hugeLength 1 = .ok (.iload_n 1, 1) := dk_27 (dk_at dksJ19_hugeLength_0 1 rfl rfl)
theorem dJ19_hugeLength_2 : decode cJ19_hugeLength 2 = .ok (.iadd, 1) := dk_96 (dk_at dksJ19_hugeLength_0 2 rfl rfl)
theorem dJ19_hugeLength_3 : decode cJ19_hugeLength 3 = .ok (.istore_n 2, 1) := dk_61 (dk_at dksJ19_hugeLength_0 3 rfl rfl)
theorem dJ19_hugeLength_4 : decode cJ19_hugeLength 4 = .ok (.iload_n 2, 1) := dk_28 (dk_at dksJ19_hugeLength_0 4 rfl rfl)
theorem dJ19_hugeLength_5 : decode cJ19_hugeLength 5 = .ok (.ifCond .ge 44, 3) := dk_156 0 44 (dk_at dksJ19_hugeLength_0 5 rfl rfl)
theorem dJ19_hugeLength_8 : decode cJ19_hugeLength 8 = .ok (.new 204, 3) := dk_187 0 204 (dk_at dksJ19_hugeLength_0 8 rfl rfl)
theorem dJ19_hugeLength_11 : decode cJ19_hugeLength 11 = .ok (.dup, 1) := dk_89 (dk_at dksJ19_hugeLength_0 11 rfl rfl)
theorem dJ19_hugeLength_12 : decode cJ19_hugeLength 12 = .ok (.new 89, 3) := dk_187 0 89 (dk_at dksJ19_hugeLength_0 12 rfl rfl)
theorem dJ19_hugeLength_15 : decode cJ19_hugeLength 15 = .ok (.dup, 1) := dk_89 (dk_at dksJ19_hugeLength_0 15 rfl rfl)
theorem dJ19_hugeLength_16 : decode cJ19_hugeLength 16 = .ok (.invokespecial 91, 3) := dk_183 0 91 (dk_at dksJ19_hugeLength_0 16 rfl rfl)
theorem dJ19_hugeLength_19 : decode cJ19_hugeLength 19 = .ok (.ldc 206, 2) := dk_18 206 (dk_at dksJ19_hugeLength_0 19 rfl rfl)
theorem dJ19_hugeLength_21 : decode cJ19_hugeLength 21 = .ok (.invokevirtual 94, 3) := dk_182 0 94 (dk_at dksJ19_hugeLength_0 21 rfl rfl)
theorem dJ19_hugeLength_24 : decode cJ19_hugeLength 24 = .ok (.iload_n 0, 1) := dk_26 (dk_at dksJ19_hugeLength_1 0 rfl rfl)
theorem dJ19_hugeLength_25 : decode cJ19_hugeLength 25 = .ok (.invokevirtual 98, 3) := dk_182 0 98 (dk_at dksJ19_hugeLength_1 1 rfl rfl)
theorem dJ19_hugeLength_28 : decode cJ19_hugeLength 28 = .ok (.ldc 208, 2) := dk_18 208 (dk_at dksJ19_hugeLength_1 4 rfl rfl)
theorem dJ19_hugeLength_30 : decode cJ19_hugeLength 30 = .ok (.invokevirtual 94, 3) := dk_182 0 94 (dk_at dksJ19_hugeLength_1 6 rfl rfl)
theorem dJ19_hugeLength_33 : decode cJ19_hugeLength 33 = .ok (.iload_n 1, 1) := dk_27 (dk_at dksJ19_hugeLength_1 9 rfl rfl)
theorem dJ19_hugeLength_34 : decode cJ19_hugeLength 34 = .ok (.invokevirtual 98, 3) := dk_182 0 98 (dk_at dksJ19_hugeLength_1 10 rfl rfl)
theorem dJ19_hugeLength_37 : decode cJ19_hugeLength 37 = .ok (.ldc 210, 2) := dk_18 210 (dk_at dksJ19_hugeLength_1 13 rfl rfl)
theorem dJ19_hugeLength_39 : decode cJ19_hugeLength 39 = .ok (.invokevirtual 94, 3) := dk_182 0 94 (dk_at dksJ19_hugeLength_1 15 rfl rfl)
theorem dJ19_hugeLength_42 : decode cJ19_hugeLength 42 = .ok (.invokevirtual 101, 3) := dk_182 0 101 (dk_at dksJ19_hugeLength_1 18 rfl rfl)
theorem dJ19_hugeLength_45 : decode cJ19_hugeLength 45 = .ok (.invokespecial 212, 3) := dk_183 0 212 (dk_at dksJ19_hugeLength_1 21 rfl rfl)
theorem dJ19_hugeLength_48 : decode cJ19_hugeLength 48 = .ok (.athrow, 1) := dk_191 (dk_at dksJ19_hugeLength_2 0 rfl rfl)
theorem dJ19_hugeLength_49 : decode cJ19_hugeLength 49 = .ok (.iload_n 2, 1) := dk_28 (dk_at dksJ19_hugeLength_2 1 rfl rfl)
theorem dJ19_hugeLength_50 : decode cJ19_hugeLength 50 = .ok (.ldc 200, 2) := dk_18 200 (dk_at dksJ19_hugeLength_2 2 rfl rfl)
theorem dJ19_hugeLength_52 : decode cJ19_hugeLength 52 = .ok (.if_icmp .gt 6, 3) := dk_163 0 6 (dk_at dksJ19_hugeLength_2 4 rfl rfl)
theorem dJ19_hugeLength_55 : decode cJ19_hugeLength 55 = .ok (.ldc 200, 2) := dk_18 200 (dk_at dksJ19_hugeLength_2 7 rfl rfl)
theorem dJ19_hugeLength_57 : decode cJ19_hugeLength 57 = .ok (.ireturn, 1) := dk_172 (dk_at dksJ19_hugeLength_2 9 rfl rfl)
theorem dJ19_hugeLength_58 : decode cJ19_hugeLength 58 = .ok (.iload_n 2, 1) := dk_28 (dk_at dksJ19_hugeLength_2 10 rfl rfl)
theorem dJ19_hugeLength_59 : decode cJ19_hugeLength 59 = .ok (.ireturn, 1) := dk_172 (dk_at dksJ19_hugeLength_2 11 rfl rfl)
theorem q90 : (Jvm.Cond.initialized "jdk/internal/util/ArraysSupport") ∈ lw_all := lw_g (lw_at lw_m1 33 rfl) rfl
theorem q1280 : (Jvm.Cond.static ({ cls := "jdk/internal/util/ArraysSupport", name := "newLength", desc := "(III)I" } : Jvm.MethodName)) ∈ lw_all := lw_g (lw_at lw_m6 23 rfl) rfl
theorem q1281 : (Jvm.Cond.code ({ cls := "jdk/internal/util/ArraysSupport", name := "newLength", desc := "(III)I" } : Jvm.MethodName) prog_51_method_27_code (4 : Nat) (Option.some Jvm.ClassFile.FieldType.int)) ∈ lw_all := lw_g (lw_at lw_m6 24 rfl) rfl
theorem q1282 : (Jvm.Cond.methodLink "jdk/internal/util/ArraysSupport" (194 : Nat) ({ cls := "java/lang/Math", name := "max", desc := "(II)I" } : Jvm.MethodName)) ∈ lw_all := lw_g (lw_at lw_m6 25 rfl) rfl
theorem q1283 : (Jvm.Cond.constant "jdk/internal/util/ArraysSupport" (200 : Nat) (2147483639 : Int32)) ∈ lw_all := lw_g (lw_at lw_m6 26 rfl) rfl
theorem q1284 : (Jvm.Cond.methodLink "jdk/internal/util/ArraysSupport" (201 : Nat) ({ cls := "jdk/internal/util/ArraysSupport", name := "hugeLength", desc := "(II)I" } : Jvm.MethodName)) ∈ lw_all := lw_g (lw_at lw_m6 27 rfl) rfl
theorem q1285 : (Jvm.Cond.static ({ cls := "jdk/internal/util/ArraysSupport", name := "hugeLength", desc := "(II)I" } : Jvm.MethodName)) ∈ lw_all := lw_g (lw_at lw_m6 28 rfl) rfl
theorem q1286 : (Jvm.Cond.code ({ cls := "jdk/internal/util/ArraysSupport", name := "hugeLength", desc := "(II)I" } : Jvm.MethodName) prog_51_method_28_code (3 : Nat) (Option.some Jvm.ClassFile.FieldType.int)) ∈ lw_all := lw_g (lw_at lw_m6 29 rfl) rfl
/-! java/lang/StringLatin1 -/
set_option maxRecDepth 100000
def RJ20 : String := "java/lang/StringLatin1"
abbrev cJ20_canEncode : ByteArray := prog_36_method_3_code
def yJ20_canEncode : MethodName := ⟨RJ20, "canEncode", "(C)Z"⟩
def dkwJ20_canEncode_0 : List UInt8 := [26, 17, 0, 255, 163, 0, 7, 4, 167, 0, 4, 3, 172]
abbrev dktJ20_canEncode_0 : List UInt8 := dkwJ20_canEncode_0 ++ []
theorem dksJ20_canEncode_0 : cJ20_canEncode.data.toList.drop 0 = dktJ20_canEncode_0 := by decide +kernel
theorem dJ20_canEncode_0 : decode cJ20_canEncode 0 = .ok (.iload_n 0, 1) := dk_26 (dk_at dksJ20_canEncode_0 0 rfl rfl)
theorem dJ20_canEncode_1 : decode cJ20_canEncode 1 = .ok (.sipush 255, 3) := dk_17 0 255 (dk_at dksJ20_canEncode_0 1 rfl rfl)
theorem dJ20_canEncode_4 : decode cJ20_canEncode 4 = .ok (.if_icmp .gt 7, 3) := dk_163 0 7 (dk_at dksJ20_canEncode_0 4 rfl rfl)
theorem dJ20_canEncode_7 : decode cJ20_canEncode 7 = .ok (.iconst 1, 1) := dk_4 (dk_at dksJ20_canEncode_0 7 rfl rfl)
theorem dJ20_canEncode_8 : decode cJ20_canEncode 8 = .ok (.goto 4, 3) := dk_167 0 4 (dk_at dksJ20_canEncode_0 8 rfl rfl)
theorem dJ20_canEncode_11 : decode cJ20_canEncode 11 = .ok (.iconst 0, 1) := dk_3 (dk_at dksJ20_canEncode_0 11 rfl rfl)
theorem dJ20_canEncode_12 : decode cJ20_canEncode 12 = .ok (.ireturn, 1) := dk_172 (dk_at dksJ20_canEncode_0 12 rfl rfl)
abbrev cJ20_inflate : ByteArray := prog_36_method_50_code
def yJ20_inflate : MethodName := ⟨RJ20, "inflate", "([BI[BII)V"⟩
def dkwJ20_inflate_0 : List UInt8 := [42, 27, 44, 29, 21, 4, 184, 0, 240, 177]
abbrev dktJ20_inflate_0 : List UInt8 := dkwJ20_inflate_0 ++ []
theorem dksJ20_inflate_0 : cJ20_inflate.data.toList.drop 0 = dktJ20_inflate_0 := by decide +kernel
theorem dJ20_inflate_0 : decode cJ20_inflate 0 = .ok (.aload_n 0, 1) := dk_42 (dk_at dksJ20_inflate_0 0 rfl rfl)
theorem dJ20_inflate_1 : decode cJ20_inflate 1 = .ok (.iload_n 1, 1) := dk_27 (dk_at dksJ20_inflate_0 1 rfl rfl)
theorem dJ20_inflate_2 : decode cJ20_inflate 2 = .ok (.aload_n 2, 1) := dk_44 (dk_at dksJ20_inflate_0 2 rfl rfl)
theorem dJ20_inflate_3 : decode cJ20_inflate 3 = .ok (.iload_n 3, 1) := dk_29 (dk_at dksJ20_inflate_0 3 rfl rfl)
theorem dJ20_inflate_4 : decode cJ20_inflate 4 = .ok (.iload 4, 2) := dk_21 4 (dk_at dksJ20_inflate_0 4 rfl rfl)
theorem dJ20_inflate_6 : decode cJ20_inflate 6 = .ok (.invokestatic 240, 3) := dk_184 0 240 (dk_at dksJ20_inflate_0 6 rfl rfl)
theorem dJ20_inflate_9 : decode cJ20_inflate 9 = .ok (.return_, 1) := dk_177 (dk_at dksJ20_inflate_0 9 rfl rfl)
abbrev cJ20_fillNull : ByteArray := prog_36_method_48_code
def yJ20_fillNull : MethodName := ⟨RJ20, "fillNull", "([BII)V"⟩
def dkwJ20_fillNull_0 : List UInt8 := [42, 27, 28, 3, 184, 0, 236, 177]
abbrev dktJ20_fillNull_0 : List UInt8 := dkwJ20_fillNull_0 ++ []
theorem dksJ20_fillNull_0 : cJ20_fillNull.data.toList.drop 0 = dktJ20_fillNull_0 := by decide +kernel
theorem dJ20_fillNull_0 : decode cJ20_fillNull 0 = .ok (.aload_n 0, 1) := dk_42 (dk_at dksJ20_fillNull_0 0 rfl rfl)
theorem dJ20_fillNull_1 : decode cJ20_fillNull 1 = .ok (.iload_n 1, 1) := dk_27 (dk_at dksJ20_fillNull_0 1 rfl rfl)
theorem dJ20_fillNull_2 : decode cJ20_fillNull 2 = .ok (.iload_n 2, 1) := dk_28 (dk_at dksJ20_fillNull_0 2 rfl rfl)
theorem dJ20_fillNull_3 : decode cJ20_fillNull 3 = .ok (.iconst 0, 1) := dk_3 (dk_at dksJ20_fillNull_0 3 rfl rfl)
theorem dJ20_fillNull_4 : decode cJ20_fillNull 4 = .ok (.invokestatic 236, 3) := dk_184 0 236 (dk_at dksJ20_fillNull_0 4 rfl rfl)
theorem dJ20_fillNull_7 : decode cJ20_fillNull 7 = .ok (.return_, 1) := dk_177 (dk_at dksJ20_fillNull_0 7 rfl rfl)
theorem q91 : (Jvm.Cond.initialized "java/lang/StringLatin1") ∈ lw_all := lw_g (lw_at lw_m1 34 rfl) rfl
theorem q1302 : (Jvm.Cond.static ({ cls := "java/lang/StringLatin1", name := "canEncode", desc := "(C)Z" } : Jvm.MethodName)) ∈ lw_all := lw_g (lw_at lw_m6 45 rfl) rfl
theorem q1303 : (Jvm.Cond.code ({ cls := "java/lang/StringLatin1", name := "canEncode", desc := "(C)Z" } : Jvm.MethodName) prog_36_method_3_code (1 : Nat) (Option.some Jvm.ClassFile.FieldType.boolean)) ∈ lw_all := lw_g (lw_at lw_m6 46 rfl) rfl
theorem q1309 : (Jvm.Cond.static ({ cls := "java/lang/StringLatin1", name := "inflate", desc := "([BI[BII)V" } : Jvm.MethodName)) ∈ lw_all := lw_g (lw_at lw_m6 52 rfl) rfl
theorem q1310 : (Jvm.Cond.code ({ cls := "java/lang/StringLatin1", name := "inflate", desc := "([BI[BII)V" } : Jvm.MethodName) prog_36_method_50_code (5 : Nat) (Option.none : Option Jvm.ClassFile.FieldType)) ∈ lw_all := lw_g (lw_at lw_m6 53 rfl) rfl
theorem q1311 : (Jvm.Cond.methodLink "java/lang/StringLatin1" (240 : Nat) ({ cls := "java/lang/StringUTF16", name := "inflate", desc := "([BI[BII)V" } : Jvm.MethodName)) ∈ lw_all := lw_g (lw_at lw_m6 54 rfl) rfl
theorem q1575 : (Jvm.Cond.static ({ cls := "java/lang/StringLatin1", name := "fillNull", desc := "([BII)V" } : Jvm.MethodName)) ∈ lw_all := lw_g (lw_at lw_m7 78 rfl) rfl
theorem q1576 : (Jvm.Cond.code ({ cls := "java/lang/StringLatin1", name := "fillNull", desc := "([BII)V" } : Jvm.MethodName) prog_36_method_48_code (3 : Nat) (Option.none : Option Jvm.ClassFile.FieldType)) ∈ lw_all := lw_g (lw_at lw_m7 79 rfl) rfl
theorem q1577 : (Jvm.Cond.methodLink "java/lang/StringLatin1" (236 : Nat) ({ cls := "java/util/Arrays", name := "fill", desc := "([BIIB)V" } : Jvm.MethodName)) ∈ lw_all := lw_g (lw_at lw_m7 80 rfl) rfl
/-! jdk/internal/util/Preconditions -/
set_option maxRecDepth 100000
def RJ21 : String := "jdk/internal/util/Preconditions"
abbrev cJ21_checkFromIndexSize : ByteArray := prog_52_method_13_code
def yJ21_checkFromIndexSize : MethodName := ⟨RJ21, "checkFromIndexSize", "(IIILjava/util/function/BiFunction;)I"⟩
def dkwJ21_checkFromIndexSize_1 : List UInt8 := [172]
abbrev dktJ21_checkFromIndexSize_1 : List UInt8 := dkwJ21_checkFromIndexSize_1 ++ []
def dkwJ21_checkFromIndexSize_0 : List UInt8 := [28, 26, 128, 27, 128, 155, 0, 10, 27, 28, 26, 100, 164, 0, 11, 45, 26, 27, 28, 184, 0, 103, 191, 26]
abbrev dktJ21_checkFromIndexSize_0 : List UInt8 := dkwJ21_checkFromIndexSize_0 ++ dktJ21_checkFromIndexSize_1
theorem dksJ21_checkFromIndexSize_0 : cJ21_checkFromIndexSize.data.toList.drop 0 = dktJ21_checkFromIndexSize_0 := by decide +kernel
theorem dksJ21_checkFromIndexSize_1 : cJ21_checkFromIndexSize.data.toList.drop 24 = dktJ21_checkFromIndexSize_1 := dk_seg dksJ21_checkFromIndexSize_0 24 rfl rfl
theorem dJ21_checkFromIndexSize_0 : decode cJ21_checkFromIndexSize 0 = .ok (.iload_n 2, 1) := dk_28 (dk_at dksJ21_checkFromIndexSize_0 0 rfl rfl)
theorem dJ21_checkFromIndexSize_1 : decode cJ21_checkFromIndexSize 1 = .ok (.iload_n 0, 1) := dk_26 (dk_at dksJ21_checkFromIndexSize_0 1 rfl rfl)
theorem dJ21_checkFromIndexSize_2 : decode cJ21_checkFromIndexSize 2 = .ok (.ior, 1) := dk_128 (dk_at dksJ21_checkFromIndexSize_0 2 rfl rfl)
theorem dJ21_checkFromIndexSize_3 : decode cJ21_checkFromIndexSize 3 = .ok (.iload_n 1, 1) := dk_27 (dk_at dksJ21_checkFromIndexSize_0 3 rfl rfl)
theorem dJ21_checkFromIndexSize_4 : decode cJ21_checkFromIndexSize 4 = .ok (.ior, 1) := dk_128 (dk_at dksJ21_checkFromIndexSize_0 4 rfl rfl)
theorem dJ21_checkFromIndexSize_5 : decode cJ21_checkFromIndexSize 5 = .ok (.ifCond .lt 10, 3) := dk_155 0 10 (dk_at dksJ21_checkFromIndexSize_0 5 rfl rfl)
theorem dJ21_checkFromIndexSize_8 : decode cJ21_checkFromIndexSize 8 = .ok (.iload_n 1, 1) := dk_27 (dk_at dksJ21_checkFromIndexSize_0 8 rfl rfl)
theorem dJ21_checkFromIndexSize_9 : decode cJ21_checkFromIndexSize 9 = .ok (.iload_n 2, 1) := dk_28 (dk_at dksJ21_checkFromIndexSize_0 9 rfl rfl)
theorem dJ21_checkFromIndexSize_10 : decode cJ21_checkFromIndexSize 10 = .ok (.iload_n 0, 1) := dk_26 (dk_at dksJ21_checkFromIndexSize_0 10 rfl rfl)
theorem dJ21_checkFromIndexSize_11 : decode cJ21_checkFromIndexSize 11 = .ok (.isub, 1) := dk_100 (dk_at dksJ21_checkFromIndexSize_0 11 rfl rfl)
theorem dJ21_checkFromIndexSize_12 : decode cJ21_checkFromIndexSize 12 = .ok (.if_icmp .le 11, 3) := dk_164 0 11 (dk_at dksJ21_checkFromIndexSize_0 12 rfl rfl)
theorem dJ21_checkFromIndexSize_15 : decode cJ21_checkFromIndexSize 15 = .ok (.aload_n 3, 1) := dk_45 (dk_at dksJ21_checkFromIndexSize_0 15 rfl rfl)
theorem dJ21_checkFromIndexSize_16 : decode cJ21_checkFromIndexSize 16 = .ok (.iload_n 0, 1) := dk_26 (dk_at dksJ21_checkFromIndexSize_0 16 rfl rfl)
theorem dJ21_checkFromIndexSize_17 : decode cJ21_checkFromIndexSize 17 = .ok (.iload_n 1, 1) := dk_27 (dk_at dksJ21_checkFromIndexSize_0 17 rfl rfl)
theorem dJ21_checkFromIndexSize_18 : decode cJ21_checkFromIndexSize 18 = .ok (.iload_n 2, 1) := dk_28 (dk_at dksJ21_checkFromIndexSize_0 18 rfl rfl)
theorem dJ21_checkFromIndexSize_19 : decode cJ21_checkFromIndexSize 19 = .ok (.invokestatic 103, 3) := dk_184 0 103 (dk_at dksJ21_checkFromIndexSize_0 19 rfl rfl)
theorem dJ21_checkFromIndexSize_22 : decode cJ21_checkFromIndexSize 22 = .ok (.athrow, 1) := dk_191 (dk_at dksJ21_checkFromIndexSize_0 22 rfl rfl)
theorem dJ21_checkFromIndexSize_23 : decode cJ21_checkFromIndexSize 23 = .ok (.iload_n 0, 1) := dk_26 (dk_at dksJ21_checkFromIndexSize_0 23 rfl rfl)
theorem dJ21_checkFromIndexSize_24 : decode cJ21_checkFromIndexSize 24 = .ok (.ireturn, 1) := dk_172 (dk_at dksJ21_checkFromIndexSize_1 0 rfl rfl)
abbrev cJ21_checkIndex : ByteArray := prog_52_method_11_code
def yJ21_checkIndex : MethodName := ⟨RJ21, "checkIndex", "(IILjava/util/function/BiFunction;)I"⟩
def dkwJ21_checkIndex_0 : List UInt8 := [26, 155, 0, 8, 26, 27, 161, 0, 10, 44, 26, 27, 184, 0, 95, 191, 26, 172]
abbrev dktJ21_checkIndex_0 : List UInt8 := dkwJ21_checkIndex_0 ++ []
theorem dksJ21_checkIndex_0 : cJ21_checkIndex.data.toList.drop 0 = dktJ21_checkIndex_0 := by decide +kernel
theorem dJ21_checkIndex_0 : decode cJ21_checkIndex 0 = .ok (.iload_n 0, 1) := dk_26 (dk_at dksJ21_checkIndex_0 0 rfl rfl)
theorem dJ21_checkIndex_1 : decode cJ21_checkIndex 1 = .ok (.ifCond .lt 8, 3) := dk_155 0 8 (dk_at dksJ21_checkIndex_0 1 rfl rfl)
theorem dJ21_checkIndex_4 : decode cJ21_checkIndex 4 = .ok (.iload_n 0, 1) := dk_26 (dk_at dksJ21_checkIndex_0 4 rfl rfl)
theorem dJ21_checkIndex_5 : decode cJ21_checkIndex 5 = .ok (.iload_n 1, 1) := dk_27 (dk_at dksJ21_checkIndex_0 5 rfl rfl)
theorem dJ21_checkIndex_6 : decode cJ21_checkIndex 6 = .ok (.if_icmp .lt 10, 3) := dk_161 0 10 (dk_at dksJ21_checkIndex_0 6 rfl rfl)
theorem dJ21_checkIndex_9 : decode cJ21_checkIndex 9 = .ok (.aload_n 2, 1) := dk_44 (dk_at dksJ21_checkIndex_0 9 rfl rfl)
theorem dJ21_checkIndex_10 : decode cJ21_checkIndex 10 = .ok (.iload_n 0, 1) := dk_26 (dk_at dksJ21_checkIndex_0 10 rfl rfl)
theorem dJ21_checkIndex_11 : decode cJ21_checkIndex 11 = .ok (.iload_n 1, 1) := dk_27 (dk_at dksJ21_checkIndex_0 11 rfl rfl)
theorem dJ21_checkIndex_12 : decode cJ21_checkIndex 12 = .ok (.invokestatic 95, 3) := dk_184 0 95 (dk_at dksJ21_checkIndex_0 12 rfl rfl)
theorem dJ21_checkIndex_15 : decode cJ21_checkIndex 15 = .ok (.athrow, 1) := dk_191 (dk_at dksJ21_checkIndex_0 15 rfl rfl)
theorem dJ21_checkIndex_16 : decode cJ21_checkIndex 16 = .ok (.iload_n 0, 1) := dk_26 (dk_at dksJ21_checkIndex_0 16 rfl rfl)
theorem dJ21_checkIndex_17 : decode cJ21_checkIndex 17 = .ok (.ireturn, 1) := dk_172 (dk_at dksJ21_checkIndex_0 17 rfl rfl)
abbrev cJ21_checkFromToIndex : ByteArray := prog_52_method_12_code
def yJ21_checkFromToIndex : MethodName := ⟨RJ21, "checkFromToIndex", "(IIILjava/util/function/BiFunction;)I"⟩
def dkwJ21_checkFromToIndex_0 : List UInt8 := [26, 155, 0, 13, 26, 27, 163, 0, 8, 27, 28, 164, 0, 11, 45, 26, 27, 28, 184, 0, 99, 191, 26, 172]
abbrev dktJ21_checkFromToIndex_0 : List UInt8 := dkwJ21_checkFromToIndex_0 ++ []
theorem dksJ21_checkFromToIndex_0 : cJ21_checkFromToIndex.data.toList.drop 0 = dktJ21_checkFromToIndex_0 := by decide +kernel
theorem dJ21_checkFromToIndex_0 : decode cJ21_checkFromToIndex 0 = .ok (.iload_n 0, 1) := dk_26 (dk_at dksJ21_checkFromToIndex_0 0 rfl rfl)
theorem dJ21_checkFromToIndex_1 : decode cJ21_checkFromToIndex 1 = .ok (.ifCond .lt 13, 3) := dk_155 0 13 (dk_at dksJ21_checkFromToIndex_0 1 rfl rfl)
theorem dJ21_checkFromToIndex_4 : decode cJ21_checkFromToIndex 4 = .ok (.iload_n 0, 1) := dk_26 (dk_at dksJ21_checkFromToIndex_0 4 rfl rfl)
theorem dJ21_checkFromToIndex_5 : decode cJ21_checkFromToIndex 5 = .ok (.iload_n 1, 1) := dk_27 (dk_at dksJ21_checkFromToIndex_0 5 rfl rfl)
theorem dJ21_checkFromToIndex_6 : decode cJ21_checkFromToIndex 6 = .ok (.if_icmp .gt 8, 3) := dk_163 0 8 (dk_at dksJ21_checkFromToIndex_0 6 rfl rfl)
theorem dJ21_checkFromToIndex_9 : decode cJ21_checkFromToIndex 9 = .ok (.iload_n 1, 1) := dk_27 (dk_at dksJ21_checkFromToIndex_0 9 rfl rfl)
theorem dJ21_checkFromToIndex_10 : decode cJ21_checkFromToIndex 10 = .ok (.iload_n 2, 1) := dk_28 (dk_at dksJ21_checkFromToIndex_0 10 rfl rfl)
theorem dJ21_checkFromToIndex_11 : decode cJ21_checkFromToIndex 11 = .ok (.if_icmp .le 11, 3) := dk_164 0 11 (dk_at dksJ21_checkFromToIndex_0 11 rfl rfl)
theorem dJ21_checkFromToIndex_14 : decode cJ21_checkFromToIndex 14 = .ok (.aload_n 3, 1) := dk_45 (dk_at dksJ21_checkFromToIndex_0 14 rfl rfl)
theorem dJ21_checkFromToIndex_15 : decode cJ21_checkFromToIndex 15 = .ok (.iload_n 0, 1) := dk_26 (dk_at dksJ21_checkFromToIndex_0 15 rfl rfl)
theorem dJ21_checkFromToIndex_16 : decode cJ21_checkFromToIndex 16 = .ok (.iload_n 1, 1) := dk_27 (dk_at dksJ21_checkFromToIndex_0 16 rfl rfl)
theorem dJ21_checkFromToIndex_17 : decode cJ21_checkFromToIndex 17 = .ok (.iload_n 2, 1) := dk_28 (dk_at dksJ21_checkFromToIndex_0 17 rfl rfl)
theorem dJ21_checkFromToIndex_18 : decode cJ21_checkFromToIndex 18 = .ok (.invokestatic 99, 3) := dk_184 0 99 (dk_at dksJ21_checkFromToIndex_0 18 rfl rfl)
theorem dJ21_checkFromToIndex_21 : decode cJ21_checkFromToIndex 21 = .ok (.athrow, 1) := dk_191 (dk_at dksJ21_checkFromToIndex_0 21 rfl rfl)
theorem dJ21_checkFromToIndex_22 : decode cJ21_checkFromToIndex 22 = .ok (.iload_n 0, 1) := dk_26 (dk_at dksJ21_checkFromToIndex_0 22 rfl rfl)
theorem dJ21_checkFromToIndex_23 : decode cJ21_checkFromToIndex 23 = .ok (.ireturn, 1) := dk_172 (dk_at dksJ21_checkFromToIndex_0 23 rfl rfl)
theorem q92 : (Jvm.Cond.initialized "jdk/internal/util/Preconditions") ∈ lw_all := lw_g (lw_at lw_m1 35 rfl) rfl
theorem q1324 : (Jvm.Cond.laysStatic "jdk/internal/util/Preconditions" "SIOOBE_FORMATTER" "Ljava/util/function/BiFunction;") ∈ lw_tbl := lw_at lw_m6 67 rfl
theorem q1326 : (Jvm.Cond.static ({ cls := "jdk/internal/util/Preconditions", name := "checkFromIndexSize", desc := "(IIILjava/util/function/BiFunction;)I" } : Jvm.MethodName)) ∈ lw_all := lw_g (lw_at lw_m6 69 rfl) rfl
theorem q1327 : (Jvm.Cond.code ({ cls := "jdk/internal/util/Preconditions", name := "checkFromIndexSize", desc := "(IIILjava/util/function/BiFunction;)I" } : Jvm.MethodName) prog_52_method_13_code (4 : Nat) (Option.some Jvm.ClassFile.FieldType.int)) ∈ lw_all := lw_g (lw_at lw_m6 70 rfl) rfl
theorem q1347 : (Jvm.Cond.static ({ cls := "jdk/internal/util/Preconditions", name := "checkIndex", desc := "(IILjava/util/function/BiFunction;)I" } : Jvm.MethodName)) ∈ lw_all := lw_g (lw_at lw_m6 90 rfl) rfl
theorem q1348 : (Jvm.Cond.code ({ cls := "jdk/internal/util/Preconditions", name := "checkIndex", desc := "(IILjava/util/function/BiFunction;)I" } : Jvm.MethodName) prog_52_method_11_code (3 : Nat) (Option.some Jvm.ClassFile.FieldType.int)) ∈ lw_all := lw_g (lw_at lw_m6 91 rfl) rfl
theorem q1458 : (Jvm.Cond.static ({ cls := "jdk/internal/util/Preconditions", name := "checkFromToIndex", desc := "(IIILjava/util/function/BiFunction;)I" } : Jvm.MethodName)) ∈ lw_all := lw_g (lw_at lw_m6 201 rfl) rfl
theorem q1459 : (Jvm.Cond.code ({ cls := "jdk/internal/util/Preconditions", name := "checkFromToIndex", desc := "(IIILjava/util/function/BiFunction;)I" } : Jvm.MethodName) prog_52_method_12_code (4 : Nat) (Option.some Jvm.ClassFile.FieldType.int)) ∈ lw_all := lw_g (lw_at lw_m6 202 rfl) rfl
/-! java/lang/StringIndexOutOfBoundsException -/
set_option maxRecDepth 100000
def RJ22 : String := "java/lang/StringIndexOutOfBoundsException"
def TJ22 : u_T := fun k => match k with
  | 0 => ("java/lang/Throwable", "backtrace", "Ljava/lang/Object;", false)
  | 1 => ("java/lang/Throwable", "detailMessage", "Ljava/lang/String;", false)
  | 2 => ("java/lang/Throwable", "cause", "Ljava/lang/Throwable;", false)
  | 3 => ("java/lang/Throwable", "stackTrace", "[Ljava/lang/StackTraceElement;", false)
  | 4 => ("java/lang/Throwable", "depth", "I", false)
  | _ => ("java/lang/Throwable", "suppressedExceptions", "Ljava/util/List;", false)
def tyJ22 : Nat → FieldType := fun k => match k with
  | 0 => .object "java/lang/Object"
  | 1 => .object "java/lang/String"
  | 2 => .object "java/lang/Throwable"
  | 3 => .array (.object "java/lang/StackTraceElement")
  | 4 => .int
  | _ => .object "java/util/List"
abbrev wsJ220 : List Cond := u_ws RJ22 TJ22 6
theorem nmJ22 : ∀ a, a < 6 → ∀ b, b < 6 → a ≠ b → (TJ22 a).2.1 ≠ (TJ22 b).2.1 := by decide +kernel
theorem tyJ22_ok : ∀ k, k < 6 → parseFieldDescriptor (TJ22 k).2.2.1 = some (tyJ22 k) := by decide +kernel
abbrev cJ22_init : ByteArray := prog_35_method_3_code
def yJ22_init : MethodName := ⟨RJ22, "<init>", "(I)V"⟩
def dkwJ22_init_0 : List UInt8 := [42, 187, 0, 10, 89, 183, 0, 12, 18, 13, 182, 0, 15, 27, 182, 0, 19, 182, 0, 22, 183, 0, 7, 177]
abbrev dktJ22_init_0 : List UInt8 := dkwJ22_init_0 ++ []
theorem dksJ22_init_0 : cJ22_init.data.toList.drop 0 = dktJ22_init_0 := by decide +kernel
theorem dJ22_init_0 : decode cJ22_init 0 = .ok (.aload_n 0, 1) := dk_42 (dk_at dksJ22_init_0 0 rfl rfl)
theorem dJ22_init_1 : decode cJ22_init 1 = .ok (.new 10, 3) := dk_187 0 10 (dk_at dksJ22_init_0 1 rfl rfl)
theorem dJ22_init_4 : decode cJ22_init 4 = .ok (.dup, 1) := dk_89 (dk_at dksJ22_init_0 4 rfl rfl)
theorem dJ22_init_5 : decode cJ22_init 5 = .ok (.invokespecial 12, 3) := dk_183 0 12 (dk_at dksJ22_init_0 5 rfl rfl)
theorem dJ22_init_8 : decode cJ22_init 8 = .ok (.ldc 13, 2) := dk_18 13 (dk_at dksJ22_init_0 8 rfl rfl)
theorem dJ22_init_10 : decode cJ22_init 10 = .ok (.invokevirtual 15, 3) := dk_182 0 15 (dk_at dksJ22_init_0 10 rfl rfl)
theorem dJ22_init_13 : decode cJ22_init 13 = .ok (.iload_n 1, 1) := dk_27 (dk_at dksJ22_init_0 13 rfl rfl)
theorem dJ22_init_14 : decode cJ22_init 14 = .ok (.invokevirtual 19, 3) := dk_182 0 19 (dk_at dksJ22_init_0 14 rfl rfl)
theorem dJ22_init_17 : decode cJ22_init 17 = .ok (.invokevirtual 22, 3) := dk_182 0 22 (dk_at dksJ22_init_0 17 rfl rfl)
theorem dJ22_init_20 : decode cJ22_init 20 = .ok (.invokespecial 7, 3) := dk_183 0 7 (dk_at dksJ22_init_0 20 rfl rfl)
theorem dJ22_init_23 : decode cJ22_init 23 = .ok (.return_, 1) := dk_177 (dk_at dksJ22_init_0 23 rfl rfl)
theorem q94 : (Jvm.Cond.initialized "java/lang/StringIndexOutOfBoundsException") ∈ lw_all := lw_g (lw_at lw_m1 37 rfl) rfl
theorem q442 : (Jvm.Cond.selects "java/lang/StringIndexOutOfBoundsException" ({ cls := "java/lang/Throwable", name := "fillInStackTrace", desc := "()Ljava/lang/Throwable;" } : Jvm.MethodName) ({ cls := "java/lang/Throwable", name := "fillInStackTrace", desc := "()Ljava/lang/Throwable;" } : Jvm.MethodName)) ∈ lw_all := lw_g (lw_at lw_m2 145 rfl) rfl
theorem q502 : (Jvm.Cond.selects "java/lang/StringIndexOutOfBoundsException" ({ cls := "java/lang/Object", name := "getClass", desc := "()Ljava/lang/Class;" } : Jvm.MethodName) ({ cls := "java/lang/Object", name := "getClass", desc := "()Ljava/lang/Class;" } : Jvm.MethodName)) ∈ lw_all := lw_g (lw_at lw_m2 205 rfl) rfl
theorem q1430 : (Jvm.Cond.instantiable "java/lang/StringIndexOutOfBoundsException" (6 : Nat)) ∈ lw_all := lw_g (lw_at lw_m6 173 rfl) rfl
theorem q1432 : (Jvm.Cond.instanceMethod ({ cls := "java/lang/StringIndexOutOfBoundsException", name := "<init>", desc := "(I)V" } : Jvm.MethodName)) ∈ lw_all := lw_g (lw_at lw_m6 175 rfl) rfl
theorem q1433 : (Jvm.Cond.code ({ cls := "java/lang/StringIndexOutOfBoundsException", name := "<init>", desc := "(I)V" } : Jvm.MethodName) prog_35_method_3_code (2 : Nat) (Option.none : Option Jvm.ClassFile.FieldType)) ∈ lw_all := lw_g (lw_at lw_m6 176 rfl) rfl
theorem q1434 : (Jvm.Cond.classLink "java/lang/StringIndexOutOfBoundsException" (10 : Nat) "java/lang/StringBuilder") ∈ lw_all := lw_g (lw_at lw_m6 177 rfl) rfl
theorem q1435 : (Jvm.Cond.methodLink "java/lang/StringIndexOutOfBoundsException" (12 : Nat) ({ cls := "java/lang/StringBuilder", name := "<init>", desc := "()V" } : Jvm.MethodName)) ∈ lw_all := lw_g (lw_at lw_m6 178 rfl) rfl
theorem q1436 : (Jvm.Cond.stringRef "java/lang/StringIndexOutOfBoundsException" (13 : Nat) "String index out of range: ") ∈ lw_tbl := lw_at lw_m6 179 rfl
theorem q1437 : (Jvm.Cond.methodLink "java/lang/StringIndexOutOfBoundsException" (15 : Nat) ({ cls := "java/lang/StringBuilder", name := "append", desc := "(Ljava/lang/String;)Ljava/lang/StringBuilder;" } : Jvm.MethodName)) ∈ lw_all := lw_g (lw_at lw_m6 180 rfl) rfl
theorem q1484 : (Jvm.Cond.methodLink "java/lang/StringIndexOutOfBoundsException" (19 : Nat) ({ cls := "java/lang/StringBuilder", name := "append", desc := "(I)Ljava/lang/StringBuilder;" } : Jvm.MethodName)) ∈ lw_all := lw_g (lw_at lw_m6 227 rfl) rfl
theorem q1509 : (Jvm.Cond.methodLink "java/lang/StringIndexOutOfBoundsException" (22 : Nat) ({ cls := "java/lang/StringBuilder", name := "toString", desc := "()Ljava/lang/String;" } : Jvm.MethodName)) ∈ lw_all := lw_g (lw_at lw_m7 12 rfl) rfl
theorem q1566 : (Jvm.Cond.methodLink "java/lang/StringIndexOutOfBoundsException" (7 : Nat) ({ cls := "java/lang/IndexOutOfBoundsException", name := "<init>", desc := "(Ljava/lang/String;)V" } : Jvm.MethodName)) ∈ lw_all := lw_g (lw_at lw_m7 69 rfl) rfl
theorem q1567 : (Jvm.Cond.lays "java/lang/StringIndexOutOfBoundsException" "java/lang/Throwable" "backtrace" "Ljava/lang/Object;") ∈ lw_all := lw_g (lw_at lw_m7 70 rfl) rfl
theorem q1568 : (Jvm.Cond.lays "java/lang/StringIndexOutOfBoundsException" "java/lang/Throwable" "detailMessage" "Ljava/lang/String;") ∈ lw_all := lw_g (lw_at lw_m7 71 rfl) rfl
theorem q1569 : (Jvm.Cond.lays "java/lang/StringIndexOutOfBoundsException" "java/lang/Throwable" "cause" "Ljava/lang/Throwable;") ∈ lw_all := lw_g (lw_at lw_m7 72 rfl) rfl
theorem q1570 : (Jvm.Cond.lays "java/lang/StringIndexOutOfBoundsException" "java/lang/Throwable" "stackTrace" "[Ljava/lang/StackTraceElement;") ∈ lw_all := lw_g (lw_at lw_m7 73 rfl) rfl
theorem q1571 : (Jvm.Cond.lays "java/lang/StringIndexOutOfBoundsException" "java/lang/Throwable" "depth" "I") ∈ lw_all := lw_g (lw_at lw_m7 74 rfl) rfl
theorem q1572 : (Jvm.Cond.lays "java/lang/StringIndexOutOfBoundsException" "java/lang/Throwable" "suppressedExceptions" "Ljava/util/List;") ∈ lw_all := lw_g (lw_at lw_m7 75 rfl) rfl
theorem q1573 : (Jvm.Cond.superclass "java/lang/StringIndexOutOfBoundsException" "java/lang/IndexOutOfBoundsException") ∈ lw_all := lw_g (lw_at lw_m7 76 rfl) rfl
theorem q2106 : (Jvm.Cond.castable "java/lang/StringIndexOutOfBoundsException" "java/lang/IndexOutOfBoundsException") ∈ lw_tbl := lw_at lw_m9 129 rfl
theorem q2128 : (Jvm.Cond.castable "java/lang/StringIndexOutOfBoundsException" "java/lang/Object") ∈ lw_tbl := lw_at lw_m9 151 rfl
theorem in_J22 : ∀ w ∈ wsJ220, w ∈ lw_all := lw_in wsJ220 [1567, 1568, 1569, 1570, 1571, 1572] (by decide +kernel) (by decide +kernel)
/-! java/lang/Integer -/
set_option maxRecDepth 100000
def RJ23 : String := "java/lang/Integer"
abbrev cJ23_stringSize : ByteArray := prog_28_method_13_code
def yJ23_stringSize : MethodName := ⟨RJ23, "stringSize", "(I)I"⟩
def dkwJ23_stringSize_1 : List UInt8 := [164, 0, 7, 29, 27, 96, 172, 16, 10, 28, 104, 61, 132, 3, 1, 167, 255, 233, 16, 10, 27, 96, 172]
abbrev dktJ23_stringSize_1 : List UInt8 := dkwJ23_stringSize_1 ++ []
def dkwJ23_stringSize_0 : List UInt8 := [4, 60, 26, 155, 0, 8, 3, 60, 26, 116, 59, 16, 246, 61, 4, 62, 29, 16, 10, 162, 0, 23, 26, 28]
abbrev dktJ23_stringSize_0 : List UInt8 := dkwJ23_stringSize_0 ++ dktJ23_stringSize_1
theorem dksJ23_stringSize_0 : cJ23_stringSize.data.toList.drop 0 = dktJ23_stringSize_0 := by decide +kernel
theorem dksJ23_stringSize_1 : cJ23_stringSize.data.toList.drop 24 = dktJ23_stringSize_1 := dk_seg dksJ23_stringSize_0 24 rfl rfl
theorem dJ23_stringSize_0 : decode cJ23_stringSize 0 = .ok (.iconst 1, 1) := dk_4 (dk_at dksJ23_stringSize_0 0 rfl rfl)
theorem dJ23_stringSize_1 : decode cJ23_stringSize 1 = .ok (.istore_n 1, 1) := dk_60 (dk_at dksJ23_stringSize_0 1 rfl rfl)
theorem dJ23_stringSize_2 : decode cJ23_stringSize 2 = .ok (.iload_n 0, 1) := dk_26 (dk_at dksJ23_stringSize_0 2 rfl rfl)
theorem dJ23_stringSize_3 : decode cJ23_stringSize 3 = .ok (.ifCond .lt 8, 3) := dk_155 0 8 (dk_at dksJ23_stringSize_0 3 rfl rfl)
theorem dJ23_stringSize_6 : decode cJ23_stringSize 6 = .ok (.iconst 0, 1) := dk_3 (dk_at dksJ23_stringSize_0 6 rfl rfl)
theorem dJ23_stringSize_7 : decode cJ23_stringSize 7 = .ok (.istore_n 1, 1) := dk_60 (dk_at dksJ23_stringSize_0 7 rfl rfl)
theorem dJ23_stringSize_8 : decode cJ23_stringSize 8 = .ok (.iload_n 0, 1) := dk_26 (dk_at dksJ23_stringSize_0 8 rfl rfl)
theorem dJ23_stringSize_9 : decode cJ23_stringSize 9 = .ok (.ineg, 1) := dk_116 (dk_at dksJ23_stringSize_0 9 rfl rfl)
theorem dJ23_stringSize_10 : decode cJ23_stringSize 10 = .ok (.istore_n 0, 1) := dk_59 (dk_at dksJ23_stringSize_0 10 rfl rfl)
theorem dJ23_stringSize_11 : decode cJ23_stringSize 11 = .ok (.bipush (-10), 2) := dk_16 246 (dk_at dksJ23_stringSize_0 11 rfl rfl)
theorem dJ23_stringSize_13 : decode cJ23_stringSize 13 = .ok (.istore_n 2, 1) := dk_61 (dk_at dksJ23_stringSize_0 13 rfl rfl)
theorem dJ23_stringSize_14 : decode cJ23_stringSize 14 = .ok (.iconst 1, 1) := dk_4 (dk_at dksJ23_stringSize_0 14 rfl rfl)
theorem dJ23_stringSize_15 : decode cJ23_stringSize 15 = .ok (.istore_n 3, 1) := dk_62 (dk_at dksJ23_stringSize_0 15 rfl rfl)
theorem dJ23_stringSize_16 : decode cJ23_stringSize 16 = .ok (.iload_n 3, 1) := dk_29 (dk_at dksJ23_stringSize_0 16 rfl rfl)
theorem dJ23_stringSize_17 : decode cJ23_stringSize 17 = .ok (.bipush 10, 2) := dk_16 10 (dk_at dksJ23_stringSize_0 17 rfl rfl)
theorem dJ23_stringSize_19 : decode cJ23_stringSize 19 = .ok (.if_icmp .ge 23, 3) := dk_162 0 23 (dk_at dksJ23_stringSize_0 19 rfl rfl)
theorem dJ23_stringSize_22 : decode cJ23_stringSize 22 = .ok (.iload_n 0, 1) := dk_26 (dk_at dksJ23_stringSize_0 22 rfl rfl)
theorem dJ23_stringSize_23 : decode cJ23_stringSize 23 = .ok (.iload_n 2, 1) := dk_28 (dk_at dksJ23_stringSize_0 23 rfl rfl)
theorem dJ23_stringSize_24 : decode cJ23_stringSize 24 = .ok (.if_icmp .le 7, 3) := dk_164 0 7 (dk_at dksJ23_stringSize_1 0 rfl rfl)
theorem dJ23_stringSize_27 : decode cJ23_stringSize 27 = .ok (.iload_n 3, 1) := dk_29 (dk_at dksJ23_stringSize_1 3 rfl rfl)
theorem dJ23_stringSize_28 : decode cJ23_stringSize 28 = .ok (.iload_n 1, 1) := dk_27 (dk_at dksJ23_stringSize_1 4 rfl rfl)
theorem dJ23_stringSize_29 : decode cJ23_stringSize 29 = .ok (.iadd, 1) := dk_96 (dk_at dksJ23_stringSize_1 5 rfl rfl)
theorem dJ23_stringSize_30 : decode cJ23_stringSize 30 = .ok (.ireturn, 1) := dk_172 (dk_at dksJ23_stringSize_1 6 rfl rfl)
theorem dJ23_stringSize_31 : decode cJ23_stringSize 31 = .ok (.bipush 10, 2) := dk_16 10 (dk_at dksJ23_stringSize_1 7 rfl rfl)
theorem dJ23_stringSize_33 : decode cJ23_stringSize 33 = .ok (.iload_n 2, 1) := dk_28 (dk_at dksJ23_stringSize_1 9 rfl rfl)
theorem dJ23_stringSize_34 : decode cJ23_stringSize 34 = .ok (.imul, 1) := dk_104 (dk_at dksJ23_stringSize_1 10 rfl rfl)
theorem dJ23_stringSize_35 : decode cJ23_stringSize 35 = .ok (.istore_n 2, 1) := dk_61 (dk_at dksJ23_stringSize_1 11 rfl rfl)
theorem dJ23_stringSize_36 : decode cJ23_stringSize 36 = .ok (.iinc 3 1, 3) := dk_132 3 1 (dk_at dksJ23_stringSize_1 12 rfl rfl)
theorem dJ23_stringSize_39 : decode cJ23_stringSize 39 = .ok (.goto (-23), 3) := dk_167 255 233 (dk_at dksJ23_stringSize_1 15 rfl rfl)
theorem dJ23_stringSize_42 : decode cJ23_stringSize 42 = .ok (.bipush 10, 2) := dk_16 10 (dk_at dksJ23_stringSize_1 18 rfl rfl)
theorem dJ23_stringSize_44 : decode cJ23_stringSize 44 = .ok (.iload_n 1, 1) := dk_27 (dk_at dksJ23_stringSize_1 20 rfl rfl)
theorem dJ23_stringSize_45 : decode cJ23_stringSize 45 = .ok (.iadd, 1) := dk_96 (dk_at dksJ23_stringSize_1 21 rfl rfl)
theorem dJ23_stringSize_46 : decode cJ23_stringSize 46 = .ok (.ireturn, 1) := dk_172 (dk_at dksJ23_stringSize_1 22 rfl rfl)
abbrev cJ23_getChars : ByteArray := prog_28_method_12_code
def yJ23_getChars : MethodName := ⟨RJ23, "getChars", "(II[B)I"⟩
def dkwJ23_getChars_5 : List UInt8 := [16, 45, 84, 21, 5, 172]
abbrev dktJ23_getChars_5 : List UInt8 := dkwJ23_getChars_5 ++ []
def dkwJ23_getChars_4 : List UInt8 := [132, 5, 255, 21, 5, 178, 0, 87, 26, 116, 51, 84, 21, 6, 153, 0, 12, 44, 132, 5, 255, 21, 5]
abbrev dktJ23_getChars_4 : List UInt8 := dkwJ23_getChars_4 ++ dktJ23_getChars_5
def dkwJ23_getChars_3 : List UInt8 := [167, 255, 209, 44, 132, 5, 255, 21, 5, 178, 0, 83, 26, 116, 51, 84, 26, 16, 247, 162, 0, 16, 44]
abbrev dktJ23_getChars_3 : List UInt8 := dkwJ23_getChars_3 ++ dktJ23_getChars_4
def dkwJ23_getChars_2 : List UInt8 := [21, 5, 178, 0, 83, 21, 4, 51, 84, 44, 132, 5, 255, 21, 5, 178, 0, 87, 21, 4, 51, 84]
abbrev dktJ23_getChars_2 : List UInt8 := dkwJ23_getChars_2 ++ dktJ23_getChars_3
def dkwJ23_getChars_1 : List UInt8 := [16, 156, 163, 0, 47, 26, 16, 100, 108, 62, 29, 16, 100, 104, 26, 100, 54, 4, 29, 59, 44, 132, 5, 255]
abbrev dktJ23_getChars_1 : List UInt8 := dkwJ23_getChars_1 ++ dktJ23_getChars_2
def dkwJ23_getChars_0 : List UInt8 := [27, 54, 5, 26, 156, 0, 7, 4, 167, 0, 4, 3, 54, 6, 21, 6, 154, 0, 6, 26, 116, 59, 26]
abbrev dktJ23_getChars_0 : List UInt8 := dkwJ23_getChars_0 ++ dktJ23_getChars_1
theorem dksJ23_getChars_0 : cJ23_getChars.data.toList.drop 0 = dktJ23_getChars_0 := by decide +kernel
theorem dksJ23_getChars_1 : cJ23_getChars.data.toList.drop 23 = dktJ23_getChars_1 := dk_seg dksJ23_getChars_0 23 rfl rfl
theorem dksJ23_getChars_2 : cJ23_getChars.data.toList.drop 47 = dktJ23_getChars_2 := dk_seg dksJ23_getChars_1 24 rfl rfl
theorem dksJ23_getChars_3 : cJ23_getChars.data.toList.drop 69 = dktJ23_getChars_3 := dk_seg dksJ23_getChars_2 22 rfl rfl
theorem dksJ23_getChars_4 : cJ23_getChars.data.toList.drop 92 = dktJ23_getChars_4 := dk_seg dksJ23_getChars_3 23 rfl rfl
theorem dksJ23_getChars_5 : cJ23_getChars.data.toList.drop 115 = dktJ23_getChars_5 := dk_seg dksJ23_getChars_4 23 rfl rfl
theorem dJ23_getChars_0 : decode cJ23_getChars 0 = .ok (.iload_n 1, 1) := dk_27 (dk_at dksJ23_getChars_0 0 rfl rfl)
theorem dJ23_getChars_1 : decode cJ23_getChars 1 = .ok (.istore 5, 2) := dk_54 5 (dk_at dksJ23_getChars_0 1 rfl rfl)
theorem dJ23_getChars_3 : decode cJ23_getChars 3 = .ok (.iload_n 0, 1) := dk_26 (dk_at dksJ23_getChars_0 3 rfl rfl)
theorem dJ23_getChars_4 : decode cJ23_getChars 4 = .ok (.ifCond .ge 7, 3) := dk_156 0 7 (dk_at dksJ23_getChars_0 4 rfl rfl)
theorem dJ23_getChars_7 : decode cJ23_getChars 7 = .ok (.iconst 1, 1) := dk_4 (dk_at dksJ23_getChars_0 7 rfl rfl)
theorem dJ23_getChars_8 : decode cJ23_getChars 8 = .ok (.goto 4, 3) := dk_167 0 4 (dk_at dksJ23_getChars_0 8 rfl rfl)
theorem dJ23_getChars_11 : decode cJ23_getChars 11 = .ok (.iconst 0, 1) := dk_3 (dk_at dksJ23_getChars_0 11 rfl rfl)
theorem dJ23_getChars_12 : decode cJ23_getChars 12 = .ok (.istore 6, 2) := dk_54 6 (dk_at dksJ23_getChars_0 12 rfl rfl)
theorem dJ23_getChars_14 : decode cJ23_getChars 14 = .ok (.iload 6, 2) := dk_21 6 (dk_at dksJ23_getChars_0 14 rfl rfl)
theorem dJ23_getChars_16 : decode cJ23_getChars 16 = .ok (.ifCond .ne 6, 3) := dk_154 0 6 (dk_at dksJ23_getChars_0 16 rfl rfl)
theorem dJ23_getChars_19 : decode cJ23_getChars 19 = .ok (.iload_n 0, 1) := dk_26 (dk_at dksJ23_getChars_0 19 rfl rfl)
theorem dJ23_getChars_20 : decode cJ23_getChars 20 = .ok (.ineg, 1) := dk_116 (dk_at dksJ23_getChars_0 20 rfl rfl)
theorem dJ23_getChars_21 : decode cJ23_getChars 21 = .ok (.istore_n 0, 1) := dk_59 (dk_at dksJ23_getChars_0 21 rfl rfl)
theorem dJ23_getChars_22 : decode cJ23_getChars 22 = .ok (.iload_n 0, 1) := dk_26 (dk_at dksJ23_getChars_0 22 rfl rfl)
theorem dJ23_getChars_23 : decode cJ23_getChars 23 = .ok (.bipush (-100), 2) := dk_16 156 (dk_at dksJ23_getChars_1 0 rfl rfl)
theorem dJ23_getChars_25 : decode cJ23_getChars 25 = .ok (.if_icmp .gt 47, 3) := dk_163 0 47 (dk_at dksJ23_getChars_1 2 rfl rfl)
theorem dJ23_getChars_28 : decode cJ23_getChars 28 = .ok (.iload_n 0, 1) := dk_26 (dk_at dksJ23_getChars_1 5 rfl rfl)
theorem dJ23_getChars_29 : decode cJ23_getChars 29 = .ok (.bipush 100, 2) := dk_16 100 (dk_at dksJ23_getChars_1 6 rfl rfl)
theorem dJ23_getChars_31 : decode cJ23_getChars 31 = .ok (.idiv, 1) := dk_108 (dk_at dksJ23_getChars_1 8 rfl rfl)
theorem dJ23_getChars_32 : decode cJ23_getChars 32 = .ok (.istore_n 3, 1) := dk_62 (dk_at dksJ23_getChars_1 9 rfl rfl)
theorem dJ23_getChars_33 : decode cJ23_getChars 33 = .ok (.iload_n 3, 1) := dk_29 (dk_at dksJ23_getChars_1 10 rfl rfl)
theorem dJ23_getChars_34 : decode cJ23_getChars 34 = .ok (.bipush 100, 2) := dk_16 100 (dk_at dksJ23_getChars_1 11 rfl rfl)
theorem dJ23_getChars_36 : decode cJ23_getChars 36 = .ok (.imul, 1) := dk_104 (dk_at dksJ23_getChars_1 13 rfl rfl)
theorem dJ23_getChars_37 : decode cJ23_getChars 37 = .ok (.iload_n 0, 1) := dk_26 (dk_at dksJ23_getChars_1 14 rfl rfl)
theorem dJ23_getChars_38 : decode cJ23_getChars 38 = .ok (.isub, 1) := dk_100 (dk_at dksJ23_getChars_1 15 rfl rfl)
theorem dJ23_getChars_39 : decode cJ23_getChars 39 = .ok (.istore 4, 2) := dk_54 4 (dk_at dksJ23_getChars_1 16 rfl rfl)
theorem dJ23_getChars_41 : decode cJ23_getChars 41 = .ok (.iload_n 3, 1) := dk_29 (dk_at dksJ23_getChars_1 18 rfl rfl)
theorem dJ23_getChars_42 : decode cJ23_getChars 42 = .ok (.istore_n 0, 1) := dk_59 (dk_at dksJ23_getChars_1 19 rfl rfl)
theorem dJ23_getChars_43 : decode cJ23_getChars 43 = .ok (.aload_n 2, 1) := dk_44 (dk_at dksJ23_getChars_1 20 rfl rfl)
theorem dJ23_getChars_44 : decode cJ23_getChars 44 = .ok (.iinc 5 (-1), 3) := dk_132 5 255 (dk_at dksJ23_getChars_1 21 rfl rfl)
theorem dJ23_getChars_47 : decode cJ23_getChars 47 = .ok (.iload 5, 2) := dk_21 5 (dk_at dksJ23_getChars_2 0 rfl rfl)
theorem dJ23_getChars_49 : decode cJ23_getChars 49 = .ok (.getstatic 83, 3) := dk_178 0 83 (dk_at dksJ23_getChars_2 2 rfl rfl)
theorem dJ23_getChars_52 : decode cJ23_getChars 52 = .ok (.iload 4, 2) := dk_21 4 (dk_at dksJ23_getChars_2 5 rfl rfl)
theorem dJ23_getChars_54 : decode cJ23_getChars 54 = .ok (.baload, 1) := dk_51 (dk_at dksJ23_getChars_2 7 rfl rfl)
theorem dJ23_getChars_55 : decode cJ23_getChars 55 = .ok (.bastore, 1) := dk_84 (dk_at dksJ23_getChars_2 8 rfl rfl)
theorem dJ23_getChars_56 : decode cJ23_getChars 56 = .ok (.aload_n 2, 1) := dk_44 (dk_at dksJ23_getChars_2 9 rfl rfl)
theorem dJ23_getChars_57 : decode cJ23_getChars 57 = .ok (.iinc 5 (-1), 3) := dk_132 5 255 (dk_at dksJ23_getChars_2 10 rfl rfl)
theorem dJ23_getChars_60 : decode cJ23_getChars 60 = .ok (.iload 5, 2) := dk_21 5 (dk_at dksJ23_getChars_2 13 rfl rfl)
theorem dJ23_getChars_62 : decode cJ23_getChars 62 = .ok (.getstatic 87, 3) := dk_178 0 87 (dk_at dksJ23_getChars_2 15 rfl rfl)
theorem dJ23_getChars_65 : decode cJ23_getChars 65 = .ok (.iload 4, 2) := dk_21 4 (dk_at dksJ23_getChars_2 18 rfl rfl)
theorem dJ23_getChars_67 : decode cJ23_getChars 67 = .ok (.baload, 1) := dk_51 (dk_at dksJ23_getChars_2 20 rfl rfl)
theorem dJ23_getChars_68 : decode cJ23_getChars 68 = .ok (.bastore, 1) := dk_84 (dk_at dksJ23_getChars_2 21 rfl rfl)
theorem dJ23_getChars_69 : decode cJ23_getChars 69 = .ok (.goto (-47), 3) := dk_167 255 209 (dk_at dksJ23_getChars_3 0 rfl rfl)
theorem dJ23_getChars_72 : decode cJ23_getChars 72 = .ok (.aload_n 2, 1) := dk_44 (dk_at dksJ23_getChars_3 3 rfl rfl)
theorem dJ23_getChars_73 : decode cJ23_getChars 73 = .ok (.iinc 5 (-1), 3) := dk_132 5 255 (dk_at dksJ23_getChars_3 4 rfl rfl)
theorem dJ23_getChars_76 : decode cJ23_getChars 76 = .ok (.iload 5, 2) := dk_21 5 (dk_at dksJ23_getChars_3 7 rfl rfl)
theorem dJ23_getChars_78 : decode cJ23_getChars 78 = .ok (.getstatic 83, 3) := dk_178 0 83 (dk_at dksJ23_getChars_3 9 rfl rfl)
theorem dJ23_getChars_81 : decode cJ23_getChars 81 = .ok (.iload_n 0, 1) := dk_26 (dk_at dksJ23_getChars_3 12 rfl rfl)
theorem dJ23_getChars_82 : decode cJ23_getChars 82 = .ok (.ineg, 1) := dk_116 (dk_at dksJ23_getChars_3 13 rfl rfl)
theorem dJ23_getChars_83 : decode cJ23_getChars 83 = .ok (.baload, 1) := dk_51 (dk_at dksJ23_getChars_3 14 rfl rfl)
theorem dJ23_getChars_84 : decode cJ23_getChars 84 = .ok (.bastore, 1) := dk_84 (dk_at dksJ23_getChars_3 15 rfl rfl)
theorem dJ23_getChars_85 : decode cJ23_getChars 85 = .ok (.iload_n 0, 1) := dk_26 (dk_at dksJ23_getChars_3 16 rfl rfl)
theorem dJ23_getChars_86 : decode cJ23_getChars 86 = .ok (.bipush (-9), 2) := dk_16 247 (dk_at dksJ23_getChars_3 17 rfl rfl)
theorem dJ23_getChars_88 : decode cJ23_getChars 88 = .ok (.if_icmp .ge 16, 3) := dk_162 0 16 (dk_at dksJ23_getChars_3 19 rfl rfl)
theorem dJ23_getChars_91 : decode cJ23_getChars 91 = .ok (.aload_n 2, 1) := dk_44 (dk_at dksJ23_getChars_3 22 rfl rfl)
theorem dJ23_getChars_92 : decode cJ23_getChars 92 = .ok (.iinc 5 (-1), 3) := dk_132 5 255 (dk_at dksJ23_getChars_4 0 rfl rfl)
theorem dJ23_getChars_95 : decode cJ23_getChars 95 = .ok (.iload 5, 2) := dk_21 5 (dk_at dksJ23_getChars_4 3 rfl rfl)
theorem dJ23_getChars_97 : decode cJ23_getChars 97 = .ok (.getstatic 87, 3) := dk_178 0 87 (dk_at dksJ23_getChars_4 5 rfl rfl)
theorem dJ23_getChars_100 : decode cJ23_getChars 100 = .ok (.iload_n 0, 1) := dk_26 (dk_at dksJ23_getChars_4 8 rfl rfl)
theorem dJ23_getChars_101 : decode cJ23_getChars 101 = .ok (.ineg, 1) := dk_116 (dk_at dksJ23_getChars_4 9 rfl rfl)
theorem dJ23_getChars_102 : decode cJ23_getChars 102 = .ok (.baload, 1) := dk_51 (dk_at dksJ23_getChars_4 10 rfl rfl)
theorem dJ23_getChars_103 : decode cJ23_getChars 103 = .ok (.bastore, 1) := dk_84 (dk_at dksJ23_getChars_4 11 rfl rfl)
theorem dJ23_getChars_104 : decode cJ23_getChars 104 = .ok (.iload 6, 2) := dk_21 6 (dk_at dksJ23_getChars_4 12 rfl rfl)
theorem dJ23_getChars_106 : decode cJ23_getChars 106 = .ok (.ifCond .eq 12, 3) := dk_153 0 12 (dk_at dksJ23_getChars_4 14 rfl rfl)
theorem dJ23_getChars_109 : decode cJ23_getChars 109 = .ok (.aload_n 2, 1) := dk_44 (dk_at dksJ23_getChars_4 17 rfl rfl)
theorem dJ23_getChars_110 : decode cJ23_getChars 110 = .ok (.iinc 5 (-1), 3) := dk_132 5 255 (dk_at dksJ23_getChars_4 18 rfl rfl)
theorem dJ23_getChars_113 : decode cJ23_getChars 113 = .ok (.iload 5, 2) := dk_21 5 (dk_at dksJ23_getChars_4 21 rfl rfl)
theorem dJ23_getChars_115 : decode cJ23_getChars 115 = .ok (.bipush 45, 2) := dk_16 45 (dk_at dksJ23_getChars_5 0 rfl rfl)
theorem dJ23_getChars_117 : decode cJ23_getChars 117 = .ok (.bastore, 1) := dk_84 (dk_at dksJ23_getChars_5 2 rfl rfl)
theorem dJ23_getChars_118 : decode cJ23_getChars 118 = .ok (.iload 5, 2) := dk_21 5 (dk_at dksJ23_getChars_5 3 rfl rfl)
theorem dJ23_getChars_120 : decode cJ23_getChars 120 = .ok (.ireturn, 1) := dk_172 (dk_at dksJ23_getChars_5 5 rfl rfl)
theorem q95 : (Jvm.Cond.initialized "java/lang/Integer") ∈ lw_all := lw_g (lw_at lw_m1 38 rfl) rfl
theorem q1492 : (Jvm.Cond.static ({ cls := "java/lang/Integer", name := "stringSize", desc := "(I)I" } : Jvm.MethodName)) ∈ lw_all := lw_g (lw_at lw_m6 235 rfl) rfl
theorem q1493 : (Jvm.Cond.code ({ cls := "java/lang/Integer", name := "stringSize", desc := "(I)I" } : Jvm.MethodName) prog_28_method_13_code (4 : Nat) (Option.some Jvm.ClassFile.FieldType.int)) ∈ lw_all := lw_g (lw_at lw_m6 236 rfl) rfl
theorem q1495 : (Jvm.Cond.static ({ cls := "java/lang/Integer", name := "getChars", desc := "(II[B)I" } : Jvm.MethodName)) ∈ lw_all := lw_g (lw_at lw_m6 238 rfl) rfl
theorem q1496 : (Jvm.Cond.code ({ cls := "java/lang/Integer", name := "getChars", desc := "(II[B)I" } : Jvm.MethodName) prog_28_method_12_code (7 : Nat) (Option.some Jvm.ClassFile.FieldType.int)) ∈ lw_all := lw_g (lw_at lw_m6 239 rfl) rfl
theorem q1497 : (Jvm.Cond.fieldLink "java/lang/Integer" (83 : Nat) "java/lang/Integer" "DigitOnes" "[B") ∈ lw_all := lw_g (lw_at lw_m7 0 rfl) rfl
theorem q1498 : (Jvm.Cond.laysStatic "java/lang/Integer" "DigitOnes" "[B") ∈ lw_tbl := lw_at lw_m7 1 rfl
theorem q1499 : (Jvm.Cond.fieldLink "java/lang/Integer" (87 : Nat) "java/lang/Integer" "DigitTens" "[B") ∈ lw_all := lw_g (lw_at lw_m7 2 rfl) rfl
theorem q1500 : (Jvm.Cond.laysStatic "java/lang/Integer" "DigitTens" "[B") ∈ lw_tbl := lw_at lw_m7 3 rfl
/-! java/lang/Double -/
set_option maxRecDepth 100000
def RJ24 : String := "java/lang/Double"
abbrev cJ24_doubleToLongBits : ByteArray := prog_22_method_23_code
def yJ24_doubleToLongBits : MethodName := ⟨RJ24, "doubleToLongBits", "(D)J"⟩
def dkwJ24_doubleToLongBits_0 : List UInt8 := [38, 184, 0, 122, 154, 0, 8, 38, 184, 0, 134, 173, 20, 0, 137, 173]
abbrev dktJ24_doubleToLongBits_0 : List UInt8 := dkwJ24_doubleToLongBits_0 ++ []
theorem dksJ24_doubleToLongBits_0 : cJ24_doubleToLongBits.data.toList.drop 0 = dktJ24_doubleToLongBits_0 := by decide +kernel
theorem dJ24_doubleToLongBits_0 : decode cJ24_doubleToLongBits 0 = .ok (.dload_n 0, 1) := dk_38 (dk_at dksJ24_doubleToLongBits_0 0 rfl rfl)
theorem dJ24_doubleToLongBits_1 : decode cJ24_doubleToLongBits 1 = .ok (.invokestatic 122, 3) := dk_184 0 122 (dk_at dksJ24_doubleToLongBits_0 1 rfl rfl)
theorem dJ24_doubleToLongBits_4 : decode cJ24_doubleToLongBits 4 = .ok (.ifCond .ne 8, 3) := dk_154 0 8 (dk_at dksJ24_doubleToLongBits_0 4 rfl rfl)
theorem dJ24_doubleToLongBits_7 : decode cJ24_doubleToLongBits 7 = .ok (.dload_n 0, 1) := dk_38 (dk_at dksJ24_doubleToLongBits_0 7 rfl rfl)
theorem dJ24_doubleToLongBits_8 : decode cJ24_doubleToLongBits 8 = .ok (.invokestatic 134, 3) := dk_184 0 134 (dk_at dksJ24_doubleToLongBits_0 8 rfl rfl)
theorem dJ24_doubleToLongBits_11 : decode cJ24_doubleToLongBits 11 = .ok (.lreturn, 1) := dk_173 (dk_at dksJ24_doubleToLongBits_0 11 rfl rfl)
theorem dJ24_doubleToLongBits_12 : decode cJ24_doubleToLongBits 12 = .ok (.ldc2_w 137, 3) := dk_20 0 137 (dk_at dksJ24_doubleToLongBits_0 12 rfl rfl)
theorem dJ24_doubleToLongBits_15 : decode cJ24_doubleToLongBits 15 = .ok (.lreturn, 1) := dk_173 (dk_at dksJ24_doubleToLongBits_0 15 rfl rfl)
abbrev cJ24_isNaN : ByteArray := prog_22_method_6_code
def yJ24_isNaN : MethodName := ⟨RJ24, "isNaN", "(D)Z"⟩
def dkwJ24_isNaN_0 : List UInt8 := [38, 38, 151, 153, 0, 7, 4, 167, 0, 4, 3, 172]
abbrev dktJ24_isNaN_0 : List UInt8 := dkwJ24_isNaN_0 ++ []
theorem dksJ24_isNaN_0 : cJ24_isNaN.data.toList.drop 0 = dktJ24_isNaN_0 := by decide +kernel
theorem dJ24_isNaN_0 : decode cJ24_isNaN 0 = .ok (.dload_n 0, 1) := dk_38 (dk_at dksJ24_isNaN_0 0 rfl rfl)
theorem dJ24_isNaN_1 : decode cJ24_isNaN 1 = .ok (.dload_n 0, 1) := dk_38 (dk_at dksJ24_isNaN_0 1 rfl rfl)
theorem dJ24_isNaN_2 : decode cJ24_isNaN 2 = .ok (.dcmp .l, 1) := dk_151 (dk_at dksJ24_isNaN_0 2 rfl rfl)
theorem dJ24_isNaN_3 : decode cJ24_isNaN 3 = .ok (.ifCond .eq 7, 3) := dk_153 0 7 (dk_at dksJ24_isNaN_0 3 rfl rfl)
theorem dJ24_isNaN_6 : decode cJ24_isNaN 6 = .ok (.iconst 1, 1) := dk_4 (dk_at dksJ24_isNaN_0 6 rfl rfl)
theorem dJ24_isNaN_7 : decode cJ24_isNaN 7 = .ok (.goto 4, 3) := dk_167 0 4 (dk_at dksJ24_isNaN_0 7 rfl rfl)
theorem dJ24_isNaN_10 : decode cJ24_isNaN 10 = .ok (.iconst 0, 1) := dk_3 (dk_at dksJ24_isNaN_0 10 rfl rfl)
theorem dJ24_isNaN_11 : decode cJ24_isNaN 11 = .ok (.ireturn, 1) := dk_172 (dk_at dksJ24_isNaN_0 11 rfl rfl)
theorem q96 : (Jvm.Cond.initialized "java/lang/Double") ∈ lw_all := lw_g (lw_at lw_m1 39 rfl) rfl
theorem q669 : (Jvm.Cond.static ({ cls := "java/lang/Double", name := "doubleToLongBits", desc := "(D)J" } : Jvm.MethodName)) ∈ lw_all := lw_g (lw_at lw_m3 132 rfl) rfl
theorem q670 : (Jvm.Cond.code ({ cls := "java/lang/Double", name := "doubleToLongBits", desc := "(D)J" } : Jvm.MethodName) prog_22_method_23_code (2 : Nat) (Option.some Jvm.ClassFile.FieldType.long)) ∈ lw_all := lw_g (lw_at lw_m3 133 rfl) rfl
theorem q671 : (Jvm.Cond.methodLink "java/lang/Double" (122 : Nat) ({ cls := "java/lang/Double", name := "isNaN", desc := "(D)Z" } : Jvm.MethodName)) ∈ lw_all := lw_g (lw_at lw_m3 134 rfl) rfl
theorem q672 : (Jvm.Cond.static ({ cls := "java/lang/Double", name := "isNaN", desc := "(D)Z" } : Jvm.MethodName)) ∈ lw_all := lw_g (lw_at lw_m3 135 rfl) rfl
theorem q673 : (Jvm.Cond.code ({ cls := "java/lang/Double", name := "isNaN", desc := "(D)Z" } : Jvm.MethodName) prog_22_method_6_code (2 : Nat) (Option.some Jvm.ClassFile.FieldType.boolean)) ∈ lw_all := lw_g (lw_at lw_m3 136 rfl) rfl
theorem q674 : (Jvm.Cond.methodLink "java/lang/Double" (134 : Nat) ({ cls := "java/lang/Double", name := "doubleToRawLongBits", desc := "(D)J" } : Jvm.MethodName)) ∈ lw_all := lw_g (lw_at lw_m3 137 rfl) rfl
theorem q675 : (Jvm.Cond.static ({ cls := "java/lang/Double", name := "doubleToRawLongBits", desc := "(D)J" } : Jvm.MethodName)) ∈ lw_all := lw_g (lw_at lw_m3 138 rfl) rfl
theorem q676 : (Jvm.Cond.native ({ cls := "java/lang/Double", name := "doubleToRawLongBits", desc := "(D)J" } : Jvm.MethodName)) ∈ lw_all := lw_g (lw_at lw_m3 139 rfl) rfl
theorem q677 : (Jvm.Cond.constantLong "java/lang/Double" (137 : Nat) (9221120237041090560 : Int64)) ∈ lw_all := lw_g (lw_at lw_m3 140 rfl) rfl
/-! java/lang/Object -/
set_option maxRecDepth 100000
def RJ25 : String := "java/lang/Object"
abbrev cJ25_init : ByteArray := object_method_1_code
def yJ25_init : MethodName := ⟨RJ25, "<init>", "()V"⟩
theorem dJ25_init_0 : decode cJ25_init 0 = .ok (.return_, 1) := by decide +kernel
theorem q103 : (Jvm.Cond.instanceMethod ({ cls := "java/lang/Object", name := "<init>", desc := "()V" } : Jvm.MethodName)) ∈ lw_all := lw_g (lw_at lw_m1 46 rfl) rfl
theorem q104 : (Jvm.Cond.code ({ cls := "java/lang/Object", name := "<init>", desc := "()V" } : Jvm.MethodName) object_method_1_code (1 : Nat) (Option.none : Option Jvm.ClassFile.FieldType)) ∈ lw_all := lw_g (lw_at lw_m1 47 rfl) rfl
theorem q482 : (Jvm.Cond.instanceMethod ({ cls := "java/lang/Object", name := "getClass", desc := "()Ljava/lang/Class;" } : Jvm.MethodName)) ∈ lw_all := lw_g (lw_at lw_m2 185 rfl) rfl
theorem q483 : (Jvm.Cond.sameMethod "java/lang/Object" "java/lang/Object" "getClass" "()Ljava/lang/Class;") ∈ lw_all := lw_g (lw_at lw_m2 186 rfl) rfl
theorem q506 : (Jvm.Cond.native ({ cls := "java/lang/Object", name := "getClass", desc := "()Ljava/lang/Class;" } : Jvm.MethodName)) ∈ lw_all := lw_g (lw_at lw_m2 209 rfl) rfl
theorem q992 : (Jvm.Cond.native ({ cls := "java/lang/Object", name := "clone", desc := "()Ljava/lang/Object;" } : Jvm.MethodName)) ∈ lw_all := lw_g (lw_at lw_m4 215 rfl) rfl
theorem q993 : (Jvm.Cond.instanceMethod ({ cls := "java/lang/Object", name := "clone", desc := "()Ljava/lang/Object;" } : Jvm.MethodName)) ∈ lw_all := lw_g (lw_at lw_m4 216 rfl) rfl
theorem q2104 : (Jvm.Cond.initialized "java/lang/Object") ∈ lw_all := lw_g (lw_at lw_m9 127 rfl) rfl
theorem q2135 : (Jvm.Cond.declares ({ cls := "java/lang/Object", name := "getClass", desc := "()Ljava/lang/Class;" } : Jvm.MethodName)) ∈ lw_tbl := lw_at lw_m9 158 rfl
