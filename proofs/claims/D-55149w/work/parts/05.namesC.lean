/-! CliffPlots -/
set_option maxRecDepth 100000
def RX1 : String := "CliffPlots"
def TX1 : u_T := fun k => match k with
  | 0 => ("CliffPlots", "cliff", "LCliffPlots$Cliff;", true)
  | 1 => ("CliffPlots", "tried", "LCliffPlots$Cliff;", true)
  | 2 => ("CliffPlots", "saved", "LCliffPlots$Cliff;", true)
  | 3 => ("CliffPlots", "hasSaved", "Z", false)
  | 4 => ("CliffPlots", "kept", "Ljava/util/ArrayDeque;", true)
  | 5 => ("CliffPlots", "spare", "Ljava/util/ArrayDeque;", true)
  | 6 => ("CliffPlots", "buffer", "Ljava/lang/StringBuilder;", true)
  | 7 => ("CliffPlots", "reader", "LCliffPlots$Reader;", true)
  | 8 => ("CliffPlots", "fault", "I", false)
  | 9 => ("CliffPlots", "refused", "I", false)
  | _ => ("CliffPlots", "detail", "I", false)
def tyX1 : Nat → FieldType := fun k => match k with
  | 0 => .object "CliffPlots$Cliff"
  | 1 => .object "CliffPlots$Cliff"
  | 2 => .object "CliffPlots$Cliff"
  | 3 => .boolean
  | 4 => .object "java/util/ArrayDeque"
  | 5 => .object "java/util/ArrayDeque"
  | 6 => .object "java/lang/StringBuilder"
  | 7 => .object "CliffPlots$Reader"
  | 8 => .int
  | 9 => .int
  | _ => .int
abbrev wsX10 : List Cond := u_ws RX1 TX1 11
theorem nmX1 : ∀ a, a < 11 → ∀ b, b < 11 → a ≠ b → (TX1 a).2.1 ≠ (TX1 b).2.1 := by decide +kernel
theorem tyX1_ok : ∀ k, k < 11 → parseFieldDescriptor (TX1 k).2.2.1 = some (tyX1 k) := by decide +kernel
abbrev cX1_init : ByteArray := prog_1_method_6_code
def yX1_init : MethodName := ⟨RX1, "<init>", "()V"⟩
def dkwX1_init_5 : List UInt8 := [167, 255, 233, 177]
abbrev dktX1_init_5 : List UInt8 := dkwX1_init_5 ++ []
def dkwX1_init_4 : List UInt8 := [60, 27, 16, 8, 162, 0, 23, 42, 180, 0, 38, 187, 0, 18, 89, 183, 0, 20, 182, 0, 61, 132, 1, 1]
abbrev dktX1_init_4 : List UInt8 := dkwX1_init_4 ++ dktX1_init_5
def dkwX1_init_3 : List UInt8 := [181, 0, 44, 42, 187, 0, 48, 89, 42, 180, 0, 44, 183, 0, 50, 181, 0, 53, 42, 2, 181, 0, 57, 3]
abbrev dktX1_init_3 : List UInt8 := dkwX1_init_3 ++ dktX1_init_4
def dkwX1_init_2 : List UInt8 := [181, 0, 34, 42, 187, 0, 31, 89, 183, 0, 33, 181, 0, 38, 42, 187, 0, 41, 89, 183, 0, 43]
abbrev dktX1_init_2 : List UInt8 := dkwX1_init_2 ++ dktX1_init_3
def dkwX1_init_1 : List UInt8 := [181, 0, 25, 42, 187, 0, 18, 89, 183, 0, 20, 181, 0, 28, 42, 187, 0, 31, 89, 183, 0, 33]
abbrev dktX1_init_1 : List UInt8 := dkwX1_init_1 ++ dktX1_init_2
def dkwX1_init_0 : List UInt8 := [42, 183, 0, 13, 42, 187, 0, 18, 89, 183, 0, 20, 181, 0, 21, 42, 187, 0, 18, 89, 183, 0, 20]
abbrev dktX1_init_0 : List UInt8 := dkwX1_init_0 ++ dktX1_init_1
theorem dksX1_init_0 : cX1_init.data.toList.drop 0 = dktX1_init_0 := by decide +kernel
theorem dksX1_init_1 : cX1_init.data.toList.drop 23 = dktX1_init_1 := dk_seg dksX1_init_0 23 rfl rfl
theorem dksX1_init_2 : cX1_init.data.toList.drop 45 = dktX1_init_2 := dk_seg dksX1_init_1 22 rfl rfl
theorem dksX1_init_3 : cX1_init.data.toList.drop 67 = dktX1_init_3 := dk_seg dksX1_init_2 22 rfl rfl
theorem dksX1_init_4 : cX1_init.data.toList.drop 91 = dktX1_init_4 := dk_seg dksX1_init_3 24 rfl rfl
theorem dksX1_init_5 : cX1_init.data.toList.drop 115 = dktX1_init_5 := dk_seg dksX1_init_4 24 rfl rfl
theorem dX1_init_0 : decode cX1_init 0 = .ok (.aload_n 0, 1) := dk_42 (dk_at dksX1_init_0 0 rfl rfl)
theorem dX1_init_1 : decode cX1_init 1 = .ok (.invokespecial 13, 3) := dk_183 0 13 (dk_at dksX1_init_0 1 rfl rfl)
theorem dX1_init_4 : decode cX1_init 4 = .ok (.aload_n 0, 1) := dk_42 (dk_at dksX1_init_0 4 rfl rfl)
theorem dX1_init_5 : decode cX1_init 5 = .ok (.new 18, 3) := dk_187 0 18 (dk_at dksX1_init_0 5 rfl rfl)
theorem dX1_init_8 : decode cX1_init 8 = .ok (.dup, 1) := dk_89 (dk_at dksX1_init_0 8 rfl rfl)
theorem dX1_init_9 : decode cX1_init 9 = .ok (.invokespecial 20, 3) := dk_183 0 20 (dk_at dksX1_init_0 9 rfl rfl)
theorem dX1_init_12 : decode cX1_init 12 = .ok (.putfield 21, 3) := dk_181 0 21 (dk_at dksX1_init_0 12 rfl rfl)
theorem dX1_init_15 : decode cX1_init 15 = .ok (.aload_n 0, 1) := dk_42 (dk_at dksX1_init_0 15 rfl rfl)
theorem dX1_init_16 : decode cX1_init 16 = .ok (.new 18, 3) := dk_187 0 18 (dk_at dksX1_init_0 16 rfl rfl)
theorem dX1_init_19 : decode cX1_init 19 = .ok (.dup, 1) := dk_89 (dk_at dksX1_init_0 19 rfl rfl)
theorem dX1_init_20 : decode cX1_init 20 = .ok (.invokespecial 20, 3) := dk_183 0 20 (dk_at dksX1_init_0 20 rfl rfl)
theorem dX1_init_23 : decode cX1_init 23 = .ok (.putfield 25, 3) := dk_181 0 25 (dk_at dksX1_init_1 0 rfl rfl)
theorem dX1_init_26 : decode cX1_init 26 = .ok (.aload_n 0, 1) := dk_42 (dk_at dksX1_init_1 3 rfl rfl)
theorem dX1_init_27 : decode cX1_init 27 = .ok (.new 18, 3) := dk_187 0 18 (dk_at dksX1_init_1 4 rfl rfl)
theorem dX1_init_30 : decode cX1_init 30 = .ok (.dup, 1) := dk_89 (dk_at dksX1_init_1 7 rfl rfl)
theorem dX1_init_31 : decode cX1_init 31 = .ok (.invokespecial 20, 3) := dk_183 0 20 (dk_at dksX1_init_1 8 rfl rfl)
theorem dX1_init_34 : decode cX1_init 34 = .ok (.putfield 28, 3) := dk_181 0 28 (dk_at dksX1_init_1 11 rfl rfl)
theorem dX1_init_37 : decode cX1_init 37 = .ok (.aload_n 0, 1) := dk_42 (dk_at dksX1_init_1 14 rfl rfl)
theorem dX1_init_38 : decode cX1_init 38 = .ok (.new 31, 3) := dk_187 0 31 (dk_at dksX1_init_1 15 rfl rfl)
theorem dX1_init_41 : decode cX1_init 41 = .ok (.dup, 1) := dk_89 (dk_at dksX1_init_1 18 rfl rfl)
theorem dX1_init_42 : decode cX1_init 42 = .ok (.invokespecial 33, 3) := dk_183 0 33 (dk_at dksX1_init_1 19 rfl rfl)
theorem dX1_init_45 : decode cX1_init 45 = .ok (.putfield 34, 3) := dk_181 0 34 (dk_at dksX1_init_2 0 rfl rfl)
theorem dX1_init_48 : decode cX1_init 48 = .ok (.aload_n 0, 1) := dk_42 (dk_at dksX1_init_2 3 rfl rfl)
theorem dX1_init_49 : decode cX1_init 49 = .ok (.new 31, 3) := dk_187 0 31 (dk_at dksX1_init_2 4 rfl rfl)
theorem dX1_init_52 : decode cX1_init 52 = .ok (.dup, 1) := dk_89 (dk_at dksX1_init_2 7 rfl rfl)
theorem dX1_init_53 : decode cX1_init 53 = .ok (.invokespecial 33, 3) := dk_183 0 33 (dk_at dksX1_init_2 8 rfl rfl)
theorem dX1_init_56 : decode cX1_init 56 = .ok (.putfield 38, 3) := dk_181 0 38 (dk_at dksX1_init_2 11 rfl rfl)
theorem dX1_init_59 : decode cX1_init 59 = .ok (.aload_n 0, 1) := dk_42 (dk_at dksX1_init_2 14 rfl rfl)
theorem dX1_init_60 : decode cX1_init 60 = .ok (.new 41, 3) := dk_187 0 41 (dk_at dksX1_init_2 15 rfl rfl)
theorem dX1_init_63 : decode cX1_init 63 = .ok (.dup, 1) := dk_89 (dk_at dksX1_init_2 18 rfl rfl)
theorem dX1_init_64 : decode cX1_init 64 = .ok (.invokespecial 43, 3) := dk_183 0 43 (dk_at dksX1_init_2 19 rfl rfl)
theorem dX1_init_67 : decode cX1_init 67 = .ok (.putfield 44, 3) := dk_181 0 44 (dk_at dksX1_init_3 0 rfl rfl)
theorem dX1_init_70 : decode cX1_init 70 = .ok (.aload_n 0, 1) := dk_42 (dk_at dksX1_init_3 3 rfl rfl)
theorem dX1_init_71 : decode cX1_init 71 = .ok (.new 48, 3) := dk_187 0 48 (dk_at dksX1_init_3 4 rfl rfl)
theorem dX1_init_74 : decode cX1_init 74 = .ok (.dup, 1) := dk_89 (dk_at dksX1_init_3 7 rfl rfl)
theorem dX1_init_75 : decode cX1_init 75 = .ok (.aload_n 0, 1) := dk_42 (dk_at dksX1_init_3 8 rfl rfl)
theorem dX1_init_76 : decode cX1_init 76 = .ok (.getfield 44, 3) := dk_180 0 44 (dk_at dksX1_init_3 9 rfl rfl)
theorem dX1_init_79 : decode cX1_init 79 = .ok (.invokespecial 50, 3) := dk_183 0 50 (dk_at dksX1_init_3 12 rfl rfl)
theorem dX1_init_82 : decode cX1_init 82 = .ok (.putfield 53, 3) := dk_181 0 53 (dk_at dksX1_init_3 15 rfl rfl)
theorem dX1_init_85 : decode cX1_init 85 = .ok (.aload_n 0, 1) := dk_42 (dk_at dksX1_init_3 18 rfl rfl)
theorem dX1_init_86 : decode cX1_init 86 = .ok (.iconst (-1), 1) := dk_2 (dk_at dksX1_init_3 19 rfl rfl)
theorem dX1_init_87 : decode cX1_init 87 = .ok (.putfield 57, 3) := dk_181 0 57 (dk_at dksX1_init_3 20 rfl rfl)
theorem dX1_init_90 : decode cX1_init 90 = .ok (.iconst 0, 1) := dk_3 (dk_at dksX1_init_3 23 rfl rfl)
theorem dX1_init_91 : decode cX1_init 91 = .ok (.istore_n 1, 1) := dk_60 (dk_at dksX1_init_4 0 rfl rfl)
theorem dX1_init_92 : decode cX1_init 92 = .ok (.iload_n 1, 1) := dk_27 (dk_at dksX1_init_4 1 rfl rfl)
theorem dX1_init_93 : decode cX1_init 93 = .ok (.bipush 8, 2) := dk_16 8 (dk_at dksX1_init_4 2 rfl rfl)
theorem dX1_init_95 : decode cX1_init 95 = .ok (.if_icmp .ge 23, 3) := dk_162 0 23 (dk_at dksX1_init_4 4 rfl rfl)
theorem dX1_init_98 : decode cX1_init 98 = .ok (.aload_n 0, 1) := dk_42 (dk_at dksX1_init_4 7 rfl rfl)
theorem dX1_init_99 : decode cX1_init 99 = .ok (.getfield 38, 3) := dk_180 0 38 (dk_at dksX1_init_4 8 rfl rfl)
theorem dX1_init_102 : decode cX1_init 102 = .ok (.new 18, 3) := dk_187 0 18 (dk_at dksX1_init_4 11 rfl rfl)
theorem dX1_init_105 : decode cX1_init 105 = .ok (.dup, 1) := dk_89 (dk_at dksX1_init_4 14 rfl rfl)
theorem dX1_init_106 : decode cX1_init 106 = .ok (.invokespecial 20, 3) := dk_183 0 20 (dk_at dksX1_init_4 15 rfl rfl)
theorem dX1_init_109 : decode cX1_init 109 = .ok (.invokevirtual 61, 3) := dk_182 0 61 (dk_at dksX1_init_4 18 rfl rfl)
theorem dX1_init_112 : decode cX1_init 112 = .ok (.iinc 1 1, 3) := dk_132 1 1 (dk_at dksX1_init_4 21 rfl rfl)
theorem dX1_init_115 : decode cX1_init 115 = .ok (.goto (-23), 3) := dk_167 255 233 (dk_at dksX1_init_5 0 rfl rfl)
theorem dX1_init_118 : decode cX1_init 118 = .ok (.return_, 1) := dk_177 (dk_at dksX1_init_5 3 rfl rfl)
abbrev cX1_count : ByteArray := prog_1_method_41_code
def yX1_count : MethodName := ⟨RX1, "count", "()I"⟩
def dkwX1_count_0 : List UInt8 := [42, 182, 0, 110, 42, 180, 0, 21, 182, 1, 34, 172]
abbrev dktX1_count_0 : List UInt8 := dkwX1_count_0 ++ []
theorem dksX1_count_0 : cX1_count.data.toList.drop 0 = dktX1_count_0 := by decide +kernel
theorem dX1_count_0 : decode cX1_count 0 = .ok (.aload_n 0, 1) := dk_42 (dk_at dksX1_count_0 0 rfl rfl)
theorem dX1_count_1 : decode cX1_count 1 = .ok (.invokevirtual 110, 3) := dk_182 0 110 (dk_at dksX1_count_0 1 rfl rfl)
theorem dX1_count_4 : decode cX1_count 4 = .ok (.aload_n 0, 1) := dk_42 (dk_at dksX1_count_0 4 rfl rfl)
theorem dX1_count_5 : decode cX1_count 5 = .ok (.getfield 21, 3) := dk_180 0 21 (dk_at dksX1_count_0 5 rfl rfl)
theorem dX1_count_8 : decode cX1_count 8 = .ok (.invokevirtual 290, 3) := dk_182 1 34 (dk_at dksX1_count_0 8 rfl rfl)
theorem dX1_count_11 : decode cX1_count 11 = .ok (.ireturn, 1) := dk_172 (dk_at dksX1_count_0 11 rfl rfl)
abbrev cX1_keep : ByteArray := prog_1_method_13_code
def yX1_keep : MethodName := ⟨RX1, "keep", "()V"⟩
def dkwX1_keep_2 : List UInt8 := [182, 0, 61, 177]
abbrev dktX1_keep_2 : List UInt8 := dkwX1_keep_2 ++ []
def dkwX1_keep_1 : List UInt8 := [180, 0, 38, 182, 0, 102, 192, 0, 18, 76, 43, 42, 180, 0, 21, 182, 0, 106, 42, 180, 0, 34, 43]
abbrev dktX1_keep_1 : List UInt8 := dkwX1_keep_1 ++ dktX1_keep_2
def dkwX1_keep_0 : List UInt8 := [42, 180, 0, 38, 182, 0, 98, 153, 0, 16, 42, 180, 0, 34, 182, 0, 102, 192, 0, 18, 167, 0, 13, 42]
abbrev dktX1_keep_0 : List UInt8 := dkwX1_keep_0 ++ dktX1_keep_1
theorem dksX1_keep_0 : cX1_keep.data.toList.drop 0 = dktX1_keep_0 := by decide +kernel
theorem dksX1_keep_1 : cX1_keep.data.toList.drop 24 = dktX1_keep_1 := dk_seg dksX1_keep_0 24 rfl rfl
theorem dksX1_keep_2 : cX1_keep.data.toList.drop 47 = dktX1_keep_2 := dk_seg dksX1_keep_1 23 rfl rfl
theorem dX1_keep_0 : decode cX1_keep 0 = .ok (.aload_n 0, 1) := dk_42 (dk_at dksX1_keep_0 0 rfl rfl)
theorem dX1_keep_1 : decode cX1_keep 1 = .ok (.getfield 38, 3) := dk_180 0 38 (dk_at dksX1_keep_0 1 rfl rfl)
theorem dX1_keep_4 : decode cX1_keep 4 = .ok (.invokevirtual 98, 3) := dk_182 0 98 (dk_at dksX1_keep_0 4 rfl rfl)
theorem dX1_keep_7 : decode cX1_keep 7 = .ok (.ifCond .eq 16, 3) := dk_153 0 16 (dk_at dksX1_keep_0 7 rfl rfl)
theorem dX1_keep_10 : decode cX1_keep 10 = .ok (.aload_n 0, 1) := dk_42 (dk_at dksX1_keep_0 10 rfl rfl)
theorem dX1_keep_11 : decode cX1_keep 11 = .ok (.getfield 34, 3) := dk_180 0 34 (dk_at dksX1_keep_0 11 rfl rfl)
theorem dX1_keep_14 : decode cX1_keep 14 = .ok (.invokevirtual 102, 3) := dk_182 0 102 (dk_at dksX1_keep_0 14 rfl rfl)
theorem dX1_keep_17 : decode cX1_keep 17 = .ok (.checkcast 18, 3) := dk_192 0 18 (dk_at dksX1_keep_0 17 rfl rfl)
theorem dX1_keep_20 : decode cX1_keep 20 = .ok (.goto 13, 3) := dk_167 0 13 (dk_at dksX1_keep_0 20 rfl rfl)
theorem dX1_keep_23 : decode cX1_keep 23 = .ok (.aload_n 0, 1) := dk_42 (dk_at dksX1_keep_0 23 rfl rfl)
theorem dX1_keep_24 : decode cX1_keep 24 = .ok (.getfield 38, 3) := dk_180 0 38 (dk_at dksX1_keep_1 0 rfl rfl)
theorem dX1_keep_27 : decode cX1_keep 27 = .ok (.invokevirtual 102, 3) := dk_182 0 102 (dk_at dksX1_keep_1 3 rfl rfl)
theorem dX1_keep_30 : decode cX1_keep 30 = .ok (.checkcast 18, 3) := dk_192 0 18 (dk_at dksX1_keep_1 6 rfl rfl)
theorem dX1_keep_33 : decode cX1_keep 33 = .ok (.astore_n 1, 1) := dk_76 (dk_at dksX1_keep_1 9 rfl rfl)
theorem dX1_keep_34 : decode cX1_keep 34 = .ok (.aload_n 1, 1) := dk_43 (dk_at dksX1_keep_1 10 rfl rfl)
theorem dX1_keep_35 : decode cX1_keep 35 = .ok (.aload_n 0, 1) := dk_42 (dk_at dksX1_keep_1 11 rfl rfl)
theorem dX1_keep_36 : decode cX1_keep 36 = .ok (.getfield 21, 3) := dk_180 0 21 (dk_at dksX1_keep_1 12 rfl rfl)
theorem dX1_keep_39 : decode cX1_keep 39 = .ok (.invokevirtual 106, 3) := dk_182 0 106 (dk_at dksX1_keep_1 15 rfl rfl)
theorem dX1_keep_42 : decode cX1_keep 42 = .ok (.aload_n 0, 1) := dk_42 (dk_at dksX1_keep_1 18 rfl rfl)
theorem dX1_keep_43 : decode cX1_keep 43 = .ok (.getfield 34, 3) := dk_180 0 34 (dk_at dksX1_keep_1 19 rfl rfl)
theorem dX1_keep_46 : decode cX1_keep 46 = .ok (.aload_n 1, 1) := dk_43 (dk_at dksX1_keep_1 22 rfl rfl)
theorem dX1_keep_47 : decode cX1_keep 47 = .ok (.invokevirtual 61, 3) := dk_182 0 61 (dk_at dksX1_keep_2 0 rfl rfl)
theorem dX1_keep_50 : decode cX1_keep 50 = .ok (.return_, 1) := dk_177 (dk_at dksX1_keep_2 3 rfl rfl)
abbrev cX1_errorPosition : ByteArray := prog_1_method_46_code
def yX1_errorPosition : MethodName := ⟨RX1, "errorPosition", "()I"⟩
theorem dX1_errorPosition_0 : decode cX1_errorPosition 0 = .ok (.aload_n 0, 1) := by decide +kernel
theorem dX1_errorPosition_1 : decode cX1_errorPosition 1 = .ok (.getfield 57, 3) := by decide +kernel
theorem dX1_errorPosition_4 : decode cX1_errorPosition 4 = .ok (.ireturn, 1) := by decide +kernel
abbrev cX1_isWell : ByteArray := prog_1_method_49_code
def yX1_isWell : MethodName := ⟨RX1, "isWell", "()Z"⟩
def dkwX1_isWell_0 : List UInt8 := [42, 180, 0, 21, 182, 1, 103, 172]
abbrev dktX1_isWell_0 : List UInt8 := dkwX1_isWell_0 ++ []
theorem dksX1_isWell_0 : cX1_isWell.data.toList.drop 0 = dktX1_isWell_0 := by decide +kernel
theorem dX1_isWell_0 : decode cX1_isWell 0 = .ok (.aload_n 0, 1) := dk_42 (dk_at dksX1_isWell_0 0 rfl rfl)
theorem dX1_isWell_1 : decode cX1_isWell 1 = .ok (.getfield 21, 3) := dk_180 0 21 (dk_at dksX1_isWell_0 1 rfl rfl)
theorem dX1_isWell_4 : decode cX1_isWell 4 = .ok (.invokevirtual 359, 3) := dk_182 1 103 (dk_at dksX1_isWell_0 4 rfl rfl)
theorem dX1_isWell_7 : decode cX1_isWell 7 = .ok (.ireturn, 1) := dk_172 (dk_at dksX1_isWell_0 7 rfl rfl)
abbrev cX1_meanBits : ByteArray := prog_1_method_50_code
def yX1_meanBits : MethodName := ⟨RX1, "meanBits", "()J"⟩
def dkwX1_meanBits_1 : List UInt8 := [132, 3, 1, 167, 255, 234, 39, 20, 1, 106, 111, 184, 1, 108, 173]
abbrev dktX1_meanBits_1 : List UInt8 := dkwX1_meanBits_1 ++ []
def dkwX1_meanBits_0 : List UInt8 := [14, 72, 3, 62, 29, 16, 12, 162, 0, 22, 39, 42, 180, 0, 21, 180, 0, 189, 29, 48, 141, 99, 72]
abbrev dktX1_meanBits_0 : List UInt8 := dkwX1_meanBits_0 ++ dktX1_meanBits_1
theorem dksX1_meanBits_0 : cX1_meanBits.data.toList.drop 0 = dktX1_meanBits_0 := by decide +kernel
theorem dksX1_meanBits_1 : cX1_meanBits.data.toList.drop 23 = dktX1_meanBits_1 := dk_seg dksX1_meanBits_0 23 rfl rfl
theorem dX1_meanBits_0 : decode cX1_meanBits 0 = .ok (.dconst 0, 1) := dk_14 (dk_at dksX1_meanBits_0 0 rfl rfl)
theorem dX1_meanBits_1 : decode cX1_meanBits 1 = .ok (.dstore_n 1, 1) := dk_72 (dk_at dksX1_meanBits_0 1 rfl rfl)
theorem dX1_meanBits_2 : decode cX1_meanBits 2 = .ok (.iconst 0, 1) := dk_3 (dk_at dksX1_meanBits_0 2 rfl rfl)
theorem dX1_meanBits_3 : decode cX1_meanBits 3 = .ok (.istore_n 3, 1) := dk_62 (dk_at dksX1_meanBits_0 3 rfl rfl)
theorem dX1_meanBits_4 : decode cX1_meanBits 4 = .ok (.iload_n 3, 1) := dk_29 (dk_at dksX1_meanBits_0 4 rfl rfl)
theorem dX1_meanBits_5 : decode cX1_meanBits 5 = .ok (.bipush 12, 2) := dk_16 12 (dk_at dksX1_meanBits_0 5 rfl rfl)
theorem dX1_meanBits_7 : decode cX1_meanBits 7 = .ok (.if_icmp .ge 22, 3) := dk_162 0 22 (dk_at dksX1_meanBits_0 7 rfl rfl)
theorem dX1_meanBits_10 : decode cX1_meanBits 10 = .ok (.dload_n 1, 1) := dk_39 (dk_at dksX1_meanBits_0 10 rfl rfl)
theorem dX1_meanBits_11 : decode cX1_meanBits 11 = .ok (.aload_n 0, 1) := dk_42 (dk_at dksX1_meanBits_0 11 rfl rfl)
theorem dX1_meanBits_12 : decode cX1_meanBits 12 = .ok (.getfield 21, 3) := dk_180 0 21 (dk_at dksX1_meanBits_0 12 rfl rfl)
theorem dX1_meanBits_15 : decode cX1_meanBits 15 = .ok (.getfield 189, 3) := dk_180 0 189 (dk_at dksX1_meanBits_0 15 rfl rfl)
theorem dX1_meanBits_18 : decode cX1_meanBits 18 = .ok (.iload_n 3, 1) := dk_29 (dk_at dksX1_meanBits_0 18 rfl rfl)
theorem dX1_meanBits_19 : decode cX1_meanBits 19 = .ok (.faload, 1) := dk_48 (dk_at dksX1_meanBits_0 19 rfl rfl)
theorem dX1_meanBits_20 : decode cX1_meanBits 20 = .ok (.f2d, 1) := dk_141 (dk_at dksX1_meanBits_0 20 rfl rfl)
theorem dX1_meanBits_21 : decode cX1_meanBits 21 = .ok (.dadd, 1) := dk_99 (dk_at dksX1_meanBits_0 21 rfl rfl)
theorem dX1_meanBits_22 : decode cX1_meanBits 22 = .ok (.dstore_n 1, 1) := dk_72 (dk_at dksX1_meanBits_0 22 rfl rfl)
theorem dX1_meanBits_23 : decode cX1_meanBits 23 = .ok (.iinc 3 1, 3) := dk_132 3 1 (dk_at dksX1_meanBits_1 0 rfl rfl)
theorem dX1_meanBits_26 : decode cX1_meanBits 26 = .ok (.goto (-22), 3) := dk_167 255 234 (dk_at dksX1_meanBits_1 3 rfl rfl)
theorem dX1_meanBits_29 : decode cX1_meanBits 29 = .ok (.dload_n 1, 1) := dk_39 (dk_at dksX1_meanBits_1 6 rfl rfl)
theorem dX1_meanBits_30 : decode cX1_meanBits 30 = .ok (.ldc2_w 362, 3) := dk_20 1 106 (dk_at dksX1_meanBits_1 7 rfl rfl)
theorem dX1_meanBits_33 : decode cX1_meanBits 33 = .ok (.ddiv, 1) := dk_111 (dk_at dksX1_meanBits_1 10 rfl rfl)
theorem dX1_meanBits_34 : decode cX1_meanBits 34 = .ok (.invokestatic 364, 3) := dk_184 1 108 (dk_at dksX1_meanBits_1 11 rfl rfl)
theorem dX1_meanBits_37 : decode cX1_meanBits 37 = .ok (.lreturn, 1) := dk_173 (dk_at dksX1_meanBits_1 14 rfl rfl)
abbrev cX1_dug : ByteArray := prog_1_method_51_code
def yX1_dug : MethodName := ⟨RX1, "dug", "()F"⟩
def dkwX1_dug_0 : List UInt8 := [42, 180, 0, 21, 182, 1, 77, 134, 19, 1, 114, 110, 174]
abbrev dktX1_dug_0 : List UInt8 := dkwX1_dug_0 ++ []
theorem dksX1_dug_0 : cX1_dug.data.toList.drop 0 = dktX1_dug_0 := by decide +kernel
theorem dX1_dug_0 : decode cX1_dug 0 = .ok (.aload_n 0, 1) := dk_42 (dk_at dksX1_dug_0 0 rfl rfl)
theorem dX1_dug_1 : decode cX1_dug 1 = .ok (.getfield 21, 3) := dk_180 0 21 (dk_at dksX1_dug_0 1 rfl rfl)
theorem dX1_dug_4 : decode cX1_dug 4 = .ok (.invokevirtual 333, 3) := dk_182 1 77 (dk_at dksX1_dug_0 4 rfl rfl)
theorem dX1_dug_7 : decode cX1_dug 7 = .ok (.i2f, 1) := dk_134 (dk_at dksX1_dug_0 7 rfl rfl)
theorem dX1_dug_8 : decode cX1_dug 8 = .ok (.ldc_w 370, 3) := dk_19 1 114 (dk_at dksX1_dug_0 8 rfl rfl)
theorem dX1_dug_11 : decode cX1_dug 11 = .ok (.fdiv, 1) := dk_110 (dk_at dksX1_dug_0 11 rfl rfl)
theorem dX1_dug_12 : decode cX1_dug 12 = .ok (.freturn, 1) := dk_174 (dk_at dksX1_dug_0 12 rfl rfl)
abbrev cX1_save : ByteArray := prog_1_method_53_code
def yX1_save : MethodName := ⟨RX1, "save", "()I"⟩
def dkwX1_save_0 : List UInt8 := [42, 180, 0, 28, 42, 180, 0, 21, 182, 0, 106, 42, 4, 181, 1, 118, 42, 180, 0, 21, 180, 1, 74, 172]
abbrev dktX1_save_0 : List UInt8 := dkwX1_save_0 ++ []
theorem dksX1_save_0 : cX1_save.data.toList.drop 0 = dktX1_save_0 := by decide +kernel
theorem dX1_save_0 : decode cX1_save 0 = .ok (.aload_n 0, 1) := dk_42 (dk_at dksX1_save_0 0 rfl rfl)
theorem dX1_save_1 : decode cX1_save 1 = .ok (.getfield 28, 3) := dk_180 0 28 (dk_at dksX1_save_0 1 rfl rfl)
theorem dX1_save_4 : decode cX1_save 4 = .ok (.aload_n 0, 1) := dk_42 (dk_at dksX1_save_0 4 rfl rfl)
theorem dX1_save_5 : decode cX1_save 5 = .ok (.getfield 21, 3) := dk_180 0 21 (dk_at dksX1_save_0 5 rfl rfl)
theorem dX1_save_8 : decode cX1_save 8 = .ok (.invokevirtual 106, 3) := dk_182 0 106 (dk_at dksX1_save_0 8 rfl rfl)
theorem dX1_save_11 : decode cX1_save 11 = .ok (.aload_n 0, 1) := dk_42 (dk_at dksX1_save_0 11 rfl rfl)
theorem dX1_save_12 : decode cX1_save 12 = .ok (.iconst 1, 1) := dk_4 (dk_at dksX1_save_0 12 rfl rfl)
theorem dX1_save_13 : decode cX1_save 13 = .ok (.putfield 374, 3) := dk_181 1 118 (dk_at dksX1_save_0 13 rfl rfl)
theorem dX1_save_16 : decode cX1_save 16 = .ok (.aload_n 0, 1) := dk_42 (dk_at dksX1_save_0 16 rfl rfl)
theorem dX1_save_17 : decode cX1_save 17 = .ok (.getfield 21, 3) := dk_180 0 21 (dk_at dksX1_save_0 17 rfl rfl)
theorem dX1_save_20 : decode cX1_save 20 = .ok (.getfield 330, 3) := dk_180 1 74 (dk_at dksX1_save_0 20 rfl rfl)
theorem dX1_save_23 : decode cX1_save 23 = .ok (.ireturn, 1) := dk_172 (dk_at dksX1_save_0 23 rfl rfl)
abbrev cX1_wind : ByteArray := prog_1_method_16_code
def yX1_wind : MethodName := ⟨RX1, "wind", "(I)I"⟩
def dkwX1_wind_1 : List UInt8 := [180, 0, 21, 27, 181, 0, 116, 28, 172]
abbrev dktX1_wind_1 : List UInt8 := dkwX1_wind_1 ++ []
def dkwX1_wind_0 : List UInt8 := [27, 3, 16, 12, 184, 0, 3, 184, 0, 113, 42, 182, 0, 110, 42, 180, 0, 21, 180, 0, 116, 61, 42]
abbrev dktX1_wind_0 : List UInt8 := dkwX1_wind_0 ++ dktX1_wind_1
theorem dksX1_wind_0 : cX1_wind.data.toList.drop 0 = dktX1_wind_0 := by decide +kernel
theorem dksX1_wind_1 : cX1_wind.data.toList.drop 23 = dktX1_wind_1 := dk_seg dksX1_wind_0 23 rfl rfl
theorem dX1_wind_0 : decode cX1_wind 0 = .ok (.iload_n 1, 1) := dk_27 (dk_at dksX1_wind_0 0 rfl rfl)
theorem dX1_wind_1 : decode cX1_wind 1 = .ok (.iconst 0, 1) := dk_3 (dk_at dksX1_wind_0 1 rfl rfl)
theorem dX1_wind_2 : decode cX1_wind 2 = .ok (.bipush 12, 2) := dk_16 12 (dk_at dksX1_wind_0 2 rfl rfl)
theorem dX1_wind_4 : decode cX1_wind 4 = .ok (.invokestatic 3, 3) := dk_184 0 3 (dk_at dksX1_wind_0 4 rfl rfl)
theorem dX1_wind_7 : decode cX1_wind 7 = .ok (.invokestatic 113, 3) := dk_184 0 113 (dk_at dksX1_wind_0 7 rfl rfl)
theorem dX1_wind_10 : decode cX1_wind 10 = .ok (.aload_n 0, 1) := dk_42 (dk_at dksX1_wind_0 10 rfl rfl)
theorem dX1_wind_11 : decode cX1_wind 11 = .ok (.invokevirtual 110, 3) := dk_182 0 110 (dk_at dksX1_wind_0 11 rfl rfl)
theorem dX1_wind_14 : decode cX1_wind 14 = .ok (.aload_n 0, 1) := dk_42 (dk_at dksX1_wind_0 14 rfl rfl)
theorem dX1_wind_15 : decode cX1_wind 15 = .ok (.getfield 21, 3) := dk_180 0 21 (dk_at dksX1_wind_0 15 rfl rfl)
theorem dX1_wind_18 : decode cX1_wind 18 = .ok (.getfield 116, 3) := dk_180 0 116 (dk_at dksX1_wind_0 18 rfl rfl)
theorem dX1_wind_21 : decode cX1_wind 21 = .ok (.istore_n 2, 1) := dk_61 (dk_at dksX1_wind_0 21 rfl rfl)
theorem dX1_wind_22 : decode cX1_wind 22 = .ok (.aload_n 0, 1) := dk_42 (dk_at dksX1_wind_0 22 rfl rfl)
theorem dX1_wind_23 : decode cX1_wind 23 = .ok (.getfield 21, 3) := dk_180 0 21 (dk_at dksX1_wind_1 0 rfl rfl)
theorem dX1_wind_26 : decode cX1_wind 26 = .ok (.iload_n 1, 1) := dk_27 (dk_at dksX1_wind_1 3 rfl rfl)
theorem dX1_wind_27 : decode cX1_wind 27 = .ok (.putfield 116, 3) := dk_181 0 116 (dk_at dksX1_wind_1 4 rfl rfl)
theorem dX1_wind_30 : decode cX1_wind 30 = .ok (.iload_n 2, 1) := dk_28 (dk_at dksX1_wind_1 7 rfl rfl)
theorem dX1_wind_31 : decode cX1_wind 31 = .ok (.ireturn, 1) := dk_172 (dk_at dksX1_wind_1 8 rfl rfl)
abbrev cX1_in : ByteArray := prog_1_method_1_code
def yX1_in : MethodName := ⟨RX1, "in", "(III)Z"⟩
def dkwX1_in_0 : List UInt8 := [26, 27, 161, 0, 12, 26, 28, 163, 0, 7, 4, 167, 0, 4, 3, 172]
abbrev dktX1_in_0 : List UInt8 := dkwX1_in_0 ++ []
theorem dksX1_in_0 : cX1_in.data.toList.drop 0 = dktX1_in_0 := by decide +kernel
theorem dX1_in_0 : decode cX1_in 0 = .ok (.iload_n 0, 1) := dk_26 (dk_at dksX1_in_0 0 rfl rfl)
theorem dX1_in_1 : decode cX1_in 1 = .ok (.iload_n 1, 1) := dk_27 (dk_at dksX1_in_0 1 rfl rfl)
theorem dX1_in_2 : decode cX1_in 2 = .ok (.if_icmp .lt 12, 3) := dk_161 0 12 (dk_at dksX1_in_0 2 rfl rfl)
theorem dX1_in_5 : decode cX1_in 5 = .ok (.iload_n 0, 1) := dk_26 (dk_at dksX1_in_0 5 rfl rfl)
theorem dX1_in_6 : decode cX1_in 6 = .ok (.iload_n 2, 1) := dk_28 (dk_at dksX1_in_0 6 rfl rfl)
theorem dX1_in_7 : decode cX1_in 7 = .ok (.if_icmp .gt 7, 3) := dk_163 0 7 (dk_at dksX1_in_0 7 rfl rfl)
theorem dX1_in_10 : decode cX1_in 10 = .ok (.iconst 1, 1) := dk_4 (dk_at dksX1_in_0 10 rfl rfl)
theorem dX1_in_11 : decode cX1_in 11 = .ok (.goto 4, 3) := dk_167 0 4 (dk_at dksX1_in_0 11 rfl rfl)
theorem dX1_in_14 : decode cX1_in 14 = .ok (.iconst 0, 1) := dk_3 (dk_at dksX1_in_0 14 rfl rfl)
theorem dX1_in_15 : decode cX1_in 15 = .ok (.ireturn, 1) := dk_172 (dk_at dksX1_in_0 15 rfl rfl)
abbrev cX1_check : ByteArray := prog_1_method_7_code
def yX1_check : MethodName := ⟨RX1, "check", "(Z)V"⟩
def dkwX1_check_0 : List UInt8 := [26, 154, 0, 11, 187, 0, 65, 89, 183, 0, 67, 191, 177]
abbrev dktX1_check_0 : List UInt8 := dkwX1_check_0 ++ []
theorem dksX1_check_0 : cX1_check.data.toList.drop 0 = dktX1_check_0 := by decide +kernel
theorem dX1_check_0 : decode cX1_check 0 = .ok (.iload_n 0, 1) := dk_26 (dk_at dksX1_check_0 0 rfl rfl)
theorem dX1_check_1 : decode cX1_check 1 = .ok (.ifCond .ne 11, 3) := dk_154 0 11 (dk_at dksX1_check_0 1 rfl rfl)
theorem dX1_check_4 : decode cX1_check 4 = .ok (.new 65, 3) := dk_187 0 65 (dk_at dksX1_check_0 4 rfl rfl)
theorem dX1_check_7 : decode cX1_check 7 = .ok (.dup, 1) := dk_89 (dk_at dksX1_check_0 7 rfl rfl)
theorem dX1_check_8 : decode cX1_check 8 = .ok (.invokespecial 67, 3) := dk_183 0 67 (dk_at dksX1_check_0 8 rfl rfl)
theorem dX1_check_11 : decode cX1_check 11 = .ok (.athrow, 1) := dk_191 (dk_at dksX1_check_0 11 rfl rfl)
theorem dX1_check_12 : decode cX1_check 12 = .ok (.return_, 1) := dk_177 (dk_at dksX1_check_0 12 rfl rfl)
abbrev cX1_rain : ByteArray := prog_1_method_17_code
def yX1_rain : MethodName := ⟨RX1, "rain", "(I)I"⟩
def dkwX1_rain_1 : List UInt8 := [180, 0, 21, 27, 181, 0, 119, 28, 172]
abbrev dktX1_rain_1 : List UInt8 := dkwX1_rain_1 ++ []
def dkwX1_rain_0 : List UInt8 := [27, 3, 16, 20, 184, 0, 3, 184, 0, 113, 42, 182, 0, 110, 42, 180, 0, 21, 180, 0, 119, 61, 42]
abbrev dktX1_rain_0 : List UInt8 := dkwX1_rain_0 ++ dktX1_rain_1
theorem dksX1_rain_0 : cX1_rain.data.toList.drop 0 = dktX1_rain_0 := by decide +kernel
theorem dksX1_rain_1 : cX1_rain.data.toList.drop 23 = dktX1_rain_1 := dk_seg dksX1_rain_0 23 rfl rfl
theorem dX1_rain_0 : decode cX1_rain 0 = .ok (.iload_n 1, 1) := dk_27 (dk_at dksX1_rain_0 0 rfl rfl)
theorem dX1_rain_1 : decode cX1_rain 1 = .ok (.iconst 0, 1) := dk_3 (dk_at dksX1_rain_0 1 rfl rfl)
theorem dX1_rain_2 : decode cX1_rain 2 = .ok (.bipush 20, 2) := dk_16 20 (dk_at dksX1_rain_0 2 rfl rfl)
theorem dX1_rain_4 : decode cX1_rain 4 = .ok (.invokestatic 3, 3) := dk_184 0 3 (dk_at dksX1_rain_0 4 rfl rfl)
theorem dX1_rain_7 : decode cX1_rain 7 = .ok (.invokestatic 113, 3) := dk_184 0 113 (dk_at dksX1_rain_0 7 rfl rfl)
theorem dX1_rain_10 : decode cX1_rain 10 = .ok (.aload_n 0, 1) := dk_42 (dk_at dksX1_rain_0 10 rfl rfl)
theorem dX1_rain_11 : decode cX1_rain 11 = .ok (.invokevirtual 110, 3) := dk_182 0 110 (dk_at dksX1_rain_0 11 rfl rfl)
theorem dX1_rain_14 : decode cX1_rain 14 = .ok (.aload_n 0, 1) := dk_42 (dk_at dksX1_rain_0 14 rfl rfl)
theorem dX1_rain_15 : decode cX1_rain 15 = .ok (.getfield 21, 3) := dk_180 0 21 (dk_at dksX1_rain_0 15 rfl rfl)
theorem dX1_rain_18 : decode cX1_rain 18 = .ok (.getfield 119, 3) := dk_180 0 119 (dk_at dksX1_rain_0 18 rfl rfl)
theorem dX1_rain_21 : decode cX1_rain 21 = .ok (.istore_n 2, 1) := dk_61 (dk_at dksX1_rain_0 21 rfl rfl)
theorem dX1_rain_22 : decode cX1_rain 22 = .ok (.aload_n 0, 1) := dk_42 (dk_at dksX1_rain_0 22 rfl rfl)
theorem dX1_rain_23 : decode cX1_rain 23 = .ok (.getfield 21, 3) := dk_180 0 21 (dk_at dksX1_rain_1 0 rfl rfl)
theorem dX1_rain_26 : decode cX1_rain 26 = .ok (.iload_n 1, 1) := dk_27 (dk_at dksX1_rain_1 3 rfl rfl)
theorem dX1_rain_27 : decode cX1_rain 27 = .ok (.putfield 119, 3) := dk_181 0 119 (dk_at dksX1_rain_1 4 rfl rfl)
theorem dX1_rain_30 : decode cX1_rain 30 = .ok (.iload_n 2, 1) := dk_28 (dk_at dksX1_rain_1 7 rfl rfl)
theorem dX1_rain_31 : decode cX1_rain 31 = .ok (.ireturn, 1) := dk_172 (dk_at dksX1_rain_1 8 rfl rfl)
abbrev cX1_member : ByteArray := prog_1_method_18_code
def yX1_member : MethodName := ⟨RX1, "member", "()I"⟩
def dkwX1_member_0 : List UInt8 := [42, 42, 182, 0, 122, 182, 0, 126, 182, 0, 130, 172, 76, 42, 43, 182, 0, 134, 191]
abbrev dktX1_member_0 : List UInt8 := dkwX1_member_0 ++ []
theorem dksX1_member_0 : cX1_member.data.toList.drop 0 = dktX1_member_0 := by decide +kernel
theorem dX1_member_0 : decode cX1_member 0 = .ok (.aload_n 0, 1) := dk_42 (dk_at dksX1_member_0 0 rfl rfl)
theorem dX1_member_1 : decode cX1_member 1 = .ok (.aload_n 0, 1) := dk_42 (dk_at dksX1_member_0 1 rfl rfl)
theorem dX1_member_2 : decode cX1_member 2 = .ok (.invokevirtual 122, 3) := dk_182 0 122 (dk_at dksX1_member_0 2 rfl rfl)
theorem dX1_member_5 : decode cX1_member 5 = .ok (.invokevirtual 126, 3) := dk_182 0 126 (dk_at dksX1_member_0 5 rfl rfl)
theorem dX1_member_8 : decode cX1_member 8 = .ok (.invokevirtual 130, 3) := dk_182 0 130 (dk_at dksX1_member_0 8 rfl rfl)
theorem dX1_member_11 : decode cX1_member 11 = .ok (.ireturn, 1) := dk_172 (dk_at dksX1_member_0 11 rfl rfl)
theorem dX1_member_12 : decode cX1_member 12 = .ok (.astore_n 1, 1) := dk_76 (dk_at dksX1_member_0 12 rfl rfl)
theorem dX1_member_13 : decode cX1_member 13 = .ok (.aload_n 0, 1) := dk_42 (dk_at dksX1_member_0 13 rfl rfl)
theorem dX1_member_14 : decode cX1_member 14 = .ok (.aload_n 1, 1) := dk_43 (dk_at dksX1_member_0 14 rfl rfl)
theorem dX1_member_15 : decode cX1_member 15 = .ok (.invokevirtual 134, 3) := dk_182 0 134 (dk_at dksX1_member_0 15 rfl rfl)
theorem dX1_member_18 : decode cX1_member 18 = .ok (.athrow, 1) := dk_191 (dk_at dksX1_member_0 18 rfl rfl)
abbrev cX1_tryOn : ByteArray := prog_1_method_14_code
def yX1_tryOn : MethodName := ⟨RX1, "tryOn", "()LCliffPlots$Cliff;"⟩
def dkwX1_tryOn_0 : List UInt8 := [42, 180, 0, 25, 42, 180, 0, 21, 182, 0, 106, 42, 180, 0, 25, 176]
abbrev dktX1_tryOn_0 : List UInt8 := dkwX1_tryOn_0 ++ []
theorem dksX1_tryOn_0 : cX1_tryOn.data.toList.drop 0 = dktX1_tryOn_0 := by decide +kernel
theorem dX1_tryOn_0 : decode cX1_tryOn 0 = .ok (.aload_n 0, 1) := dk_42 (dk_at dksX1_tryOn_0 0 rfl rfl)
theorem dX1_tryOn_1 : decode cX1_tryOn 1 = .ok (.getfield 25, 3) := dk_180 0 25 (dk_at dksX1_tryOn_0 1 rfl rfl)
theorem dX1_tryOn_4 : decode cX1_tryOn 4 = .ok (.aload_n 0, 1) := dk_42 (dk_at dksX1_tryOn_0 4 rfl rfl)
theorem dX1_tryOn_5 : decode cX1_tryOn 5 = .ok (.getfield 21, 3) := dk_180 0 21 (dk_at dksX1_tryOn_0 5 rfl rfl)
theorem dX1_tryOn_8 : decode cX1_tryOn 8 = .ok (.invokevirtual 106, 3) := dk_182 0 106 (dk_at dksX1_tryOn_0 8 rfl rfl)
theorem dX1_tryOn_11 : decode cX1_tryOn 11 = .ok (.aload_n 0, 1) := dk_42 (dk_at dksX1_tryOn_0 11 rfl rfl)
theorem dX1_tryOn_12 : decode cX1_tryOn 12 = .ok (.getfield 25, 3) := dk_180 0 25 (dk_at dksX1_tryOn_0 12 rfl rfl)
theorem dX1_tryOn_15 : decode cX1_tryOn 15 = .ok (.areturn, 1) := dk_176 (dk_at dksX1_tryOn_0 15 rfl rfl)
abbrev cX1_refuse : ByteArray := prog_1_method_5_code
def yX1_refuse : MethodName := ⟨RX1, "refuse", "(ZII)V"⟩
def dkwX1_refuse_0 : List UInt8 := [26, 153, 0, 13, 187, 0, 7, 89, 27, 28, 183, 0, 9, 191, 177]
abbrev dktX1_refuse_0 : List UInt8 := dkwX1_refuse_0 ++ []
theorem dksX1_refuse_0 : cX1_refuse.data.toList.drop 0 = dktX1_refuse_0 := by decide +kernel
theorem dX1_refuse_0 : decode cX1_refuse 0 = .ok (.iload_n 0, 1) := dk_26 (dk_at dksX1_refuse_0 0 rfl rfl)
theorem dX1_refuse_1 : decode cX1_refuse 1 = .ok (.ifCond .eq 13, 3) := dk_153 0 13 (dk_at dksX1_refuse_0 1 rfl rfl)
theorem dX1_refuse_4 : decode cX1_refuse 4 = .ok (.new 7, 3) := dk_187 0 7 (dk_at dksX1_refuse_0 4 rfl rfl)
theorem dX1_refuse_7 : decode cX1_refuse 7 = .ok (.dup, 1) := dk_89 (dk_at dksX1_refuse_0 7 rfl rfl)
theorem dX1_refuse_8 : decode cX1_refuse 8 = .ok (.iload_n 1, 1) := dk_27 (dk_at dksX1_refuse_0 8 rfl rfl)
theorem dX1_refuse_9 : decode cX1_refuse 9 = .ok (.iload_n 2, 1) := dk_28 (dk_at dksX1_refuse_0 9 rfl rfl)
theorem dX1_refuse_10 : decode cX1_refuse 10 = .ok (.invokespecial 9, 3) := dk_183 0 9 (dk_at dksX1_refuse_0 10 rfl rfl)
theorem dX1_refuse_13 : decode cX1_refuse 13 = .ok (.athrow, 1) := dk_191 (dk_at dksX1_refuse_0 13 rfl rfl)
theorem dX1_refuse_14 : decode cX1_refuse 14 = .ok (.return_, 1) := dk_177 (dk_at dksX1_refuse_0 14 rfl rfl)
abbrev cX1_becomes : ByteArray := prog_1_method_15_code
def yX1_becomes : MethodName := ⟨RX1, "becomes", "(I)I"⟩
def dkwX1_becomes_0 : List UInt8 := [42, 182, 0, 110, 42, 180, 0, 21, 42, 180, 0, 25, 182, 0, 106, 27, 172]
abbrev dktX1_becomes_0 : List UInt8 := dkwX1_becomes_0 ++ []
theorem dksX1_becomes_0 : cX1_becomes.data.toList.drop 0 = dktX1_becomes_0 := by decide +kernel
theorem dX1_becomes_0 : decode cX1_becomes 0 = .ok (.aload_n 0, 1) := dk_42 (dk_at dksX1_becomes_0 0 rfl rfl)
theorem dX1_becomes_1 : decode cX1_becomes 1 = .ok (.invokevirtual 110, 3) := dk_182 0 110 (dk_at dksX1_becomes_0 1 rfl rfl)
theorem dX1_becomes_4 : decode cX1_becomes 4 = .ok (.aload_n 0, 1) := dk_42 (dk_at dksX1_becomes_0 4 rfl rfl)
theorem dX1_becomes_5 : decode cX1_becomes 5 = .ok (.getfield 21, 3) := dk_180 0 21 (dk_at dksX1_becomes_0 5 rfl rfl)
theorem dX1_becomes_8 : decode cX1_becomes 8 = .ok (.aload_n 0, 1) := dk_42 (dk_at dksX1_becomes_0 8 rfl rfl)
theorem dX1_becomes_9 : decode cX1_becomes 9 = .ok (.getfield 25, 3) := dk_180 0 25 (dk_at dksX1_becomes_0 9 rfl rfl)
theorem dX1_becomes_12 : decode cX1_becomes 12 = .ok (.invokevirtual 106, 3) := dk_182 0 106 (dk_at dksX1_becomes_0 12 rfl rfl)
theorem dX1_becomes_15 : decode cX1_becomes 15 = .ok (.iload_n 1, 1) := dk_27 (dk_at dksX1_becomes_0 15 rfl rfl)
theorem dX1_becomes_16 : decode cX1_becomes 16 = .ok (.ireturn, 1) := dk_172 (dk_at dksX1_becomes_0 16 rfl rfl)
abbrev cX1_because : ByteArray := prog_1_method_11_code
def yX1_because : MethodName := ⟨RX1, "because", "(LCliffPlots$Refused;)Ljava/lang/UnsupportedOperationException;"⟩
def dkwX1_because_0 : List UInt8 := [42, 43, 180, 0, 77, 181, 0, 80, 42, 43, 180, 0, 83, 181, 0, 86, 187, 0, 87, 89, 183, 0, 89, 176]
abbrev dktX1_because_0 : List UInt8 := dkwX1_because_0 ++ []
theorem dksX1_because_0 : cX1_because.data.toList.drop 0 = dktX1_because_0 := by decide +kernel
theorem dX1_because_0 : decode cX1_because 0 = .ok (.aload_n 0, 1) := dk_42 (dk_at dksX1_because_0 0 rfl rfl)
theorem dX1_because_1 : decode cX1_because 1 = .ok (.aload_n 1, 1) := dk_43 (dk_at dksX1_because_0 1 rfl rfl)
theorem dX1_because_2 : decode cX1_because 2 = .ok (.getfield 77, 3) := dk_180 0 77 (dk_at dksX1_because_0 2 rfl rfl)
theorem dX1_because_5 : decode cX1_because 5 = .ok (.putfield 80, 3) := dk_181 0 80 (dk_at dksX1_because_0 5 rfl rfl)
theorem dX1_because_8 : decode cX1_because 8 = .ok (.aload_n 0, 1) := dk_42 (dk_at dksX1_because_0 8 rfl rfl)
theorem dX1_because_9 : decode cX1_because 9 = .ok (.aload_n 1, 1) := dk_43 (dk_at dksX1_because_0 9 rfl rfl)
theorem dX1_because_10 : decode cX1_because 10 = .ok (.getfield 83, 3) := dk_180 0 83 (dk_at dksX1_because_0 10 rfl rfl)
theorem dX1_because_13 : decode cX1_because 13 = .ok (.putfield 86, 3) := dk_181 0 86 (dk_at dksX1_because_0 13 rfl rfl)
theorem dX1_because_16 : decode cX1_because 16 = .ok (.new 87, 3) := dk_187 0 87 (dk_at dksX1_because_0 16 rfl rfl)
theorem dX1_because_19 : decode cX1_because 19 = .ok (.dup, 1) := dk_89 (dk_at dksX1_because_0 19 rfl rfl)
theorem dX1_because_20 : decode cX1_because 20 = .ok (.invokespecial 89, 3) := dk_183 0 89 (dk_at dksX1_because_0 20 rfl rfl)
theorem dX1_because_23 : decode cX1_because 23 = .ok (.areturn, 1) := dk_176 (dk_at dksX1_because_0 23 rfl rfl)
abbrev cX1_dig : ByteArray := prog_1_method_19_code
def yX1_dig : MethodName := ⟨RX1, "dig", "(II)I"⟩
def dkwX1_dig_1 : List UInt8 := [184, 0, 145, 42, 42, 182, 0, 122, 27, 28, 182, 0, 148, 182, 0, 130, 172, 78, 42, 45, 182, 0, 134, 191]
abbrev dktX1_dig_1 : List UInt8 := dkwX1_dig_1 ++ []
def dkwX1_dig_0 : List UInt8 := [42, 180, 0, 21, 27, 182, 0, 138, 153, 0, 14, 28, 184, 0, 142, 153, 0, 7, 4, 167, 0, 4, 3]
abbrev dktX1_dig_0 : List UInt8 := dkwX1_dig_0 ++ dktX1_dig_1
theorem dksX1_dig_0 : cX1_dig.data.toList.drop 0 = dktX1_dig_0 := by decide +kernel
theorem dksX1_dig_1 : cX1_dig.data.toList.drop 23 = dktX1_dig_1 := dk_seg dksX1_dig_0 23 rfl rfl
theorem dX1_dig_0 : decode cX1_dig 0 = .ok (.aload_n 0, 1) := dk_42 (dk_at dksX1_dig_0 0 rfl rfl)
theorem dX1_dig_1 : decode cX1_dig 1 = .ok (.getfield 21, 3) := dk_180 0 21 (dk_at dksX1_dig_0 1 rfl rfl)
theorem dX1_dig_4 : decode cX1_dig 4 = .ok (.iload_n 1, 1) := dk_27 (dk_at dksX1_dig_0 4 rfl rfl)
theorem dX1_dig_5 : decode cX1_dig 5 = .ok (.invokevirtual 138, 3) := dk_182 0 138 (dk_at dksX1_dig_0 5 rfl rfl)
theorem dX1_dig_8 : decode cX1_dig 8 = .ok (.ifCond .eq 14, 3) := dk_153 0 14 (dk_at dksX1_dig_0 8 rfl rfl)
theorem dX1_dig_11 : decode cX1_dig 11 = .ok (.iload_n 2, 1) := dk_28 (dk_at dksX1_dig_0 11 rfl rfl)
theorem dX1_dig_12 : decode cX1_dig 12 = .ok (.invokestatic 142, 3) := dk_184 0 142 (dk_at dksX1_dig_0 12 rfl rfl)
theorem dX1_dig_15 : decode cX1_dig 15 = .ok (.ifCond .eq 7, 3) := dk_153 0 7 (dk_at dksX1_dig_0 15 rfl rfl)
theorem dX1_dig_18 : decode cX1_dig 18 = .ok (.iconst 1, 1) := dk_4 (dk_at dksX1_dig_0 18 rfl rfl)
theorem dX1_dig_19 : decode cX1_dig 19 = .ok (.goto 4, 3) := dk_167 0 4 (dk_at dksX1_dig_0 19 rfl rfl)
theorem dX1_dig_22 : decode cX1_dig 22 = .ok (.iconst 0, 1) := dk_3 (dk_at dksX1_dig_0 22 rfl rfl)
theorem dX1_dig_23 : decode cX1_dig 23 = .ok (.invokestatic 145, 3) := dk_184 0 145 (dk_at dksX1_dig_1 0 rfl rfl)
theorem dX1_dig_26 : decode cX1_dig 26 = .ok (.aload_n 0, 1) := dk_42 (dk_at dksX1_dig_1 3 rfl rfl)
theorem dX1_dig_27 : decode cX1_dig 27 = .ok (.aload_n 0, 1) := dk_42 (dk_at dksX1_dig_1 4 rfl rfl)
theorem dX1_dig_28 : decode cX1_dig 28 = .ok (.invokevirtual 122, 3) := dk_182 0 122 (dk_at dksX1_dig_1 5 rfl rfl)
theorem dX1_dig_31 : decode cX1_dig 31 = .ok (.iload_n 1, 1) := dk_27 (dk_at dksX1_dig_1 8 rfl rfl)
theorem dX1_dig_32 : decode cX1_dig 32 = .ok (.iload_n 2, 1) := dk_28 (dk_at dksX1_dig_1 9 rfl rfl)
theorem dX1_dig_33 : decode cX1_dig 33 = .ok (.invokevirtual 148, 3) := dk_182 0 148 (dk_at dksX1_dig_1 10 rfl rfl)
theorem dX1_dig_36 : decode cX1_dig 36 = .ok (.invokevirtual 130, 3) := dk_182 0 130 (dk_at dksX1_dig_1 13 rfl rfl)
theorem dX1_dig_39 : decode cX1_dig 39 = .ok (.ireturn, 1) := dk_172 (dk_at dksX1_dig_1 16 rfl rfl)
theorem dX1_dig_40 : decode cX1_dig 40 = .ok (.astore_n 3, 1) := dk_78 (dk_at dksX1_dig_1 17 rfl rfl)
theorem dX1_dig_41 : decode cX1_dig 41 = .ok (.aload_n 0, 1) := dk_42 (dk_at dksX1_dig_1 18 rfl rfl)
theorem dX1_dig_42 : decode cX1_dig 42 = .ok (.aload_n 3, 1) := dk_45 (dk_at dksX1_dig_1 19 rfl rfl)
theorem dX1_dig_43 : decode cX1_dig 43 = .ok (.invokevirtual 134, 3) := dk_182 0 134 (dk_at dksX1_dig_1 20 rfl rfl)
theorem dX1_dig_46 : decode cX1_dig 46 = .ok (.athrow, 1) := dk_191 (dk_at dksX1_dig_1 23 rfl rfl)
abbrev cX1_isPlot : ByteArray := prog_1_method_2_code
def yX1_isPlot : MethodName := ⟨RX1, "isPlot", "(I)Z"⟩
def dkwX1_isPlot_0 : List UInt8 := [26, 3, 16, 11, 184, 0, 3, 172]
abbrev dktX1_isPlot_0 : List UInt8 := dkwX1_isPlot_0 ++ []
theorem dksX1_isPlot_0 : cX1_isPlot.data.toList.drop 0 = dktX1_isPlot_0 := by decide +kernel
theorem dX1_isPlot_0 : decode cX1_isPlot 0 = .ok (.iload_n 0, 1) := dk_26 (dk_at dksX1_isPlot_0 0 rfl rfl)
theorem dX1_isPlot_1 : decode cX1_isPlot 1 = .ok (.iconst 0, 1) := dk_3 (dk_at dksX1_isPlot_0 1 rfl rfl)
theorem dX1_isPlot_2 : decode cX1_isPlot 2 = .ok (.bipush 11, 2) := dk_16 11 (dk_at dksX1_isPlot_0 2 rfl rfl)
theorem dX1_isPlot_4 : decode cX1_isPlot 4 = .ok (.invokestatic 3, 3) := dk_184 0 3 (dk_at dksX1_isPlot_0 4 rfl rfl)
theorem dX1_isPlot_7 : decode cX1_isPlot 7 = .ok (.ireturn, 1) := dk_172 (dk_at dksX1_isPlot_0 7 rfl rfl)
abbrev cX1_checkIndex : ByteArray := prog_1_method_10_code
def yX1_checkIndex : MethodName := ⟨RX1, "checkIndex", "(Z)V"⟩
def dkwX1_checkIndex_0 : List UInt8 := [26, 154, 0, 11, 187, 0, 74, 89, 183, 0, 76, 191, 177]
abbrev dktX1_checkIndex_0 : List UInt8 := dkwX1_checkIndex_0 ++ []
theorem dksX1_checkIndex_0 : cX1_checkIndex.data.toList.drop 0 = dktX1_checkIndex_0 := by decide +kernel
theorem dX1_checkIndex_0 : decode cX1_checkIndex 0 = .ok (.iload_n 0, 1) := dk_26 (dk_at dksX1_checkIndex_0 0 rfl rfl)
theorem dX1_checkIndex_1 : decode cX1_checkIndex 1 = .ok (.ifCond .ne 11, 3) := dk_154 0 11 (dk_at dksX1_checkIndex_0 1 rfl rfl)
theorem dX1_checkIndex_4 : decode cX1_checkIndex 4 = .ok (.new 74, 3) := dk_187 0 74 (dk_at dksX1_checkIndex_0 4 rfl rfl)
theorem dX1_checkIndex_7 : decode cX1_checkIndex 7 = .ok (.dup, 1) := dk_89 (dk_at dksX1_checkIndex_0 7 rfl rfl)
theorem dX1_checkIndex_8 : decode cX1_checkIndex 8 = .ok (.invokespecial 76, 3) := dk_183 0 76 (dk_at dksX1_checkIndex_0 8 rfl rfl)
theorem dX1_checkIndex_11 : decode cX1_checkIndex 11 = .ok (.athrow, 1) := dk_191 (dk_at dksX1_checkIndex_0 11 rfl rfl)
theorem dX1_checkIndex_12 : decode cX1_checkIndex 12 = .ok (.return_, 1) := dk_177 (dk_at dksX1_checkIndex_0 12 rfl rfl)
abbrev cX1_rest : ByteArray := prog_1_method_20_code
def yX1_rest : MethodName := ⟨RX1, "rest", "(I)I"⟩
def dkwX1_rest_1 : List UInt8 := [77, 42, 44, 182, 0, 134, 191]
abbrev dktX1_rest_1 : List UInt8 := dkwX1_rest_1 ++ []
def dkwX1_rest_0 : List UInt8 := [42, 180, 0, 21, 27, 182, 0, 138, 184, 0, 145, 42, 42, 182, 0, 122, 27, 182, 0, 152, 182, 0, 130, 172]
abbrev dktX1_rest_0 : List UInt8 := dkwX1_rest_0 ++ dktX1_rest_1
theorem dksX1_rest_0 : cX1_rest.data.toList.drop 0 = dktX1_rest_0 := by decide +kernel
theorem dksX1_rest_1 : cX1_rest.data.toList.drop 24 = dktX1_rest_1 := dk_seg dksX1_rest_0 24 rfl rfl
theorem dX1_rest_0 : decode cX1_rest 0 = .ok (.aload_n 0, 1) := dk_42 (dk_at dksX1_rest_0 0 rfl rfl)
theorem dX1_rest_1 : decode cX1_rest 1 = .ok (.getfield 21, 3) := dk_180 0 21 (dk_at dksX1_rest_0 1 rfl rfl)
theorem dX1_rest_4 : decode cX1_rest 4 = .ok (.iload_n 1, 1) := dk_27 (dk_at dksX1_rest_0 4 rfl rfl)
theorem dX1_rest_5 : decode cX1_rest 5 = .ok (.invokevirtual 138, 3) := dk_182 0 138 (dk_at dksX1_rest_0 5 rfl rfl)
theorem dX1_rest_8 : decode cX1_rest 8 = .ok (.invokestatic 145, 3) := dk_184 0 145 (dk_at dksX1_rest_0 8 rfl rfl)
theorem dX1_rest_11 : decode cX1_rest 11 = .ok (.aload_n 0, 1) := dk_42 (dk_at dksX1_rest_0 11 rfl rfl)
theorem dX1_rest_12 : decode cX1_rest 12 = .ok (.aload_n 0, 1) := dk_42 (dk_at dksX1_rest_0 12 rfl rfl)
theorem dX1_rest_13 : decode cX1_rest 13 = .ok (.invokevirtual 122, 3) := dk_182 0 122 (dk_at dksX1_rest_0 13 rfl rfl)
theorem dX1_rest_16 : decode cX1_rest 16 = .ok (.iload_n 1, 1) := dk_27 (dk_at dksX1_rest_0 16 rfl rfl)
theorem dX1_rest_17 : decode cX1_rest 17 = .ok (.invokevirtual 152, 3) := dk_182 0 152 (dk_at dksX1_rest_0 17 rfl rfl)
theorem dX1_rest_20 : decode cX1_rest 20 = .ok (.invokevirtual 130, 3) := dk_182 0 130 (dk_at dksX1_rest_0 20 rfl rfl)
theorem dX1_rest_23 : decode cX1_rest 23 = .ok (.ireturn, 1) := dk_172 (dk_at dksX1_rest_0 23 rfl rfl)
theorem dX1_rest_24 : decode cX1_rest 24 = .ok (.astore_n 2, 1) := dk_77 (dk_at dksX1_rest_1 0 rfl rfl)
theorem dX1_rest_25 : decode cX1_rest 25 = .ok (.aload_n 0, 1) := dk_42 (dk_at dksX1_rest_1 1 rfl rfl)
theorem dX1_rest_26 : decode cX1_rest 26 = .ok (.aload_n 2, 1) := dk_44 (dk_at dksX1_rest_1 2 rfl rfl)
theorem dX1_rest_27 : decode cX1_rest 27 = .ok (.invokevirtual 134, 3) := dk_182 0 134 (dk_at dksX1_rest_1 3 rfl rfl)
theorem dX1_rest_30 : decode cX1_rest 30 = .ok (.athrow, 1) := dk_191 (dk_at dksX1_rest_1 6 rfl rfl)
abbrev cX1_memberOf : ByteArray := prog_1_method_21_code
def yX1_memberOf : MethodName := ⟨RX1, "memberOf", "(II)I"⟩
def dkwX1_memberOf_2 : List UInt8 := [180, 0, 164, 167, 0, 7, 45, 180, 0, 167, 172]
abbrev dktX1_memberOf_2 : List UInt8 := dkwX1_memberOf_2 ++ []
def dkwX1_memberOf_1 : List UInt8 := [180, 0, 155, 27, 50, 78, 28, 154, 0, 10, 45, 180, 0, 159, 167, 0, 19, 28, 4, 160, 0, 10, 45]
abbrev dktX1_memberOf_1 : List UInt8 := dkwX1_memberOf_1 ++ dktX1_memberOf_2
def dkwX1_memberOf_0 : List UInt8 := [42, 180, 0, 21, 27, 182, 0, 138, 184, 0, 145, 28, 3, 5, 184, 0, 3, 184, 0, 113, 42, 180, 0, 21]
abbrev dktX1_memberOf_0 : List UInt8 := dkwX1_memberOf_0 ++ dktX1_memberOf_1
theorem dksX1_memberOf_0 : cX1_memberOf.data.toList.drop 0 = dktX1_memberOf_0 := by decide +kernel
theorem dksX1_memberOf_1 : cX1_memberOf.data.toList.drop 24 = dktX1_memberOf_1 := dk_seg dksX1_memberOf_0 24 rfl rfl
theorem dksX1_memberOf_2 : cX1_memberOf.data.toList.drop 47 = dktX1_memberOf_2 := dk_seg dksX1_memberOf_1 23 rfl rfl
theorem dX1_memberOf_0 : decode cX1_memberOf 0 = .ok (.aload_n 0, 1) := dk_42 (dk_at dksX1_memberOf_0 0 rfl rfl)
theorem dX1_memberOf_1 : decode cX1_memberOf 1 = .ok (.getfield 21, 3) := dk_180 0 21 (dk_at dksX1_memberOf_0 1 rfl rfl)
theorem dX1_memberOf_4 : decode cX1_memberOf 4 = .ok (.iload_n 1, 1) := dk_27 (dk_at dksX1_memberOf_0 4 rfl rfl)
theorem dX1_memberOf_5 : decode cX1_memberOf 5 = .ok (.invokevirtual 138, 3) := dk_182 0 138 (dk_at dksX1_memberOf_0 5 rfl rfl)
theorem dX1_memberOf_8 : decode cX1_memberOf 8 = .ok (.invokestatic 145, 3) := dk_184 0 145 (dk_at dksX1_memberOf_0 8 rfl rfl)
theorem dX1_memberOf_11 : decode cX1_memberOf 11 = .ok (.iload_n 2, 1) := dk_28 (dk_at dksX1_memberOf_0 11 rfl rfl)
theorem dX1_memberOf_12 : decode cX1_memberOf 12 = .ok (.iconst 0, 1) := dk_3 (dk_at dksX1_memberOf_0 12 rfl rfl)
theorem dX1_memberOf_13 : decode cX1_memberOf 13 = .ok (.iconst 2, 1) := dk_5 (dk_at dksX1_memberOf_0 13 rfl rfl)
theorem dX1_memberOf_14 : decode cX1_memberOf 14 = .ok (.invokestatic 3, 3) := dk_184 0 3 (dk_at dksX1_memberOf_0 14 rfl rfl)
theorem dX1_memberOf_17 : decode cX1_memberOf 17 = .ok (.invokestatic 113, 3) := dk_184 0 113 (dk_at dksX1_memberOf_0 17 rfl rfl)
theorem dX1_memberOf_20 : decode cX1_memberOf 20 = .ok (.aload_n 0, 1) := dk_42 (dk_at dksX1_memberOf_0 20 rfl rfl)
theorem dX1_memberOf_21 : decode cX1_memberOf 21 = .ok (.getfield 21, 3) := dk_180 0 21 (dk_at dksX1_memberOf_0 21 rfl rfl)
theorem dX1_memberOf_24 : decode cX1_memberOf 24 = .ok (.getfield 155, 3) := dk_180 0 155 (dk_at dksX1_memberOf_1 0 rfl rfl)
theorem dX1_memberOf_27 : decode cX1_memberOf 27 = .ok (.iload_n 1, 1) := dk_27 (dk_at dksX1_memberOf_1 3 rfl rfl)
theorem dX1_memberOf_28 : decode cX1_memberOf 28 = .ok (.aaload, 1) := dk_50 (dk_at dksX1_memberOf_1 4 rfl rfl)
theorem dX1_memberOf_29 : decode cX1_memberOf 29 = .ok (.astore_n 3, 1) := dk_78 (dk_at dksX1_memberOf_1 5 rfl rfl)
theorem dX1_memberOf_30 : decode cX1_memberOf 30 = .ok (.iload_n 2, 1) := dk_28 (dk_at dksX1_memberOf_1 6 rfl rfl)
theorem dX1_memberOf_31 : decode cX1_memberOf 31 = .ok (.ifCond .ne 10, 3) := dk_154 0 10 (dk_at dksX1_memberOf_1 7 rfl rfl)
theorem dX1_memberOf_34 : decode cX1_memberOf 34 = .ok (.aload_n 3, 1) := dk_45 (dk_at dksX1_memberOf_1 10 rfl rfl)
theorem dX1_memberOf_35 : decode cX1_memberOf 35 = .ok (.getfield 159, 3) := dk_180 0 159 (dk_at dksX1_memberOf_1 11 rfl rfl)
theorem dX1_memberOf_38 : decode cX1_memberOf 38 = .ok (.goto 19, 3) := dk_167 0 19 (dk_at dksX1_memberOf_1 14 rfl rfl)
theorem dX1_memberOf_41 : decode cX1_memberOf 41 = .ok (.iload_n 2, 1) := dk_28 (dk_at dksX1_memberOf_1 17 rfl rfl)
theorem dX1_memberOf_42 : decode cX1_memberOf 42 = .ok (.iconst 1, 1) := dk_4 (dk_at dksX1_memberOf_1 18 rfl rfl)
theorem dX1_memberOf_43 : decode cX1_memberOf 43 = .ok (.if_icmp .ne 10, 3) := dk_160 0 10 (dk_at dksX1_memberOf_1 19 rfl rfl)
theorem dX1_memberOf_46 : decode cX1_memberOf 46 = .ok (.aload_n 3, 1) := dk_45 (dk_at dksX1_memberOf_1 22 rfl rfl)
theorem dX1_memberOf_47 : decode cX1_memberOf 47 = .ok (.getfield 164, 3) := dk_180 0 164 (dk_at dksX1_memberOf_2 0 rfl rfl)
theorem dX1_memberOf_50 : decode cX1_memberOf 50 = .ok (.goto 7, 3) := dk_167 0 7 (dk_at dksX1_memberOf_2 3 rfl rfl)
theorem dX1_memberOf_53 : decode cX1_memberOf 53 = .ok (.aload_n 3, 1) := dk_45 (dk_at dksX1_memberOf_2 6 rfl rfl)
theorem dX1_memberOf_54 : decode cX1_memberOf 54 = .ok (.getfield 167, 3) := dk_180 0 167 (dk_at dksX1_memberOf_2 7 rfl rfl)
theorem dX1_memberOf_57 : decode cX1_memberOf 57 = .ok (.ireturn, 1) := dk_172 (dk_at dksX1_memberOf_2 10 rfl rfl)
abbrev cX1_plotOf : ByteArray := prog_1_method_22_code
def yX1_plotOf : MethodName := ⟨RX1, "plotOf", "(II)I"⟩
def dkwX1_plotOf_5 : List UInt8 := [180, 0, 183, 27, 46, 172, 42, 180, 0, 21, 27, 182, 0, 186, 172]
abbrev dktX1_plotOf_5 : List UInt8 := dkwX1_plotOf_5 ++ []
def dkwX1_plotOf_4 : List UInt8 := [199, 0, 7, 2, 167, 0, 15, 42, 180, 0, 21, 180, 0, 179, 45, 180, 0, 182, 100, 172, 42, 180, 0, 21]
abbrev dktX1_plotOf_4 : List UInt8 := dkwX1_plotOf_4 ++ dktX1_plotOf_5
def dkwX1_plotOf_3 : List UInt8 := [42, 180, 0, 21, 180, 0, 170, 27, 46, 172, 45, 199, 0, 7, 2, 167, 0, 7, 45, 182, 0, 174, 172, 45]
abbrev dktX1_plotOf_3 : List UInt8 := dkwX1_plotOf_3 ++ dktX1_plotOf_4
def dkwX1_plotOf_2 : List UInt8 := [170, 0, 0, 0, 83, 0, 0, 0, 0, 0, 0, 0, 3, 0, 0, 0, 29, 0, 0, 0, 39, 0, 0, 0, 52, 0, 0, 0, 73]
abbrev dktX1_plotOf_2 : List UInt8 := dkwX1_plotOf_2 ++ dktX1_plotOf_3
def dkwX1_plotOf_1 : List UInt8 := [50, 78, 28]
abbrev dktX1_plotOf_1 : List UInt8 := dkwX1_plotOf_1 ++ dktX1_plotOf_2
def dkwX1_plotOf_0 : List UInt8 := [27, 184, 0, 142, 184, 0, 145, 28, 3, 7, 184, 0, 3, 184, 0, 113, 42, 180, 0, 21, 180, 0, 90, 27]
abbrev dktX1_plotOf_0 : List UInt8 := dkwX1_plotOf_0 ++ dktX1_plotOf_1
theorem dksX1_plotOf_0 : cX1_plotOf.data.toList.drop 0 = dktX1_plotOf_0 := by decide +kernel
theorem dksX1_plotOf_1 : cX1_plotOf.data.toList.drop 24 = dktX1_plotOf_1 := dk_seg dksX1_plotOf_0 24 rfl rfl
theorem dksX1_plotOf_2 : cX1_plotOf.data.toList.drop 27 = dktX1_plotOf_2 := dk_seg dksX1_plotOf_1 3 rfl rfl
theorem dksX1_plotOf_3 : cX1_plotOf.data.toList.drop 56 = dktX1_plotOf_3 := dk_seg dksX1_plotOf_2 29 rfl rfl
theorem dksX1_plotOf_4 : cX1_plotOf.data.toList.drop 80 = dktX1_plotOf_4 := dk_seg dksX1_plotOf_3 24 rfl rfl
theorem dksX1_plotOf_5 : cX1_plotOf.data.toList.drop 104 = dktX1_plotOf_5 := dk_seg dksX1_plotOf_4 24 rfl rfl
theorem dX1_plotOf_0 : decode cX1_plotOf 0 = .ok (.iload_n 1, 1) := dk_27 (dk_at dksX1_plotOf_0 0 rfl rfl)
theorem dX1_plotOf_1 : decode cX1_plotOf 1 = .ok (.invokestatic 142, 3) := dk_184 0 142 (dk_at dksX1_plotOf_0 1 rfl rfl)
theorem dX1_plotOf_4 : decode cX1_plotOf 4 = .ok (.invokestatic 145, 3) := dk_184 0 145 (dk_at dksX1_plotOf_0 4 rfl rfl)
theorem dX1_plotOf_7 : decode cX1_plotOf 7 = .ok (.iload_n 2, 1) := dk_28 (dk_at dksX1_plotOf_0 7 rfl rfl)
theorem dX1_plotOf_8 : decode cX1_plotOf 8 = .ok (.iconst 0, 1) := dk_3 (dk_at dksX1_plotOf_0 8 rfl rfl)
theorem dX1_plotOf_9 : decode cX1_plotOf 9 = .ok (.iconst 4, 1) := dk_7 (dk_at dksX1_plotOf_0 9 rfl rfl)
theorem dX1_plotOf_10 : decode cX1_plotOf 10 = .ok (.invokestatic 3, 3) := dk_184 0 3 (dk_at dksX1_plotOf_0 10 rfl rfl)
theorem dX1_plotOf_13 : decode cX1_plotOf 13 = .ok (.invokestatic 113, 3) := dk_184 0 113 (dk_at dksX1_plotOf_0 13 rfl rfl)
theorem dX1_plotOf_16 : decode cX1_plotOf 16 = .ok (.aload_n 0, 1) := dk_42 (dk_at dksX1_plotOf_0 16 rfl rfl)
theorem dX1_plotOf_17 : decode cX1_plotOf 17 = .ok (.getfield 21, 3) := dk_180 0 21 (dk_at dksX1_plotOf_0 17 rfl rfl)
theorem dX1_plotOf_20 : decode cX1_plotOf 20 = .ok (.getfield 90, 3) := dk_180 0 90 (dk_at dksX1_plotOf_0 20 rfl rfl)
theorem dX1_plotOf_23 : decode cX1_plotOf 23 = .ok (.iload_n 1, 1) := dk_27 (dk_at dksX1_plotOf_0 23 rfl rfl)
theorem dX1_plotOf_24 : decode cX1_plotOf 24 = .ok (.aaload, 1) := dk_50 (dk_at dksX1_plotOf_1 0 rfl rfl)
theorem dX1_plotOf_25 : decode cX1_plotOf 25 = .ok (.astore_n 3, 1) := dk_78 (dk_at dksX1_plotOf_1 1 rfl rfl)
theorem dX1_plotOf_26 : decode cX1_plotOf 26 = .ok (.iload_n 2, 1) := dk_28 (dk_at dksX1_plotOf_1 2 rfl rfl)
theorem dX1_plotOf_27 : decode cX1_plotOf 27 = .ok (.tableswitch 83 0 3 #[29, 39, 52, 73], 29) := by decide +kernel
theorem dX1_plotOf_56 : decode cX1_plotOf 56 = .ok (.aload_n 0, 1) := dk_42 (dk_at dksX1_plotOf_3 0 rfl rfl)
theorem dX1_plotOf_57 : decode cX1_plotOf 57 = .ok (.getfield 21, 3) := dk_180 0 21 (dk_at dksX1_plotOf_3 1 rfl rfl)
theorem dX1_plotOf_60 : decode cX1_plotOf 60 = .ok (.getfield 170, 3) := dk_180 0 170 (dk_at dksX1_plotOf_3 4 rfl rfl)
theorem dX1_plotOf_63 : decode cX1_plotOf 63 = .ok (.iload_n 1, 1) := dk_27 (dk_at dksX1_plotOf_3 7 rfl rfl)
theorem dX1_plotOf_64 : decode cX1_plotOf 64 = .ok (.iaload, 1) := dk_46 (dk_at dksX1_plotOf_3 8 rfl rfl)
theorem dX1_plotOf_65 : decode cX1_plotOf 65 = .ok (.ireturn, 1) := dk_172 (dk_at dksX1_plotOf_3 9 rfl rfl)
theorem dX1_plotOf_66 : decode cX1_plotOf 66 = .ok (.aload_n 3, 1) := dk_45 (dk_at dksX1_plotOf_3 10 rfl rfl)
theorem dX1_plotOf_67 : decode cX1_plotOf 67 = .ok (.ifnonnull 7, 3) := dk_199 0 7 (dk_at dksX1_plotOf_3 11 rfl rfl)
theorem dX1_plotOf_70 : decode cX1_plotOf 70 = .ok (.iconst (-1), 1) := dk_2 (dk_at dksX1_plotOf_3 14 rfl rfl)
theorem dX1_plotOf_71 : decode cX1_plotOf 71 = .ok (.goto 7, 3) := dk_167 0 7 (dk_at dksX1_plotOf_3 15 rfl rfl)
theorem dX1_plotOf_74 : decode cX1_plotOf 74 = .ok (.aload_n 3, 1) := dk_45 (dk_at dksX1_plotOf_3 18 rfl rfl)
theorem dX1_plotOf_75 : decode cX1_plotOf 75 = .ok (.invokevirtual 174, 3) := dk_182 0 174 (dk_at dksX1_plotOf_3 19 rfl rfl)
theorem dX1_plotOf_78 : decode cX1_plotOf 78 = .ok (.ireturn, 1) := dk_172 (dk_at dksX1_plotOf_3 22 rfl rfl)
theorem dX1_plotOf_79 : decode cX1_plotOf 79 = .ok (.aload_n 3, 1) := dk_45 (dk_at dksX1_plotOf_3 23 rfl rfl)
theorem dX1_plotOf_80 : decode cX1_plotOf 80 = .ok (.ifnonnull 7, 3) := dk_199 0 7 (dk_at dksX1_plotOf_4 0 rfl rfl)
theorem dX1_plotOf_83 : decode cX1_plotOf 83 = .ok (.iconst (-1), 1) := dk_2 (dk_at dksX1_plotOf_4 3 rfl rfl)
theorem dX1_plotOf_84 : decode cX1_plotOf 84 = .ok (.goto 15, 3) := dk_167 0 15 (dk_at dksX1_plotOf_4 4 rfl rfl)
theorem dX1_plotOf_87 : decode cX1_plotOf 87 = .ok (.aload_n 0, 1) := dk_42 (dk_at dksX1_plotOf_4 7 rfl rfl)
theorem dX1_plotOf_88 : decode cX1_plotOf 88 = .ok (.getfield 21, 3) := dk_180 0 21 (dk_at dksX1_plotOf_4 8 rfl rfl)
theorem dX1_plotOf_91 : decode cX1_plotOf 91 = .ok (.getfield 179, 3) := dk_180 0 179 (dk_at dksX1_plotOf_4 11 rfl rfl)
theorem dX1_plotOf_94 : decode cX1_plotOf 94 = .ok (.aload_n 3, 1) := dk_45 (dk_at dksX1_plotOf_4 14 rfl rfl)
theorem dX1_plotOf_95 : decode cX1_plotOf 95 = .ok (.getfield 182, 3) := dk_180 0 182 (dk_at dksX1_plotOf_4 15 rfl rfl)
theorem dX1_plotOf_98 : decode cX1_plotOf 98 = .ok (.isub, 1) := dk_100 (dk_at dksX1_plotOf_4 18 rfl rfl)
theorem dX1_plotOf_99 : decode cX1_plotOf 99 = .ok (.ireturn, 1) := dk_172 (dk_at dksX1_plotOf_4 19 rfl rfl)
theorem dX1_plotOf_100 : decode cX1_plotOf 100 = .ok (.aload_n 0, 1) := dk_42 (dk_at dksX1_plotOf_4 20 rfl rfl)
theorem dX1_plotOf_101 : decode cX1_plotOf 101 = .ok (.getfield 21, 3) := dk_180 0 21 (dk_at dksX1_plotOf_4 21 rfl rfl)
theorem dX1_plotOf_104 : decode cX1_plotOf 104 = .ok (.getfield 183, 3) := dk_180 0 183 (dk_at dksX1_plotOf_5 0 rfl rfl)
theorem dX1_plotOf_107 : decode cX1_plotOf 107 = .ok (.iload_n 1, 1) := dk_27 (dk_at dksX1_plotOf_5 3 rfl rfl)
theorem dX1_plotOf_108 : decode cX1_plotOf 108 = .ok (.iaload, 1) := dk_46 (dk_at dksX1_plotOf_5 4 rfl rfl)
theorem dX1_plotOf_109 : decode cX1_plotOf 109 = .ok (.ireturn, 1) := dk_172 (dk_at dksX1_plotOf_5 5 rfl rfl)
theorem dX1_plotOf_110 : decode cX1_plotOf 110 = .ok (.aload_n 0, 1) := dk_42 (dk_at dksX1_plotOf_5 6 rfl rfl)
theorem dX1_plotOf_111 : decode cX1_plotOf 111 = .ok (.getfield 21, 3) := dk_180 0 21 (dk_at dksX1_plotOf_5 7 rfl rfl)
theorem dX1_plotOf_114 : decode cX1_plotOf 114 = .ok (.iload_n 1, 1) := dk_27 (dk_at dksX1_plotOf_5 10 rfl rfl)
theorem dX1_plotOf_115 : decode cX1_plotOf 115 = .ok (.invokevirtual 186, 3) := dk_182 0 186 (dk_at dksX1_plotOf_5 11 rfl rfl)
theorem dX1_plotOf_118 : decode cX1_plotOf 118 = .ok (.ireturn, 1) := dk_172 (dk_at dksX1_plotOf_5 14 rfl rfl)
abbrev cX1_water : ByteArray := prog_1_method_23_code
def yX1_water : MethodName := ⟨RX1, "water", "(I)F"⟩
def dkwX1_water_0 : List UInt8 := [27, 184, 0, 142, 184, 0, 145, 42, 180, 0, 21, 180, 0, 189, 27, 48, 174]
abbrev dktX1_water_0 : List UInt8 := dkwX1_water_0 ++ []
theorem dksX1_water_0 : cX1_water.data.toList.drop 0 = dktX1_water_0 := by decide +kernel
theorem dX1_water_0 : decode cX1_water 0 = .ok (.iload_n 1, 1) := dk_27 (dk_at dksX1_water_0 0 rfl rfl)
theorem dX1_water_1 : decode cX1_water 1 = .ok (.invokestatic 142, 3) := dk_184 0 142 (dk_at dksX1_water_0 1 rfl rfl)
theorem dX1_water_4 : decode cX1_water 4 = .ok (.invokestatic 145, 3) := dk_184 0 145 (dk_at dksX1_water_0 4 rfl rfl)
theorem dX1_water_7 : decode cX1_water 7 = .ok (.aload_n 0, 1) := dk_42 (dk_at dksX1_water_0 7 rfl rfl)
theorem dX1_water_8 : decode cX1_water 8 = .ok (.getfield 21, 3) := dk_180 0 21 (dk_at dksX1_water_0 8 rfl rfl)
theorem dX1_water_11 : decode cX1_water 11 = .ok (.getfield 189, 3) := dk_180 0 189 (dk_at dksX1_water_0 11 rfl rfl)
theorem dX1_water_14 : decode cX1_water 14 = .ok (.iload_n 1, 1) := dk_27 (dk_at dksX1_water_0 14 rfl rfl)
theorem dX1_water_15 : decode cX1_water 15 = .ok (.faload, 1) := dk_48 (dk_at dksX1_water_0 15 rfl rfl)
theorem dX1_water_16 : decode cX1_water 16 = .ok (.freturn, 1) := dk_174 (dk_at dksX1_water_0 16 rfl rfl)
abbrev cX1_waterIn : ByteArray := prog_1_method_24_code
def yX1_waterIn : MethodName := ⟨RX1, "waterIn", "(II)I"⟩
def dkwX1_waterIn_1 : List UInt8 := [182, 0, 193, 184, 0, 197, 172]
abbrev dktX1_waterIn_1 : List UInt8 := dkwX1_waterIn_1 ++ []
def dkwX1_waterIn_0 : List UInt8 := [27, 184, 0, 142, 184, 0, 145, 28, 3, 16, 60, 184, 0, 3, 184, 0, 113, 42, 180, 0, 21, 27, 28]
abbrev dktX1_waterIn_0 : List UInt8 := dkwX1_waterIn_0 ++ dktX1_waterIn_1
theorem dksX1_waterIn_0 : cX1_waterIn.data.toList.drop 0 = dktX1_waterIn_0 := by decide +kernel
theorem dksX1_waterIn_1 : cX1_waterIn.data.toList.drop 23 = dktX1_waterIn_1 := dk_seg dksX1_waterIn_0 23 rfl rfl
theorem dX1_waterIn_0 : decode cX1_waterIn 0 = .ok (.iload_n 1, 1) := dk_27 (dk_at dksX1_waterIn_0 0 rfl rfl)
theorem dX1_waterIn_1 : decode cX1_waterIn 1 = .ok (.invokestatic 142, 3) := dk_184 0 142 (dk_at dksX1_waterIn_0 1 rfl rfl)
theorem dX1_waterIn_4 : decode cX1_waterIn 4 = .ok (.invokestatic 145, 3) := dk_184 0 145 (dk_at dksX1_waterIn_0 4 rfl rfl)
theorem dX1_waterIn_7 : decode cX1_waterIn 7 = .ok (.iload_n 2, 1) := dk_28 (dk_at dksX1_waterIn_0 7 rfl rfl)
theorem dX1_waterIn_8 : decode cX1_waterIn 8 = .ok (.iconst 0, 1) := dk_3 (dk_at dksX1_waterIn_0 8 rfl rfl)
theorem dX1_waterIn_9 : decode cX1_waterIn 9 = .ok (.bipush 60, 2) := dk_16 60 (dk_at dksX1_waterIn_0 9 rfl rfl)
theorem dX1_waterIn_11 : decode cX1_waterIn 11 = .ok (.invokestatic 3, 3) := dk_184 0 3 (dk_at dksX1_waterIn_0 11 rfl rfl)
theorem dX1_waterIn_14 : decode cX1_waterIn 14 = .ok (.invokestatic 113, 3) := dk_184 0 113 (dk_at dksX1_waterIn_0 14 rfl rfl)
theorem dX1_waterIn_17 : decode cX1_waterIn 17 = .ok (.aload_n 0, 1) := dk_42 (dk_at dksX1_waterIn_0 17 rfl rfl)
theorem dX1_waterIn_18 : decode cX1_waterIn 18 = .ok (.getfield 21, 3) := dk_180 0 21 (dk_at dksX1_waterIn_0 18 rfl rfl)
theorem dX1_waterIn_21 : decode cX1_waterIn 21 = .ok (.iload_n 1, 1) := dk_27 (dk_at dksX1_waterIn_0 21 rfl rfl)
theorem dX1_waterIn_22 : decode cX1_waterIn 22 = .ok (.iload_n 2, 1) := dk_28 (dk_at dksX1_waterIn_0 22 rfl rfl)
theorem dX1_waterIn_23 : decode cX1_waterIn 23 = .ok (.invokevirtual 193, 3) := dk_182 0 193 (dk_at dksX1_waterIn_1 0 rfl rfl)
theorem dX1_waterIn_26 : decode cX1_waterIn 26 = .ok (.invokestatic 197, 3) := dk_184 0 197 (dk_at dksX1_waterIn_1 3 rfl rfl)
theorem dX1_waterIn_29 : decode cX1_waterIn 29 = .ok (.ireturn, 1) := dk_172 (dk_at dksX1_waterIn_1 6 rfl rfl)
abbrev cX1_waterAgain : ByteArray := prog_1_method_25_code
def yX1_waterAgain : MethodName := ⟨RX1, "waterAgain", "(II)I"⟩
def dkwX1_waterAgain_1 : List UInt8 := [182, 0, 203, 62, 42, 180, 0, 25, 180, 0, 189, 27, 48, 184, 0, 197, 172]
abbrev dktX1_waterAgain_1 : List UInt8 := dkwX1_waterAgain_1 ++ []
def dkwX1_waterAgain_0 : List UInt8 := [27, 184, 0, 142, 184, 0, 145, 28, 3, 16, 60, 184, 0, 3, 184, 0, 113, 42, 182, 0, 122, 28]
abbrev dktX1_waterAgain_0 : List UInt8 := dkwX1_waterAgain_0 ++ dktX1_waterAgain_1
theorem dksX1_waterAgain_0 : cX1_waterAgain.data.toList.drop 0 = dktX1_waterAgain_0 := by decide +kernel
theorem dksX1_waterAgain_1 : cX1_waterAgain.data.toList.drop 22 = dktX1_waterAgain_1 := dk_seg dksX1_waterAgain_0 22 rfl rfl
theorem dX1_waterAgain_0 : decode cX1_waterAgain 0 = .ok (.iload_n 1, 1) := dk_27 (dk_at dksX1_waterAgain_0 0 rfl rfl)
theorem dX1_waterAgain_1 : decode cX1_waterAgain 1 = .ok (.invokestatic 142, 3) := dk_184 0 142 (dk_at dksX1_waterAgain_0 1 rfl rfl)
theorem dX1_waterAgain_4 : decode cX1_waterAgain 4 = .ok (.invokestatic 145, 3) := dk_184 0 145 (dk_at dksX1_waterAgain_0 4 rfl rfl)
theorem dX1_waterAgain_7 : decode cX1_waterAgain 7 = .ok (.iload_n 2, 1) := dk_28 (dk_at dksX1_waterAgain_0 7 rfl rfl)
theorem dX1_waterAgain_8 : decode cX1_waterAgain 8 = .ok (.iconst 0, 1) := dk_3 (dk_at dksX1_waterAgain_0 8 rfl rfl)
theorem dX1_waterAgain_9 : decode cX1_waterAgain 9 = .ok (.bipush 60, 2) := dk_16 60 (dk_at dksX1_waterAgain_0 9 rfl rfl)
theorem dX1_waterAgain_11 : decode cX1_waterAgain 11 = .ok (.invokestatic 3, 3) := dk_184 0 3 (dk_at dksX1_waterAgain_0 11 rfl rfl)
theorem dX1_waterAgain_14 : decode cX1_waterAgain 14 = .ok (.invokestatic 113, 3) := dk_184 0 113 (dk_at dksX1_waterAgain_0 14 rfl rfl)
theorem dX1_waterAgain_17 : decode cX1_waterAgain 17 = .ok (.aload_n 0, 1) := dk_42 (dk_at dksX1_waterAgain_0 17 rfl rfl)
theorem dX1_waterAgain_18 : decode cX1_waterAgain 18 = .ok (.invokevirtual 122, 3) := dk_182 0 122 (dk_at dksX1_waterAgain_0 18 rfl rfl)
theorem dX1_waterAgain_21 : decode cX1_waterAgain 21 = .ok (.iload_n 2, 1) := dk_28 (dk_at dksX1_waterAgain_0 21 rfl rfl)
theorem dX1_waterAgain_22 : decode cX1_waterAgain 22 = .ok (.invokevirtual 203, 3) := dk_182 0 203 (dk_at dksX1_waterAgain_1 0 rfl rfl)
theorem dX1_waterAgain_25 : decode cX1_waterAgain 25 = .ok (.istore_n 3, 1) := dk_62 (dk_at dksX1_waterAgain_1 3 rfl rfl)
theorem dX1_waterAgain_26 : decode cX1_waterAgain 26 = .ok (.aload_n 0, 1) := dk_42 (dk_at dksX1_waterAgain_1 4 rfl rfl)
theorem dX1_waterAgain_27 : decode cX1_waterAgain 27 = .ok (.getfield 25, 3) := dk_180 0 25 (dk_at dksX1_waterAgain_1 5 rfl rfl)
theorem dX1_waterAgain_30 : decode cX1_waterAgain 30 = .ok (.getfield 189, 3) := dk_180 0 189 (dk_at dksX1_waterAgain_1 8 rfl rfl)
theorem dX1_waterAgain_33 : decode cX1_waterAgain 33 = .ok (.iload_n 1, 1) := dk_27 (dk_at dksX1_waterAgain_1 11 rfl rfl)
theorem dX1_waterAgain_34 : decode cX1_waterAgain 34 = .ok (.faload, 1) := dk_48 (dk_at dksX1_waterAgain_1 12 rfl rfl)
theorem dX1_waterAgain_35 : decode cX1_waterAgain 35 = .ok (.invokestatic 197, 3) := dk_184 0 197 (dk_at dksX1_waterAgain_1 13 rfl rfl)
theorem dX1_waterAgain_38 : decode cX1_waterAgain 38 = .ok (.ireturn, 1) := dk_172 (dk_at dksX1_waterAgain_1 16 rfl rfl)
abbrev cX1_seedling : ByteArray := prog_1_method_26_code
def yX1_seedling : MethodName := ⟨RX1, "seedling", "(II)I"⟩
def dkwX1_seedling_1 : List UInt8 := [182, 0, 209, 182, 0, 130, 172, 78, 42, 45, 182, 0, 134, 191]
abbrev dktX1_seedling_1 : List UInt8 := dkwX1_seedling_1 ++ []
def dkwX1_seedling_0 : List UInt8 := [28, 3, 4, 184, 0, 3, 184, 0, 145, 27, 184, 0, 206, 184, 0, 113, 42, 42, 182, 0, 122, 27, 28]
abbrev dktX1_seedling_0 : List UInt8 := dkwX1_seedling_0 ++ dktX1_seedling_1
theorem dksX1_seedling_0 : cX1_seedling.data.toList.drop 0 = dktX1_seedling_0 := by decide +kernel
theorem dksX1_seedling_1 : cX1_seedling.data.toList.drop 23 = dktX1_seedling_1 := dk_seg dksX1_seedling_0 23 rfl rfl
theorem dX1_seedling_0 : decode cX1_seedling 0 = .ok (.iload_n 2, 1) := dk_28 (dk_at dksX1_seedling_0 0 rfl rfl)
theorem dX1_seedling_1 : decode cX1_seedling 1 = .ok (.iconst 0, 1) := dk_3 (dk_at dksX1_seedling_0 1 rfl rfl)
theorem dX1_seedling_2 : decode cX1_seedling 2 = .ok (.iconst 1, 1) := dk_4 (dk_at dksX1_seedling_0 2 rfl rfl)
theorem dX1_seedling_3 : decode cX1_seedling 3 = .ok (.invokestatic 3, 3) := dk_184 0 3 (dk_at dksX1_seedling_0 3 rfl rfl)
theorem dX1_seedling_6 : decode cX1_seedling 6 = .ok (.invokestatic 145, 3) := dk_184 0 145 (dk_at dksX1_seedling_0 6 rfl rfl)
theorem dX1_seedling_9 : decode cX1_seedling 9 = .ok (.iload_n 1, 1) := dk_27 (dk_at dksX1_seedling_0 9 rfl rfl)
theorem dX1_seedling_10 : decode cX1_seedling 10 = .ok (.invokestatic 206, 3) := dk_184 0 206 (dk_at dksX1_seedling_0 10 rfl rfl)
theorem dX1_seedling_13 : decode cX1_seedling 13 = .ok (.invokestatic 113, 3) := dk_184 0 113 (dk_at dksX1_seedling_0 13 rfl rfl)
theorem dX1_seedling_16 : decode cX1_seedling 16 = .ok (.aload_n 0, 1) := dk_42 (dk_at dksX1_seedling_0 16 rfl rfl)
theorem dX1_seedling_17 : decode cX1_seedling 17 = .ok (.aload_n 0, 1) := dk_42 (dk_at dksX1_seedling_0 17 rfl rfl)
theorem dX1_seedling_18 : decode cX1_seedling 18 = .ok (.invokevirtual 122, 3) := dk_182 0 122 (dk_at dksX1_seedling_0 18 rfl rfl)
theorem dX1_seedling_21 : decode cX1_seedling 21 = .ok (.iload_n 1, 1) := dk_27 (dk_at dksX1_seedling_0 21 rfl rfl)
theorem dX1_seedling_22 : decode cX1_seedling 22 = .ok (.iload_n 2, 1) := dk_28 (dk_at dksX1_seedling_0 22 rfl rfl)
theorem dX1_seedling_23 : decode cX1_seedling 23 = .ok (.invokevirtual 209, 3) := dk_182 0 209 (dk_at dksX1_seedling_1 0 rfl rfl)
theorem dX1_seedling_26 : decode cX1_seedling 26 = .ok (.invokevirtual 130, 3) := dk_182 0 130 (dk_at dksX1_seedling_1 3 rfl rfl)
theorem dX1_seedling_29 : decode cX1_seedling 29 = .ok (.ireturn, 1) := dk_172 (dk_at dksX1_seedling_1 6 rfl rfl)
theorem dX1_seedling_30 : decode cX1_seedling 30 = .ok (.astore_n 3, 1) := dk_78 (dk_at dksX1_seedling_1 7 rfl rfl)
theorem dX1_seedling_31 : decode cX1_seedling 31 = .ok (.aload_n 0, 1) := dk_42 (dk_at dksX1_seedling_1 8 rfl rfl)
theorem dX1_seedling_32 : decode cX1_seedling 32 = .ok (.aload_n 3, 1) := dk_45 (dk_at dksX1_seedling_1 9 rfl rfl)
theorem dX1_seedling_33 : decode cX1_seedling 33 = .ok (.invokevirtual 134, 3) := dk_182 0 134 (dk_at dksX1_seedling_1 10 rfl rfl)
theorem dX1_seedling_36 : decode cX1_seedling 36 = .ok (.athrow, 1) := dk_191 (dk_at dksX1_seedling_1 13 rfl rfl)
abbrev cX1_isKind : ByteArray := prog_1_method_3_code
def yX1_isKind : MethodName := ⟨RX1, "isKind", "(I)Z"⟩
def dkwX1_isKind_0 : List UInt8 := [26, 3, 4, 184, 0, 3, 172]
abbrev dktX1_isKind_0 : List UInt8 := dkwX1_isKind_0 ++ []
theorem dksX1_isKind_0 : cX1_isKind.data.toList.drop 0 = dktX1_isKind_0 := by decide +kernel
theorem dX1_isKind_0 : decode cX1_isKind 0 = .ok (.iload_n 0, 1) := dk_26 (dk_at dksX1_isKind_0 0 rfl rfl)
theorem dX1_isKind_1 : decode cX1_isKind 1 = .ok (.iconst 0, 1) := dk_3 (dk_at dksX1_isKind_0 1 rfl rfl)
theorem dX1_isKind_2 : decode cX1_isKind 2 = .ok (.iconst 1, 1) := dk_4 (dk_at dksX1_isKind_0 2 rfl rfl)
theorem dX1_isKind_3 : decode cX1_isKind 3 = .ok (.invokestatic 3, 3) := dk_184 0 3 (dk_at dksX1_isKind_0 3 rfl rfl)
theorem dX1_isKind_6 : decode cX1_isKind 6 = .ok (.ireturn, 1) := dk_172 (dk_at dksX1_isKind_0 6 rfl rfl)
abbrev cX1_waits : ByteArray := prog_1_method_27_code
def yX1_waits : MethodName := ⟨RX1, "waits", "(II)I"⟩
def dkwX1_waits_1 : List UInt8 := [167, 0, 4, 3, 184, 0, 94, 42, 180, 0, 21, 180, 0, 179, 45, 180, 0, 182, 100, 172]
abbrev dktX1_waits_1 : List UInt8 := dkwX1_waits_1 ++ []
def dkwX1_waits_0 : List UInt8 := [27, 28, 184, 0, 212, 184, 0, 145, 42, 180, 0, 21, 27, 182, 0, 216, 28, 50, 78, 45, 198, 0, 7, 4]
abbrev dktX1_waits_0 : List UInt8 := dkwX1_waits_0 ++ dktX1_waits_1
theorem dksX1_waits_0 : cX1_waits.data.toList.drop 0 = dktX1_waits_0 := by decide +kernel
theorem dksX1_waits_1 : cX1_waits.data.toList.drop 24 = dktX1_waits_1 := dk_seg dksX1_waits_0 24 rfl rfl
theorem dX1_waits_0 : decode cX1_waits 0 = .ok (.iload_n 1, 1) := dk_27 (dk_at dksX1_waits_0 0 rfl rfl)
theorem dX1_waits_1 : decode cX1_waits 1 = .ok (.iload_n 2, 1) := dk_28 (dk_at dksX1_waits_0 1 rfl rfl)
theorem dX1_waits_2 : decode cX1_waits 2 = .ok (.invokestatic 212, 3) := dk_184 0 212 (dk_at dksX1_waits_0 2 rfl rfl)
theorem dX1_waits_5 : decode cX1_waits 5 = .ok (.invokestatic 145, 3) := dk_184 0 145 (dk_at dksX1_waits_0 5 rfl rfl)
theorem dX1_waits_8 : decode cX1_waits 8 = .ok (.aload_n 0, 1) := dk_42 (dk_at dksX1_waits_0 8 rfl rfl)
theorem dX1_waits_9 : decode cX1_waits 9 = .ok (.getfield 21, 3) := dk_180 0 21 (dk_at dksX1_waits_0 9 rfl rfl)
theorem dX1_waits_12 : decode cX1_waits 12 = .ok (.iload_n 1, 1) := dk_27 (dk_at dksX1_waits_0 12 rfl rfl)
theorem dX1_waits_13 : decode cX1_waits 13 = .ok (.invokevirtual 216, 3) := dk_182 0 216 (dk_at dksX1_waits_0 13 rfl rfl)
theorem dX1_waits_16 : decode cX1_waits 16 = .ok (.iload_n 2, 1) := dk_28 (dk_at dksX1_waits_0 16 rfl rfl)
theorem dX1_waits_17 : decode cX1_waits 17 = .ok (.aaload, 1) := dk_50 (dk_at dksX1_waits_0 17 rfl rfl)
theorem dX1_waits_18 : decode cX1_waits 18 = .ok (.astore_n 3, 1) := dk_78 (dk_at dksX1_waits_0 18 rfl rfl)
theorem dX1_waits_19 : decode cX1_waits 19 = .ok (.aload_n 3, 1) := dk_45 (dk_at dksX1_waits_0 19 rfl rfl)
theorem dX1_waits_20 : decode cX1_waits 20 = .ok (.ifnull 7, 3) := dk_198 0 7 (dk_at dksX1_waits_0 20 rfl rfl)
theorem dX1_waits_23 : decode cX1_waits 23 = .ok (.iconst 1, 1) := dk_4 (dk_at dksX1_waits_0 23 rfl rfl)
theorem dX1_waits_24 : decode cX1_waits 24 = .ok (.goto 4, 3) := dk_167 0 4 (dk_at dksX1_waits_1 0 rfl rfl)
theorem dX1_waits_27 : decode cX1_waits 27 = .ok (.iconst 0, 1) := dk_3 (dk_at dksX1_waits_1 3 rfl rfl)
theorem dX1_waits_28 : decode cX1_waits 28 = .ok (.invokestatic 94, 3) := dk_184 0 94 (dk_at dksX1_waits_1 4 rfl rfl)
theorem dX1_waits_31 : decode cX1_waits 31 = .ok (.aload_n 0, 1) := dk_42 (dk_at dksX1_waits_1 7 rfl rfl)
theorem dX1_waits_32 : decode cX1_waits 32 = .ok (.getfield 21, 3) := dk_180 0 21 (dk_at dksX1_waits_1 8 rfl rfl)
theorem dX1_waits_35 : decode cX1_waits 35 = .ok (.getfield 179, 3) := dk_180 0 179 (dk_at dksX1_waits_1 11 rfl rfl)
theorem dX1_waits_38 : decode cX1_waits 38 = .ok (.aload_n 3, 1) := dk_45 (dk_at dksX1_waits_1 14 rfl rfl)
theorem dX1_waits_39 : decode cX1_waits 39 = .ok (.getfield 182, 3) := dk_180 0 182 (dk_at dksX1_waits_1 15 rfl rfl)
theorem dX1_waits_42 : decode cX1_waits 42 = .ok (.isub, 1) := dk_100 (dk_at dksX1_waits_1 18 rfl rfl)
theorem dX1_waits_43 : decode cX1_waits 43 = .ok (.ireturn, 1) := dk_172 (dk_at dksX1_waits_1 19 rfl rfl)
abbrev cX1_isPlace : ByteArray := prog_1_method_4_code
def yX1_isPlace : MethodName := ⟨RX1, "isPlace", "(II)Z"⟩
def dkwX1_isPlace_0 : List UInt8 := [26, 3, 4, 184, 0, 3, 153, 0, 16, 27, 3, 7, 184, 0, 3, 153, 0, 7, 4, 167, 0, 4, 3, 172]
abbrev dktX1_isPlace_0 : List UInt8 := dkwX1_isPlace_0 ++ []
theorem dksX1_isPlace_0 : cX1_isPlace.data.toList.drop 0 = dktX1_isPlace_0 := by decide +kernel
theorem dX1_isPlace_0 : decode cX1_isPlace 0 = .ok (.iload_n 0, 1) := dk_26 (dk_at dksX1_isPlace_0 0 rfl rfl)
theorem dX1_isPlace_1 : decode cX1_isPlace 1 = .ok (.iconst 0, 1) := dk_3 (dk_at dksX1_isPlace_0 1 rfl rfl)
theorem dX1_isPlace_2 : decode cX1_isPlace 2 = .ok (.iconst 1, 1) := dk_4 (dk_at dksX1_isPlace_0 2 rfl rfl)
theorem dX1_isPlace_3 : decode cX1_isPlace 3 = .ok (.invokestatic 3, 3) := dk_184 0 3 (dk_at dksX1_isPlace_0 3 rfl rfl)
theorem dX1_isPlace_6 : decode cX1_isPlace 6 = .ok (.ifCond .eq 16, 3) := dk_153 0 16 (dk_at dksX1_isPlace_0 6 rfl rfl)
theorem dX1_isPlace_9 : decode cX1_isPlace 9 = .ok (.iload_n 1, 1) := dk_27 (dk_at dksX1_isPlace_0 9 rfl rfl)
theorem dX1_isPlace_10 : decode cX1_isPlace 10 = .ok (.iconst 0, 1) := dk_3 (dk_at dksX1_isPlace_0 10 rfl rfl)
theorem dX1_isPlace_11 : decode cX1_isPlace 11 = .ok (.iconst 4, 1) := dk_7 (dk_at dksX1_isPlace_0 11 rfl rfl)
theorem dX1_isPlace_12 : decode cX1_isPlace 12 = .ok (.invokestatic 3, 3) := dk_184 0 3 (dk_at dksX1_isPlace_0 12 rfl rfl)
theorem dX1_isPlace_15 : decode cX1_isPlace 15 = .ok (.ifCond .eq 7, 3) := dk_153 0 7 (dk_at dksX1_isPlace_0 15 rfl rfl)
theorem dX1_isPlace_18 : decode cX1_isPlace 18 = .ok (.iconst 1, 1) := dk_4 (dk_at dksX1_isPlace_0 18 rfl rfl)
theorem dX1_isPlace_19 : decode cX1_isPlace 19 = .ok (.goto 4, 3) := dk_167 0 4 (dk_at dksX1_isPlace_0 19 rfl rfl)
theorem dX1_isPlace_22 : decode cX1_isPlace 22 = .ok (.iconst 0, 1) := dk_3 (dk_at dksX1_isPlace_0 22 rfl rfl)
theorem dX1_isPlace_23 : decode cX1_isPlace 23 = .ok (.ireturn, 1) := dk_172 (dk_at dksX1_isPlace_0 23 rfl rfl)
abbrev cX1_checkElement : ByteArray := prog_1_method_8_code
def yX1_checkElement : MethodName := ⟨RX1, "checkElement", "(Z)V"⟩
def dkwX1_checkElement_0 : List UInt8 := [26, 154, 0, 11, 187, 0, 68, 89, 183, 0, 70, 191, 177]
abbrev dktX1_checkElement_0 : List UInt8 := dkwX1_checkElement_0 ++ []
theorem dksX1_checkElement_0 : cX1_checkElement.data.toList.drop 0 = dktX1_checkElement_0 := by decide +kernel
theorem dX1_checkElement_0 : decode cX1_checkElement 0 = .ok (.iload_n 0, 1) := dk_26 (dk_at dksX1_checkElement_0 0 rfl rfl)
theorem dX1_checkElement_1 : decode cX1_checkElement 1 = .ok (.ifCond .ne 11, 3) := dk_154 0 11 (dk_at dksX1_checkElement_0 1 rfl rfl)
theorem dX1_checkElement_4 : decode cX1_checkElement 4 = .ok (.new 68, 3) := dk_187 0 68 (dk_at dksX1_checkElement_0 4 rfl rfl)
theorem dX1_checkElement_7 : decode cX1_checkElement 7 = .ok (.dup, 1) := dk_89 (dk_at dksX1_checkElement_0 7 rfl rfl)
theorem dX1_checkElement_8 : decode cX1_checkElement 8 = .ok (.invokespecial 70, 3) := dk_183 0 70 (dk_at dksX1_checkElement_0 8 rfl rfl)
theorem dX1_checkElement_11 : decode cX1_checkElement 11 = .ok (.athrow, 1) := dk_191 (dk_at dksX1_checkElement_0 11 rfl rfl)
theorem dX1_checkElement_12 : decode cX1_checkElement 12 = .ok (.return_, 1) := dk_177 (dk_at dksX1_checkElement_0 12 rfl rfl)
abbrev cX1_plant : ByteArray := prog_1_method_28_code
def yX1_plant : MethodName := ⟨RX1, "plant", "(III)I"⟩
def dkwX1_plant_2 : List UInt8 := [42, 42, 182, 0, 122, 27, 28, 29, 182, 0, 220, 182, 0, 130, 172, 58, 4, 42, 25, 4, 182, 0, 134, 191]
abbrev dktX1_plant_2 : List UInt8 := dkwX1_plant_2 ++ []
def dkwX1_plant_1 : List UInt8 := [184, 0, 145, 42, 180, 0, 21, 28, 182, 0, 216, 29, 50, 198, 0, 7, 4, 167, 0, 4, 3, 184, 0, 94]
abbrev dktX1_plant_1 : List UInt8 := dkwX1_plant_1 ++ dktX1_plant_2
def dkwX1_plant_0 : List UInt8 := [42, 180, 0, 21, 27, 182, 0, 138, 153, 0, 15, 28, 29, 184, 0, 212, 153, 0, 7, 4, 167, 0, 4, 3]
abbrev dktX1_plant_0 : List UInt8 := dkwX1_plant_0 ++ dktX1_plant_1
theorem dksX1_plant_0 : cX1_plant.data.toList.drop 0 = dktX1_plant_0 := by decide +kernel
theorem dksX1_plant_1 : cX1_plant.data.toList.drop 24 = dktX1_plant_1 := dk_seg dksX1_plant_0 24 rfl rfl
theorem dksX1_plant_2 : cX1_plant.data.toList.drop 48 = dktX1_plant_2 := dk_seg dksX1_plant_1 24 rfl rfl
theorem dX1_plant_0 : decode cX1_plant 0 = .ok (.aload_n 0, 1) := dk_42 (dk_at dksX1_plant_0 0 rfl rfl)
theorem dX1_plant_1 : decode cX1_plant 1 = .ok (.getfield 21, 3) := dk_180 0 21 (dk_at dksX1_plant_0 1 rfl rfl)
theorem dX1_plant_4 : decode cX1_plant 4 = .ok (.iload_n 1, 1) := dk_27 (dk_at dksX1_plant_0 4 rfl rfl)
theorem dX1_plant_5 : decode cX1_plant 5 = .ok (.invokevirtual 138, 3) := dk_182 0 138 (dk_at dksX1_plant_0 5 rfl rfl)
theorem dX1_plant_8 : decode cX1_plant 8 = .ok (.ifCond .eq 15, 3) := dk_153 0 15 (dk_at dksX1_plant_0 8 rfl rfl)
theorem dX1_plant_11 : decode cX1_plant 11 = .ok (.iload_n 2, 1) := dk_28 (dk_at dksX1_plant_0 11 rfl rfl)
theorem dX1_plant_12 : decode cX1_plant 12 = .ok (.iload_n 3, 1) := dk_29 (dk_at dksX1_plant_0 12 rfl rfl)
theorem dX1_plant_13 : decode cX1_plant 13 = .ok (.invokestatic 212, 3) := dk_184 0 212 (dk_at dksX1_plant_0 13 rfl rfl)
theorem dX1_plant_16 : decode cX1_plant 16 = .ok (.ifCond .eq 7, 3) := dk_153 0 7 (dk_at dksX1_plant_0 16 rfl rfl)
theorem dX1_plant_19 : decode cX1_plant 19 = .ok (.iconst 1, 1) := dk_4 (dk_at dksX1_plant_0 19 rfl rfl)
theorem dX1_plant_20 : decode cX1_plant 20 = .ok (.goto 4, 3) := dk_167 0 4 (dk_at dksX1_plant_0 20 rfl rfl)
theorem dX1_plant_23 : decode cX1_plant 23 = .ok (.iconst 0, 1) := dk_3 (dk_at dksX1_plant_0 23 rfl rfl)
theorem dX1_plant_24 : decode cX1_plant 24 = .ok (.invokestatic 145, 3) := dk_184 0 145 (dk_at dksX1_plant_1 0 rfl rfl)
theorem dX1_plant_27 : decode cX1_plant 27 = .ok (.aload_n 0, 1) := dk_42 (dk_at dksX1_plant_1 3 rfl rfl)
theorem dX1_plant_28 : decode cX1_plant 28 = .ok (.getfield 21, 3) := dk_180 0 21 (dk_at dksX1_plant_1 4 rfl rfl)
theorem dX1_plant_31 : decode cX1_plant 31 = .ok (.iload_n 2, 1) := dk_28 (dk_at dksX1_plant_1 7 rfl rfl)
theorem dX1_plant_32 : decode cX1_plant 32 = .ok (.invokevirtual 216, 3) := dk_182 0 216 (dk_at dksX1_plant_1 8 rfl rfl)
theorem dX1_plant_35 : decode cX1_plant 35 = .ok (.iload_n 3, 1) := dk_29 (dk_at dksX1_plant_1 11 rfl rfl)
theorem dX1_plant_36 : decode cX1_plant 36 = .ok (.aaload, 1) := dk_50 (dk_at dksX1_plant_1 12 rfl rfl)
theorem dX1_plant_37 : decode cX1_plant 37 = .ok (.ifnull 7, 3) := dk_198 0 7 (dk_at dksX1_plant_1 13 rfl rfl)
theorem dX1_plant_40 : decode cX1_plant 40 = .ok (.iconst 1, 1) := dk_4 (dk_at dksX1_plant_1 16 rfl rfl)
theorem dX1_plant_41 : decode cX1_plant 41 = .ok (.goto 4, 3) := dk_167 0 4 (dk_at dksX1_plant_1 17 rfl rfl)
theorem dX1_plant_44 : decode cX1_plant 44 = .ok (.iconst 0, 1) := dk_3 (dk_at dksX1_plant_1 20 rfl rfl)
theorem dX1_plant_45 : decode cX1_plant 45 = .ok (.invokestatic 94, 3) := dk_184 0 94 (dk_at dksX1_plant_1 21 rfl rfl)
theorem dX1_plant_48 : decode cX1_plant 48 = .ok (.aload_n 0, 1) := dk_42 (dk_at dksX1_plant_2 0 rfl rfl)
theorem dX1_plant_49 : decode cX1_plant 49 = .ok (.aload_n 0, 1) := dk_42 (dk_at dksX1_plant_2 1 rfl rfl)
theorem dX1_plant_50 : decode cX1_plant 50 = .ok (.invokevirtual 122, 3) := dk_182 0 122 (dk_at dksX1_plant_2 2 rfl rfl)
theorem dX1_plant_53 : decode cX1_plant 53 = .ok (.iload_n 1, 1) := dk_27 (dk_at dksX1_plant_2 5 rfl rfl)
theorem dX1_plant_54 : decode cX1_plant 54 = .ok (.iload_n 2, 1) := dk_28 (dk_at dksX1_plant_2 6 rfl rfl)
theorem dX1_plant_55 : decode cX1_plant 55 = .ok (.iload_n 3, 1) := dk_29 (dk_at dksX1_plant_2 7 rfl rfl)
theorem dX1_plant_56 : decode cX1_plant 56 = .ok (.invokevirtual 220, 3) := dk_182 0 220 (dk_at dksX1_plant_2 8 rfl rfl)
theorem dX1_plant_59 : decode cX1_plant 59 = .ok (.invokevirtual 130, 3) := dk_182 0 130 (dk_at dksX1_plant_2 11 rfl rfl)
theorem dX1_plant_62 : decode cX1_plant 62 = .ok (.ireturn, 1) := dk_172 (dk_at dksX1_plant_2 14 rfl rfl)
theorem dX1_plant_63 : decode cX1_plant 63 = .ok (.astore 4, 2) := dk_58 4 (dk_at dksX1_plant_2 15 rfl rfl)
theorem dX1_plant_65 : decode cX1_plant 65 = .ok (.aload_n 0, 1) := dk_42 (dk_at dksX1_plant_2 17 rfl rfl)
theorem dX1_plant_66 : decode cX1_plant 66 = .ok (.aload 4, 2) := dk_25 4 (dk_at dksX1_plant_2 18 rfl rfl)
theorem dX1_plant_68 : decode cX1_plant 68 = .ok (.invokevirtual 134, 3) := dk_182 0 134 (dk_at dksX1_plant_2 20 rfl rfl)
theorem dX1_plant_71 : decode cX1_plant 71 = .ok (.athrow, 1) := dk_191 (dk_at dksX1_plant_2 23 rfl rfl)
abbrev cX1_weight : ByteArray := prog_1_method_29_code
def yX1_weight : MethodName := ⟨RX1, "weight", "(I)I"⟩
def dkwX1_weight_0 : List UInt8 := [27, 184, 0, 142, 184, 0, 145, 42, 27, 182, 0, 224, 180, 0, 228, 184, 0, 197, 172]
abbrev dktX1_weight_0 : List UInt8 := dkwX1_weight_0 ++ []
theorem dksX1_weight_0 : cX1_weight.data.toList.drop 0 = dktX1_weight_0 := by decide +kernel
theorem dX1_weight_0 : decode cX1_weight 0 = .ok (.iload_n 1, 1) := dk_27 (dk_at dksX1_weight_0 0 rfl rfl)
theorem dX1_weight_1 : decode cX1_weight 1 = .ok (.invokestatic 142, 3) := dk_184 0 142 (dk_at dksX1_weight_0 1 rfl rfl)
theorem dX1_weight_4 : decode cX1_weight 4 = .ok (.invokestatic 145, 3) := dk_184 0 145 (dk_at dksX1_weight_0 4 rfl rfl)
theorem dX1_weight_7 : decode cX1_weight 7 = .ok (.aload_n 0, 1) := dk_42 (dk_at dksX1_weight_0 7 rfl rfl)
theorem dX1_weight_8 : decode cX1_weight 8 = .ok (.iload_n 1, 1) := dk_27 (dk_at dksX1_weight_0 8 rfl rfl)
theorem dX1_weight_9 : decode cX1_weight 9 = .ok (.invokevirtual 224, 3) := dk_182 0 224 (dk_at dksX1_weight_0 9 rfl rfl)
theorem dX1_weight_12 : decode cX1_weight 12 = .ok (.getfield 228, 3) := dk_180 0 228 (dk_at dksX1_weight_0 12 rfl rfl)
theorem dX1_weight_15 : decode cX1_weight 15 = .ok (.invokestatic 197, 3) := dk_184 0 197 (dk_at dksX1_weight_0 15 rfl rfl)
theorem dX1_weight_18 : decode cX1_weight 18 = .ok (.ireturn, 1) := dk_172 (dk_at dksX1_weight_0 18 rfl rfl)
abbrev cX1_cropOf : ByteArray := prog_1_method_12_code
def yX1_cropOf : MethodName := ⟨RX1, "cropOf", "(I)LCliffPlots$Plant;"⟩
def dkwX1_cropOf_1 : List UInt8 := [180, 0, 90, 27, 50, 176]
abbrev dktX1_cropOf_1 : List UInt8 := dkwX1_cropOf_1 ++ []
def dkwX1_cropOf_0 : List UInt8 := [42, 180, 0, 21, 180, 0, 90, 27, 50, 198, 0, 7, 4, 167, 0, 4, 3, 184, 0, 94, 42, 180, 0, 21]
abbrev dktX1_cropOf_0 : List UInt8 := dkwX1_cropOf_0 ++ dktX1_cropOf_1
theorem dksX1_cropOf_0 : cX1_cropOf.data.toList.drop 0 = dktX1_cropOf_0 := by decide +kernel
theorem dksX1_cropOf_1 : cX1_cropOf.data.toList.drop 24 = dktX1_cropOf_1 := dk_seg dksX1_cropOf_0 24 rfl rfl
theorem dX1_cropOf_0 : decode cX1_cropOf 0 = .ok (.aload_n 0, 1) := dk_42 (dk_at dksX1_cropOf_0 0 rfl rfl)
theorem dX1_cropOf_1 : decode cX1_cropOf 1 = .ok (.getfield 21, 3) := dk_180 0 21 (dk_at dksX1_cropOf_0 1 rfl rfl)
theorem dX1_cropOf_4 : decode cX1_cropOf 4 = .ok (.getfield 90, 3) := dk_180 0 90 (dk_at dksX1_cropOf_0 4 rfl rfl)
theorem dX1_cropOf_7 : decode cX1_cropOf 7 = .ok (.iload_n 1, 1) := dk_27 (dk_at dksX1_cropOf_0 7 rfl rfl)
theorem dX1_cropOf_8 : decode cX1_cropOf 8 = .ok (.aaload, 1) := dk_50 (dk_at dksX1_cropOf_0 8 rfl rfl)
theorem dX1_cropOf_9 : decode cX1_cropOf 9 = .ok (.ifnull 7, 3) := dk_198 0 7 (dk_at dksX1_cropOf_0 9 rfl rfl)
theorem dX1_cropOf_12 : decode cX1_cropOf 12 = .ok (.iconst 1, 1) := dk_4 (dk_at dksX1_cropOf_0 12 rfl rfl)
theorem dX1_cropOf_13 : decode cX1_cropOf 13 = .ok (.goto 4, 3) := dk_167 0 4 (dk_at dksX1_cropOf_0 13 rfl rfl)
theorem dX1_cropOf_16 : decode cX1_cropOf 16 = .ok (.iconst 0, 1) := dk_3 (dk_at dksX1_cropOf_0 16 rfl rfl)
theorem dX1_cropOf_17 : decode cX1_cropOf 17 = .ok (.invokestatic 94, 3) := dk_184 0 94 (dk_at dksX1_cropOf_0 17 rfl rfl)
theorem dX1_cropOf_20 : decode cX1_cropOf 20 = .ok (.aload_n 0, 1) := dk_42 (dk_at dksX1_cropOf_0 20 rfl rfl)
theorem dX1_cropOf_21 : decode cX1_cropOf 21 = .ok (.getfield 21, 3) := dk_180 0 21 (dk_at dksX1_cropOf_0 21 rfl rfl)
theorem dX1_cropOf_24 : decode cX1_cropOf 24 = .ok (.getfield 90, 3) := dk_180 0 90 (dk_at dksX1_cropOf_1 0 rfl rfl)
theorem dX1_cropOf_27 : decode cX1_cropOf 27 = .ok (.iload_n 1, 1) := dk_27 (dk_at dksX1_cropOf_1 3 rfl rfl)
theorem dX1_cropOf_28 : decode cX1_cropOf 28 = .ok (.aaload, 1) := dk_50 (dk_at dksX1_cropOf_1 4 rfl rfl)
theorem dX1_cropOf_29 : decode cX1_cropOf 29 = .ok (.areturn, 1) := dk_176 (dk_at dksX1_cropOf_1 5 rfl rfl)
abbrev cX1_weightIn : ByteArray := prog_1_method_30_code
def yX1_weightIn : MethodName := ⟨RX1, "weightIn", "(II)I"⟩
def dkwX1_weightIn_2 : List UInt8 := [172]
abbrev dktX1_weightIn_2 : List UInt8 := dkwX1_weightIn_2 ++ []
def dkwX1_weightIn_1 : List UInt8 := [182, 0, 122, 28, 182, 0, 203, 54, 4, 42, 180, 0, 25, 180, 0, 90, 27, 50, 180, 0, 228, 184, 0, 197]
abbrev dktX1_weightIn_1 : List UInt8 := dkwX1_weightIn_1 ++ dktX1_weightIn_2
def dkwX1_weightIn_0 : List UInt8 := [27, 184, 0, 142, 184, 0, 145, 28, 3, 16, 60, 184, 0, 3, 184, 0, 113, 42, 27, 182, 0, 224, 78, 42]
abbrev dktX1_weightIn_0 : List UInt8 := dkwX1_weightIn_0 ++ dktX1_weightIn_1
theorem dksX1_weightIn_0 : cX1_weightIn.data.toList.drop 0 = dktX1_weightIn_0 := by decide +kernel
theorem dksX1_weightIn_1 : cX1_weightIn.data.toList.drop 24 = dktX1_weightIn_1 := dk_seg dksX1_weightIn_0 24 rfl rfl
theorem dksX1_weightIn_2 : cX1_weightIn.data.toList.drop 48 = dktX1_weightIn_2 := dk_seg dksX1_weightIn_1 24 rfl rfl
theorem dX1_weightIn_0 : decode cX1_weightIn 0 = .ok (.iload_n 1, 1) := dk_27 (dk_at dksX1_weightIn_0 0 rfl rfl)
theorem dX1_weightIn_1 : decode cX1_weightIn 1 = .ok (.invokestatic 142, 3) := dk_184 0 142 (dk_at dksX1_weightIn_0 1 rfl rfl)
theorem dX1_weightIn_4 : decode cX1_weightIn 4 = .ok (.invokestatic 145, 3) := dk_184 0 145 (dk_at dksX1_weightIn_0 4 rfl rfl)
theorem dX1_weightIn_7 : decode cX1_weightIn 7 = .ok (.iload_n 2, 1) := dk_28 (dk_at dksX1_weightIn_0 7 rfl rfl)
theorem dX1_weightIn_8 : decode cX1_weightIn 8 = .ok (.iconst 0, 1) := dk_3 (dk_at dksX1_weightIn_0 8 rfl rfl)
theorem dX1_weightIn_9 : decode cX1_weightIn 9 = .ok (.bipush 60, 2) := dk_16 60 (dk_at dksX1_weightIn_0 9 rfl rfl)
theorem dX1_weightIn_11 : decode cX1_weightIn 11 = .ok (.invokestatic 3, 3) := dk_184 0 3 (dk_at dksX1_weightIn_0 11 rfl rfl)
theorem dX1_weightIn_14 : decode cX1_weightIn 14 = .ok (.invokestatic 113, 3) := dk_184 0 113 (dk_at dksX1_weightIn_0 14 rfl rfl)
theorem dX1_weightIn_17 : decode cX1_weightIn 17 = .ok (.aload_n 0, 1) := dk_42 (dk_at dksX1_weightIn_0 17 rfl rfl)
theorem dX1_weightIn_18 : decode cX1_weightIn 18 = .ok (.iload_n 1, 1) := dk_27 (dk_at dksX1_weightIn_0 18 rfl rfl)
theorem dX1_weightIn_19 : decode cX1_weightIn 19 = .ok (.invokevirtual 224, 3) := dk_182 0 224 (dk_at dksX1_weightIn_0 19 rfl rfl)
theorem dX1_weightIn_22 : decode cX1_weightIn 22 = .ok (.astore_n 3, 1) := dk_78 (dk_at dksX1_weightIn_0 22 rfl rfl)
theorem dX1_weightIn_23 : decode cX1_weightIn 23 = .ok (.aload_n 0, 1) := dk_42 (dk_at dksX1_weightIn_0 23 rfl rfl)
theorem dX1_weightIn_24 : decode cX1_weightIn 24 = .ok (.invokevirtual 122, 3) := dk_182 0 122 (dk_at dksX1_weightIn_1 0 rfl rfl)
theorem dX1_weightIn_27 : decode cX1_weightIn 27 = .ok (.iload_n 2, 1) := dk_28 (dk_at dksX1_weightIn_1 3 rfl rfl)
theorem dX1_weightIn_28 : decode cX1_weightIn 28 = .ok (.invokevirtual 203, 3) := dk_182 0 203 (dk_at dksX1_weightIn_1 4 rfl rfl)
theorem dX1_weightIn_31 : decode cX1_weightIn 31 = .ok (.istore 4, 2) := dk_54 4 (dk_at dksX1_weightIn_1 7 rfl rfl)
theorem dX1_weightIn_33 : decode cX1_weightIn 33 = .ok (.aload_n 0, 1) := dk_42 (dk_at dksX1_weightIn_1 9 rfl rfl)
theorem dX1_weightIn_34 : decode cX1_weightIn 34 = .ok (.getfield 25, 3) := dk_180 0 25 (dk_at dksX1_weightIn_1 10 rfl rfl)
theorem dX1_weightIn_37 : decode cX1_weightIn 37 = .ok (.getfield 90, 3) := dk_180 0 90 (dk_at dksX1_weightIn_1 13 rfl rfl)
theorem dX1_weightIn_40 : decode cX1_weightIn 40 = .ok (.iload_n 1, 1) := dk_27 (dk_at dksX1_weightIn_1 16 rfl rfl)
theorem dX1_weightIn_41 : decode cX1_weightIn 41 = .ok (.aaload, 1) := dk_50 (dk_at dksX1_weightIn_1 17 rfl rfl)
theorem dX1_weightIn_42 : decode cX1_weightIn 42 = .ok (.getfield 228, 3) := dk_180 0 228 (dk_at dksX1_weightIn_1 18 rfl rfl)
theorem dX1_weightIn_45 : decode cX1_weightIn 45 = .ok (.invokestatic 197, 3) := dk_184 0 197 (dk_at dksX1_weightIn_1 21 rfl rfl)
theorem dX1_weightIn_48 : decode cX1_weightIn 48 = .ok (.ireturn, 1) := dk_172 (dk_at dksX1_weightIn_2 0 rfl rfl)
abbrev cX1_heaviest : ByteArray := prog_1_method_31_code
def yX1_heaviest : MethodName := ⟨RX1, "heaviest", "(I)I"⟩
def dkwX1_heaviest_1 : List UInt8 := [167, 0, 4, 3, 184, 0, 94, 28, 172]
abbrev dktX1_heaviest_1 : List UInt8 := dkwX1_heaviest_1 ++ []
def dkwX1_heaviest_0 : List UInt8 := [27, 184, 0, 206, 184, 0, 113, 42, 180, 0, 21, 27, 182, 0, 232, 61, 28, 2, 159, 0, 7, 4]
abbrev dktX1_heaviest_0 : List UInt8 := dkwX1_heaviest_0 ++ dktX1_heaviest_1
theorem dksX1_heaviest_0 : cX1_heaviest.data.toList.drop 0 = dktX1_heaviest_0 := by decide +kernel
theorem dksX1_heaviest_1 : cX1_heaviest.data.toList.drop 22 = dktX1_heaviest_1 := dk_seg dksX1_heaviest_0 22 rfl rfl
theorem dX1_heaviest_0 : decode cX1_heaviest 0 = .ok (.iload_n 1, 1) := dk_27 (dk_at dksX1_heaviest_0 0 rfl rfl)
theorem dX1_heaviest_1 : decode cX1_heaviest 1 = .ok (.invokestatic 206, 3) := dk_184 0 206 (dk_at dksX1_heaviest_0 1 rfl rfl)
theorem dX1_heaviest_4 : decode cX1_heaviest 4 = .ok (.invokestatic 113, 3) := dk_184 0 113 (dk_at dksX1_heaviest_0 4 rfl rfl)
theorem dX1_heaviest_7 : decode cX1_heaviest 7 = .ok (.aload_n 0, 1) := dk_42 (dk_at dksX1_heaviest_0 7 rfl rfl)
theorem dX1_heaviest_8 : decode cX1_heaviest 8 = .ok (.getfield 21, 3) := dk_180 0 21 (dk_at dksX1_heaviest_0 8 rfl rfl)
theorem dX1_heaviest_11 : decode cX1_heaviest 11 = .ok (.iload_n 1, 1) := dk_27 (dk_at dksX1_heaviest_0 11 rfl rfl)
theorem dX1_heaviest_12 : decode cX1_heaviest 12 = .ok (.invokevirtual 232, 3) := dk_182 0 232 (dk_at dksX1_heaviest_0 12 rfl rfl)
theorem dX1_heaviest_15 : decode cX1_heaviest 15 = .ok (.istore_n 2, 1) := dk_61 (dk_at dksX1_heaviest_0 15 rfl rfl)
theorem dX1_heaviest_16 : decode cX1_heaviest 16 = .ok (.iload_n 2, 1) := dk_28 (dk_at dksX1_heaviest_0 16 rfl rfl)
theorem dX1_heaviest_17 : decode cX1_heaviest 17 = .ok (.iconst (-1), 1) := dk_2 (dk_at dksX1_heaviest_0 17 rfl rfl)
theorem dX1_heaviest_18 : decode cX1_heaviest 18 = .ok (.if_icmp .eq 7, 3) := dk_159 0 7 (dk_at dksX1_heaviest_0 18 rfl rfl)
theorem dX1_heaviest_21 : decode cX1_heaviest 21 = .ok (.iconst 1, 1) := dk_4 (dk_at dksX1_heaviest_0 21 rfl rfl)
theorem dX1_heaviest_22 : decode cX1_heaviest 22 = .ok (.goto 4, 3) := dk_167 0 4 (dk_at dksX1_heaviest_1 0 rfl rfl)
theorem dX1_heaviest_25 : decode cX1_heaviest 25 = .ok (.iconst 0, 1) := dk_3 (dk_at dksX1_heaviest_1 3 rfl rfl)
theorem dX1_heaviest_26 : decode cX1_heaviest 26 = .ok (.invokestatic 94, 3) := dk_184 0 94 (dk_at dksX1_heaviest_1 4 rfl rfl)
theorem dX1_heaviest_29 : decode cX1_heaviest 29 = .ok (.iload_n 2, 1) := dk_28 (dk_at dksX1_heaviest_1 7 rfl rfl)
theorem dX1_heaviest_30 : decode cX1_heaviest 30 = .ok (.ireturn, 1) := dk_172 (dk_at dksX1_heaviest_1 8 rfl rfl)
abbrev cX1_harvest : ByteArray := prog_1_method_32_code
def yX1_harvest : MethodName := ⟨RX1, "harvest", "(I)I"⟩
def dkwX1_harvest_1 : List UInt8 := [182, 0, 130, 172, 77, 42, 44, 182, 0, 134, 191]
abbrev dktX1_harvest_1 : List UInt8 := dkwX1_harvest_1 ++ []
def dkwX1_harvest_0 : List UInt8 := [42, 180, 0, 21, 27, 182, 0, 138, 184, 0, 145, 42, 42, 182, 0, 122, 27, 182, 0, 235, 184, 0, 197]
abbrev dktX1_harvest_0 : List UInt8 := dkwX1_harvest_0 ++ dktX1_harvest_1
theorem dksX1_harvest_0 : cX1_harvest.data.toList.drop 0 = dktX1_harvest_0 := by decide +kernel
theorem dksX1_harvest_1 : cX1_harvest.data.toList.drop 23 = dktX1_harvest_1 := dk_seg dksX1_harvest_0 23 rfl rfl
theorem dX1_harvest_0 : decode cX1_harvest 0 = .ok (.aload_n 0, 1) := dk_42 (dk_at dksX1_harvest_0 0 rfl rfl)
theorem dX1_harvest_1 : decode cX1_harvest 1 = .ok (.getfield 21, 3) := dk_180 0 21 (dk_at dksX1_harvest_0 1 rfl rfl)
theorem dX1_harvest_4 : decode cX1_harvest 4 = .ok (.iload_n 1, 1) := dk_27 (dk_at dksX1_harvest_0 4 rfl rfl)
theorem dX1_harvest_5 : decode cX1_harvest 5 = .ok (.invokevirtual 138, 3) := dk_182 0 138 (dk_at dksX1_harvest_0 5 rfl rfl)
theorem dX1_harvest_8 : decode cX1_harvest 8 = .ok (.invokestatic 145, 3) := dk_184 0 145 (dk_at dksX1_harvest_0 8 rfl rfl)
theorem dX1_harvest_11 : decode cX1_harvest 11 = .ok (.aload_n 0, 1) := dk_42 (dk_at dksX1_harvest_0 11 rfl rfl)
theorem dX1_harvest_12 : decode cX1_harvest 12 = .ok (.aload_n 0, 1) := dk_42 (dk_at dksX1_harvest_0 12 rfl rfl)
theorem dX1_harvest_13 : decode cX1_harvest 13 = .ok (.invokevirtual 122, 3) := dk_182 0 122 (dk_at dksX1_harvest_0 13 rfl rfl)
theorem dX1_harvest_16 : decode cX1_harvest 16 = .ok (.iload_n 1, 1) := dk_27 (dk_at dksX1_harvest_0 16 rfl rfl)
theorem dX1_harvest_17 : decode cX1_harvest 17 = .ok (.invokevirtual 235, 3) := dk_182 0 235 (dk_at dksX1_harvest_0 17 rfl rfl)
theorem dX1_harvest_20 : decode cX1_harvest 20 = .ok (.invokestatic 197, 3) := dk_184 0 197 (dk_at dksX1_harvest_0 20 rfl rfl)
theorem dX1_harvest_23 : decode cX1_harvest 23 = .ok (.invokevirtual 130, 3) := dk_182 0 130 (dk_at dksX1_harvest_1 0 rfl rfl)
theorem dX1_harvest_26 : decode cX1_harvest 26 = .ok (.ireturn, 1) := dk_172 (dk_at dksX1_harvest_1 3 rfl rfl)
theorem dX1_harvest_27 : decode cX1_harvest 27 = .ok (.astore_n 2, 1) := dk_77 (dk_at dksX1_harvest_1 4 rfl rfl)
theorem dX1_harvest_28 : decode cX1_harvest 28 = .ok (.aload_n 0, 1) := dk_42 (dk_at dksX1_harvest_1 5 rfl rfl)
theorem dX1_harvest_29 : decode cX1_harvest 29 = .ok (.aload_n 2, 1) := dk_44 (dk_at dksX1_harvest_1 6 rfl rfl)
theorem dX1_harvest_30 : decode cX1_harvest 30 = .ok (.invokevirtual 134, 3) := dk_182 0 134 (dk_at dksX1_harvest_1 7 rfl rfl)
theorem dX1_harvest_33 : decode cX1_harvest 33 = .ok (.athrow, 1) := dk_191 (dk_at dksX1_harvest_1 10 rfl rfl)
abbrev cX1_prize : ByteArray := prog_1_method_33_code
def yX1_prize : MethodName := ⟨RX1, "prize", "(II)I"⟩
def dkwX1_prize_3 : List UInt8 := [167, 0, 7, 45, 180, 0, 253, 172]
abbrev dktX1_prize_3 : List UInt8 := dkwX1_prize_3 ++ []
def dkwX1_prize_2 : List UInt8 := [28, 4, 160, 0, 10, 45, 180, 0, 250, 167, 0, 22, 28, 5, 160, 0, 13, 45, 180, 0, 252, 184, 0, 197]
abbrev dktX1_prize_2 : List UInt8 := dkwX1_prize_2 ++ dktX1_prize_3
def dkwX1_prize_1 : List UInt8 := [184, 0, 113, 42, 180, 0, 21, 180, 0, 242, 27, 50, 78, 28, 154, 0, 10, 45, 180, 0, 246, 167, 0, 34]
abbrev dktX1_prize_1 : List UInt8 := dkwX1_prize_1 ++ dktX1_prize_2
def dkwX1_prize_0 : List UInt8 := [27, 3, 42, 180, 0, 21, 180, 0, 239, 4, 100, 184, 0, 3, 184, 0, 94, 28, 3, 6, 184, 0, 3]
abbrev dktX1_prize_0 : List UInt8 := dkwX1_prize_0 ++ dktX1_prize_1
theorem dksX1_prize_0 : cX1_prize.data.toList.drop 0 = dktX1_prize_0 := by decide +kernel
theorem dksX1_prize_1 : cX1_prize.data.toList.drop 23 = dktX1_prize_1 := dk_seg dksX1_prize_0 23 rfl rfl
theorem dksX1_prize_2 : cX1_prize.data.toList.drop 47 = dktX1_prize_2 := dk_seg dksX1_prize_1 24 rfl rfl
theorem dksX1_prize_3 : cX1_prize.data.toList.drop 71 = dktX1_prize_3 := dk_seg dksX1_prize_2 24 rfl rfl
theorem dX1_prize_0 : decode cX1_prize 0 = .ok (.iload_n 1, 1) := dk_27 (dk_at dksX1_prize_0 0 rfl rfl)
theorem dX1_prize_1 : decode cX1_prize 1 = .ok (.iconst 0, 1) := dk_3 (dk_at dksX1_prize_0 1 rfl rfl)
theorem dX1_prize_2 : decode cX1_prize 2 = .ok (.aload_n 0, 1) := dk_42 (dk_at dksX1_prize_0 2 rfl rfl)
theorem dX1_prize_3 : decode cX1_prize 3 = .ok (.getfield 21, 3) := dk_180 0 21 (dk_at dksX1_prize_0 3 rfl rfl)
theorem dX1_prize_6 : decode cX1_prize 6 = .ok (.getfield 239, 3) := dk_180 0 239 (dk_at dksX1_prize_0 6 rfl rfl)
theorem dX1_prize_9 : decode cX1_prize 9 = .ok (.iconst 1, 1) := dk_4 (dk_at dksX1_prize_0 9 rfl rfl)
theorem dX1_prize_10 : decode cX1_prize 10 = .ok (.isub, 1) := dk_100 (dk_at dksX1_prize_0 10 rfl rfl)
theorem dX1_prize_11 : decode cX1_prize 11 = .ok (.invokestatic 3, 3) := dk_184 0 3 (dk_at dksX1_prize_0 11 rfl rfl)
theorem dX1_prize_14 : decode cX1_prize 14 = .ok (.invokestatic 94, 3) := dk_184 0 94 (dk_at dksX1_prize_0 14 rfl rfl)
theorem dX1_prize_17 : decode cX1_prize 17 = .ok (.iload_n 2, 1) := dk_28 (dk_at dksX1_prize_0 17 rfl rfl)
theorem dX1_prize_18 : decode cX1_prize 18 = .ok (.iconst 0, 1) := dk_3 (dk_at dksX1_prize_0 18 rfl rfl)
theorem dX1_prize_19 : decode cX1_prize 19 = .ok (.iconst 3, 1) := dk_6 (dk_at dksX1_prize_0 19 rfl rfl)
theorem dX1_prize_20 : decode cX1_prize 20 = .ok (.invokestatic 3, 3) := dk_184 0 3 (dk_at dksX1_prize_0 20 rfl rfl)
theorem dX1_prize_23 : decode cX1_prize 23 = .ok (.invokestatic 113, 3) := dk_184 0 113 (dk_at dksX1_prize_1 0 rfl rfl)
theorem dX1_prize_26 : decode cX1_prize 26 = .ok (.aload_n 0, 1) := dk_42 (dk_at dksX1_prize_1 3 rfl rfl)
theorem dX1_prize_27 : decode cX1_prize 27 = .ok (.getfield 21, 3) := dk_180 0 21 (dk_at dksX1_prize_1 4 rfl rfl)
theorem dX1_prize_30 : decode cX1_prize 30 = .ok (.getfield 242, 3) := dk_180 0 242 (dk_at dksX1_prize_1 7 rfl rfl)
theorem dX1_prize_33 : decode cX1_prize 33 = .ok (.iload_n 1, 1) := dk_27 (dk_at dksX1_prize_1 10 rfl rfl)
theorem dX1_prize_34 : decode cX1_prize 34 = .ok (.aaload, 1) := dk_50 (dk_at dksX1_prize_1 11 rfl rfl)
theorem dX1_prize_35 : decode cX1_prize 35 = .ok (.astore_n 3, 1) := dk_78 (dk_at dksX1_prize_1 12 rfl rfl)
theorem dX1_prize_36 : decode cX1_prize 36 = .ok (.iload_n 2, 1) := dk_28 (dk_at dksX1_prize_1 13 rfl rfl)
theorem dX1_prize_37 : decode cX1_prize 37 = .ok (.ifCond .ne 10, 3) := dk_154 0 10 (dk_at dksX1_prize_1 14 rfl rfl)
theorem dX1_prize_40 : decode cX1_prize 40 = .ok (.aload_n 3, 1) := dk_45 (dk_at dksX1_prize_1 17 rfl rfl)
theorem dX1_prize_41 : decode cX1_prize 41 = .ok (.getfield 246, 3) := dk_180 0 246 (dk_at dksX1_prize_1 18 rfl rfl)
theorem dX1_prize_44 : decode cX1_prize 44 = .ok (.goto 34, 3) := dk_167 0 34 (dk_at dksX1_prize_1 21 rfl rfl)
theorem dX1_prize_47 : decode cX1_prize 47 = .ok (.iload_n 2, 1) := dk_28 (dk_at dksX1_prize_2 0 rfl rfl)
theorem dX1_prize_48 : decode cX1_prize 48 = .ok (.iconst 1, 1) := dk_4 (dk_at dksX1_prize_2 1 rfl rfl)
theorem dX1_prize_49 : decode cX1_prize 49 = .ok (.if_icmp .ne 10, 3) := dk_160 0 10 (dk_at dksX1_prize_2 2 rfl rfl)
theorem dX1_prize_52 : decode cX1_prize 52 = .ok (.aload_n 3, 1) := dk_45 (dk_at dksX1_prize_2 5 rfl rfl)
theorem dX1_prize_53 : decode cX1_prize 53 = .ok (.getfield 250, 3) := dk_180 0 250 (dk_at dksX1_prize_2 6 rfl rfl)
theorem dX1_prize_56 : decode cX1_prize 56 = .ok (.goto 22, 3) := dk_167 0 22 (dk_at dksX1_prize_2 9 rfl rfl)
theorem dX1_prize_59 : decode cX1_prize 59 = .ok (.iload_n 2, 1) := dk_28 (dk_at dksX1_prize_2 12 rfl rfl)
theorem dX1_prize_60 : decode cX1_prize 60 = .ok (.iconst 2, 1) := dk_5 (dk_at dksX1_prize_2 13 rfl rfl)
theorem dX1_prize_61 : decode cX1_prize 61 = .ok (.if_icmp .ne 13, 3) := dk_160 0 13 (dk_at dksX1_prize_2 14 rfl rfl)
theorem dX1_prize_64 : decode cX1_prize 64 = .ok (.aload_n 3, 1) := dk_45 (dk_at dksX1_prize_2 17 rfl rfl)
theorem dX1_prize_65 : decode cX1_prize 65 = .ok (.getfield 252, 3) := dk_180 0 252 (dk_at dksX1_prize_2 18 rfl rfl)
theorem dX1_prize_68 : decode cX1_prize 68 = .ok (.invokestatic 197, 3) := dk_184 0 197 (dk_at dksX1_prize_2 21 rfl rfl)
theorem dX1_prize_71 : decode cX1_prize 71 = .ok (.goto 7, 3) := dk_167 0 7 (dk_at dksX1_prize_3 0 rfl rfl)
theorem dX1_prize_74 : decode cX1_prize 74 = .ok (.aload_n 3, 1) := dk_45 (dk_at dksX1_prize_3 3 rfl rfl)
theorem dX1_prize_75 : decode cX1_prize 75 = .ok (.getfield 253, 3) := dk_180 0 253 (dk_at dksX1_prize_3 4 rfl rfl)
theorem dX1_prize_78 : decode cX1_prize 78 = .ok (.ireturn, 1) := dk_172 (dk_at dksX1_prize_3 7 rfl rfl)
abbrev cX1_shed : ByteArray := prog_1_method_34_code
def yX1_shed : MethodName := ⟨RX1, "shed", "(I)I"⟩
def dkwX1_shed_1 : List UInt8 := [182, 0, 134, 191]
abbrev dktX1_shed_1 : List UInt8 := dkwX1_shed_1 ++ []
def dkwX1_shed_0 : List UInt8 := [27, 184, 0, 142, 184, 0, 145, 42, 42, 182, 0, 122, 27, 182, 0, 254, 182, 0, 130, 172, 77, 42, 44]
abbrev dktX1_shed_0 : List UInt8 := dkwX1_shed_0 ++ dktX1_shed_1
theorem dksX1_shed_0 : cX1_shed.data.toList.drop 0 = dktX1_shed_0 := by decide +kernel
theorem dksX1_shed_1 : cX1_shed.data.toList.drop 23 = dktX1_shed_1 := dk_seg dksX1_shed_0 23 rfl rfl
theorem dX1_shed_0 : decode cX1_shed 0 = .ok (.iload_n 1, 1) := dk_27 (dk_at dksX1_shed_0 0 rfl rfl)
theorem dX1_shed_1 : decode cX1_shed 1 = .ok (.invokestatic 142, 3) := dk_184 0 142 (dk_at dksX1_shed_0 1 rfl rfl)
theorem dX1_shed_4 : decode cX1_shed 4 = .ok (.invokestatic 145, 3) := dk_184 0 145 (dk_at dksX1_shed_0 4 rfl rfl)
theorem dX1_shed_7 : decode cX1_shed 7 = .ok (.aload_n 0, 1) := dk_42 (dk_at dksX1_shed_0 7 rfl rfl)
theorem dX1_shed_8 : decode cX1_shed 8 = .ok (.aload_n 0, 1) := dk_42 (dk_at dksX1_shed_0 8 rfl rfl)
theorem dX1_shed_9 : decode cX1_shed 9 = .ok (.invokevirtual 122, 3) := dk_182 0 122 (dk_at dksX1_shed_0 9 rfl rfl)
theorem dX1_shed_12 : decode cX1_shed 12 = .ok (.iload_n 1, 1) := dk_27 (dk_at dksX1_shed_0 12 rfl rfl)
theorem dX1_shed_13 : decode cX1_shed 13 = .ok (.invokevirtual 254, 3) := dk_182 0 254 (dk_at dksX1_shed_0 13 rfl rfl)
theorem dX1_shed_16 : decode cX1_shed 16 = .ok (.invokevirtual 130, 3) := dk_182 0 130 (dk_at dksX1_shed_0 16 rfl rfl)
theorem dX1_shed_19 : decode cX1_shed 19 = .ok (.ireturn, 1) := dk_172 (dk_at dksX1_shed_0 19 rfl rfl)
theorem dX1_shed_20 : decode cX1_shed 20 = .ok (.astore_n 2, 1) := dk_77 (dk_at dksX1_shed_0 20 rfl rfl)
theorem dX1_shed_21 : decode cX1_shed 21 = .ok (.aload_n 0, 1) := dk_42 (dk_at dksX1_shed_0 21 rfl rfl)
theorem dX1_shed_22 : decode cX1_shed 22 = .ok (.aload_n 2, 1) := dk_44 (dk_at dksX1_shed_0 22 rfl rfl)
theorem dX1_shed_23 : decode cX1_shed 23 = .ok (.invokevirtual 134, 3) := dk_182 0 134 (dk_at dksX1_shed_1 0 rfl rfl)
theorem dX1_shed_26 : decode cX1_shed 26 = .ok (.athrow, 1) := dk_191 (dk_at dksX1_shed_1 3 rfl rfl)
abbrev cX1_rope : ByteArray := prog_1_method_35_code
def yX1_rope : MethodName := ⟨RX1, "rope", "(I)I"⟩
def dkwX1_rope_1 : List UInt8 := [77, 42, 44, 182, 0, 134, 191]
abbrev dktX1_rope_1 : List UInt8 := dkwX1_rope_1 ++ []
def dkwX1_rope_0 : List UInt8 := [42, 180, 0, 21, 27, 182, 1, 1, 184, 0, 145, 42, 42, 182, 0, 122, 27, 182, 1, 4, 182, 0, 130, 172]
abbrev dktX1_rope_0 : List UInt8 := dkwX1_rope_0 ++ dktX1_rope_1
theorem dksX1_rope_0 : cX1_rope.data.toList.drop 0 = dktX1_rope_0 := by decide +kernel
theorem dksX1_rope_1 : cX1_rope.data.toList.drop 24 = dktX1_rope_1 := dk_seg dksX1_rope_0 24 rfl rfl
theorem dX1_rope_0 : decode cX1_rope 0 = .ok (.aload_n 0, 1) := dk_42 (dk_at dksX1_rope_0 0 rfl rfl)
theorem dX1_rope_1 : decode cX1_rope 1 = .ok (.getfield 21, 3) := dk_180 0 21 (dk_at dksX1_rope_0 1 rfl rfl)
theorem dX1_rope_4 : decode cX1_rope 4 = .ok (.iload_n 1, 1) := dk_27 (dk_at dksX1_rope_0 4 rfl rfl)
theorem dX1_rope_5 : decode cX1_rope 5 = .ok (.invokevirtual 257, 3) := dk_182 1 1 (dk_at dksX1_rope_0 5 rfl rfl)
theorem dX1_rope_8 : decode cX1_rope 8 = .ok (.invokestatic 145, 3) := dk_184 0 145 (dk_at dksX1_rope_0 8 rfl rfl)
theorem dX1_rope_11 : decode cX1_rope 11 = .ok (.aload_n 0, 1) := dk_42 (dk_at dksX1_rope_0 11 rfl rfl)
theorem dX1_rope_12 : decode cX1_rope 12 = .ok (.aload_n 0, 1) := dk_42 (dk_at dksX1_rope_0 12 rfl rfl)
theorem dX1_rope_13 : decode cX1_rope 13 = .ok (.invokevirtual 122, 3) := dk_182 0 122 (dk_at dksX1_rope_0 13 rfl rfl)
theorem dX1_rope_16 : decode cX1_rope 16 = .ok (.iload_n 1, 1) := dk_27 (dk_at dksX1_rope_0 16 rfl rfl)
theorem dX1_rope_17 : decode cX1_rope 17 = .ok (.invokevirtual 260, 3) := dk_182 1 4 (dk_at dksX1_rope_0 17 rfl rfl)
theorem dX1_rope_20 : decode cX1_rope 20 = .ok (.invokevirtual 130, 3) := dk_182 0 130 (dk_at dksX1_rope_0 20 rfl rfl)
theorem dX1_rope_23 : decode cX1_rope 23 = .ok (.ireturn, 1) := dk_172 (dk_at dksX1_rope_0 23 rfl rfl)
theorem dX1_rope_24 : decode cX1_rope 24 = .ok (.astore_n 2, 1) := dk_77 (dk_at dksX1_rope_1 0 rfl rfl)
theorem dX1_rope_25 : decode cX1_rope 25 = .ok (.aload_n 0, 1) := dk_42 (dk_at dksX1_rope_1 1 rfl rfl)
theorem dX1_rope_26 : decode cX1_rope 26 = .ok (.aload_n 2, 1) := dk_44 (dk_at dksX1_rope_1 2 rfl rfl)
theorem dX1_rope_27 : decode cX1_rope 27 = .ok (.invokevirtual 134, 3) := dk_182 0 134 (dk_at dksX1_rope_1 3 rfl rfl)
theorem dX1_rope_30 : decode cX1_rope 30 = .ok (.athrow, 1) := dk_191 (dk_at dksX1_rope_1 6 rfl rfl)
abbrev cX1_shedOf : ByteArray := prog_1_method_36_code
def yX1_shedOf : MethodName := ⟨RX1, "shedOf", "(II)I"⟩
def dkwX1_shedOf_4 : List UInt8 := [180, 0, 21, 27, 182, 1, 21, 172]
abbrev dktX1_shedOf_4 : List UInt8 := dkwX1_shedOf_4 ++ []
def dkwX1_shedOf_3 : List UInt8 := [45, 180, 1, 11, 172, 45, 180, 1, 14, 172, 45, 180, 1, 17, 153, 0, 7, 4, 167, 0, 4, 3, 172, 42]
abbrev dktX1_shedOf_3 : List UInt8 := dkwX1_shedOf_3 ++ dktX1_shedOf_4
def dkwX1_shedOf_2 : List UInt8 := [170, 0, 0, 0, 48, 0, 0, 0, 0, 0, 0, 0, 2, 0, 0, 0, 25, 0, 0, 0, 30, 0, 0, 0, 35]
abbrev dktX1_shedOf_2 : List UInt8 := dkwX1_shedOf_2 ++ dktX1_shedOf_3
def dkwX1_shedOf_1 : List UInt8 := [180, 1, 7, 27, 50, 78, 28]
abbrev dktX1_shedOf_1 : List UInt8 := dkwX1_shedOf_1 ++ dktX1_shedOf_2
def dkwX1_shedOf_0 : List UInt8 := [42, 180, 0, 21, 27, 182, 1, 1, 184, 0, 145, 28, 3, 6, 184, 0, 3, 184, 0, 113, 42, 180, 0, 21]
abbrev dktX1_shedOf_0 : List UInt8 := dkwX1_shedOf_0 ++ dktX1_shedOf_1
theorem dksX1_shedOf_0 : cX1_shedOf.data.toList.drop 0 = dktX1_shedOf_0 := by decide +kernel
theorem dksX1_shedOf_1 : cX1_shedOf.data.toList.drop 24 = dktX1_shedOf_1 := dk_seg dksX1_shedOf_0 24 rfl rfl
theorem dksX1_shedOf_2 : cX1_shedOf.data.toList.drop 31 = dktX1_shedOf_2 := dk_seg dksX1_shedOf_1 7 rfl rfl
theorem dksX1_shedOf_3 : cX1_shedOf.data.toList.drop 56 = dktX1_shedOf_3 := dk_seg dksX1_shedOf_2 25 rfl rfl
theorem dksX1_shedOf_4 : cX1_shedOf.data.toList.drop 80 = dktX1_shedOf_4 := dk_seg dksX1_shedOf_3 24 rfl rfl
theorem dX1_shedOf_0 : decode cX1_shedOf 0 = .ok (.aload_n 0, 1) := dk_42 (dk_at dksX1_shedOf_0 0 rfl rfl)
theorem dX1_shedOf_1 : decode cX1_shedOf 1 = .ok (.getfield 21, 3) := dk_180 0 21 (dk_at dksX1_shedOf_0 1 rfl rfl)
theorem dX1_shedOf_4 : decode cX1_shedOf 4 = .ok (.iload_n 1, 1) := dk_27 (dk_at dksX1_shedOf_0 4 rfl rfl)
theorem dX1_shedOf_5 : decode cX1_shedOf 5 = .ok (.invokevirtual 257, 3) := dk_182 1 1 (dk_at dksX1_shedOf_0 5 rfl rfl)
theorem dX1_shedOf_8 : decode cX1_shedOf 8 = .ok (.invokestatic 145, 3) := dk_184 0 145 (dk_at dksX1_shedOf_0 8 rfl rfl)
theorem dX1_shedOf_11 : decode cX1_shedOf 11 = .ok (.iload_n 2, 1) := dk_28 (dk_at dksX1_shedOf_0 11 rfl rfl)
theorem dX1_shedOf_12 : decode cX1_shedOf 12 = .ok (.iconst 0, 1) := dk_3 (dk_at dksX1_shedOf_0 12 rfl rfl)
theorem dX1_shedOf_13 : decode cX1_shedOf 13 = .ok (.iconst 3, 1) := dk_6 (dk_at dksX1_shedOf_0 13 rfl rfl)
theorem dX1_shedOf_14 : decode cX1_shedOf 14 = .ok (.invokestatic 3, 3) := dk_184 0 3 (dk_at dksX1_shedOf_0 14 rfl rfl)
theorem dX1_shedOf_17 : decode cX1_shedOf 17 = .ok (.invokestatic 113, 3) := dk_184 0 113 (dk_at dksX1_shedOf_0 17 rfl rfl)
theorem dX1_shedOf_20 : decode cX1_shedOf 20 = .ok (.aload_n 0, 1) := dk_42 (dk_at dksX1_shedOf_0 20 rfl rfl)
theorem dX1_shedOf_21 : decode cX1_shedOf 21 = .ok (.getfield 21, 3) := dk_180 0 21 (dk_at dksX1_shedOf_0 21 rfl rfl)
theorem dX1_shedOf_24 : decode cX1_shedOf 24 = .ok (.getfield 263, 3) := dk_180 1 7 (dk_at dksX1_shedOf_1 0 rfl rfl)
theorem dX1_shedOf_27 : decode cX1_shedOf 27 = .ok (.iload_n 1, 1) := dk_27 (dk_at dksX1_shedOf_1 3 rfl rfl)
theorem dX1_shedOf_28 : decode cX1_shedOf 28 = .ok (.aaload, 1) := dk_50 (dk_at dksX1_shedOf_1 4 rfl rfl)
theorem dX1_shedOf_29 : decode cX1_shedOf 29 = .ok (.astore_n 3, 1) := dk_78 (dk_at dksX1_shedOf_1 5 rfl rfl)
theorem dX1_shedOf_30 : decode cX1_shedOf 30 = .ok (.iload_n 2, 1) := dk_28 (dk_at dksX1_shedOf_1 6 rfl rfl)
theorem dX1_shedOf_31 : decode cX1_shedOf 31 = .ok (.tableswitch 48 0 2 #[25, 30, 35], 25) := by decide +kernel
theorem dX1_shedOf_56 : decode cX1_shedOf 56 = .ok (.aload_n 3, 1) := dk_45 (dk_at dksX1_shedOf_3 0 rfl rfl)
theorem dX1_shedOf_57 : decode cX1_shedOf 57 = .ok (.getfield 267, 3) := dk_180 1 11 (dk_at dksX1_shedOf_3 1 rfl rfl)
theorem dX1_shedOf_60 : decode cX1_shedOf 60 = .ok (.ireturn, 1) := dk_172 (dk_at dksX1_shedOf_3 4 rfl rfl)
theorem dX1_shedOf_61 : decode cX1_shedOf 61 = .ok (.aload_n 3, 1) := dk_45 (dk_at dksX1_shedOf_3 5 rfl rfl)
theorem dX1_shedOf_62 : decode cX1_shedOf 62 = .ok (.getfield 270, 3) := dk_180 1 14 (dk_at dksX1_shedOf_3 6 rfl rfl)
theorem dX1_shedOf_65 : decode cX1_shedOf 65 = .ok (.ireturn, 1) := dk_172 (dk_at dksX1_shedOf_3 9 rfl rfl)
theorem dX1_shedOf_66 : decode cX1_shedOf 66 = .ok (.aload_n 3, 1) := dk_45 (dk_at dksX1_shedOf_3 10 rfl rfl)
theorem dX1_shedOf_67 : decode cX1_shedOf 67 = .ok (.getfield 273, 3) := dk_180 1 17 (dk_at dksX1_shedOf_3 11 rfl rfl)
theorem dX1_shedOf_70 : decode cX1_shedOf 70 = .ok (.ifCond .eq 7, 3) := dk_153 0 7 (dk_at dksX1_shedOf_3 14 rfl rfl)
theorem dX1_shedOf_73 : decode cX1_shedOf 73 = .ok (.iconst 1, 1) := dk_4 (dk_at dksX1_shedOf_3 17 rfl rfl)
theorem dX1_shedOf_74 : decode cX1_shedOf 74 = .ok (.goto 4, 3) := dk_167 0 4 (dk_at dksX1_shedOf_3 18 rfl rfl)
theorem dX1_shedOf_77 : decode cX1_shedOf 77 = .ok (.iconst 0, 1) := dk_3 (dk_at dksX1_shedOf_3 21 rfl rfl)
theorem dX1_shedOf_78 : decode cX1_shedOf 78 = .ok (.ireturn, 1) := dk_172 (dk_at dksX1_shedOf_3 22 rfl rfl)
theorem dX1_shedOf_79 : decode cX1_shedOf 79 = .ok (.aload_n 0, 1) := dk_42 (dk_at dksX1_shedOf_3 23 rfl rfl)
theorem dX1_shedOf_80 : decode cX1_shedOf 80 = .ok (.getfield 21, 3) := dk_180 0 21 (dk_at dksX1_shedOf_4 0 rfl rfl)
theorem dX1_shedOf_83 : decode cX1_shedOf 83 = .ok (.iload_n 1, 1) := dk_27 (dk_at dksX1_shedOf_4 3 rfl rfl)
theorem dX1_shedOf_84 : decode cX1_shedOf 84 = .ok (.invokevirtual 277, 3) := dk_182 1 21 (dk_at dksX1_shedOf_4 4 rfl rfl)
theorem dX1_shedOf_87 : decode cX1_shedOf 87 = .ok (.ireturn, 1) := dk_172 (dk_at dksX1_shedOf_4 7 rfl rfl)
abbrev cX1_butt : ByteArray := prog_1_method_37_code
def yX1_butt : MethodName := ⟨RX1, "butt", "(I)F"⟩
def dkwX1_butt_0 : List UInt8 := [42, 180, 0, 21, 27, 182, 1, 1, 184, 0, 145, 42, 180, 0, 21, 180, 1, 7, 27, 50, 180, 1, 24, 174]
abbrev dktX1_butt_0 : List UInt8 := dkwX1_butt_0 ++ []
theorem dksX1_butt_0 : cX1_butt.data.toList.drop 0 = dktX1_butt_0 := by decide +kernel
theorem dX1_butt_0 : decode cX1_butt 0 = .ok (.aload_n 0, 1) := dk_42 (dk_at dksX1_butt_0 0 rfl rfl)
theorem dX1_butt_1 : decode cX1_butt 1 = .ok (.getfield 21, 3) := dk_180 0 21 (dk_at dksX1_butt_0 1 rfl rfl)
theorem dX1_butt_4 : decode cX1_butt 4 = .ok (.iload_n 1, 1) := dk_27 (dk_at dksX1_butt_0 4 rfl rfl)
theorem dX1_butt_5 : decode cX1_butt 5 = .ok (.invokevirtual 257, 3) := dk_182 1 1 (dk_at dksX1_butt_0 5 rfl rfl)
theorem dX1_butt_8 : decode cX1_butt 8 = .ok (.invokestatic 145, 3) := dk_184 0 145 (dk_at dksX1_butt_0 8 rfl rfl)
theorem dX1_butt_11 : decode cX1_butt 11 = .ok (.aload_n 0, 1) := dk_42 (dk_at dksX1_butt_0 11 rfl rfl)
theorem dX1_butt_12 : decode cX1_butt 12 = .ok (.getfield 21, 3) := dk_180 0 21 (dk_at dksX1_butt_0 12 rfl rfl)
theorem dX1_butt_15 : decode cX1_butt 15 = .ok (.getfield 263, 3) := dk_180 1 7 (dk_at dksX1_butt_0 15 rfl rfl)
theorem dX1_butt_18 : decode cX1_butt 18 = .ok (.iload_n 1, 1) := dk_27 (dk_at dksX1_butt_0 18 rfl rfl)
theorem dX1_butt_19 : decode cX1_butt 19 = .ok (.aaload, 1) := dk_50 (dk_at dksX1_butt_0 19 rfl rfl)
theorem dX1_butt_20 : decode cX1_butt 20 = .ok (.getfield 280, 3) := dk_180 1 24 (dk_at dksX1_butt_0 20 rfl rfl)
theorem dX1_butt_23 : decode cX1_butt 23 = .ok (.freturn, 1) := dk_174 (dk_at dksX1_butt_0 23 rfl rfl)
abbrev cX1_pour : ByteArray := prog_1_method_38_code
def yX1_pour : MethodName := ⟨RX1, "pour", "(III)I"⟩
def dkwX1_pour_2 : List UInt8 := [184, 0, 197, 182, 0, 130, 172, 58, 4, 42, 25, 4, 182, 0, 134, 191]
abbrev dktX1_pour_2 : List UInt8 := dkwX1_pour_2 ++ []
def dkwX1_pour_1 : List UInt8 := [184, 0, 145, 29, 4, 16, 90, 184, 0, 3, 184, 0, 113, 42, 42, 182, 0, 122, 27, 28, 29, 182, 1, 27]
abbrev dktX1_pour_1 : List UInt8 := dkwX1_pour_1 ++ dktX1_pour_2
def dkwX1_pour_0 : List UInt8 := [42, 180, 0, 21, 27, 182, 1, 1, 153, 0, 14, 28, 184, 0, 142, 153, 0, 7, 4, 167, 0, 4, 3]
abbrev dktX1_pour_0 : List UInt8 := dkwX1_pour_0 ++ dktX1_pour_1
theorem dksX1_pour_0 : cX1_pour.data.toList.drop 0 = dktX1_pour_0 := by decide +kernel
theorem dksX1_pour_1 : cX1_pour.data.toList.drop 23 = dktX1_pour_1 := dk_seg dksX1_pour_0 23 rfl rfl
theorem dksX1_pour_2 : cX1_pour.data.toList.drop 47 = dktX1_pour_2 := dk_seg dksX1_pour_1 24 rfl rfl
theorem dX1_pour_0 : decode cX1_pour 0 = .ok (.aload_n 0, 1) := dk_42 (dk_at dksX1_pour_0 0 rfl rfl)
theorem dX1_pour_1 : decode cX1_pour 1 = .ok (.getfield 21, 3) := dk_180 0 21 (dk_at dksX1_pour_0 1 rfl rfl)
theorem dX1_pour_4 : decode cX1_pour 4 = .ok (.iload_n 1, 1) := dk_27 (dk_at dksX1_pour_0 4 rfl rfl)
theorem dX1_pour_5 : decode cX1_pour 5 = .ok (.invokevirtual 257, 3) := dk_182 1 1 (dk_at dksX1_pour_0 5 rfl rfl)
theorem dX1_pour_8 : decode cX1_pour 8 = .ok (.ifCond .eq 14, 3) := dk_153 0 14 (dk_at dksX1_pour_0 8 rfl rfl)
theorem dX1_pour_11 : decode cX1_pour 11 = .ok (.iload_n 2, 1) := dk_28 (dk_at dksX1_pour_0 11 rfl rfl)
theorem dX1_pour_12 : decode cX1_pour 12 = .ok (.invokestatic 142, 3) := dk_184 0 142 (dk_at dksX1_pour_0 12 rfl rfl)
theorem dX1_pour_15 : decode cX1_pour 15 = .ok (.ifCond .eq 7, 3) := dk_153 0 7 (dk_at dksX1_pour_0 15 rfl rfl)
theorem dX1_pour_18 : decode cX1_pour 18 = .ok (.iconst 1, 1) := dk_4 (dk_at dksX1_pour_0 18 rfl rfl)
theorem dX1_pour_19 : decode cX1_pour 19 = .ok (.goto 4, 3) := dk_167 0 4 (dk_at dksX1_pour_0 19 rfl rfl)
theorem dX1_pour_22 : decode cX1_pour 22 = .ok (.iconst 0, 1) := dk_3 (dk_at dksX1_pour_0 22 rfl rfl)
theorem dX1_pour_23 : decode cX1_pour 23 = .ok (.invokestatic 145, 3) := dk_184 0 145 (dk_at dksX1_pour_1 0 rfl rfl)
theorem dX1_pour_26 : decode cX1_pour 26 = .ok (.iload_n 3, 1) := dk_29 (dk_at dksX1_pour_1 3 rfl rfl)
theorem dX1_pour_27 : decode cX1_pour 27 = .ok (.iconst 1, 1) := dk_4 (dk_at dksX1_pour_1 4 rfl rfl)
theorem dX1_pour_28 : decode cX1_pour 28 = .ok (.bipush 90, 2) := dk_16 90 (dk_at dksX1_pour_1 5 rfl rfl)
theorem dX1_pour_30 : decode cX1_pour 30 = .ok (.invokestatic 3, 3) := dk_184 0 3 (dk_at dksX1_pour_1 7 rfl rfl)
theorem dX1_pour_33 : decode cX1_pour 33 = .ok (.invokestatic 113, 3) := dk_184 0 113 (dk_at dksX1_pour_1 10 rfl rfl)
theorem dX1_pour_36 : decode cX1_pour 36 = .ok (.aload_n 0, 1) := dk_42 (dk_at dksX1_pour_1 13 rfl rfl)
theorem dX1_pour_37 : decode cX1_pour 37 = .ok (.aload_n 0, 1) := dk_42 (dk_at dksX1_pour_1 14 rfl rfl)
theorem dX1_pour_38 : decode cX1_pour 38 = .ok (.invokevirtual 122, 3) := dk_182 0 122 (dk_at dksX1_pour_1 15 rfl rfl)
theorem dX1_pour_41 : decode cX1_pour 41 = .ok (.iload_n 1, 1) := dk_27 (dk_at dksX1_pour_1 18 rfl rfl)
theorem dX1_pour_42 : decode cX1_pour 42 = .ok (.iload_n 2, 1) := dk_28 (dk_at dksX1_pour_1 19 rfl rfl)
theorem dX1_pour_43 : decode cX1_pour 43 = .ok (.iload_n 3, 1) := dk_29 (dk_at dksX1_pour_1 20 rfl rfl)
theorem dX1_pour_44 : decode cX1_pour 44 = .ok (.invokevirtual 283, 3) := dk_182 1 27 (dk_at dksX1_pour_1 21 rfl rfl)
theorem dX1_pour_47 : decode cX1_pour 47 = .ok (.invokestatic 197, 3) := dk_184 0 197 (dk_at dksX1_pour_2 0 rfl rfl)
theorem dX1_pour_50 : decode cX1_pour 50 = .ok (.invokevirtual 130, 3) := dk_182 0 130 (dk_at dksX1_pour_2 3 rfl rfl)
theorem dX1_pour_53 : decode cX1_pour 53 = .ok (.ireturn, 1) := dk_172 (dk_at dksX1_pour_2 6 rfl rfl)
theorem dX1_pour_54 : decode cX1_pour 54 = .ok (.astore 4, 2) := dk_58 4 (dk_at dksX1_pour_2 7 rfl rfl)
theorem dX1_pour_56 : decode cX1_pour 56 = .ok (.aload_n 0, 1) := dk_42 (dk_at dksX1_pour_2 9 rfl rfl)
theorem dX1_pour_57 : decode cX1_pour 57 = .ok (.aload 4, 2) := dk_25 4 (dk_at dksX1_pour_2 10 rfl rfl)
theorem dX1_pour_59 : decode cX1_pour 59 = .ok (.invokevirtual 134, 3) := dk_182 0 134 (dk_at dksX1_pour_2 12 rfl rfl)
theorem dX1_pour_62 : decode cX1_pour 62 = .ok (.athrow, 1) := dk_191 (dk_at dksX1_pour_2 15 rfl rfl)
abbrev cX1_moles : ByteArray := prog_1_method_39_code
def yX1_moles : MethodName := ⟨RX1, "moles", "(II)I"⟩
def dkwX1_moles_1 : List UInt8 := [180, 0, 21, 180, 0, 183, 27, 46, 62, 42, 180, 0, 21, 180, 0, 183, 27, 28, 79, 29, 172]
abbrev dktX1_moles_1 : List UInt8 := dkwX1_moles_1 ++ []
def dkwX1_moles_0 : List UInt8 := [27, 184, 0, 142, 184, 0, 145, 28, 3, 16, 9, 184, 0, 3, 184, 0, 113, 42, 182, 0, 110, 42]
abbrev dktX1_moles_0 : List UInt8 := dkwX1_moles_0 ++ dktX1_moles_1
theorem dksX1_moles_0 : cX1_moles.data.toList.drop 0 = dktX1_moles_0 := by decide +kernel
theorem dksX1_moles_1 : cX1_moles.data.toList.drop 22 = dktX1_moles_1 := dk_seg dksX1_moles_0 22 rfl rfl
theorem dX1_moles_0 : decode cX1_moles 0 = .ok (.iload_n 1, 1) := dk_27 (dk_at dksX1_moles_0 0 rfl rfl)
theorem dX1_moles_1 : decode cX1_moles 1 = .ok (.invokestatic 142, 3) := dk_184 0 142 (dk_at dksX1_moles_0 1 rfl rfl)
theorem dX1_moles_4 : decode cX1_moles 4 = .ok (.invokestatic 145, 3) := dk_184 0 145 (dk_at dksX1_moles_0 4 rfl rfl)
theorem dX1_moles_7 : decode cX1_moles 7 = .ok (.iload_n 2, 1) := dk_28 (dk_at dksX1_moles_0 7 rfl rfl)
theorem dX1_moles_8 : decode cX1_moles 8 = .ok (.iconst 0, 1) := dk_3 (dk_at dksX1_moles_0 8 rfl rfl)
theorem dX1_moles_9 : decode cX1_moles 9 = .ok (.bipush 9, 2) := dk_16 9 (dk_at dksX1_moles_0 9 rfl rfl)
theorem dX1_moles_11 : decode cX1_moles 11 = .ok (.invokestatic 3, 3) := dk_184 0 3 (dk_at dksX1_moles_0 11 rfl rfl)
theorem dX1_moles_14 : decode cX1_moles 14 = .ok (.invokestatic 113, 3) := dk_184 0 113 (dk_at dksX1_moles_0 14 rfl rfl)
theorem dX1_moles_17 : decode cX1_moles 17 = .ok (.aload_n 0, 1) := dk_42 (dk_at dksX1_moles_0 17 rfl rfl)
theorem dX1_moles_18 : decode cX1_moles 18 = .ok (.invokevirtual 110, 3) := dk_182 0 110 (dk_at dksX1_moles_0 18 rfl rfl)
theorem dX1_moles_21 : decode cX1_moles 21 = .ok (.aload_n 0, 1) := dk_42 (dk_at dksX1_moles_0 21 rfl rfl)
theorem dX1_moles_22 : decode cX1_moles 22 = .ok (.getfield 21, 3) := dk_180 0 21 (dk_at dksX1_moles_1 0 rfl rfl)
theorem dX1_moles_25 : decode cX1_moles 25 = .ok (.getfield 183, 3) := dk_180 0 183 (dk_at dksX1_moles_1 3 rfl rfl)
theorem dX1_moles_28 : decode cX1_moles 28 = .ok (.iload_n 1, 1) := dk_27 (dk_at dksX1_moles_1 6 rfl rfl)
theorem dX1_moles_29 : decode cX1_moles 29 = .ok (.iaload, 1) := dk_46 (dk_at dksX1_moles_1 7 rfl rfl)
theorem dX1_moles_30 : decode cX1_moles 30 = .ok (.istore_n 3, 1) := dk_62 (dk_at dksX1_moles_1 8 rfl rfl)
theorem dX1_moles_31 : decode cX1_moles 31 = .ok (.aload_n 0, 1) := dk_42 (dk_at dksX1_moles_1 9 rfl rfl)
theorem dX1_moles_32 : decode cX1_moles 32 = .ok (.getfield 21, 3) := dk_180 0 21 (dk_at dksX1_moles_1 10 rfl rfl)
theorem dX1_moles_35 : decode cX1_moles 35 = .ok (.getfield 183, 3) := dk_180 0 183 (dk_at dksX1_moles_1 13 rfl rfl)
theorem dX1_moles_38 : decode cX1_moles 38 = .ok (.iload_n 1, 1) := dk_27 (dk_at dksX1_moles_1 16 rfl rfl)
theorem dX1_moles_39 : decode cX1_moles 39 = .ok (.iload_n 2, 1) := dk_28 (dk_at dksX1_moles_1 17 rfl rfl)
theorem dX1_moles_40 : decode cX1_moles 40 = .ok (.iastore, 1) := dk_79 (dk_at dksX1_moles_1 18 rfl rfl)
theorem dX1_moles_41 : decode cX1_moles 41 = .ok (.iload_n 3, 1) := dk_29 (dk_at dksX1_moles_1 19 rfl rfl)
theorem dX1_moles_42 : decode cX1_moles 42 = .ok (.ireturn, 1) := dk_172 (dk_at dksX1_moles_1 20 rfl rfl)
abbrev cX1_vote : ByteArray := prog_1_method_40_code
def yX1_vote : MethodName := ⟨RX1, "vote", "(IZ)I"⟩
def dkwX1_vote_1 : List UInt8 := [172]
abbrev dktX1_vote_1 : List UInt8 := dkwX1_vote_1 ++ []
def dkwX1_vote_0 : List UInt8 := [42, 180, 0, 21, 27, 182, 0, 138, 184, 0, 145, 42, 182, 0, 110, 42, 180, 0, 21, 27, 28, 182, 1, 31]
abbrev dktX1_vote_0 : List UInt8 := dkwX1_vote_0 ++ dktX1_vote_1
theorem dksX1_vote_0 : cX1_vote.data.toList.drop 0 = dktX1_vote_0 := by decide +kernel
theorem dksX1_vote_1 : cX1_vote.data.toList.drop 24 = dktX1_vote_1 := dk_seg dksX1_vote_0 24 rfl rfl
theorem dX1_vote_0 : decode cX1_vote 0 = .ok (.aload_n 0, 1) := dk_42 (dk_at dksX1_vote_0 0 rfl rfl)
theorem dX1_vote_1 : decode cX1_vote 1 = .ok (.getfield 21, 3) := dk_180 0 21 (dk_at dksX1_vote_0 1 rfl rfl)
theorem dX1_vote_4 : decode cX1_vote 4 = .ok (.iload_n 1, 1) := dk_27 (dk_at dksX1_vote_0 4 rfl rfl)
theorem dX1_vote_5 : decode cX1_vote 5 = .ok (.invokevirtual 138, 3) := dk_182 0 138 (dk_at dksX1_vote_0 5 rfl rfl)
theorem dX1_vote_8 : decode cX1_vote 8 = .ok (.invokestatic 145, 3) := dk_184 0 145 (dk_at dksX1_vote_0 8 rfl rfl)
theorem dX1_vote_11 : decode cX1_vote 11 = .ok (.aload_n 0, 1) := dk_42 (dk_at dksX1_vote_0 11 rfl rfl)
theorem dX1_vote_12 : decode cX1_vote 12 = .ok (.invokevirtual 110, 3) := dk_182 0 110 (dk_at dksX1_vote_0 12 rfl rfl)
theorem dX1_vote_15 : decode cX1_vote 15 = .ok (.aload_n 0, 1) := dk_42 (dk_at dksX1_vote_0 15 rfl rfl)
theorem dX1_vote_16 : decode cX1_vote 16 = .ok (.getfield 21, 3) := dk_180 0 21 (dk_at dksX1_vote_0 16 rfl rfl)
theorem dX1_vote_19 : decode cX1_vote 19 = .ok (.iload_n 1, 1) := dk_27 (dk_at dksX1_vote_0 19 rfl rfl)
theorem dX1_vote_20 : decode cX1_vote 20 = .ok (.iload_n 2, 1) := dk_28 (dk_at dksX1_vote_0 20 rfl rfl)
theorem dX1_vote_21 : decode cX1_vote 21 = .ok (.invokevirtual 287, 3) := dk_182 1 31 (dk_at dksX1_vote_0 21 rfl rfl)
theorem dX1_vote_24 : decode cX1_vote 24 = .ok (.ireturn, 1) := dk_172 (dk_at dksX1_vote_1 0 rfl rfl)
abbrev cX1_sign : ByteArray := prog_1_method_42_code
def yX1_sign : MethodName := ⟨RX1, "sign", "(I)C"⟩
def dkwX1_sign_2 : List UInt8 := [42, 180, 0, 21, 180, 0, 170, 27, 46, 2, 159, 0, 8, 16, 100, 167, 0, 5, 16, 46, 172]
abbrev dktX1_sign_2 : List UInt8 := dkwX1_sign_2 ++ []
def dkwX1_sign_1 : List UInt8 := [180, 0, 90, 27, 50, 182, 1, 37, 172, 42, 180, 0, 21, 27, 182, 0, 186, 2, 159, 0, 6, 16, 83, 172]
abbrev dktX1_sign_1 : List UInt8 := dkwX1_sign_1 ++ dktX1_sign_2
def dkwX1_sign_0 : List UInt8 := [27, 184, 0, 142, 184, 0, 145, 42, 180, 0, 21, 180, 0, 90, 27, 50, 198, 0, 16, 42, 180, 0, 21]
abbrev dktX1_sign_0 : List UInt8 := dkwX1_sign_0 ++ dktX1_sign_1
theorem dksX1_sign_0 : cX1_sign.data.toList.drop 0 = dktX1_sign_0 := by decide +kernel
theorem dksX1_sign_1 : cX1_sign.data.toList.drop 23 = dktX1_sign_1 := dk_seg dksX1_sign_0 23 rfl rfl
theorem dksX1_sign_2 : cX1_sign.data.toList.drop 47 = dktX1_sign_2 := dk_seg dksX1_sign_1 24 rfl rfl
theorem dX1_sign_0 : decode cX1_sign 0 = .ok (.iload_n 1, 1) := dk_27 (dk_at dksX1_sign_0 0 rfl rfl)
theorem dX1_sign_1 : decode cX1_sign 1 = .ok (.invokestatic 142, 3) := dk_184 0 142 (dk_at dksX1_sign_0 1 rfl rfl)
theorem dX1_sign_4 : decode cX1_sign 4 = .ok (.invokestatic 145, 3) := dk_184 0 145 (dk_at dksX1_sign_0 4 rfl rfl)
theorem dX1_sign_7 : decode cX1_sign 7 = .ok (.aload_n 0, 1) := dk_42 (dk_at dksX1_sign_0 7 rfl rfl)
theorem dX1_sign_8 : decode cX1_sign 8 = .ok (.getfield 21, 3) := dk_180 0 21 (dk_at dksX1_sign_0 8 rfl rfl)
theorem dX1_sign_11 : decode cX1_sign 11 = .ok (.getfield 90, 3) := dk_180 0 90 (dk_at dksX1_sign_0 11 rfl rfl)
theorem dX1_sign_14 : decode cX1_sign 14 = .ok (.iload_n 1, 1) := dk_27 (dk_at dksX1_sign_0 14 rfl rfl)
theorem dX1_sign_15 : decode cX1_sign 15 = .ok (.aaload, 1) := dk_50 (dk_at dksX1_sign_0 15 rfl rfl)
theorem dX1_sign_16 : decode cX1_sign 16 = .ok (.ifnull 16, 3) := dk_198 0 16 (dk_at dksX1_sign_0 16 rfl rfl)
theorem dX1_sign_19 : decode cX1_sign 19 = .ok (.aload_n 0, 1) := dk_42 (dk_at dksX1_sign_0 19 rfl rfl)
theorem dX1_sign_20 : decode cX1_sign 20 = .ok (.getfield 21, 3) := dk_180 0 21 (dk_at dksX1_sign_0 20 rfl rfl)
theorem dX1_sign_23 : decode cX1_sign 23 = .ok (.getfield 90, 3) := dk_180 0 90 (dk_at dksX1_sign_1 0 rfl rfl)
theorem dX1_sign_26 : decode cX1_sign 26 = .ok (.iload_n 1, 1) := dk_27 (dk_at dksX1_sign_1 3 rfl rfl)
theorem dX1_sign_27 : decode cX1_sign 27 = .ok (.aaload, 1) := dk_50 (dk_at dksX1_sign_1 4 rfl rfl)
theorem dX1_sign_28 : decode cX1_sign 28 = .ok (.invokevirtual 293, 3) := dk_182 1 37 (dk_at dksX1_sign_1 5 rfl rfl)
theorem dX1_sign_31 : decode cX1_sign 31 = .ok (.ireturn, 1) := dk_172 (dk_at dksX1_sign_1 8 rfl rfl)
theorem dX1_sign_32 : decode cX1_sign 32 = .ok (.aload_n 0, 1) := dk_42 (dk_at dksX1_sign_1 9 rfl rfl)
theorem dX1_sign_33 : decode cX1_sign 33 = .ok (.getfield 21, 3) := dk_180 0 21 (dk_at dksX1_sign_1 10 rfl rfl)
theorem dX1_sign_36 : decode cX1_sign 36 = .ok (.iload_n 1, 1) := dk_27 (dk_at dksX1_sign_1 13 rfl rfl)
theorem dX1_sign_37 : decode cX1_sign 37 = .ok (.invokevirtual 186, 3) := dk_182 0 186 (dk_at dksX1_sign_1 14 rfl rfl)
theorem dX1_sign_40 : decode cX1_sign 40 = .ok (.iconst (-1), 1) := dk_2 (dk_at dksX1_sign_1 17 rfl rfl)
theorem dX1_sign_41 : decode cX1_sign 41 = .ok (.if_icmp .eq 6, 3) := dk_159 0 6 (dk_at dksX1_sign_1 18 rfl rfl)
theorem dX1_sign_44 : decode cX1_sign 44 = .ok (.bipush 83, 2) := dk_16 83 (dk_at dksX1_sign_1 21 rfl rfl)
theorem dX1_sign_46 : decode cX1_sign 46 = .ok (.ireturn, 1) := dk_172 (dk_at dksX1_sign_1 23 rfl rfl)
theorem dX1_sign_47 : decode cX1_sign 47 = .ok (.aload_n 0, 1) := dk_42 (dk_at dksX1_sign_2 0 rfl rfl)
theorem dX1_sign_48 : decode cX1_sign 48 = .ok (.getfield 21, 3) := dk_180 0 21 (dk_at dksX1_sign_2 1 rfl rfl)
theorem dX1_sign_51 : decode cX1_sign 51 = .ok (.getfield 170, 3) := dk_180 0 170 (dk_at dksX1_sign_2 4 rfl rfl)
theorem dX1_sign_54 : decode cX1_sign 54 = .ok (.iload_n 1, 1) := dk_27 (dk_at dksX1_sign_2 7 rfl rfl)
theorem dX1_sign_55 : decode cX1_sign 55 = .ok (.iaload, 1) := dk_46 (dk_at dksX1_sign_2 8 rfl rfl)
theorem dX1_sign_56 : decode cX1_sign 56 = .ok (.iconst (-1), 1) := dk_2 (dk_at dksX1_sign_2 9 rfl rfl)
theorem dX1_sign_57 : decode cX1_sign 57 = .ok (.if_icmp .eq 8, 3) := dk_159 0 8 (dk_at dksX1_sign_2 10 rfl rfl)
theorem dX1_sign_60 : decode cX1_sign 60 = .ok (.bipush 100, 2) := dk_16 100 (dk_at dksX1_sign_2 13 rfl rfl)
theorem dX1_sign_62 : decode cX1_sign 62 = .ok (.goto 5, 3) := dk_167 0 5 (dk_at dksX1_sign_2 15 rfl rfl)
theorem dX1_sign_65 : decode cX1_sign 65 = .ok (.bipush 46, 2) := dk_16 46 (dk_at dksX1_sign_2 18 rfl rfl)
theorem dX1_sign_67 : decode cX1_sign 67 = .ok (.ireturn, 1) := dk_172 (dk_at dksX1_sign_2 20 rfl rfl)
abbrev cX1_pass : ByteArray := prog_1_method_43_code
def yX1_pass : MethodName := ⟨RX1, "pass", "(I)I"⟩
def dkwX1_pass_0 : List UInt8 := [27, 4, 16, 60, 184, 0, 3, 184, 0, 113, 42, 182, 0, 110, 42, 180, 0, 21, 27, 182, 0, 203, 172]
abbrev dktX1_pass_0 : List UInt8 := dkwX1_pass_0 ++ []
theorem dksX1_pass_0 : cX1_pass.data.toList.drop 0 = dktX1_pass_0 := by decide +kernel
theorem dX1_pass_0 : decode cX1_pass 0 = .ok (.iload_n 1, 1) := dk_27 (dk_at dksX1_pass_0 0 rfl rfl)
theorem dX1_pass_1 : decode cX1_pass 1 = .ok (.iconst 1, 1) := dk_4 (dk_at dksX1_pass_0 1 rfl rfl)
theorem dX1_pass_2 : decode cX1_pass 2 = .ok (.bipush 60, 2) := dk_16 60 (dk_at dksX1_pass_0 2 rfl rfl)
theorem dX1_pass_4 : decode cX1_pass 4 = .ok (.invokestatic 3, 3) := dk_184 0 3 (dk_at dksX1_pass_0 4 rfl rfl)
theorem dX1_pass_7 : decode cX1_pass 7 = .ok (.invokestatic 113, 3) := dk_184 0 113 (dk_at dksX1_pass_0 7 rfl rfl)
theorem dX1_pass_10 : decode cX1_pass 10 = .ok (.aload_n 0, 1) := dk_42 (dk_at dksX1_pass_0 10 rfl rfl)
theorem dX1_pass_11 : decode cX1_pass 11 = .ok (.invokevirtual 110, 3) := dk_182 0 110 (dk_at dksX1_pass_0 11 rfl rfl)
theorem dX1_pass_14 : decode cX1_pass 14 = .ok (.aload_n 0, 1) := dk_42 (dk_at dksX1_pass_0 14 rfl rfl)
theorem dX1_pass_15 : decode cX1_pass 15 = .ok (.getfield 21, 3) := dk_180 0 21 (dk_at dksX1_pass_0 15 rfl rfl)
theorem dX1_pass_18 : decode cX1_pass 18 = .ok (.iload_n 1, 1) := dk_27 (dk_at dksX1_pass_0 18 rfl rfl)
theorem dX1_pass_19 : decode cX1_pass 19 = .ok (.invokevirtual 203, 3) := dk_182 0 203 (dk_at dksX1_pass_0 19 rfl rfl)
theorem dX1_pass_22 : decode cX1_pass 22 = .ok (.ireturn, 1) := dk_172 (dk_at dksX1_pass_0 22 rfl rfl)
abbrev cX1_append : ByteArray := prog_1_method_44_code
def yX1_append : MethodName := ⟨RX1, "append", "(C)I"⟩
def dkwX1_append_1 : List UInt8 := [27, 182, 1, 47, 87, 42, 180, 0, 44, 182, 1, 41, 172]
abbrev dktX1_append_1 : List UInt8 := dkwX1_append_1 ++ []
def dkwX1_append_0 : List UInt8 := [42, 180, 0, 44, 182, 1, 41, 16, 60, 162, 0, 7, 4, 167, 0, 4, 3, 184, 1, 44, 42, 180, 0, 44]
abbrev dktX1_append_0 : List UInt8 := dkwX1_append_0 ++ dktX1_append_1
theorem dksX1_append_0 : cX1_append.data.toList.drop 0 = dktX1_append_0 := by decide +kernel
theorem dksX1_append_1 : cX1_append.data.toList.drop 24 = dktX1_append_1 := dk_seg dksX1_append_0 24 rfl rfl
theorem dX1_append_0 : decode cX1_append 0 = .ok (.aload_n 0, 1) := dk_42 (dk_at dksX1_append_0 0 rfl rfl)
theorem dX1_append_1 : decode cX1_append 1 = .ok (.getfield 44, 3) := dk_180 0 44 (dk_at dksX1_append_0 1 rfl rfl)
theorem dX1_append_4 : decode cX1_append 4 = .ok (.invokevirtual 297, 3) := dk_182 1 41 (dk_at dksX1_append_0 4 rfl rfl)
theorem dX1_append_7 : decode cX1_append 7 = .ok (.bipush 60, 2) := dk_16 60 (dk_at dksX1_append_0 7 rfl rfl)
theorem dX1_append_9 : decode cX1_append 9 = .ok (.if_icmp .ge 7, 3) := dk_162 0 7 (dk_at dksX1_append_0 9 rfl rfl)
theorem dX1_append_12 : decode cX1_append 12 = .ok (.iconst 1, 1) := dk_4 (dk_at dksX1_append_0 12 rfl rfl)
theorem dX1_append_13 : decode cX1_append 13 = .ok (.goto 4, 3) := dk_167 0 4 (dk_at dksX1_append_0 13 rfl rfl)
theorem dX1_append_16 : decode cX1_append 16 = .ok (.iconst 0, 1) := dk_3 (dk_at dksX1_append_0 16 rfl rfl)
theorem dX1_append_17 : decode cX1_append 17 = .ok (.invokestatic 300, 3) := dk_184 1 44 (dk_at dksX1_append_0 17 rfl rfl)
theorem dX1_append_20 : decode cX1_append 20 = .ok (.aload_n 0, 1) := dk_42 (dk_at dksX1_append_0 20 rfl rfl)
theorem dX1_append_21 : decode cX1_append 21 = .ok (.getfield 44, 3) := dk_180 0 44 (dk_at dksX1_append_0 21 rfl rfl)
theorem dX1_append_24 : decode cX1_append 24 = .ok (.iload_n 1, 1) := dk_27 (dk_at dksX1_append_1 0 rfl rfl)
theorem dX1_append_25 : decode cX1_append 25 = .ok (.invokevirtual 303, 3) := dk_182 1 47 (dk_at dksX1_append_1 1 rfl rfl)
theorem dX1_append_28 : decode cX1_append 28 = .ok (.pop, 1) := dk_87 (dk_at dksX1_append_1 4 rfl rfl)
theorem dX1_append_29 : decode cX1_append 29 = .ok (.aload_n 0, 1) := dk_42 (dk_at dksX1_append_1 5 rfl rfl)
theorem dX1_append_30 : decode cX1_append 30 = .ok (.getfield 44, 3) := dk_180 0 44 (dk_at dksX1_append_1 6 rfl rfl)
theorem dX1_append_33 : decode cX1_append 33 = .ok (.invokevirtual 297, 3) := dk_182 1 41 (dk_at dksX1_append_1 9 rfl rfl)
theorem dX1_append_36 : decode cX1_append 36 = .ok (.ireturn, 1) := dk_172 (dk_at dksX1_append_1 12 rfl rfl)
abbrev cX1_checkState : ByteArray := prog_1_method_9_code
def yX1_checkState : MethodName := ⟨RX1, "checkState", "(Z)V"⟩
def dkwX1_checkState_0 : List UInt8 := [26, 154, 0, 11, 187, 0, 71, 89, 183, 0, 73, 191, 177]
abbrev dktX1_checkState_0 : List UInt8 := dkwX1_checkState_0 ++ []
theorem dksX1_checkState_0 : cX1_checkState.data.toList.drop 0 = dktX1_checkState_0 := by decide +kernel
theorem dX1_checkState_0 : decode cX1_checkState 0 = .ok (.iload_n 0, 1) := dk_26 (dk_at dksX1_checkState_0 0 rfl rfl)
theorem dX1_checkState_1 : decode cX1_checkState 1 = .ok (.ifCond .ne 11, 3) := dk_154 0 11 (dk_at dksX1_checkState_0 1 rfl rfl)
theorem dX1_checkState_4 : decode cX1_checkState 4 = .ok (.new 71, 3) := dk_187 0 71 (dk_at dksX1_checkState_0 4 rfl rfl)
theorem dX1_checkState_7 : decode cX1_checkState 7 = .ok (.dup, 1) := dk_89 (dk_at dksX1_checkState_0 7 rfl rfl)
theorem dX1_checkState_8 : decode cX1_checkState 8 = .ok (.invokespecial 73, 3) := dk_183 0 73 (dk_at dksX1_checkState_0 8 rfl rfl)
theorem dX1_checkState_11 : decode cX1_checkState 11 = .ok (.athrow, 1) := dk_191 (dk_at dksX1_checkState_0 11 rfl rfl)
theorem dX1_checkState_12 : decode cX1_checkState 12 = .ok (.return_, 1) := dk_177 (dk_at dksX1_checkState_0 12 rfl rfl)
abbrev cX1_read : ByteArray := prog_1_method_45_code
def yX1_read : MethodName := ⟨RX1, "read", "()I"⟩
def dkwX1_read_5 : List UInt8 := [182, 0, 130, 172]
abbrev dktX1_read_5 : List UInt8 := dkwX1_read_5 ++ []
def dkwX1_read_4 : List UInt8 := [132, 1, 1, 167, 255, 214, 167, 0, 10, 76, 42, 43, 182, 0, 134, 191, 42, 42, 180, 0, 53, 180, 1, 63]
abbrev dktX1_read_4 : List UInt8 := dkwX1_read_4 ++ dktX1_read_5
def dkwX1_read_3 : List UInt8 := [180, 0, 25, 27, 182, 1, 66, 184, 0, 113, 42, 180, 0, 53, 42, 180, 0, 25, 27, 182, 1, 70, 61]
abbrev dktX1_read_3 : List UInt8 := dkwX1_read_3 ++ dktX1_read_4
def dkwX1_read_2 : List UInt8 := [42, 182, 0, 122, 87, 3, 60, 27, 42, 180, 0, 53, 180, 1, 63, 162, 0, 37, 42, 180, 0, 53, 42]
abbrev dktX1_read_2 : List UInt8 := dkwX1_read_2 ++ dktX1_read_3
def dkwX1_read_1 : List UInt8 := [42, 180, 0, 44, 3, 182, 1, 59, 42, 180, 0, 57, 2, 160, 0, 7, 4, 167, 0, 4, 3, 184, 0, 113]
abbrev dktX1_read_1 : List UInt8 := dkwX1_read_1 ++ dktX1_read_2
def dkwX1_read_0 : List UInt8 := [42, 2, 181, 0, 57, 42, 180, 0, 53, 182, 1, 51, 167, 0, 12, 76, 42, 43, 180, 1, 56, 181, 0, 57]
abbrev dktX1_read_0 : List UInt8 := dkwX1_read_0 ++ dktX1_read_1
theorem dksX1_read_0 : cX1_read.data.toList.drop 0 = dktX1_read_0 := by decide +kernel
theorem dksX1_read_1 : cX1_read.data.toList.drop 24 = dktX1_read_1 := dk_seg dksX1_read_0 24 rfl rfl
theorem dksX1_read_2 : cX1_read.data.toList.drop 48 = dktX1_read_2 := dk_seg dksX1_read_1 24 rfl rfl
theorem dksX1_read_3 : cX1_read.data.toList.drop 71 = dktX1_read_3 := dk_seg dksX1_read_2 23 rfl rfl
theorem dksX1_read_4 : cX1_read.data.toList.drop 94 = dktX1_read_4 := dk_seg dksX1_read_3 23 rfl rfl
theorem dksX1_read_5 : cX1_read.data.toList.drop 118 = dktX1_read_5 := dk_seg dksX1_read_4 24 rfl rfl
theorem dX1_read_0 : decode cX1_read 0 = .ok (.aload_n 0, 1) := dk_42 (dk_at dksX1_read_0 0 rfl rfl)
theorem dX1_read_1 : decode cX1_read 1 = .ok (.iconst (-1), 1) := dk_2 (dk_at dksX1_read_0 1 rfl rfl)
theorem dX1_read_2 : decode cX1_read 2 = .ok (.putfield 57, 3) := dk_181 0 57 (dk_at dksX1_read_0 2 rfl rfl)
theorem dX1_read_5 : decode cX1_read 5 = .ok (.aload_n 0, 1) := dk_42 (dk_at dksX1_read_0 5 rfl rfl)
theorem dX1_read_6 : decode cX1_read 6 = .ok (.getfield 53, 3) := dk_180 0 53 (dk_at dksX1_read_0 6 rfl rfl)
theorem dX1_read_9 : decode cX1_read 9 = .ok (.invokevirtual 307, 3) := dk_182 1 51 (dk_at dksX1_read_0 9 rfl rfl)
theorem dX1_read_12 : decode cX1_read 12 = .ok (.goto 12, 3) := dk_167 0 12 (dk_at dksX1_read_0 12 rfl rfl)
theorem dX1_read_15 : decode cX1_read 15 = .ok (.astore_n 1, 1) := dk_76 (dk_at dksX1_read_0 15 rfl rfl)
theorem dX1_read_16 : decode cX1_read 16 = .ok (.aload_n 0, 1) := dk_42 (dk_at dksX1_read_0 16 rfl rfl)
theorem dX1_read_17 : decode cX1_read 17 = .ok (.aload_n 1, 1) := dk_43 (dk_at dksX1_read_0 17 rfl rfl)
theorem dX1_read_18 : decode cX1_read 18 = .ok (.getfield 312, 3) := dk_180 1 56 (dk_at dksX1_read_0 18 rfl rfl)
theorem dX1_read_21 : decode cX1_read 21 = .ok (.putfield 57, 3) := dk_181 0 57 (dk_at dksX1_read_0 21 rfl rfl)
theorem dX1_read_24 : decode cX1_read 24 = .ok (.aload_n 0, 1) := dk_42 (dk_at dksX1_read_1 0 rfl rfl)
theorem dX1_read_25 : decode cX1_read 25 = .ok (.getfield 44, 3) := dk_180 0 44 (dk_at dksX1_read_1 1 rfl rfl)
theorem dX1_read_28 : decode cX1_read 28 = .ok (.iconst 0, 1) := dk_3 (dk_at dksX1_read_1 4 rfl rfl)
theorem dX1_read_29 : decode cX1_read 29 = .ok (.invokevirtual 315, 3) := dk_182 1 59 (dk_at dksX1_read_1 5 rfl rfl)
theorem dX1_read_32 : decode cX1_read 32 = .ok (.aload_n 0, 1) := dk_42 (dk_at dksX1_read_1 8 rfl rfl)
theorem dX1_read_33 : decode cX1_read 33 = .ok (.getfield 57, 3) := dk_180 0 57 (dk_at dksX1_read_1 9 rfl rfl)
theorem dX1_read_36 : decode cX1_read 36 = .ok (.iconst (-1), 1) := dk_2 (dk_at dksX1_read_1 12 rfl rfl)
theorem dX1_read_37 : decode cX1_read 37 = .ok (.if_icmp .ne 7, 3) := dk_160 0 7 (dk_at dksX1_read_1 13 rfl rfl)
theorem dX1_read_40 : decode cX1_read 40 = .ok (.iconst 1, 1) := dk_4 (dk_at dksX1_read_1 16 rfl rfl)
theorem dX1_read_41 : decode cX1_read 41 = .ok (.goto 4, 3) := dk_167 0 4 (dk_at dksX1_read_1 17 rfl rfl)
theorem dX1_read_44 : decode cX1_read 44 = .ok (.iconst 0, 1) := dk_3 (dk_at dksX1_read_1 20 rfl rfl)
theorem dX1_read_45 : decode cX1_read 45 = .ok (.invokestatic 113, 3) := dk_184 0 113 (dk_at dksX1_read_1 21 rfl rfl)
theorem dX1_read_48 : decode cX1_read 48 = .ok (.aload_n 0, 1) := dk_42 (dk_at dksX1_read_2 0 rfl rfl)
theorem dX1_read_49 : decode cX1_read 49 = .ok (.invokevirtual 122, 3) := dk_182 0 122 (dk_at dksX1_read_2 1 rfl rfl)
theorem dX1_read_52 : decode cX1_read 52 = .ok (.pop, 1) := dk_87 (dk_at dksX1_read_2 4 rfl rfl)
theorem dX1_read_53 : decode cX1_read 53 = .ok (.iconst 0, 1) := dk_3 (dk_at dksX1_read_2 5 rfl rfl)
theorem dX1_read_54 : decode cX1_read 54 = .ok (.istore_n 1, 1) := dk_60 (dk_at dksX1_read_2 6 rfl rfl)
theorem dX1_read_55 : decode cX1_read 55 = .ok (.iload_n 1, 1) := dk_27 (dk_at dksX1_read_2 7 rfl rfl)
theorem dX1_read_56 : decode cX1_read 56 = .ok (.aload_n 0, 1) := dk_42 (dk_at dksX1_read_2 8 rfl rfl)
theorem dX1_read_57 : decode cX1_read 57 = .ok (.getfield 53, 3) := dk_180 0 53 (dk_at dksX1_read_2 9 rfl rfl)
theorem dX1_read_60 : decode cX1_read 60 = .ok (.getfield 319, 3) := dk_180 1 63 (dk_at dksX1_read_2 12 rfl rfl)
theorem dX1_read_63 : decode cX1_read 63 = .ok (.if_icmp .ge 37, 3) := dk_162 0 37 (dk_at dksX1_read_2 15 rfl rfl)
theorem dX1_read_66 : decode cX1_read 66 = .ok (.aload_n 0, 1) := dk_42 (dk_at dksX1_read_2 18 rfl rfl)
theorem dX1_read_67 : decode cX1_read 67 = .ok (.getfield 53, 3) := dk_180 0 53 (dk_at dksX1_read_2 19 rfl rfl)
theorem dX1_read_70 : decode cX1_read 70 = .ok (.aload_n 0, 1) := dk_42 (dk_at dksX1_read_2 22 rfl rfl)
theorem dX1_read_71 : decode cX1_read 71 = .ok (.getfield 25, 3) := dk_180 0 25 (dk_at dksX1_read_3 0 rfl rfl)
theorem dX1_read_74 : decode cX1_read 74 = .ok (.iload_n 1, 1) := dk_27 (dk_at dksX1_read_3 3 rfl rfl)
theorem dX1_read_75 : decode cX1_read 75 = .ok (.invokevirtual 322, 3) := dk_182 1 66 (dk_at dksX1_read_3 4 rfl rfl)
theorem dX1_read_78 : decode cX1_read 78 = .ok (.invokestatic 113, 3) := dk_184 0 113 (dk_at dksX1_read_3 7 rfl rfl)
theorem dX1_read_81 : decode cX1_read 81 = .ok (.aload_n 0, 1) := dk_42 (dk_at dksX1_read_3 10 rfl rfl)
theorem dX1_read_82 : decode cX1_read 82 = .ok (.getfield 53, 3) := dk_180 0 53 (dk_at dksX1_read_3 11 rfl rfl)
theorem dX1_read_85 : decode cX1_read 85 = .ok (.aload_n 0, 1) := dk_42 (dk_at dksX1_read_3 14 rfl rfl)
theorem dX1_read_86 : decode cX1_read 86 = .ok (.getfield 25, 3) := dk_180 0 25 (dk_at dksX1_read_3 15 rfl rfl)
theorem dX1_read_89 : decode cX1_read 89 = .ok (.iload_n 1, 1) := dk_27 (dk_at dksX1_read_3 18 rfl rfl)
theorem dX1_read_90 : decode cX1_read 90 = .ok (.invokevirtual 326, 3) := dk_182 1 70 (dk_at dksX1_read_3 19 rfl rfl)
theorem dX1_read_93 : decode cX1_read 93 = .ok (.istore_n 2, 1) := dk_61 (dk_at dksX1_read_3 22 rfl rfl)
theorem dX1_read_94 : decode cX1_read 94 = .ok (.iinc 1 1, 3) := dk_132 1 1 (dk_at dksX1_read_4 0 rfl rfl)
theorem dX1_read_97 : decode cX1_read 97 = .ok (.goto (-42), 3) := dk_167 255 214 (dk_at dksX1_read_4 3 rfl rfl)
theorem dX1_read_100 : decode cX1_read 100 = .ok (.goto 10, 3) := dk_167 0 10 (dk_at dksX1_read_4 6 rfl rfl)
theorem dX1_read_103 : decode cX1_read 103 = .ok (.astore_n 1, 1) := dk_76 (dk_at dksX1_read_4 9 rfl rfl)
theorem dX1_read_104 : decode cX1_read 104 = .ok (.aload_n 0, 1) := dk_42 (dk_at dksX1_read_4 10 rfl rfl)
theorem dX1_read_105 : decode cX1_read 105 = .ok (.aload_n 1, 1) := dk_43 (dk_at dksX1_read_4 11 rfl rfl)
theorem dX1_read_106 : decode cX1_read 106 = .ok (.invokevirtual 134, 3) := dk_182 0 134 (dk_at dksX1_read_4 12 rfl rfl)
theorem dX1_read_109 : decode cX1_read 109 = .ok (.athrow, 1) := dk_191 (dk_at dksX1_read_4 15 rfl rfl)
theorem dX1_read_110 : decode cX1_read 110 = .ok (.aload_n 0, 1) := dk_42 (dk_at dksX1_read_4 16 rfl rfl)
theorem dX1_read_111 : decode cX1_read 111 = .ok (.aload_n 0, 1) := dk_42 (dk_at dksX1_read_4 17 rfl rfl)
theorem dX1_read_112 : decode cX1_read 112 = .ok (.getfield 53, 3) := dk_180 0 53 (dk_at dksX1_read_4 18 rfl rfl)
theorem dX1_read_115 : decode cX1_read 115 = .ok (.getfield 319, 3) := dk_180 1 63 (dk_at dksX1_read_4 21 rfl rfl)
theorem dX1_read_118 : decode cX1_read 118 = .ok (.invokevirtual 130, 3) := dk_182 0 130 (dk_at dksX1_read_5 0 rfl rfl)
theorem dX1_read_121 : decode cX1_read 121 = .ok (.ireturn, 1) := dk_172 (dk_at dksX1_read_5 3 rfl rfl)
abbrev cX1_refusal : ByteArray := prog_1_method_47_code
def yX1_refusal : MethodName := ⟨RX1, "refusal", "(Z)I"⟩
def dkwX1_refusal_1 : List UInt8 := [167, 0, 7, 42, 180, 0, 80, 172]
abbrev dktX1_refusal_1 : List UInt8 := dkwX1_refusal_1 ++ []
def dkwX1_refusal_0 : List UInt8 := [42, 180, 0, 80, 158, 0, 7, 4, 167, 0, 4, 3, 184, 0, 94, 27, 153, 0, 10, 42, 180, 0, 86]
abbrev dktX1_refusal_0 : List UInt8 := dkwX1_refusal_0 ++ dktX1_refusal_1
theorem dksX1_refusal_0 : cX1_refusal.data.toList.drop 0 = dktX1_refusal_0 := by decide +kernel
theorem dksX1_refusal_1 : cX1_refusal.data.toList.drop 23 = dktX1_refusal_1 := dk_seg dksX1_refusal_0 23 rfl rfl
theorem dX1_refusal_0 : decode cX1_refusal 0 = .ok (.aload_n 0, 1) := dk_42 (dk_at dksX1_refusal_0 0 rfl rfl)
theorem dX1_refusal_1 : decode cX1_refusal 1 = .ok (.getfield 80, 3) := dk_180 0 80 (dk_at dksX1_refusal_0 1 rfl rfl)
theorem dX1_refusal_4 : decode cX1_refusal 4 = .ok (.ifCond .le 7, 3) := dk_158 0 7 (dk_at dksX1_refusal_0 4 rfl rfl)
theorem dX1_refusal_7 : decode cX1_refusal 7 = .ok (.iconst 1, 1) := dk_4 (dk_at dksX1_refusal_0 7 rfl rfl)
theorem dX1_refusal_8 : decode cX1_refusal 8 = .ok (.goto 4, 3) := dk_167 0 4 (dk_at dksX1_refusal_0 8 rfl rfl)
theorem dX1_refusal_11 : decode cX1_refusal 11 = .ok (.iconst 0, 1) := dk_3 (dk_at dksX1_refusal_0 11 rfl rfl)
theorem dX1_refusal_12 : decode cX1_refusal 12 = .ok (.invokestatic 94, 3) := dk_184 0 94 (dk_at dksX1_refusal_0 12 rfl rfl)
theorem dX1_refusal_15 : decode cX1_refusal 15 = .ok (.iload_n 1, 1) := dk_27 (dk_at dksX1_refusal_0 15 rfl rfl)
theorem dX1_refusal_16 : decode cX1_refusal 16 = .ok (.ifCond .eq 10, 3) := dk_153 0 10 (dk_at dksX1_refusal_0 16 rfl rfl)
theorem dX1_refusal_19 : decode cX1_refusal 19 = .ok (.aload_n 0, 1) := dk_42 (dk_at dksX1_refusal_0 19 rfl rfl)
theorem dX1_refusal_20 : decode cX1_refusal 20 = .ok (.getfield 86, 3) := dk_180 0 86 (dk_at dksX1_refusal_0 20 rfl rfl)
theorem dX1_refusal_23 : decode cX1_refusal 23 = .ok (.goto 7, 3) := dk_167 0 7 (dk_at dksX1_refusal_1 0 rfl rfl)
theorem dX1_refusal_26 : decode cX1_refusal 26 = .ok (.aload_n 0, 1) := dk_42 (dk_at dksX1_refusal_1 3 rfl rfl)
theorem dX1_refusal_27 : decode cX1_refusal 27 = .ok (.getfield 80, 3) := dk_180 0 80 (dk_at dksX1_refusal_1 4 rfl rfl)
theorem dX1_refusal_30 : decode cX1_refusal 30 = .ok (.ireturn, 1) := dk_172 (dk_at dksX1_refusal_1 7 rfl rfl)
abbrev cX1_account : ByteArray := prog_1_method_48_code
def yX1_account : MethodName := ⟨RX1, "account", "(I)I"⟩
def dkwX1_account_6 : List UInt8 := [42, 180, 0, 21, 180, 1, 97, 172, 42, 180, 0, 44, 182, 1, 41, 172, 42, 180, 0, 34, 182, 1, 100, 172]
abbrev dktX1_account_6 : List UInt8 := dkwX1_account_6 ++ []
def dkwX1_account_5 : List UInt8 := [42, 180, 0, 21, 180, 1, 89, 172, 42, 180, 0, 21, 182, 1, 92, 172, 42, 180, 0, 21, 182, 1, 95, 172]
abbrev dktX1_account_5 : List UInt8 := dkwX1_account_5 ++ dktX1_account_6
def dkwX1_account_4 : List UInt8 := [42, 180, 0, 21, 182, 1, 82, 172, 42, 180, 0, 21, 180, 1, 85, 172, 42, 180, 0, 21, 180, 1, 88, 172]
abbrev dktX1_account_4 : List UInt8 := dkwX1_account_4 ++ dktX1_account_5
def dkwX1_account_3 : List UInt8 := [42, 180, 0, 21, 180, 1, 74, 172, 42, 180, 0, 21, 182, 1, 77, 172, 42, 180, 0, 21, 182, 1, 80, 172]
abbrev dktX1_account_3 : List UInt8 := dkwX1_account_3 ++ dktX1_account_4
def dkwX1_account_2 : List UInt8 := [42, 180, 0, 21, 180, 0, 179, 172, 42, 180, 0, 21, 180, 0, 116, 172, 42, 180, 0, 21, 180, 0, 119, 172]
abbrev dktX1_account_2 : List UInt8 := dkwX1_account_2 ++ dktX1_account_3
def dkwX1_account_1 : List UInt8 := [170, 0, 0, 0, 181, 0, 0, 0, 0, 0, 0, 0, 13, 0, 0, 0, 69, 0, 0, 0, 77, 0, 0, 0, 85, 0, 0, 0, 93, 0, 0, 0, 101, 0, 0, 0, 109, 0, 0, 0, 117, 0, 0, 0, 125, 0, 0, 0, 133, 0, 0, 0, 141, 0, 0, 0, 149, 0, 0, 0, 157, 0, 0, 0, 165, 0, 0, 0, 173]
abbrev dktX1_account_1 : List UInt8 := dkwX1_account_1 ++ dktX1_account_2
def dkwX1_account_0 : List UInt8 := [27, 3, 16, 14, 184, 0, 3, 184, 0, 113, 27]
abbrev dktX1_account_0 : List UInt8 := dkwX1_account_0 ++ dktX1_account_1
theorem dksX1_account_0 : cX1_account.data.toList.drop 0 = dktX1_account_0 := by decide +kernel
theorem dksX1_account_1 : cX1_account.data.toList.drop 11 = dktX1_account_1 := dk_seg dksX1_account_0 11 rfl rfl
theorem dksX1_account_2 : cX1_account.data.toList.drop 80 = dktX1_account_2 := dk_seg dksX1_account_1 69 rfl rfl
theorem dksX1_account_3 : cX1_account.data.toList.drop 104 = dktX1_account_3 := dk_seg dksX1_account_2 24 rfl rfl
theorem dksX1_account_4 : cX1_account.data.toList.drop 128 = dktX1_account_4 := dk_seg dksX1_account_3 24 rfl rfl
theorem dksX1_account_5 : cX1_account.data.toList.drop 152 = dktX1_account_5 := dk_seg dksX1_account_4 24 rfl rfl
theorem dksX1_account_6 : cX1_account.data.toList.drop 176 = dktX1_account_6 := dk_seg dksX1_account_5 24 rfl rfl
theorem dX1_account_0 : decode cX1_account 0 = .ok (.iload_n 1, 1) := dk_27 (dk_at dksX1_account_0 0 rfl rfl)
theorem dX1_account_1 : decode cX1_account 1 = .ok (.iconst 0, 1) := dk_3 (dk_at dksX1_account_0 1 rfl rfl)
theorem dX1_account_2 : decode cX1_account 2 = .ok (.bipush 14, 2) := dk_16 14 (dk_at dksX1_account_0 2 rfl rfl)
theorem dX1_account_4 : decode cX1_account 4 = .ok (.invokestatic 3, 3) := dk_184 0 3 (dk_at dksX1_account_0 4 rfl rfl)
theorem dX1_account_7 : decode cX1_account 7 = .ok (.invokestatic 113, 3) := dk_184 0 113 (dk_at dksX1_account_0 7 rfl rfl)
theorem dX1_account_10 : decode cX1_account 10 = .ok (.iload_n 1, 1) := dk_27 (dk_at dksX1_account_0 10 rfl rfl)
theorem dX1_account_11 : decode cX1_account 11 = .ok (.tableswitch 181 0 13 #[69, 77, 85, 93, 101, 109, 117, 125, 133, 141, 149, 157, 165, 173], 69) := by decide +kernel
theorem dX1_account_80 : decode cX1_account 80 = .ok (.aload_n 0, 1) := dk_42 (dk_at dksX1_account_2 0 rfl rfl)
theorem dX1_account_81 : decode cX1_account 81 = .ok (.getfield 21, 3) := dk_180 0 21 (dk_at dksX1_account_2 1 rfl rfl)
theorem dX1_account_84 : decode cX1_account 84 = .ok (.getfield 179, 3) := dk_180 0 179 (dk_at dksX1_account_2 4 rfl rfl)
theorem dX1_account_87 : decode cX1_account 87 = .ok (.ireturn, 1) := dk_172 (dk_at dksX1_account_2 7 rfl rfl)
theorem dX1_account_88 : decode cX1_account 88 = .ok (.aload_n 0, 1) := dk_42 (dk_at dksX1_account_2 8 rfl rfl)
theorem dX1_account_89 : decode cX1_account 89 = .ok (.getfield 21, 3) := dk_180 0 21 (dk_at dksX1_account_2 9 rfl rfl)
theorem dX1_account_92 : decode cX1_account 92 = .ok (.getfield 116, 3) := dk_180 0 116 (dk_at dksX1_account_2 12 rfl rfl)
theorem dX1_account_95 : decode cX1_account 95 = .ok (.ireturn, 1) := dk_172 (dk_at dksX1_account_2 15 rfl rfl)
theorem dX1_account_96 : decode cX1_account 96 = .ok (.aload_n 0, 1) := dk_42 (dk_at dksX1_account_2 16 rfl rfl)
theorem dX1_account_97 : decode cX1_account 97 = .ok (.getfield 21, 3) := dk_180 0 21 (dk_at dksX1_account_2 17 rfl rfl)
theorem dX1_account_100 : decode cX1_account 100 = .ok (.getfield 119, 3) := dk_180 0 119 (dk_at dksX1_account_2 20 rfl rfl)
theorem dX1_account_103 : decode cX1_account 103 = .ok (.ireturn, 1) := dk_172 (dk_at dksX1_account_2 23 rfl rfl)
theorem dX1_account_104 : decode cX1_account 104 = .ok (.aload_n 0, 1) := dk_42 (dk_at dksX1_account_3 0 rfl rfl)
theorem dX1_account_105 : decode cX1_account 105 = .ok (.getfield 21, 3) := dk_180 0 21 (dk_at dksX1_account_3 1 rfl rfl)
theorem dX1_account_108 : decode cX1_account 108 = .ok (.getfield 330, 3) := dk_180 1 74 (dk_at dksX1_account_3 4 rfl rfl)
theorem dX1_account_111 : decode cX1_account 111 = .ok (.ireturn, 1) := dk_172 (dk_at dksX1_account_3 7 rfl rfl)
theorem dX1_account_112 : decode cX1_account 112 = .ok (.aload_n 0, 1) := dk_42 (dk_at dksX1_account_3 8 rfl rfl)
theorem dX1_account_113 : decode cX1_account 113 = .ok (.getfield 21, 3) := dk_180 0 21 (dk_at dksX1_account_3 9 rfl rfl)
theorem dX1_account_116 : decode cX1_account 116 = .ok (.invokevirtual 333, 3) := dk_182 1 77 (dk_at dksX1_account_3 12 rfl rfl)
theorem dX1_account_119 : decode cX1_account 119 = .ok (.ireturn, 1) := dk_172 (dk_at dksX1_account_3 15 rfl rfl)
theorem dX1_account_120 : decode cX1_account 120 = .ok (.aload_n 0, 1) := dk_42 (dk_at dksX1_account_3 16 rfl rfl)
theorem dX1_account_121 : decode cX1_account 121 = .ok (.getfield 21, 3) := dk_180 0 21 (dk_at dksX1_account_3 17 rfl rfl)
theorem dX1_account_124 : decode cX1_account 124 = .ok (.invokevirtual 336, 3) := dk_182 1 80 (dk_at dksX1_account_3 20 rfl rfl)
theorem dX1_account_127 : decode cX1_account 127 = .ok (.ireturn, 1) := dk_172 (dk_at dksX1_account_3 23 rfl rfl)
theorem dX1_account_128 : decode cX1_account 128 = .ok (.aload_n 0, 1) := dk_42 (dk_at dksX1_account_4 0 rfl rfl)
theorem dX1_account_129 : decode cX1_account 129 = .ok (.getfield 21, 3) := dk_180 0 21 (dk_at dksX1_account_4 1 rfl rfl)
theorem dX1_account_132 : decode cX1_account 132 = .ok (.invokevirtual 338, 3) := dk_182 1 82 (dk_at dksX1_account_4 4 rfl rfl)
theorem dX1_account_135 : decode cX1_account 135 = .ok (.ireturn, 1) := dk_172 (dk_at dksX1_account_4 7 rfl rfl)
theorem dX1_account_136 : decode cX1_account 136 = .ok (.aload_n 0, 1) := dk_42 (dk_at dksX1_account_4 8 rfl rfl)
theorem dX1_account_137 : decode cX1_account 137 = .ok (.getfield 21, 3) := dk_180 0 21 (dk_at dksX1_account_4 9 rfl rfl)
theorem dX1_account_140 : decode cX1_account 140 = .ok (.getfield 341, 3) := dk_180 1 85 (dk_at dksX1_account_4 12 rfl rfl)
theorem dX1_account_143 : decode cX1_account 143 = .ok (.ireturn, 1) := dk_172 (dk_at dksX1_account_4 15 rfl rfl)
theorem dX1_account_144 : decode cX1_account 144 = .ok (.aload_n 0, 1) := dk_42 (dk_at dksX1_account_4 16 rfl rfl)
theorem dX1_account_145 : decode cX1_account 145 = .ok (.getfield 21, 3) := dk_180 0 21 (dk_at dksX1_account_4 17 rfl rfl)
theorem dX1_account_148 : decode cX1_account 148 = .ok (.getfield 344, 3) := dk_180 1 88 (dk_at dksX1_account_4 20 rfl rfl)
theorem dX1_account_151 : decode cX1_account 151 = .ok (.ireturn, 1) := dk_172 (dk_at dksX1_account_4 23 rfl rfl)
theorem dX1_account_152 : decode cX1_account 152 = .ok (.aload_n 0, 1) := dk_42 (dk_at dksX1_account_5 0 rfl rfl)
theorem dX1_account_153 : decode cX1_account 153 = .ok (.getfield 21, 3) := dk_180 0 21 (dk_at dksX1_account_5 1 rfl rfl)
theorem dX1_account_156 : decode cX1_account 156 = .ok (.getfield 345, 3) := dk_180 1 89 (dk_at dksX1_account_5 4 rfl rfl)
theorem dX1_account_159 : decode cX1_account 159 = .ok (.ireturn, 1) := dk_172 (dk_at dksX1_account_5 7 rfl rfl)
theorem dX1_account_160 : decode cX1_account 160 = .ok (.aload_n 0, 1) := dk_42 (dk_at dksX1_account_5 8 rfl rfl)
theorem dX1_account_161 : decode cX1_account 161 = .ok (.getfield 21, 3) := dk_180 0 21 (dk_at dksX1_account_5 9 rfl rfl)
theorem dX1_account_164 : decode cX1_account 164 = .ok (.invokevirtual 348, 3) := dk_182 1 92 (dk_at dksX1_account_5 12 rfl rfl)
theorem dX1_account_167 : decode cX1_account 167 = .ok (.ireturn, 1) := dk_172 (dk_at dksX1_account_5 15 rfl rfl)
theorem dX1_account_168 : decode cX1_account 168 = .ok (.aload_n 0, 1) := dk_42 (dk_at dksX1_account_5 16 rfl rfl)
theorem dX1_account_169 : decode cX1_account 169 = .ok (.getfield 21, 3) := dk_180 0 21 (dk_at dksX1_account_5 17 rfl rfl)
theorem dX1_account_172 : decode cX1_account 172 = .ok (.invokevirtual 351, 3) := dk_182 1 95 (dk_at dksX1_account_5 20 rfl rfl)
theorem dX1_account_175 : decode cX1_account 175 = .ok (.ireturn, 1) := dk_172 (dk_at dksX1_account_5 23 rfl rfl)
theorem dX1_account_176 : decode cX1_account 176 = .ok (.aload_n 0, 1) := dk_42 (dk_at dksX1_account_6 0 rfl rfl)
theorem dX1_account_177 : decode cX1_account 177 = .ok (.getfield 21, 3) := dk_180 0 21 (dk_at dksX1_account_6 1 rfl rfl)
theorem dX1_account_180 : decode cX1_account 180 = .ok (.getfield 353, 3) := dk_180 1 97 (dk_at dksX1_account_6 4 rfl rfl)
theorem dX1_account_183 : decode cX1_account 183 = .ok (.ireturn, 1) := dk_172 (dk_at dksX1_account_6 7 rfl rfl)
theorem dX1_account_184 : decode cX1_account 184 = .ok (.aload_n 0, 1) := dk_42 (dk_at dksX1_account_6 8 rfl rfl)
theorem dX1_account_185 : decode cX1_account 185 = .ok (.getfield 44, 3) := dk_180 0 44 (dk_at dksX1_account_6 9 rfl rfl)
theorem dX1_account_188 : decode cX1_account 188 = .ok (.invokevirtual 297, 3) := dk_182 1 41 (dk_at dksX1_account_6 12 rfl rfl)
theorem dX1_account_191 : decode cX1_account 191 = .ok (.ireturn, 1) := dk_172 (dk_at dksX1_account_6 15 rfl rfl)
theorem dX1_account_192 : decode cX1_account 192 = .ok (.aload_n 0, 1) := dk_42 (dk_at dksX1_account_6 16 rfl rfl)
theorem dX1_account_193 : decode cX1_account 193 = .ok (.getfield 34, 3) := dk_180 0 34 (dk_at dksX1_account_6 17 rfl rfl)
theorem dX1_account_196 : decode cX1_account 196 = .ok (.invokevirtual 356, 3) := dk_182 1 100 (dk_at dksX1_account_6 20 rfl rfl)
theorem dX1_account_199 : decode cX1_account 199 = .ok (.ireturn, 1) := dk_172 (dk_at dksX1_account_6 23 rfl rfl)
abbrev cX1_undo : ByteArray := prog_1_method_52_code
def yX1_undo : MethodName := ⟨RX1, "undo", "()I"⟩
def dkwX1_undo_2 : List UInt8 := [180, 0, 34, 182, 1, 100, 172]
abbrev dktX1_undo_2 : List UInt8 := dkwX1_undo_2 ++ []
def dkwX1_undo_1 : List UInt8 := [182, 1, 115, 192, 0, 18, 76, 42, 180, 0, 21, 43, 182, 0, 106, 42, 180, 0, 38, 43, 182, 0, 61, 42]
abbrev dktX1_undo_1 : List UInt8 := dkwX1_undo_1 ++ dktX1_undo_2
def dkwX1_undo_0 : List UInt8 := [42, 180, 0, 34, 182, 0, 98, 154, 0, 7, 4, 167, 0, 4, 3, 184, 1, 44, 42, 180, 0, 34]
abbrev dktX1_undo_0 : List UInt8 := dkwX1_undo_0 ++ dktX1_undo_1
theorem dksX1_undo_0 : cX1_undo.data.toList.drop 0 = dktX1_undo_0 := by decide +kernel
theorem dksX1_undo_1 : cX1_undo.data.toList.drop 22 = dktX1_undo_1 := dk_seg dksX1_undo_0 22 rfl rfl
theorem dksX1_undo_2 : cX1_undo.data.toList.drop 46 = dktX1_undo_2 := dk_seg dksX1_undo_1 24 rfl rfl
theorem dX1_undo_0 : decode cX1_undo 0 = .ok (.aload_n 0, 1) := dk_42 (dk_at dksX1_undo_0 0 rfl rfl)
theorem dX1_undo_1 : decode cX1_undo 1 = .ok (.getfield 34, 3) := dk_180 0 34 (dk_at dksX1_undo_0 1 rfl rfl)
theorem dX1_undo_4 : decode cX1_undo 4 = .ok (.invokevirtual 98, 3) := dk_182 0 98 (dk_at dksX1_undo_0 4 rfl rfl)
theorem dX1_undo_7 : decode cX1_undo 7 = .ok (.ifCond .ne 7, 3) := dk_154 0 7 (dk_at dksX1_undo_0 7 rfl rfl)
theorem dX1_undo_10 : decode cX1_undo 10 = .ok (.iconst 1, 1) := dk_4 (dk_at dksX1_undo_0 10 rfl rfl)
theorem dX1_undo_11 : decode cX1_undo 11 = .ok (.goto 4, 3) := dk_167 0 4 (dk_at dksX1_undo_0 11 rfl rfl)
theorem dX1_undo_14 : decode cX1_undo 14 = .ok (.iconst 0, 1) := dk_3 (dk_at dksX1_undo_0 14 rfl rfl)
theorem dX1_undo_15 : decode cX1_undo 15 = .ok (.invokestatic 300, 3) := dk_184 1 44 (dk_at dksX1_undo_0 15 rfl rfl)
theorem dX1_undo_18 : decode cX1_undo 18 = .ok (.aload_n 0, 1) := dk_42 (dk_at dksX1_undo_0 18 rfl rfl)
theorem dX1_undo_19 : decode cX1_undo 19 = .ok (.getfield 34, 3) := dk_180 0 34 (dk_at dksX1_undo_0 19 rfl rfl)
theorem dX1_undo_22 : decode cX1_undo 22 = .ok (.invokevirtual 371, 3) := dk_182 1 115 (dk_at dksX1_undo_1 0 rfl rfl)
theorem dX1_undo_25 : decode cX1_undo 25 = .ok (.checkcast 18, 3) := dk_192 0 18 (dk_at dksX1_undo_1 3 rfl rfl)
theorem dX1_undo_28 : decode cX1_undo 28 = .ok (.astore_n 1, 1) := dk_76 (dk_at dksX1_undo_1 6 rfl rfl)
theorem dX1_undo_29 : decode cX1_undo 29 = .ok (.aload_n 0, 1) := dk_42 (dk_at dksX1_undo_1 7 rfl rfl)
theorem dX1_undo_30 : decode cX1_undo 30 = .ok (.getfield 21, 3) := dk_180 0 21 (dk_at dksX1_undo_1 8 rfl rfl)
theorem dX1_undo_33 : decode cX1_undo 33 = .ok (.aload_n 1, 1) := dk_43 (dk_at dksX1_undo_1 11 rfl rfl)
theorem dX1_undo_34 : decode cX1_undo 34 = .ok (.invokevirtual 106, 3) := dk_182 0 106 (dk_at dksX1_undo_1 12 rfl rfl)
theorem dX1_undo_37 : decode cX1_undo 37 = .ok (.aload_n 0, 1) := dk_42 (dk_at dksX1_undo_1 15 rfl rfl)
theorem dX1_undo_38 : decode cX1_undo 38 = .ok (.getfield 38, 3) := dk_180 0 38 (dk_at dksX1_undo_1 16 rfl rfl)
theorem dX1_undo_41 : decode cX1_undo 41 = .ok (.aload_n 1, 1) := dk_43 (dk_at dksX1_undo_1 19 rfl rfl)
theorem dX1_undo_42 : decode cX1_undo 42 = .ok (.invokevirtual 61, 3) := dk_182 0 61 (dk_at dksX1_undo_1 20 rfl rfl)
theorem dX1_undo_45 : decode cX1_undo 45 = .ok (.aload_n 0, 1) := dk_42 (dk_at dksX1_undo_1 23 rfl rfl)
theorem dX1_undo_46 : decode cX1_undo 46 = .ok (.getfield 34, 3) := dk_180 0 34 (dk_at dksX1_undo_2 0 rfl rfl)
theorem dX1_undo_49 : decode cX1_undo 49 = .ok (.invokevirtual 356, 3) := dk_182 1 100 (dk_at dksX1_undo_2 3 rfl rfl)
theorem dX1_undo_52 : decode cX1_undo 52 = .ok (.ireturn, 1) := dk_172 (dk_at dksX1_undo_2 6 rfl rfl)
abbrev cX1_restore : ByteArray := prog_1_method_54_code
def yX1_restore : MethodName := ⟨RX1, "restore", "()I"⟩
def dkwX1_restore_2 : List UInt8 := [167, 255, 229, 42, 180, 0, 21, 180, 1, 74, 172]
abbrev dktX1_restore_2 : List UInt8 := dkwX1_restore_2 ++ []
def dkwX1_restore_1 : List UInt8 := [182, 0, 98, 154, 0, 23, 42, 180, 0, 38, 42, 180, 0, 34, 182, 1, 115, 192, 0, 18, 182, 0, 61]
abbrev dktX1_restore_1 : List UInt8 := dkwX1_restore_1 ++ dktX1_restore_2
def dkwX1_restore_0 : List UInt8 := [42, 180, 1, 118, 184, 1, 44, 42, 180, 0, 21, 42, 180, 0, 28, 182, 0, 106, 42, 180, 0, 34]
abbrev dktX1_restore_0 : List UInt8 := dkwX1_restore_0 ++ dktX1_restore_1
theorem dksX1_restore_0 : cX1_restore.data.toList.drop 0 = dktX1_restore_0 := by decide +kernel
theorem dksX1_restore_1 : cX1_restore.data.toList.drop 22 = dktX1_restore_1 := dk_seg dksX1_restore_0 22 rfl rfl
theorem dksX1_restore_2 : cX1_restore.data.toList.drop 45 = dktX1_restore_2 := dk_seg dksX1_restore_1 23 rfl rfl
theorem dX1_restore_0 : decode cX1_restore 0 = .ok (.aload_n 0, 1) := dk_42 (dk_at dksX1_restore_0 0 rfl rfl)
theorem dX1_restore_1 : decode cX1_restore 1 = .ok (.getfield 374, 3) := dk_180 1 118 (dk_at dksX1_restore_0 1 rfl rfl)
theorem dX1_restore_4 : decode cX1_restore 4 = .ok (.invokestatic 300, 3) := dk_184 1 44 (dk_at dksX1_restore_0 4 rfl rfl)
theorem dX1_restore_7 : decode cX1_restore 7 = .ok (.aload_n 0, 1) := dk_42 (dk_at dksX1_restore_0 7 rfl rfl)
theorem dX1_restore_8 : decode cX1_restore 8 = .ok (.getfield 21, 3) := dk_180 0 21 (dk_at dksX1_restore_0 8 rfl rfl)
theorem dX1_restore_11 : decode cX1_restore 11 = .ok (.aload_n 0, 1) := dk_42 (dk_at dksX1_restore_0 11 rfl rfl)
theorem dX1_restore_12 : decode cX1_restore 12 = .ok (.getfield 28, 3) := dk_180 0 28 (dk_at dksX1_restore_0 12 rfl rfl)
theorem dX1_restore_15 : decode cX1_restore 15 = .ok (.invokevirtual 106, 3) := dk_182 0 106 (dk_at dksX1_restore_0 15 rfl rfl)
theorem dX1_restore_18 : decode cX1_restore 18 = .ok (.aload_n 0, 1) := dk_42 (dk_at dksX1_restore_0 18 rfl rfl)
theorem dX1_restore_19 : decode cX1_restore 19 = .ok (.getfield 34, 3) := dk_180 0 34 (dk_at dksX1_restore_0 19 rfl rfl)
theorem dX1_restore_22 : decode cX1_restore 22 = .ok (.invokevirtual 98, 3) := dk_182 0 98 (dk_at dksX1_restore_1 0 rfl rfl)
theorem dX1_restore_25 : decode cX1_restore 25 = .ok (.ifCond .ne 23, 3) := dk_154 0 23 (dk_at dksX1_restore_1 3 rfl rfl)
theorem dX1_restore_28 : decode cX1_restore 28 = .ok (.aload_n 0, 1) := dk_42 (dk_at dksX1_restore_1 6 rfl rfl)
theorem dX1_restore_29 : decode cX1_restore 29 = .ok (.getfield 38, 3) := dk_180 0 38 (dk_at dksX1_restore_1 7 rfl rfl)
theorem dX1_restore_32 : decode cX1_restore 32 = .ok (.aload_n 0, 1) := dk_42 (dk_at dksX1_restore_1 10 rfl rfl)
theorem dX1_restore_33 : decode cX1_restore 33 = .ok (.getfield 34, 3) := dk_180 0 34 (dk_at dksX1_restore_1 11 rfl rfl)
theorem dX1_restore_36 : decode cX1_restore 36 = .ok (.invokevirtual 371, 3) := dk_182 1 115 (dk_at dksX1_restore_1 14 rfl rfl)
theorem dX1_restore_39 : decode cX1_restore 39 = .ok (.checkcast 18, 3) := dk_192 0 18 (dk_at dksX1_restore_1 17 rfl rfl)
theorem dX1_restore_42 : decode cX1_restore 42 = .ok (.invokevirtual 61, 3) := dk_182 0 61 (dk_at dksX1_restore_1 20 rfl rfl)
theorem dX1_restore_45 : decode cX1_restore 45 = .ok (.goto (-27), 3) := dk_167 255 229 (dk_at dksX1_restore_2 0 rfl rfl)
theorem dX1_restore_48 : decode cX1_restore 48 = .ok (.aload_n 0, 1) := dk_42 (dk_at dksX1_restore_2 3 rfl rfl)
theorem dX1_restore_49 : decode cX1_restore 49 = .ok (.getfield 21, 3) := dk_180 0 21 (dk_at dksX1_restore_2 4 rfl rfl)
theorem dX1_restore_52 : decode cX1_restore 52 = .ok (.getfield 330, 3) := dk_180 1 74 (dk_at dksX1_restore_2 7 rfl rfl)
theorem dX1_restore_55 : decode cX1_restore 55 = .ok (.ireturn, 1) := dk_172 (dk_at dksX1_restore_2 10 rfl rfl)
theorem q58 : (Jvm.Cond.initialized "CliffPlots") ∈ lw_all := lw_g (lw_at lw_m1 1 rfl) rfl
theorem q98 : (Jvm.Cond.instantiable "CliffPlots" (11 : Nat)) ∈ lw_all := lw_g (lw_at lw_m1 41 rfl) rfl
theorem q100 : (Jvm.Cond.instanceMethod ({ cls := "CliffPlots", name := "<init>", desc := "()V" } : Jvm.MethodName)) ∈ lw_all := lw_g (lw_at lw_m1 43 rfl) rfl
theorem q101 : (Jvm.Cond.code ({ cls := "CliffPlots", name := "<init>", desc := "()V" } : Jvm.MethodName) prog_1_method_6_code (2 : Nat) (Option.none : Option Jvm.ClassFile.FieldType)) ∈ lw_all := lw_g (lw_at lw_m1 44 rfl) rfl
theorem q102 : (Jvm.Cond.methodLink "CliffPlots" (13 : Nat) ({ cls := "java/lang/Object", name := "<init>", desc := "()V" } : Jvm.MethodName)) ∈ lw_all := lw_g (lw_at lw_m1 45 rfl) rfl
theorem q105 : (Jvm.Cond.classLink "CliffPlots" (18 : Nat) "CliffPlots$Cliff") ∈ lw_all := lw_g (lw_at lw_m1 48 rfl) rfl
theorem q107 : (Jvm.Cond.methodLink "CliffPlots" (20 : Nat) ({ cls := "CliffPlots$Cliff", name := "<init>", desc := "()V" } : Jvm.MethodName)) ∈ lw_all := lw_g (lw_at lw_m1 50 rfl) rfl
theorem q133 : (Jvm.Cond.fieldLinkNest "CliffPlots" (182 : Nat) "CliffPlots$Plant" "day" "I" "CliffPlots") ∈ lw_tbl := lw_at lw_m1 76 rfl
theorem q136 : (Jvm.Cond.fieldLinkNest "CliffPlots" (228 : Nat) "CliffPlots$Plant" "weight" "F" "CliffPlots") ∈ lw_tbl := lw_at lw_m1 79 rfl
theorem q164 : (Jvm.Cond.fieldLinkNest "CliffPlots" (159 : Nat) "CliffPlots$Member" "plot" "I" "CliffPlots") ∈ lw_tbl := lw_at lw_m1 107 rfl
theorem q166 : (Jvm.Cond.fieldLinkNest "CliffPlots" (164 : Nat) "CliffPlots$Member" "vote" "I" "CliffPlots") ∈ lw_tbl := lw_at lw_m1 109 rfl
theorem q170 : (Jvm.Cond.fieldLinkNest "CliffPlots" (167 : Nat) "CliffPlots$Member" "harvests" "I" "CliffPlots") ∈ lw_tbl := lw_at lw_m1 113 rfl
theorem q185 : (Jvm.Cond.fieldLinkNest "CliffPlots" (267 : Nat) "CliffPlots$Shed" "plot" "I" "CliffPlots") ∈ lw_tbl := lw_at lw_m1 128 rfl
theorem q188 : (Jvm.Cond.fieldLinkNest "CliffPlots" (270 : Nat) "CliffPlots$Shed" "ropes" "I" "CliffPlots") ∈ lw_tbl := lw_at lw_m1 131 rfl
theorem q191 : (Jvm.Cond.fieldLinkNest "CliffPlots" (273 : Nat) "CliffPlots$Shed" "stands" "Z" "CliffPlots") ∈ lw_tbl := lw_at lw_m1 134 rfl
theorem q194 : (Jvm.Cond.fieldLinkNest "CliffPlots" (280 : Nat) "CliffPlots$Shed" "litres" "F" "CliffPlots") ∈ lw_tbl := lw_at lw_m1 137 rfl
theorem q210 : (Jvm.Cond.fieldLinkNest "CliffPlots" (246 : Nat) "CliffPlots$Prize" "kind" "I" "CliffPlots") ∈ lw_tbl := lw_at lw_m1 153 rfl
theorem q212 : (Jvm.Cond.fieldLinkNest "CliffPlots" (250 : Nat) "CliffPlots$Prize" "member" "I" "CliffPlots") ∈ lw_tbl := lw_at lw_m1 155 rfl
theorem q215 : (Jvm.Cond.fieldLinkNest "CliffPlots" (252 : Nat) "CliffPlots$Prize" "weight" "F" "CliffPlots") ∈ lw_tbl := lw_at lw_m1 158 rfl
theorem q217 : (Jvm.Cond.fieldLinkNest "CliffPlots" (253 : Nat) "CliffPlots$Prize" "day" "I" "CliffPlots") ∈ lw_tbl := lw_at lw_m1 160 rfl
theorem q228 : (Jvm.Cond.fieldLinkNest "CliffPlots" (189 : Nat) "CliffPlots$Cliff" "water" "[F" "CliffPlots") ∈ lw_tbl := lw_at lw_m1 171 rfl
theorem q230 : (Jvm.Cond.fieldLinkNest "CliffPlots" (183 : Nat) "CliffPlots$Cliff" "moles" "[I" "CliffPlots") ∈ lw_tbl := lw_at lw_m1 173 rfl
theorem q232 : (Jvm.Cond.fieldLinkNest "CliffPlots" (170 : Nat) "CliffPlots$Cliff" "dugBy" "[I" "CliffPlots") ∈ lw_tbl := lw_at lw_m1 175 rfl
theorem q234 : (Jvm.Cond.fieldLinkNest "CliffPlots" (90 : Nat) "CliffPlots$Cliff" "crops" "[LCliffPlots$Plant;" "CliffPlots") ∈ lw_tbl := lw_at lw_m1 177 rfl
theorem q240 : (Jvm.Cond.fieldLinkNest "CliffPlots" (155 : Nat) "CliffPlots$Cliff" "members" "[LCliffPlots$Member;" "CliffPlots") ∈ lw_tbl := lw_at lw_m1 183 rfl
theorem q242 : (Jvm.Cond.fieldLinkNest "CliffPlots" (263 : Nat) "CliffPlots$Cliff" "sheds" "[LCliffPlots$Shed;" "CliffPlots") ∈ lw_tbl := lw_at lw_m1 185 rfl
theorem q244 : (Jvm.Cond.fieldLinkNest "CliffPlots" (242 : Nat) "CliffPlots$Cliff" "prizes" "[LCliffPlots$Prize;" "CliffPlots") ∈ lw_tbl := lw_at lw_m1 187 rfl
theorem q246 : (Jvm.Cond.fieldLinkNest "CliffPlots" (330 : Nat) "CliffPlots$Cliff" "memberMany" "I" "CliffPlots") ∈ lw_tbl := lw_at lw_m1 189 rfl
theorem q248 : (Jvm.Cond.fieldLinkNest "CliffPlots" (345 : Nat) "CliffPlots$Cliff" "shedMany" "I" "CliffPlots") ∈ lw_tbl := lw_at lw_m1 191 rfl
theorem q250 : (Jvm.Cond.fieldLinkNest "CliffPlots" (239 : Nat) "CliffPlots$Cliff" "prizeMany" "I" "CliffPlots") ∈ lw_tbl := lw_at lw_m1 193 rfl
theorem q253 : (Jvm.Cond.fieldLinkNest "CliffPlots" (116 : Nat) "CliffPlots$Cliff" "wind" "I" "CliffPlots") ∈ lw_tbl := lw_at lw_m1 196 rfl
theorem q256 : (Jvm.Cond.fieldLinkNest "CliffPlots" (119 : Nat) "CliffPlots$Cliff" "rain" "I" "CliffPlots") ∈ lw_tbl := lw_at lw_m1 199 rfl
theorem q258 : (Jvm.Cond.fieldLinkNest "CliffPlots" (179 : Nat) "CliffPlots$Cliff" "day" "I" "CliffPlots") ∈ lw_tbl := lw_at lw_m1 201 rfl
theorem q260 : (Jvm.Cond.fieldLinkNest "CliffPlots" (341 : Nat) "CliffPlots$Cliff" "seedlings" "I" "CliffPlots") ∈ lw_tbl := lw_at lw_m1 203 rfl
theorem q262 : (Jvm.Cond.fieldLinkNest "CliffPlots" (344 : Nat) "CliffPlots$Cliff" "harvests" "I" "CliffPlots") ∈ lw_tbl := lw_at lw_m1 205 rfl
theorem q264 : (Jvm.Cond.fieldLinkNest "CliffPlots" (353 : Nat) "CliffPlots$Cliff" "trapped" "I" "CliffPlots") ∈ lw_tbl := lw_at lw_m1 207 rfl
theorem q306 : (Jvm.Cond.classLink "CliffPlots" (31 : Nat) "java/util/ArrayDeque") ∈ lw_all := lw_g (lw_at lw_m2 9 rfl) rfl
theorem q308 : (Jvm.Cond.methodLink "CliffPlots" (33 : Nat) ({ cls := "java/util/ArrayDeque", name := "<init>", desc := "()V" } : Jvm.MethodName)) ∈ lw_all := lw_g (lw_at lw_m2 11 rfl) rfl
theorem q327 : (Jvm.Cond.classLink "CliffPlots" (41 : Nat) "java/lang/StringBuilder") ∈ lw_all := lw_g (lw_at lw_m2 30 rfl) rfl
theorem q329 : (Jvm.Cond.methodLink "CliffPlots" (43 : Nat) ({ cls := "java/lang/StringBuilder", name := "<init>", desc := "()V" } : Jvm.MethodName)) ∈ lw_all := lw_g (lw_at lw_m2 32 rfl) rfl
theorem q360 : (Jvm.Cond.classLink "CliffPlots" (48 : Nat) "CliffPlots$Reader") ∈ lw_all := lw_g (lw_at lw_m2 63 rfl) rfl
theorem q362 : (Jvm.Cond.methodLink "CliffPlots" (50 : Nat) ({ cls := "CliffPlots$Reader", name := "<init>", desc := "(Ljava/lang/StringBuilder;)V" } : Jvm.MethodName)) ∈ lw_all := lw_g (lw_at lw_m2 65 rfl) rfl
theorem q369 : (Jvm.Cond.fieldLinkNest "CliffPlots" (319 : Nat) "CliffPlots$Reader" "many" "I" "CliffPlots") ∈ lw_tbl := lw_at lw_m2 72 rfl
theorem q387 : (Jvm.Cond.methodLink "CliffPlots" (61 : Nat) ({ cls := "java/util/ArrayDeque", name := "addLast", desc := "(Ljava/lang/Object;)V" } : Jvm.MethodName)) ∈ lw_all := lw_g (lw_at lw_m2 90 rfl) rfl
theorem q484 : (Jvm.Cond.selects "CliffPlots" ({ cls := "java/lang/Object", name := "getClass", desc := "()Ljava/lang/Class;" } : Jvm.MethodName) ({ cls := "java/lang/Object", name := "getClass", desc := "()Ljava/lang/Class;" } : Jvm.MethodName)) ∈ lw_all := lw_g (lw_at lw_m2 187 rfl) rfl
theorem q519 : (Jvm.Cond.fieldLink "CliffPlots" (21 : Nat) "CliffPlots" "cliff" "LCliffPlots$Cliff;") ∈ lw_all := lw_g (lw_at lw_m2 222 rfl) rfl
theorem q520 : (Jvm.Cond.fieldLink "CliffPlots" (25 : Nat) "CliffPlots" "tried" "LCliffPlots$Cliff;") ∈ lw_all := lw_g (lw_at lw_m2 223 rfl) rfl
theorem q521 : (Jvm.Cond.fieldLink "CliffPlots" (28 : Nat) "CliffPlots" "saved" "LCliffPlots$Cliff;") ∈ lw_all := lw_g (lw_at lw_m2 224 rfl) rfl
theorem q522 : (Jvm.Cond.fieldLink "CliffPlots" (374 : Nat) "CliffPlots" "hasSaved" "Z") ∈ lw_all := lw_g (lw_at lw_m2 225 rfl) rfl
theorem q523 : (Jvm.Cond.fieldLink "CliffPlots" (34 : Nat) "CliffPlots" "kept" "Ljava/util/ArrayDeque;") ∈ lw_all := lw_g (lw_at lw_m2 226 rfl) rfl
theorem q524 : (Jvm.Cond.fieldLink "CliffPlots" (38 : Nat) "CliffPlots" "spare" "Ljava/util/ArrayDeque;") ∈ lw_all := lw_g (lw_at lw_m2 227 rfl) rfl
theorem q525 : (Jvm.Cond.fieldLink "CliffPlots" (44 : Nat) "CliffPlots" "buffer" "Ljava/lang/StringBuilder;") ∈ lw_all := lw_g (lw_at lw_m2 228 rfl) rfl
theorem q526 : (Jvm.Cond.fieldLink "CliffPlots" (53 : Nat) "CliffPlots" "reader" "LCliffPlots$Reader;") ∈ lw_all := lw_g (lw_at lw_m2 229 rfl) rfl
theorem q527 : (Jvm.Cond.fieldLink "CliffPlots" (57 : Nat) "CliffPlots" "fault" "I") ∈ lw_all := lw_g (lw_at lw_m2 230 rfl) rfl
theorem q528 : (Jvm.Cond.fieldLink "CliffPlots" (80 : Nat) "CliffPlots" "refused" "I") ∈ lw_all := lw_g (lw_at lw_m2 231 rfl) rfl
theorem q529 : (Jvm.Cond.fieldLink "CliffPlots" (86 : Nat) "CliffPlots" "detail" "I") ∈ lw_all := lw_g (lw_at lw_m2 232 rfl) rfl
theorem q530 : (Jvm.Cond.laysFinal "CliffPlots" "CliffPlots" "cliff" "LCliffPlots$Cliff;") ∈ lw_all := lw_g (lw_at lw_m2 233 rfl) rfl
theorem q531 : (Jvm.Cond.soleField "CliffPlots" "cliff") ∈ lw_all := lw_g (lw_at lw_m2 234 rfl) rfl
theorem q532 : (Jvm.Cond.laysFinal "CliffPlots" "CliffPlots" "tried" "LCliffPlots$Cliff;") ∈ lw_all := lw_g (lw_at lw_m2 235 rfl) rfl
theorem q533 : (Jvm.Cond.soleField "CliffPlots" "tried") ∈ lw_all := lw_g (lw_at lw_m2 236 rfl) rfl
theorem q534 : (Jvm.Cond.laysFinal "CliffPlots" "CliffPlots" "saved" "LCliffPlots$Cliff;") ∈ lw_all := lw_g (lw_at lw_m2 237 rfl) rfl
theorem q535 : (Jvm.Cond.soleField "CliffPlots" "saved") ∈ lw_all := lw_g (lw_at lw_m2 238 rfl) rfl
theorem q536 : (Jvm.Cond.lays "CliffPlots" "CliffPlots" "hasSaved" "Z") ∈ lw_all := lw_g (lw_at lw_m2 239 rfl) rfl
theorem q537 : (Jvm.Cond.soleField "CliffPlots" "hasSaved") ∈ lw_all := lw_g (lw_at lw_m3 0 rfl) rfl
theorem q538 : (Jvm.Cond.laysFinal "CliffPlots" "CliffPlots" "kept" "Ljava/util/ArrayDeque;") ∈ lw_all := lw_g (lw_at lw_m3 1 rfl) rfl
theorem q539 : (Jvm.Cond.soleField "CliffPlots" "kept") ∈ lw_all := lw_g (lw_at lw_m3 2 rfl) rfl
theorem q540 : (Jvm.Cond.laysFinal "CliffPlots" "CliffPlots" "spare" "Ljava/util/ArrayDeque;") ∈ lw_all := lw_g (lw_at lw_m3 3 rfl) rfl
theorem q541 : (Jvm.Cond.soleField "CliffPlots" "spare") ∈ lw_all := lw_g (lw_at lw_m3 4 rfl) rfl
theorem q542 : (Jvm.Cond.laysFinal "CliffPlots" "CliffPlots" "buffer" "Ljava/lang/StringBuilder;") ∈ lw_all := lw_g (lw_at lw_m3 5 rfl) rfl
theorem q543 : (Jvm.Cond.soleField "CliffPlots" "buffer") ∈ lw_all := lw_g (lw_at lw_m3 6 rfl) rfl
theorem q544 : (Jvm.Cond.laysFinal "CliffPlots" "CliffPlots" "reader" "LCliffPlots$Reader;") ∈ lw_all := lw_g (lw_at lw_m3 7 rfl) rfl
theorem q545 : (Jvm.Cond.soleField "CliffPlots" "reader") ∈ lw_all := lw_g (lw_at lw_m3 8 rfl) rfl
theorem q546 : (Jvm.Cond.lays "CliffPlots" "CliffPlots" "fault" "I") ∈ lw_all := lw_g (lw_at lw_m3 9 rfl) rfl
theorem q547 : (Jvm.Cond.soleField "CliffPlots" "fault") ∈ lw_all := lw_g (lw_at lw_m3 10 rfl) rfl
theorem q548 : (Jvm.Cond.lays "CliffPlots" "CliffPlots" "refused" "I") ∈ lw_all := lw_g (lw_at lw_m3 11 rfl) rfl
theorem q549 : (Jvm.Cond.soleField "CliffPlots" "refused") ∈ lw_all := lw_g (lw_at lw_m3 12 rfl) rfl
theorem q550 : (Jvm.Cond.lays "CliffPlots" "CliffPlots" "detail" "I") ∈ lw_all := lw_g (lw_at lw_m3 13 rfl) rfl
theorem q551 : (Jvm.Cond.soleField "CliffPlots" "detail") ∈ lw_all := lw_g (lw_at lw_m3 14 rfl) rfl
theorem q552 : (Jvm.Cond.superclass "CliffPlots" "java/lang/Object") ∈ lw_all := lw_g (lw_at lw_m3 15 rfl) rfl
theorem q554 : (Jvm.Cond.instanceMethod ({ cls := "CliffPlots", name := "count", desc := "()I" } : Jvm.MethodName)) ∈ lw_all := lw_g (lw_at lw_m3 17 rfl) rfl
theorem q555 : (Jvm.Cond.selects "CliffPlots" ({ cls := "CliffPlots", name := "count", desc := "()I" } : Jvm.MethodName) ({ cls := "CliffPlots", name := "count", desc := "()I" } : Jvm.MethodName)) ∈ lw_all := lw_g (lw_at lw_m3 18 rfl) rfl
theorem q556 : (Jvm.Cond.code ({ cls := "CliffPlots", name := "count", desc := "()I" } : Jvm.MethodName) prog_1_method_41_code (1 : Nat) (Option.some Jvm.ClassFile.FieldType.int)) ∈ lw_all := lw_g (lw_at lw_m3 19 rfl) rfl
theorem q557 : (Jvm.Cond.methodLink "CliffPlots" (110 : Nat) ({ cls := "CliffPlots", name := "keep", desc := "()V" } : Jvm.MethodName)) ∈ lw_all := lw_g (lw_at lw_m3 20 rfl) rfl
theorem q558 : (Jvm.Cond.privateMethod ({ cls := "CliffPlots", name := "keep", desc := "()V" } : Jvm.MethodName)) ∈ lw_tbl := lw_at lw_m3 21 rfl
theorem q559 : (Jvm.Cond.instanceMethod ({ cls := "CliffPlots", name := "keep", desc := "()V" } : Jvm.MethodName)) ∈ lw_all := lw_g (lw_at lw_m3 22 rfl) rfl
theorem q560 : (Jvm.Cond.code ({ cls := "CliffPlots", name := "keep", desc := "()V" } : Jvm.MethodName) prog_1_method_13_code (2 : Nat) (Option.none : Option Jvm.ClassFile.FieldType)) ∈ lw_all := lw_g (lw_at lw_m3 23 rfl) rfl
theorem q561 : (Jvm.Cond.methodLink "CliffPlots" (98 : Nat) ({ cls := "java/util/ArrayDeque", name := "isEmpty", desc := "()Z" } : Jvm.MethodName)) ∈ lw_all := lw_g (lw_at lw_m3 24 rfl) rfl
theorem q565 : (Jvm.Cond.methodLink "CliffPlots" (102 : Nat) ({ cls := "java/util/ArrayDeque", name := "pollFirst", desc := "()Ljava/lang/Object;" } : Jvm.MethodName)) ∈ lw_all := lw_g (lw_at lw_m3 28 rfl) rfl
theorem q572 : (Jvm.Cond.methodLink "CliffPlots" (106 : Nat) ({ cls := "CliffPlots$Cliff", name := "take", desc := "(LCliffPlots$Cliff;)V" } : Jvm.MethodName)) ∈ lw_all := lw_g (lw_at lw_m3 35 rfl) rfl
theorem q630 : (Jvm.Cond.methodLink "CliffPlots" (290 : Nat) ({ cls := "CliffPlots$Cliff", name := "count", desc := "()I" } : Jvm.MethodName)) ∈ lw_all := lw_g (lw_at lw_m3 93 rfl) rfl
theorem q640 : (Jvm.Cond.instanceMethod ({ cls := "CliffPlots", name := "errorPosition", desc := "()I" } : Jvm.MethodName)) ∈ lw_all := lw_g (lw_at lw_m3 103 rfl) rfl
theorem q641 : (Jvm.Cond.selects "CliffPlots" ({ cls := "CliffPlots", name := "errorPosition", desc := "()I" } : Jvm.MethodName) ({ cls := "CliffPlots", name := "errorPosition", desc := "()I" } : Jvm.MethodName)) ∈ lw_all := lw_g (lw_at lw_m3 104 rfl) rfl
theorem q642 : (Jvm.Cond.code ({ cls := "CliffPlots", name := "errorPosition", desc := "()I" } : Jvm.MethodName) prog_1_method_46_code (1 : Nat) (Option.some Jvm.ClassFile.FieldType.int)) ∈ lw_all := lw_g (lw_at lw_m3 105 rfl) rfl
theorem q644 : (Jvm.Cond.instanceMethod ({ cls := "CliffPlots", name := "isWell", desc := "()Z" } : Jvm.MethodName)) ∈ lw_all := lw_g (lw_at lw_m3 107 rfl) rfl
theorem q645 : (Jvm.Cond.selects "CliffPlots" ({ cls := "CliffPlots", name := "isWell", desc := "()Z" } : Jvm.MethodName) ({ cls := "CliffPlots", name := "isWell", desc := "()Z" } : Jvm.MethodName)) ∈ lw_all := lw_g (lw_at lw_m3 108 rfl) rfl
theorem q646 : (Jvm.Cond.code ({ cls := "CliffPlots", name := "isWell", desc := "()Z" } : Jvm.MethodName) prog_1_method_49_code (1 : Nat) (Option.some Jvm.ClassFile.FieldType.boolean)) ∈ lw_all := lw_g (lw_at lw_m3 109 rfl) rfl
theorem q647 : (Jvm.Cond.methodLink "CliffPlots" (359 : Nat) ({ cls := "CliffPlots$Cliff", name := "isWell", desc := "()Z" } : Jvm.MethodName)) ∈ lw_all := lw_g (lw_at lw_m3 110 rfl) rfl
theorem q664 : (Jvm.Cond.instanceMethod ({ cls := "CliffPlots", name := "meanBits", desc := "()J" } : Jvm.MethodName)) ∈ lw_all := lw_g (lw_at lw_m3 127 rfl) rfl
theorem q665 : (Jvm.Cond.selects "CliffPlots" ({ cls := "CliffPlots", name := "meanBits", desc := "()J" } : Jvm.MethodName) ({ cls := "CliffPlots", name := "meanBits", desc := "()J" } : Jvm.MethodName)) ∈ lw_all := lw_g (lw_at lw_m3 128 rfl) rfl
theorem q666 : (Jvm.Cond.code ({ cls := "CliffPlots", name := "meanBits", desc := "()J" } : Jvm.MethodName) prog_1_method_50_code (4 : Nat) (Option.some Jvm.ClassFile.FieldType.long)) ∈ lw_all := lw_g (lw_at lw_m3 129 rfl) rfl
theorem q667 : (Jvm.Cond.constantDouble "CliffPlots" (362 : Nat) (4622945017495814144 : UInt64)) ∈ lw_all := lw_g (lw_at lw_m3 130 rfl) rfl
theorem q668 : (Jvm.Cond.methodLink "CliffPlots" (364 : Nat) ({ cls := "java/lang/Double", name := "doubleToLongBits", desc := "(D)J" } : Jvm.MethodName)) ∈ lw_all := lw_g (lw_at lw_m3 131 rfl) rfl
theorem q679 : (Jvm.Cond.instanceMethod ({ cls := "CliffPlots", name := "dug", desc := "()F" } : Jvm.MethodName)) ∈ lw_all := lw_g (lw_at lw_m3 142 rfl) rfl
theorem q680 : (Jvm.Cond.selects "CliffPlots" ({ cls := "CliffPlots", name := "dug", desc := "()F" } : Jvm.MethodName) ({ cls := "CliffPlots", name := "dug", desc := "()F" } : Jvm.MethodName)) ∈ lw_all := lw_g (lw_at lw_m3 143 rfl) rfl
theorem q681 : (Jvm.Cond.code ({ cls := "CliffPlots", name := "dug", desc := "()F" } : Jvm.MethodName) prog_1_method_51_code (1 : Nat) (Option.some Jvm.ClassFile.FieldType.float)) ∈ lw_all := lw_g (lw_at lw_m3 144 rfl) rfl
theorem q682 : (Jvm.Cond.methodLink "CliffPlots" (333 : Nat) ({ cls := "CliffPlots$Cliff", name := "dug", desc := "()I" } : Jvm.MethodName)) ∈ lw_all := lw_g (lw_at lw_m3 145 rfl) rfl
theorem q686 : (Jvm.Cond.constantFloat "CliffPlots" (370 : Nat) (1094713344 : UInt32)) ∈ lw_all := lw_g (lw_at lw_m3 149 rfl) rfl
theorem q688 : (Jvm.Cond.instanceMethod ({ cls := "CliffPlots", name := "save", desc := "()I" } : Jvm.MethodName)) ∈ lw_all := lw_g (lw_at lw_m3 151 rfl) rfl
theorem q689 : (Jvm.Cond.selects "CliffPlots" ({ cls := "CliffPlots", name := "save", desc := "()I" } : Jvm.MethodName) ({ cls := "CliffPlots", name := "save", desc := "()I" } : Jvm.MethodName)) ∈ lw_all := lw_g (lw_at lw_m3 152 rfl) rfl
theorem q690 : (Jvm.Cond.code ({ cls := "CliffPlots", name := "save", desc := "()I" } : Jvm.MethodName) prog_1_method_53_code (1 : Nat) (Option.some Jvm.ClassFile.FieldType.int)) ∈ lw_all := lw_g (lw_at lw_m3 153 rfl) rfl
theorem q696 : (Jvm.Cond.instanceMethod ({ cls := "CliffPlots", name := "wind", desc := "(I)I" } : Jvm.MethodName)) ∈ lw_all := lw_g (lw_at lw_m3 159 rfl) rfl
theorem q697 : (Jvm.Cond.selects "CliffPlots" ({ cls := "CliffPlots", name := "wind", desc := "(I)I" } : Jvm.MethodName) ({ cls := "CliffPlots", name := "wind", desc := "(I)I" } : Jvm.MethodName)) ∈ lw_all := lw_g (lw_at lw_m3 160 rfl) rfl
theorem q698 : (Jvm.Cond.code ({ cls := "CliffPlots", name := "wind", desc := "(I)I" } : Jvm.MethodName) prog_1_method_16_code (3 : Nat) (Option.some Jvm.ClassFile.FieldType.int)) ∈ lw_all := lw_g (lw_at lw_m3 161 rfl) rfl
theorem q699 : (Jvm.Cond.methodLink "CliffPlots" (3 : Nat) ({ cls := "CliffPlots", name := "in", desc := "(III)Z" } : Jvm.MethodName)) ∈ lw_all := lw_g (lw_at lw_m3 162 rfl) rfl
theorem q700 : (Jvm.Cond.static ({ cls := "CliffPlots", name := "in", desc := "(III)Z" } : Jvm.MethodName)) ∈ lw_all := lw_g (lw_at lw_m3 163 rfl) rfl
theorem q701 : (Jvm.Cond.code ({ cls := "CliffPlots", name := "in", desc := "(III)Z" } : Jvm.MethodName) prog_1_method_1_code (3 : Nat) (Option.some Jvm.ClassFile.FieldType.boolean)) ∈ lw_all := lw_g (lw_at lw_m3 164 rfl) rfl
theorem q702 : (Jvm.Cond.methodLink "CliffPlots" (113 : Nat) ({ cls := "CliffPlots", name := "check", desc := "(Z)V" } : Jvm.MethodName)) ∈ lw_all := lw_g (lw_at lw_m3 165 rfl) rfl
theorem q703 : (Jvm.Cond.static ({ cls := "CliffPlots", name := "check", desc := "(Z)V" } : Jvm.MethodName)) ∈ lw_all := lw_g (lw_at lw_m3 166 rfl) rfl
theorem q704 : (Jvm.Cond.code ({ cls := "CliffPlots", name := "check", desc := "(Z)V" } : Jvm.MethodName) prog_1_method_7_code (1 : Nat) (Option.none : Option Jvm.ClassFile.FieldType)) ∈ lw_all := lw_g (lw_at lw_m3 167 rfl) rfl
theorem q705 : (Jvm.Cond.classLink "CliffPlots" (65 : Nat) "java/lang/IllegalArgumentException") ∈ lw_all := lw_g (lw_at lw_m3 168 rfl) rfl
theorem q714 : (Jvm.Cond.methodLink "CliffPlots" (67 : Nat) ({ cls := "java/lang/IllegalArgumentException", name := "<init>", desc := "()V" } : Jvm.MethodName)) ∈ lw_all := lw_g (lw_at lw_m3 177 rfl) rfl
theorem q730 : (Jvm.Cond.instanceMethod ({ cls := "CliffPlots", name := "rain", desc := "(I)I" } : Jvm.MethodName)) ∈ lw_all := lw_g (lw_at lw_m3 193 rfl) rfl
theorem q731 : (Jvm.Cond.selects "CliffPlots" ({ cls := "CliffPlots", name := "rain", desc := "(I)I" } : Jvm.MethodName) ({ cls := "CliffPlots", name := "rain", desc := "(I)I" } : Jvm.MethodName)) ∈ lw_all := lw_g (lw_at lw_m3 194 rfl) rfl
theorem q732 : (Jvm.Cond.code ({ cls := "CliffPlots", name := "rain", desc := "(I)I" } : Jvm.MethodName) prog_1_method_17_code (3 : Nat) (Option.some Jvm.ClassFile.FieldType.int)) ∈ lw_all := lw_g (lw_at lw_m3 195 rfl) rfl
theorem q738 : (Jvm.Cond.instanceMethod ({ cls := "CliffPlots", name := "member", desc := "()I" } : Jvm.MethodName)) ∈ lw_all := lw_g (lw_at lw_m3 201 rfl) rfl
theorem q739 : (Jvm.Cond.selects "CliffPlots" ({ cls := "CliffPlots", name := "member", desc := "()I" } : Jvm.MethodName) ({ cls := "CliffPlots", name := "member", desc := "()I" } : Jvm.MethodName)) ∈ lw_all := lw_g (lw_at lw_m3 202 rfl) rfl
theorem q740 : (Jvm.Cond.codeWith ({ cls := "CliffPlots", name := "member", desc := "()I" } : Jvm.MethodName) prog_1_method_18_code (2 : Nat) (Option.some Jvm.ClassFile.FieldType.int) [((0 : Nat), (11 : Nat), (12 : Nat), (7 : Nat))]) ∈ lw_all := lw_g (lw_at lw_m3 203 rfl) rfl
theorem q741 : (Jvm.Cond.classLink "CliffPlots" (7 : Nat) "CliffPlots$Refused") ∈ lw_all := lw_g (lw_at lw_m3 204 rfl) rfl
theorem q742 : (Jvm.Cond.methodLink "CliffPlots" (122 : Nat) ({ cls := "CliffPlots", name := "tryOn", desc := "()LCliffPlots$Cliff;" } : Jvm.MethodName)) ∈ lw_all := lw_g (lw_at lw_m3 205 rfl) rfl
theorem q743 : (Jvm.Cond.privateMethod ({ cls := "CliffPlots", name := "tryOn", desc := "()LCliffPlots$Cliff;" } : Jvm.MethodName)) ∈ lw_tbl := lw_at lw_m3 206 rfl
theorem q744 : (Jvm.Cond.instanceMethod ({ cls := "CliffPlots", name := "tryOn", desc := "()LCliffPlots$Cliff;" } : Jvm.MethodName)) ∈ lw_all := lw_g (lw_at lw_m3 207 rfl) rfl
theorem q745 : (Jvm.Cond.code ({ cls := "CliffPlots", name := "tryOn", desc := "()LCliffPlots$Cliff;" } : Jvm.MethodName) prog_1_method_14_code (1 : Nat) (Option.some (Jvm.ClassFile.FieldType.object "CliffPlots$Cliff"))) ∈ lw_all := lw_g (lw_at lw_m3 208 rfl) rfl
theorem q746 : (Jvm.Cond.methodLink "CliffPlots" (126 : Nat) ({ cls := "CliffPlots$Cliff", name := "member", desc := "()I" } : Jvm.MethodName)) ∈ lw_all := lw_g (lw_at lw_m3 209 rfl) rfl
theorem q751 : (Jvm.Cond.static ({ cls := "CliffPlots", name := "refuse", desc := "(ZII)V" } : Jvm.MethodName)) ∈ lw_all := lw_g (lw_at lw_m3 214 rfl) rfl
theorem q752 : (Jvm.Cond.code ({ cls := "CliffPlots", name := "refuse", desc := "(ZII)V" } : Jvm.MethodName) prog_1_method_5_code (3 : Nat) (Option.none : Option Jvm.ClassFile.FieldType)) ∈ lw_all := lw_g (lw_at lw_m3 215 rfl) rfl
theorem q761 : (Jvm.Cond.methodLink "CliffPlots" (9 : Nat) ({ cls := "CliffPlots$Refused", name := "<init>", desc := "(II)V" } : Jvm.MethodName)) ∈ lw_all := lw_g (lw_at lw_m3 224 rfl) rfl
theorem q766 : (Jvm.Cond.fieldLinkNest "CliffPlots" (77 : Nat) "CliffPlots$Refused" "reason" "I" "CliffPlots") ∈ lw_tbl := lw_at lw_m3 229 rfl
theorem q768 : (Jvm.Cond.fieldLinkNest "CliffPlots" (83 : Nat) "CliffPlots$Refused" "detail" "I" "CliffPlots") ∈ lw_tbl := lw_at lw_m3 231 rfl
theorem q779 : (Jvm.Cond.methodLink "CliffPlots" (130 : Nat) ({ cls := "CliffPlots", name := "becomes", desc := "(I)I" } : Jvm.MethodName)) ∈ lw_all := lw_g (lw_at lw_m4 2 rfl) rfl
theorem q780 : (Jvm.Cond.privateMethod ({ cls := "CliffPlots", name := "becomes", desc := "(I)I" } : Jvm.MethodName)) ∈ lw_tbl := lw_at lw_m4 3 rfl
theorem q781 : (Jvm.Cond.instanceMethod ({ cls := "CliffPlots", name := "becomes", desc := "(I)I" } : Jvm.MethodName)) ∈ lw_all := lw_g (lw_at lw_m4 4 rfl) rfl
theorem q782 : (Jvm.Cond.code ({ cls := "CliffPlots", name := "becomes", desc := "(I)I" } : Jvm.MethodName) prog_1_method_15_code (2 : Nat) (Option.some Jvm.ClassFile.FieldType.int)) ∈ lw_all := lw_g (lw_at lw_m4 5 rfl) rfl
theorem q783 : (Jvm.Cond.methodLink "CliffPlots" (134 : Nat) ({ cls := "CliffPlots", name := "because", desc := "(LCliffPlots$Refused;)Ljava/lang/UnsupportedOperationException;" } : Jvm.MethodName)) ∈ lw_all := lw_g (lw_at lw_m4 6 rfl) rfl
theorem q784 : (Jvm.Cond.privateMethod ({ cls := "CliffPlots", name := "because", desc := "(LCliffPlots$Refused;)Ljava/lang/UnsupportedOperationException;" } : Jvm.MethodName)) ∈ lw_tbl := lw_at lw_m4 7 rfl
theorem q785 : (Jvm.Cond.instanceMethod ({ cls := "CliffPlots", name := "because", desc := "(LCliffPlots$Refused;)Ljava/lang/UnsupportedOperationException;" } : Jvm.MethodName)) ∈ lw_all := lw_g (lw_at lw_m4 8 rfl) rfl
theorem q786 : (Jvm.Cond.code ({ cls := "CliffPlots", name := "because", desc := "(LCliffPlots$Refused;)Ljava/lang/UnsupportedOperationException;" } : Jvm.MethodName) prog_1_method_11_code (2 : Nat) (Option.some (Jvm.ClassFile.FieldType.object "java/lang/UnsupportedOperationException"))) ∈ lw_all := lw_g (lw_at lw_m4 9 rfl) rfl
theorem q787 : (Jvm.Cond.classLink "CliffPlots" (87 : Nat) "java/lang/UnsupportedOperationException") ∈ lw_all := lw_g (lw_at lw_m4 10 rfl) rfl
theorem q796 : (Jvm.Cond.methodLink "CliffPlots" (89 : Nat) ({ cls := "java/lang/UnsupportedOperationException", name := "<init>", desc := "()V" } : Jvm.MethodName)) ∈ lw_all := lw_g (lw_at lw_m4 19 rfl) rfl
theorem q830 : (Jvm.Cond.instanceMethod ({ cls := "CliffPlots", name := "dig", desc := "(II)I" } : Jvm.MethodName)) ∈ lw_all := lw_g (lw_at lw_m4 53 rfl) rfl
theorem q831 : (Jvm.Cond.selects "CliffPlots" ({ cls := "CliffPlots", name := "dig", desc := "(II)I" } : Jvm.MethodName) ({ cls := "CliffPlots", name := "dig", desc := "(II)I" } : Jvm.MethodName)) ∈ lw_all := lw_g (lw_at lw_m4 54 rfl) rfl
theorem q832 : (Jvm.Cond.codeWith ({ cls := "CliffPlots", name := "dig", desc := "(II)I" } : Jvm.MethodName) prog_1_method_19_code (4 : Nat) (Option.some Jvm.ClassFile.FieldType.int) [((26 : Nat), (39 : Nat), (40 : Nat), (7 : Nat))]) ∈ lw_all := lw_g (lw_at lw_m4 55 rfl) rfl
theorem q833 : (Jvm.Cond.methodLink "CliffPlots" (138 : Nat) ({ cls := "CliffPlots$Cliff", name := "isMember", desc := "(I)Z" } : Jvm.MethodName)) ∈ lw_all := lw_g (lw_at lw_m4 56 rfl) rfl
theorem q838 : (Jvm.Cond.methodLink "CliffPlots" (142 : Nat) ({ cls := "CliffPlots", name := "isPlot", desc := "(I)Z" } : Jvm.MethodName)) ∈ lw_all := lw_g (lw_at lw_m4 61 rfl) rfl
theorem q839 : (Jvm.Cond.static ({ cls := "CliffPlots", name := "isPlot", desc := "(I)Z" } : Jvm.MethodName)) ∈ lw_all := lw_g (lw_at lw_m4 62 rfl) rfl
theorem q840 : (Jvm.Cond.code ({ cls := "CliffPlots", name := "isPlot", desc := "(I)Z" } : Jvm.MethodName) prog_1_method_2_code (1 : Nat) (Option.some Jvm.ClassFile.FieldType.boolean)) ∈ lw_all := lw_g (lw_at lw_m4 63 rfl) rfl
theorem q841 : (Jvm.Cond.methodLink "CliffPlots" (145 : Nat) ({ cls := "CliffPlots", name := "checkIndex", desc := "(Z)V" } : Jvm.MethodName)) ∈ lw_all := lw_g (lw_at lw_m4 64 rfl) rfl
theorem q842 : (Jvm.Cond.static ({ cls := "CliffPlots", name := "checkIndex", desc := "(Z)V" } : Jvm.MethodName)) ∈ lw_all := lw_g (lw_at lw_m4 65 rfl) rfl
theorem q843 : (Jvm.Cond.code ({ cls := "CliffPlots", name := "checkIndex", desc := "(Z)V" } : Jvm.MethodName) prog_1_method_10_code (1 : Nat) (Option.none : Option Jvm.ClassFile.FieldType)) ∈ lw_all := lw_g (lw_at lw_m4 66 rfl) rfl
theorem q844 : (Jvm.Cond.classLink "CliffPlots" (74 : Nat) "java/lang/IndexOutOfBoundsException") ∈ lw_all := lw_g (lw_at lw_m4 67 rfl) rfl
theorem q853 : (Jvm.Cond.methodLink "CliffPlots" (76 : Nat) ({ cls := "java/lang/IndexOutOfBoundsException", name := "<init>", desc := "()V" } : Jvm.MethodName)) ∈ lw_all := lw_g (lw_at lw_m4 76 rfl) rfl
theorem q859 : (Jvm.Cond.methodLink "CliffPlots" (148 : Nat) ({ cls := "CliffPlots$Cliff", name := "dig", desc := "(II)I" } : Jvm.MethodName)) ∈ lw_all := lw_g (lw_at lw_m4 82 rfl) rfl
theorem q868 : (Jvm.Cond.instanceMethod ({ cls := "CliffPlots", name := "rest", desc := "(I)I" } : Jvm.MethodName)) ∈ lw_all := lw_g (lw_at lw_m4 91 rfl) rfl
theorem q869 : (Jvm.Cond.selects "CliffPlots" ({ cls := "CliffPlots", name := "rest", desc := "(I)I" } : Jvm.MethodName) ({ cls := "CliffPlots", name := "rest", desc := "(I)I" } : Jvm.MethodName)) ∈ lw_all := lw_g (lw_at lw_m4 92 rfl) rfl
theorem q870 : (Jvm.Cond.codeWith ({ cls := "CliffPlots", name := "rest", desc := "(I)I" } : Jvm.MethodName) prog_1_method_20_code (3 : Nat) (Option.some Jvm.ClassFile.FieldType.int) [((11 : Nat), (23 : Nat), (24 : Nat), (7 : Nat))]) ∈ lw_all := lw_g (lw_at lw_m4 93 rfl) rfl
theorem q871 : (Jvm.Cond.methodLink "CliffPlots" (152 : Nat) ({ cls := "CliffPlots$Cliff", name := "rest", desc := "(I)I" } : Jvm.MethodName)) ∈ lw_all := lw_g (lw_at lw_m4 94 rfl) rfl
theorem q879 : (Jvm.Cond.instanceMethod ({ cls := "CliffPlots", name := "memberOf", desc := "(II)I" } : Jvm.MethodName)) ∈ lw_all := lw_g (lw_at lw_m4 102 rfl) rfl
theorem q880 : (Jvm.Cond.selects "CliffPlots" ({ cls := "CliffPlots", name := "memberOf", desc := "(II)I" } : Jvm.MethodName) ({ cls := "CliffPlots", name := "memberOf", desc := "(II)I" } : Jvm.MethodName)) ∈ lw_all := lw_g (lw_at lw_m4 103 rfl) rfl
theorem q881 : (Jvm.Cond.code ({ cls := "CliffPlots", name := "memberOf", desc := "(II)I" } : Jvm.MethodName) prog_1_method_21_code (4 : Nat) (Option.some Jvm.ClassFile.FieldType.int)) ∈ lw_all := lw_g (lw_at lw_m4 104 rfl) rfl
theorem q886 : (Jvm.Cond.instanceMethod ({ cls := "CliffPlots", name := "plotOf", desc := "(II)I" } : Jvm.MethodName)) ∈ lw_all := lw_g (lw_at lw_m4 109 rfl) rfl
theorem q887 : (Jvm.Cond.selects "CliffPlots" ({ cls := "CliffPlots", name := "plotOf", desc := "(II)I" } : Jvm.MethodName) ({ cls := "CliffPlots", name := "plotOf", desc := "(II)I" } : Jvm.MethodName)) ∈ lw_all := lw_g (lw_at lw_m4 110 rfl) rfl
theorem q888 : (Jvm.Cond.code ({ cls := "CliffPlots", name := "plotOf", desc := "(II)I" } : Jvm.MethodName) prog_1_method_22_code (4 : Nat) (Option.some Jvm.ClassFile.FieldType.int)) ∈ lw_all := lw_g (lw_at lw_m4 111 rfl) rfl
theorem q889 : (Jvm.Cond.methodLink "CliffPlots" (174 : Nat) ({ cls := "CliffPlots$Plant", name := "kind", desc := "()I" } : Jvm.MethodName)) ∈ lw_all := lw_g (lw_at lw_m4 112 rfl) rfl
theorem q890 : (Jvm.Cond.methodLink "CliffPlots" (186 : Nat) ({ cls := "CliffPlots$Cliff", name := "shedOn", desc := "(I)I" } : Jvm.MethodName)) ∈ lw_all := lw_g (lw_at lw_m4 113 rfl) rfl
theorem q898 : (Jvm.Cond.instanceMethod ({ cls := "CliffPlots", name := "water", desc := "(I)F" } : Jvm.MethodName)) ∈ lw_all := lw_g (lw_at lw_m4 121 rfl) rfl
theorem q899 : (Jvm.Cond.selects "CliffPlots" ({ cls := "CliffPlots", name := "water", desc := "(I)F" } : Jvm.MethodName) ({ cls := "CliffPlots", name := "water", desc := "(I)F" } : Jvm.MethodName)) ∈ lw_all := lw_g (lw_at lw_m4 122 rfl) rfl
theorem q900 : (Jvm.Cond.code ({ cls := "CliffPlots", name := "water", desc := "(I)F" } : Jvm.MethodName) prog_1_method_23_code (2 : Nat) (Option.some Jvm.ClassFile.FieldType.float)) ∈ lw_all := lw_g (lw_at lw_m4 123 rfl) rfl
theorem q905 : (Jvm.Cond.instanceMethod ({ cls := "CliffPlots", name := "waterIn", desc := "(II)I" } : Jvm.MethodName)) ∈ lw_all := lw_g (lw_at lw_m4 128 rfl) rfl
theorem q906 : (Jvm.Cond.selects "CliffPlots" ({ cls := "CliffPlots", name := "waterIn", desc := "(II)I" } : Jvm.MethodName) ({ cls := "CliffPlots", name := "waterIn", desc := "(II)I" } : Jvm.MethodName)) ∈ lw_all := lw_g (lw_at lw_m4 129 rfl) rfl
theorem q907 : (Jvm.Cond.code ({ cls := "CliffPlots", name := "waterIn", desc := "(II)I" } : Jvm.MethodName) prog_1_method_24_code (3 : Nat) (Option.some Jvm.ClassFile.FieldType.int)) ∈ lw_all := lw_g (lw_at lw_m4 130 rfl) rfl
theorem q908 : (Jvm.Cond.methodLink "CliffPlots" (193 : Nat) ({ cls := "CliffPlots$Cliff", name := "waterIn", desc := "(II)F" } : Jvm.MethodName)) ∈ lw_all := lw_g (lw_at lw_m4 131 rfl) rfl
theorem q930 : (Jvm.Cond.methodLink "CliffPlots" (197 : Nat) ({ cls := "java/lang/Float", name := "floatToIntBits", desc := "(F)I" } : Jvm.MethodName)) ∈ lw_all := lw_g (lw_at lw_m4 153 rfl) rfl
theorem q942 : (Jvm.Cond.instanceMethod ({ cls := "CliffPlots", name := "waterAgain", desc := "(II)I" } : Jvm.MethodName)) ∈ lw_all := lw_g (lw_at lw_m4 165 rfl) rfl
theorem q943 : (Jvm.Cond.selects "CliffPlots" ({ cls := "CliffPlots", name := "waterAgain", desc := "(II)I" } : Jvm.MethodName) ({ cls := "CliffPlots", name := "waterAgain", desc := "(II)I" } : Jvm.MethodName)) ∈ lw_all := lw_g (lw_at lw_m4 166 rfl) rfl
theorem q944 : (Jvm.Cond.code ({ cls := "CliffPlots", name := "waterAgain", desc := "(II)I" } : Jvm.MethodName) prog_1_method_25_code (4 : Nat) (Option.some Jvm.ClassFile.FieldType.int)) ∈ lw_all := lw_g (lw_at lw_m4 167 rfl) rfl
theorem q945 : (Jvm.Cond.methodLink "CliffPlots" (203 : Nat) ({ cls := "CliffPlots$Cliff", name := "pass", desc := "(I)I" } : Jvm.MethodName)) ∈ lw_all := lw_g (lw_at lw_m4 168 rfl) rfl
theorem q1001 : (Jvm.Cond.instanceMethod ({ cls := "CliffPlots", name := "seedling", desc := "(II)I" } : Jvm.MethodName)) ∈ lw_all := lw_g (lw_at lw_m4 224 rfl) rfl
theorem q1002 : (Jvm.Cond.selects "CliffPlots" ({ cls := "CliffPlots", name := "seedling", desc := "(II)I" } : Jvm.MethodName) ({ cls := "CliffPlots", name := "seedling", desc := "(II)I" } : Jvm.MethodName)) ∈ lw_all := lw_g (lw_at lw_m4 225 rfl) rfl
theorem q1003 : (Jvm.Cond.codeWith ({ cls := "CliffPlots", name := "seedling", desc := "(II)I" } : Jvm.MethodName) prog_1_method_26_code (4 : Nat) (Option.some Jvm.ClassFile.FieldType.int) [((16 : Nat), (29 : Nat), (30 : Nat), (7 : Nat))]) ∈ lw_all := lw_g (lw_at lw_m4 226 rfl) rfl
theorem q1004 : (Jvm.Cond.methodLink "CliffPlots" (206 : Nat) ({ cls := "CliffPlots", name := "isKind", desc := "(I)Z" } : Jvm.MethodName)) ∈ lw_all := lw_g (lw_at lw_m4 227 rfl) rfl
theorem q1005 : (Jvm.Cond.static ({ cls := "CliffPlots", name := "isKind", desc := "(I)Z" } : Jvm.MethodName)) ∈ lw_all := lw_g (lw_at lw_m4 228 rfl) rfl
theorem q1006 : (Jvm.Cond.code ({ cls := "CliffPlots", name := "isKind", desc := "(I)Z" } : Jvm.MethodName) prog_1_method_3_code (1 : Nat) (Option.some Jvm.ClassFile.FieldType.boolean)) ∈ lw_all := lw_g (lw_at lw_m4 229 rfl) rfl
theorem q1007 : (Jvm.Cond.methodLink "CliffPlots" (209 : Nat) ({ cls := "CliffPlots$Cliff", name := "seedling", desc := "(II)I" } : Jvm.MethodName)) ∈ lw_all := lw_g (lw_at lw_m4 230 rfl) rfl
theorem q1036 : (Jvm.Cond.instanceMethod ({ cls := "CliffPlots", name := "waits", desc := "(II)I" } : Jvm.MethodName)) ∈ lw_all := lw_g (lw_at lw_m5 19 rfl) rfl
theorem q1037 : (Jvm.Cond.selects "CliffPlots" ({ cls := "CliffPlots", name := "waits", desc := "(II)I" } : Jvm.MethodName) ({ cls := "CliffPlots", name := "waits", desc := "(II)I" } : Jvm.MethodName)) ∈ lw_all := lw_g (lw_at lw_m5 20 rfl) rfl
theorem q1038 : (Jvm.Cond.code ({ cls := "CliffPlots", name := "waits", desc := "(II)I" } : Jvm.MethodName) prog_1_method_27_code (4 : Nat) (Option.some Jvm.ClassFile.FieldType.int)) ∈ lw_all := lw_g (lw_at lw_m5 21 rfl) rfl
theorem q1039 : (Jvm.Cond.methodLink "CliffPlots" (212 : Nat) ({ cls := "CliffPlots", name := "isPlace", desc := "(II)Z" } : Jvm.MethodName)) ∈ lw_all := lw_g (lw_at lw_m5 22 rfl) rfl
theorem q1040 : (Jvm.Cond.static ({ cls := "CliffPlots", name := "isPlace", desc := "(II)Z" } : Jvm.MethodName)) ∈ lw_all := lw_g (lw_at lw_m5 23 rfl) rfl
theorem q1041 : (Jvm.Cond.code ({ cls := "CliffPlots", name := "isPlace", desc := "(II)Z" } : Jvm.MethodName) prog_1_method_4_code (2 : Nat) (Option.some Jvm.ClassFile.FieldType.boolean)) ∈ lw_all := lw_g (lw_at lw_m5 24 rfl) rfl
theorem q1042 : (Jvm.Cond.methodLink "CliffPlots" (216 : Nat) ({ cls := "CliffPlots$Cliff", name := "bench", desc := "(I)[LCliffPlots$Plant;" } : Jvm.MethodName)) ∈ lw_all := lw_g (lw_at lw_m5 25 rfl) rfl
theorem q1043 : (Jvm.Cond.methodLink "CliffPlots" (94 : Nat) ({ cls := "CliffPlots", name := "checkElement", desc := "(Z)V" } : Jvm.MethodName)) ∈ lw_all := lw_g (lw_at lw_m5 26 rfl) rfl
theorem q1044 : (Jvm.Cond.static ({ cls := "CliffPlots", name := "checkElement", desc := "(Z)V" } : Jvm.MethodName)) ∈ lw_all := lw_g (lw_at lw_m5 27 rfl) rfl
theorem q1045 : (Jvm.Cond.code ({ cls := "CliffPlots", name := "checkElement", desc := "(Z)V" } : Jvm.MethodName) prog_1_method_8_code (1 : Nat) (Option.none : Option Jvm.ClassFile.FieldType)) ∈ lw_all := lw_g (lw_at lw_m5 28 rfl) rfl
theorem q1046 : (Jvm.Cond.classLink "CliffPlots" (68 : Nat) "java/util/NoSuchElementException") ∈ lw_all := lw_g (lw_at lw_m5 29 rfl) rfl
theorem q1055 : (Jvm.Cond.methodLink "CliffPlots" (70 : Nat) ({ cls := "java/util/NoSuchElementException", name := "<init>", desc := "()V" } : Jvm.MethodName)) ∈ lw_all := lw_g (lw_at lw_m5 38 rfl) rfl
theorem q1065 : (Jvm.Cond.instanceMethod ({ cls := "CliffPlots", name := "plant", desc := "(III)I" } : Jvm.MethodName)) ∈ lw_all := lw_g (lw_at lw_m5 48 rfl) rfl
theorem q1066 : (Jvm.Cond.selects "CliffPlots" ({ cls := "CliffPlots", name := "plant", desc := "(III)I" } : Jvm.MethodName) ({ cls := "CliffPlots", name := "plant", desc := "(III)I" } : Jvm.MethodName)) ∈ lw_all := lw_g (lw_at lw_m5 49 rfl) rfl
theorem q1067 : (Jvm.Cond.codeWith ({ cls := "CliffPlots", name := "plant", desc := "(III)I" } : Jvm.MethodName) prog_1_method_28_code (5 : Nat) (Option.some Jvm.ClassFile.FieldType.int) [((48 : Nat), (62 : Nat), (63 : Nat), (7 : Nat))]) ∈ lw_all := lw_g (lw_at lw_m5 50 rfl) rfl
theorem q1068 : (Jvm.Cond.methodLink "CliffPlots" (220 : Nat) ({ cls := "CliffPlots$Cliff", name := "plant", desc := "(III)I" } : Jvm.MethodName)) ∈ lw_all := lw_g (lw_at lw_m5 51 rfl) rfl
theorem q1092 : (Jvm.Cond.instanceMethod ({ cls := "CliffPlots", name := "weight", desc := "(I)I" } : Jvm.MethodName)) ∈ lw_all := lw_g (lw_at lw_m5 75 rfl) rfl
theorem q1093 : (Jvm.Cond.selects "CliffPlots" ({ cls := "CliffPlots", name := "weight", desc := "(I)I" } : Jvm.MethodName) ({ cls := "CliffPlots", name := "weight", desc := "(I)I" } : Jvm.MethodName)) ∈ lw_all := lw_g (lw_at lw_m5 76 rfl) rfl
theorem q1094 : (Jvm.Cond.code ({ cls := "CliffPlots", name := "weight", desc := "(I)I" } : Jvm.MethodName) prog_1_method_29_code (2 : Nat) (Option.some Jvm.ClassFile.FieldType.int)) ∈ lw_all := lw_g (lw_at lw_m5 77 rfl) rfl
theorem q1095 : (Jvm.Cond.methodLink "CliffPlots" (224 : Nat) ({ cls := "CliffPlots", name := "cropOf", desc := "(I)LCliffPlots$Plant;" } : Jvm.MethodName)) ∈ lw_all := lw_g (lw_at lw_m5 78 rfl) rfl
theorem q1096 : (Jvm.Cond.privateMethod ({ cls := "CliffPlots", name := "cropOf", desc := "(I)LCliffPlots$Plant;" } : Jvm.MethodName)) ∈ lw_tbl := lw_at lw_m5 79 rfl
theorem q1097 : (Jvm.Cond.instanceMethod ({ cls := "CliffPlots", name := "cropOf", desc := "(I)LCliffPlots$Plant;" } : Jvm.MethodName)) ∈ lw_all := lw_g (lw_at lw_m5 80 rfl) rfl
theorem q1098 : (Jvm.Cond.code ({ cls := "CliffPlots", name := "cropOf", desc := "(I)LCliffPlots$Plant;" } : Jvm.MethodName) prog_1_method_12_code (2 : Nat) (Option.some (Jvm.ClassFile.FieldType.object "CliffPlots$Plant"))) ∈ lw_all := lw_g (lw_at lw_m5 81 rfl) rfl
theorem q1103 : (Jvm.Cond.instanceMethod ({ cls := "CliffPlots", name := "weightIn", desc := "(II)I" } : Jvm.MethodName)) ∈ lw_all := lw_g (lw_at lw_m5 86 rfl) rfl
theorem q1104 : (Jvm.Cond.selects "CliffPlots" ({ cls := "CliffPlots", name := "weightIn", desc := "(II)I" } : Jvm.MethodName) ({ cls := "CliffPlots", name := "weightIn", desc := "(II)I" } : Jvm.MethodName)) ∈ lw_all := lw_g (lw_at lw_m5 87 rfl) rfl
theorem q1105 : (Jvm.Cond.code ({ cls := "CliffPlots", name := "weightIn", desc := "(II)I" } : Jvm.MethodName) prog_1_method_30_code (5 : Nat) (Option.some Jvm.ClassFile.FieldType.int)) ∈ lw_all := lw_g (lw_at lw_m5 88 rfl) rfl
theorem q1110 : (Jvm.Cond.instanceMethod ({ cls := "CliffPlots", name := "heaviest", desc := "(I)I" } : Jvm.MethodName)) ∈ lw_all := lw_g (lw_at lw_m5 93 rfl) rfl
theorem q1111 : (Jvm.Cond.selects "CliffPlots" ({ cls := "CliffPlots", name := "heaviest", desc := "(I)I" } : Jvm.MethodName) ({ cls := "CliffPlots", name := "heaviest", desc := "(I)I" } : Jvm.MethodName)) ∈ lw_all := lw_g (lw_at lw_m5 94 rfl) rfl
theorem q1112 : (Jvm.Cond.code ({ cls := "CliffPlots", name := "heaviest", desc := "(I)I" } : Jvm.MethodName) prog_1_method_31_code (3 : Nat) (Option.some Jvm.ClassFile.FieldType.int)) ∈ lw_all := lw_g (lw_at lw_m5 95 rfl) rfl
theorem q1113 : (Jvm.Cond.methodLink "CliffPlots" (232 : Nat) ({ cls := "CliffPlots$Cliff", name := "heaviest", desc := "(I)I" } : Jvm.MethodName)) ∈ lw_all := lw_g (lw_at lw_m5 96 rfl) rfl
theorem q1121 : (Jvm.Cond.instanceMethod ({ cls := "CliffPlots", name := "harvest", desc := "(I)I" } : Jvm.MethodName)) ∈ lw_all := lw_g (lw_at lw_m5 104 rfl) rfl
theorem q1122 : (Jvm.Cond.selects "CliffPlots" ({ cls := "CliffPlots", name := "harvest", desc := "(I)I" } : Jvm.MethodName) ({ cls := "CliffPlots", name := "harvest", desc := "(I)I" } : Jvm.MethodName)) ∈ lw_all := lw_g (lw_at lw_m5 105 rfl) rfl
theorem q1123 : (Jvm.Cond.codeWith ({ cls := "CliffPlots", name := "harvest", desc := "(I)I" } : Jvm.MethodName) prog_1_method_32_code (3 : Nat) (Option.some Jvm.ClassFile.FieldType.int) [((11 : Nat), (26 : Nat), (27 : Nat), (7 : Nat))]) ∈ lw_all := lw_g (lw_at lw_m5 106 rfl) rfl
theorem q1124 : (Jvm.Cond.methodLink "CliffPlots" (235 : Nat) ({ cls := "CliffPlots$Cliff", name := "harvest", desc := "(I)F" } : Jvm.MethodName)) ∈ lw_all := lw_g (lw_at lw_m5 107 rfl) rfl
theorem q1137 : (Jvm.Cond.instanceMethod ({ cls := "CliffPlots", name := "prize", desc := "(II)I" } : Jvm.MethodName)) ∈ lw_all := lw_g (lw_at lw_m5 120 rfl) rfl
theorem q1138 : (Jvm.Cond.selects "CliffPlots" ({ cls := "CliffPlots", name := "prize", desc := "(II)I" } : Jvm.MethodName) ({ cls := "CliffPlots", name := "prize", desc := "(II)I" } : Jvm.MethodName)) ∈ lw_all := lw_g (lw_at lw_m5 121 rfl) rfl
theorem q1139 : (Jvm.Cond.code ({ cls := "CliffPlots", name := "prize", desc := "(II)I" } : Jvm.MethodName) prog_1_method_33_code (4 : Nat) (Option.some Jvm.ClassFile.FieldType.int)) ∈ lw_all := lw_g (lw_at lw_m5 122 rfl) rfl
theorem q1144 : (Jvm.Cond.instanceMethod ({ cls := "CliffPlots", name := "shed", desc := "(I)I" } : Jvm.MethodName)) ∈ lw_all := lw_g (lw_at lw_m5 127 rfl) rfl
theorem q1145 : (Jvm.Cond.selects "CliffPlots" ({ cls := "CliffPlots", name := "shed", desc := "(I)I" } : Jvm.MethodName) ({ cls := "CliffPlots", name := "shed", desc := "(I)I" } : Jvm.MethodName)) ∈ lw_all := lw_g (lw_at lw_m5 128 rfl) rfl
theorem q1146 : (Jvm.Cond.codeWith ({ cls := "CliffPlots", name := "shed", desc := "(I)I" } : Jvm.MethodName) prog_1_method_34_code (3 : Nat) (Option.some Jvm.ClassFile.FieldType.int) [((7 : Nat), (19 : Nat), (20 : Nat), (7 : Nat))]) ∈ lw_all := lw_g (lw_at lw_m5 129 rfl) rfl
theorem q1147 : (Jvm.Cond.methodLink "CliffPlots" (254 : Nat) ({ cls := "CliffPlots$Cliff", name := "shed", desc := "(I)I" } : Jvm.MethodName)) ∈ lw_all := lw_g (lw_at lw_m5 130 rfl) rfl
theorem q1160 : (Jvm.Cond.instanceMethod ({ cls := "CliffPlots", name := "rope", desc := "(I)I" } : Jvm.MethodName)) ∈ lw_all := lw_g (lw_at lw_m5 143 rfl) rfl
theorem q1161 : (Jvm.Cond.selects "CliffPlots" ({ cls := "CliffPlots", name := "rope", desc := "(I)I" } : Jvm.MethodName) ({ cls := "CliffPlots", name := "rope", desc := "(I)I" } : Jvm.MethodName)) ∈ lw_all := lw_g (lw_at lw_m5 144 rfl) rfl
theorem q1162 : (Jvm.Cond.codeWith ({ cls := "CliffPlots", name := "rope", desc := "(I)I" } : Jvm.MethodName) prog_1_method_35_code (3 : Nat) (Option.some Jvm.ClassFile.FieldType.int) [((11 : Nat), (23 : Nat), (24 : Nat), (7 : Nat))]) ∈ lw_all := lw_g (lw_at lw_m5 145 rfl) rfl
theorem q1163 : (Jvm.Cond.methodLink "CliffPlots" (257 : Nat) ({ cls := "CliffPlots$Cliff", name := "isShed", desc := "(I)Z" } : Jvm.MethodName)) ∈ lw_all := lw_g (lw_at lw_m5 146 rfl) rfl
theorem q1167 : (Jvm.Cond.methodLink "CliffPlots" (260 : Nat) ({ cls := "CliffPlots$Cliff", name := "rope", desc := "(I)I" } : Jvm.MethodName)) ∈ lw_all := lw_g (lw_at lw_m5 150 rfl) rfl
theorem q1175 : (Jvm.Cond.instanceMethod ({ cls := "CliffPlots", name := "shedOf", desc := "(II)I" } : Jvm.MethodName)) ∈ lw_all := lw_g (lw_at lw_m5 158 rfl) rfl
theorem q1176 : (Jvm.Cond.selects "CliffPlots" ({ cls := "CliffPlots", name := "shedOf", desc := "(II)I" } : Jvm.MethodName) ({ cls := "CliffPlots", name := "shedOf", desc := "(II)I" } : Jvm.MethodName)) ∈ lw_all := lw_g (lw_at lw_m5 159 rfl) rfl
theorem q1177 : (Jvm.Cond.code ({ cls := "CliffPlots", name := "shedOf", desc := "(II)I" } : Jvm.MethodName) prog_1_method_36_code (4 : Nat) (Option.some Jvm.ClassFile.FieldType.int)) ∈ lw_all := lw_g (lw_at lw_m5 160 rfl) rfl
theorem q1178 : (Jvm.Cond.methodLink "CliffPlots" (277 : Nat) ({ cls := "CliffPlots$Cliff", name := "leastWind", desc := "(I)I" } : Jvm.MethodName)) ∈ lw_all := lw_g (lw_at lw_m5 161 rfl) rfl
theorem q1186 : (Jvm.Cond.instanceMethod ({ cls := "CliffPlots", name := "butt", desc := "(I)F" } : Jvm.MethodName)) ∈ lw_all := lw_g (lw_at lw_m5 169 rfl) rfl
theorem q1187 : (Jvm.Cond.selects "CliffPlots" ({ cls := "CliffPlots", name := "butt", desc := "(I)F" } : Jvm.MethodName) ({ cls := "CliffPlots", name := "butt", desc := "(I)F" } : Jvm.MethodName)) ∈ lw_all := lw_g (lw_at lw_m5 170 rfl) rfl
theorem q1188 : (Jvm.Cond.code ({ cls := "CliffPlots", name := "butt", desc := "(I)F" } : Jvm.MethodName) prog_1_method_37_code (2 : Nat) (Option.some Jvm.ClassFile.FieldType.float)) ∈ lw_all := lw_g (lw_at lw_m5 171 rfl) rfl
theorem q1193 : (Jvm.Cond.instanceMethod ({ cls := "CliffPlots", name := "pour", desc := "(III)I" } : Jvm.MethodName)) ∈ lw_all := lw_g (lw_at lw_m5 176 rfl) rfl
theorem q1194 : (Jvm.Cond.selects "CliffPlots" ({ cls := "CliffPlots", name := "pour", desc := "(III)I" } : Jvm.MethodName) ({ cls := "CliffPlots", name := "pour", desc := "(III)I" } : Jvm.MethodName)) ∈ lw_all := lw_g (lw_at lw_m5 177 rfl) rfl
theorem q1195 : (Jvm.Cond.codeWith ({ cls := "CliffPlots", name := "pour", desc := "(III)I" } : Jvm.MethodName) prog_1_method_38_code (5 : Nat) (Option.some Jvm.ClassFile.FieldType.int) [((36 : Nat), (53 : Nat), (54 : Nat), (7 : Nat))]) ∈ lw_all := lw_g (lw_at lw_m5 178 rfl) rfl
theorem q1196 : (Jvm.Cond.methodLink "CliffPlots" (283 : Nat) ({ cls := "CliffPlots$Cliff", name := "pour", desc := "(III)F" } : Jvm.MethodName)) ∈ lw_all := lw_g (lw_at lw_m5 179 rfl) rfl
theorem q1204 : (Jvm.Cond.instanceMethod ({ cls := "CliffPlots", name := "moles", desc := "(II)I" } : Jvm.MethodName)) ∈ lw_all := lw_g (lw_at lw_m5 187 rfl) rfl
theorem q1205 : (Jvm.Cond.selects "CliffPlots" ({ cls := "CliffPlots", name := "moles", desc := "(II)I" } : Jvm.MethodName) ({ cls := "CliffPlots", name := "moles", desc := "(II)I" } : Jvm.MethodName)) ∈ lw_all := lw_g (lw_at lw_m5 188 rfl) rfl
theorem q1206 : (Jvm.Cond.code ({ cls := "CliffPlots", name := "moles", desc := "(II)I" } : Jvm.MethodName) prog_1_method_39_code (4 : Nat) (Option.some Jvm.ClassFile.FieldType.int)) ∈ lw_all := lw_g (lw_at lw_m5 189 rfl) rfl
theorem q1211 : (Jvm.Cond.instanceMethod ({ cls := "CliffPlots", name := "vote", desc := "(IZ)I" } : Jvm.MethodName)) ∈ lw_all := lw_g (lw_at lw_m5 194 rfl) rfl
theorem q1212 : (Jvm.Cond.selects "CliffPlots" ({ cls := "CliffPlots", name := "vote", desc := "(IZ)I" } : Jvm.MethodName) ({ cls := "CliffPlots", name := "vote", desc := "(IZ)I" } : Jvm.MethodName)) ∈ lw_all := lw_g (lw_at lw_m5 195 rfl) rfl
theorem q1213 : (Jvm.Cond.code ({ cls := "CliffPlots", name := "vote", desc := "(IZ)I" } : Jvm.MethodName) prog_1_method_40_code (3 : Nat) (Option.some Jvm.ClassFile.FieldType.int)) ∈ lw_all := lw_g (lw_at lw_m5 196 rfl) rfl
theorem q1214 : (Jvm.Cond.methodLink "CliffPlots" (287 : Nat) ({ cls := "CliffPlots$Cliff", name := "vote", desc := "(IZ)I" } : Jvm.MethodName)) ∈ lw_all := lw_g (lw_at lw_m5 197 rfl) rfl
theorem q1222 : (Jvm.Cond.instanceMethod ({ cls := "CliffPlots", name := "sign", desc := "(I)C" } : Jvm.MethodName)) ∈ lw_all := lw_g (lw_at lw_m5 205 rfl) rfl
theorem q1223 : (Jvm.Cond.selects "CliffPlots" ({ cls := "CliffPlots", name := "sign", desc := "(I)C" } : Jvm.MethodName) ({ cls := "CliffPlots", name := "sign", desc := "(I)C" } : Jvm.MethodName)) ∈ lw_all := lw_g (lw_at lw_m5 206 rfl) rfl
theorem q1224 : (Jvm.Cond.code ({ cls := "CliffPlots", name := "sign", desc := "(I)C" } : Jvm.MethodName) prog_1_method_42_code (2 : Nat) (Option.some Jvm.ClassFile.FieldType.char)) ∈ lw_all := lw_g (lw_at lw_m5 207 rfl) rfl
theorem q1225 : (Jvm.Cond.methodLink "CliffPlots" (293 : Nat) ({ cls := "CliffPlots$Plant", name := "sign", desc := "()C" } : Jvm.MethodName)) ∈ lw_all := lw_g (lw_at lw_m5 208 rfl) rfl
theorem q1238 : (Jvm.Cond.instanceMethod ({ cls := "CliffPlots", name := "pass", desc := "(I)I" } : Jvm.MethodName)) ∈ lw_all := lw_g (lw_at lw_m5 221 rfl) rfl
theorem q1239 : (Jvm.Cond.selects "CliffPlots" ({ cls := "CliffPlots", name := "pass", desc := "(I)I" } : Jvm.MethodName) ({ cls := "CliffPlots", name := "pass", desc := "(I)I" } : Jvm.MethodName)) ∈ lw_all := lw_g (lw_at lw_m5 222 rfl) rfl
theorem q1240 : (Jvm.Cond.code ({ cls := "CliffPlots", name := "pass", desc := "(I)I" } : Jvm.MethodName) prog_1_method_43_code (2 : Nat) (Option.some Jvm.ClassFile.FieldType.int)) ∈ lw_all := lw_g (lw_at lw_m5 223 rfl) rfl
theorem q1246 : (Jvm.Cond.instanceMethod ({ cls := "CliffPlots", name := "append", desc := "(C)I" } : Jvm.MethodName)) ∈ lw_all := lw_g (lw_at lw_m5 229 rfl) rfl
theorem q1247 : (Jvm.Cond.selects "CliffPlots" ({ cls := "CliffPlots", name := "append", desc := "(C)I" } : Jvm.MethodName) ({ cls := "CliffPlots", name := "append", desc := "(C)I" } : Jvm.MethodName)) ∈ lw_all := lw_g (lw_at lw_m5 230 rfl) rfl
theorem q1248 : (Jvm.Cond.code ({ cls := "CliffPlots", name := "append", desc := "(C)I" } : Jvm.MethodName) prog_1_method_44_code (2 : Nat) (Option.some Jvm.ClassFile.FieldType.int)) ∈ lw_all := lw_g (lw_at lw_m5 231 rfl) rfl
theorem q1249 : (Jvm.Cond.methodLink "CliffPlots" (297 : Nat) ({ cls := "java/lang/StringBuilder", name := "length", desc := "()I" } : Jvm.MethodName)) ∈ lw_all := lw_g (lw_at lw_m5 232 rfl) rfl
theorem q1256 : (Jvm.Cond.methodLink "CliffPlots" (300 : Nat) ({ cls := "CliffPlots", name := "checkState", desc := "(Z)V" } : Jvm.MethodName)) ∈ lw_all := lw_g (lw_at lw_m5 239 rfl) rfl
theorem q1257 : (Jvm.Cond.static ({ cls := "CliffPlots", name := "checkState", desc := "(Z)V" } : Jvm.MethodName)) ∈ lw_all := lw_g (lw_at lw_m6 0 rfl) rfl
theorem q1258 : (Jvm.Cond.code ({ cls := "CliffPlots", name := "checkState", desc := "(Z)V" } : Jvm.MethodName) prog_1_method_9_code (1 : Nat) (Option.none : Option Jvm.ClassFile.FieldType)) ∈ lw_all := lw_g (lw_at lw_m6 1 rfl) rfl
theorem q1259 : (Jvm.Cond.classLink "CliffPlots" (71 : Nat) "java/lang/IllegalStateException") ∈ lw_all := lw_g (lw_at lw_m6 2 rfl) rfl
theorem q1260 : (Jvm.Cond.methodLink "CliffPlots" (73 : Nat) ({ cls := "java/lang/IllegalStateException", name := "<init>", desc := "()V" } : Jvm.MethodName)) ∈ lw_all := lw_g (lw_at lw_m6 3 rfl) rfl
theorem q1264 : (Jvm.Cond.methodLink "CliffPlots" (303 : Nat) ({ cls := "java/lang/StringBuilder", name := "append", desc := "(C)Ljava/lang/StringBuilder;" } : Jvm.MethodName)) ∈ lw_all := lw_g (lw_at lw_m6 7 rfl) rfl
theorem q1353 : (Jvm.Cond.instanceMethod ({ cls := "CliffPlots", name := "read", desc := "()I" } : Jvm.MethodName)) ∈ lw_all := lw_g (lw_at lw_m6 96 rfl) rfl
theorem q1354 : (Jvm.Cond.selects "CliffPlots" ({ cls := "CliffPlots", name := "read", desc := "()I" } : Jvm.MethodName) ({ cls := "CliffPlots", name := "read", desc := "()I" } : Jvm.MethodName)) ∈ lw_all := lw_g (lw_at lw_m6 97 rfl) rfl
theorem q1355 : (Jvm.Cond.codeWith ({ cls := "CliffPlots", name := "read", desc := "()I" } : Jvm.MethodName) prog_1_method_45_code (3 : Nat) (Option.some Jvm.ClassFile.FieldType.int) [((5 : Nat), (12 : Nat), (15 : Nat), (310 : Nat)), ((53 : Nat), (100 : Nat), (103 : Nat), (7 : Nat))]) ∈ lw_all := lw_g (lw_at lw_m6 98 rfl) rfl
theorem q1356 : (Jvm.Cond.classLink "CliffPlots" (310 : Nat) "CliffPlots$Fault") ∈ lw_all := lw_g (lw_at lw_m6 99 rfl) rfl
theorem q1357 : (Jvm.Cond.methodLink "CliffPlots" (307 : Nat) ({ cls := "CliffPlots$Reader", name := "read", desc := "()V" } : Jvm.MethodName)) ∈ lw_all := lw_g (lw_at lw_m6 100 rfl) rfl
theorem q1405 : (Jvm.Cond.fieldLinkNest "CliffPlots" (312 : Nat) "CliffPlots$Fault" "position" "I" "CliffPlots") ∈ lw_tbl := lw_at lw_m6 148 rfl
theorem q1422 : (Jvm.Cond.methodLink "CliffPlots" (315 : Nat) ({ cls := "java/lang/StringBuilder", name := "setLength", desc := "(I)V" } : Jvm.MethodName)) ∈ lw_all := lw_g (lw_at lw_m6 165 rfl) rfl
theorem q1600 : (Jvm.Cond.methodLink "CliffPlots" (322 : Nat) ({ cls := "CliffPlots$Reader", name := "isRight", desc := "(LCliffPlots$Cliff;I)Z" } : Jvm.MethodName)) ∈ lw_all := lw_g (lw_at lw_m7 103 rfl) rfl
theorem q1606 : (Jvm.Cond.methodLink "CliffPlots" (326 : Nat) ({ cls := "CliffPlots$Reader", name := "does", desc := "(LCliffPlots$Cliff;I)I" } : Jvm.MethodName)) ∈ lw_all := lw_g (lw_at lw_m7 109 rfl) rfl
theorem q1619 : (Jvm.Cond.instanceMethod ({ cls := "CliffPlots", name := "refusal", desc := "(Z)I" } : Jvm.MethodName)) ∈ lw_all := lw_g (lw_at lw_m7 122 rfl) rfl
theorem q1620 : (Jvm.Cond.selects "CliffPlots" ({ cls := "CliffPlots", name := "refusal", desc := "(Z)I" } : Jvm.MethodName) ({ cls := "CliffPlots", name := "refusal", desc := "(Z)I" } : Jvm.MethodName)) ∈ lw_all := lw_g (lw_at lw_m7 123 rfl) rfl
theorem q1621 : (Jvm.Cond.code ({ cls := "CliffPlots", name := "refusal", desc := "(Z)I" } : Jvm.MethodName) prog_1_method_47_code (2 : Nat) (Option.some Jvm.ClassFile.FieldType.int)) ∈ lw_all := lw_g (lw_at lw_m7 124 rfl) rfl
theorem q1626 : (Jvm.Cond.instanceMethod ({ cls := "CliffPlots", name := "account", desc := "(I)I" } : Jvm.MethodName)) ∈ lw_all := lw_g (lw_at lw_m7 129 rfl) rfl
theorem q1627 : (Jvm.Cond.selects "CliffPlots" ({ cls := "CliffPlots", name := "account", desc := "(I)I" } : Jvm.MethodName) ({ cls := "CliffPlots", name := "account", desc := "(I)I" } : Jvm.MethodName)) ∈ lw_all := lw_g (lw_at lw_m7 130 rfl) rfl
theorem q1628 : (Jvm.Cond.code ({ cls := "CliffPlots", name := "account", desc := "(I)I" } : Jvm.MethodName) prog_1_method_48_code (2 : Nat) (Option.some Jvm.ClassFile.FieldType.int)) ∈ lw_all := lw_g (lw_at lw_m7 131 rfl) rfl
theorem q1629 : (Jvm.Cond.methodLink "CliffPlots" (336 : Nat) ({ cls := "CliffPlots$Cliff", name := "crops", desc := "()I" } : Jvm.MethodName)) ∈ lw_all := lw_g (lw_at lw_m7 132 rfl) rfl
theorem q1630 : (Jvm.Cond.methodLink "CliffPlots" (338 : Nat) ({ cls := "CliffPlots$Cliff", name := "onBenches", desc := "()I" } : Jvm.MethodName)) ∈ lw_all := lw_g (lw_at lw_m7 133 rfl) rfl
theorem q1631 : (Jvm.Cond.methodLink "CliffPlots" (348 : Nat) ({ cls := "CliffPlots$Cliff", name := "standing", desc := "()I" } : Jvm.MethodName)) ∈ lw_all := lw_g (lw_at lw_m7 134 rfl) rfl
theorem q1635 : (Jvm.Cond.methodLink "CliffPlots" (351 : Nat) ({ cls := "CliffPlots$Cliff", name := "moles", desc := "()I" } : Jvm.MethodName)) ∈ lw_all := lw_g (lw_at lw_m7 138 rfl) rfl
theorem q1639 : (Jvm.Cond.methodLink "CliffPlots" (356 : Nat) ({ cls := "java/util/ArrayDeque", name := "size", desc := "()I" } : Jvm.MethodName)) ∈ lw_all := lw_g (lw_at lw_m7 142 rfl) rfl
theorem q1650 : (Jvm.Cond.instanceMethod ({ cls := "CliffPlots", name := "undo", desc := "()I" } : Jvm.MethodName)) ∈ lw_all := lw_g (lw_at lw_m7 153 rfl) rfl
theorem q1651 : (Jvm.Cond.selects "CliffPlots" ({ cls := "CliffPlots", name := "undo", desc := "()I" } : Jvm.MethodName) ({ cls := "CliffPlots", name := "undo", desc := "()I" } : Jvm.MethodName)) ∈ lw_all := lw_g (lw_at lw_m7 154 rfl) rfl
theorem q1652 : (Jvm.Cond.code ({ cls := "CliffPlots", name := "undo", desc := "()I" } : Jvm.MethodName) prog_1_method_52_code (2 : Nat) (Option.some Jvm.ClassFile.FieldType.int)) ∈ lw_all := lw_g (lw_at lw_m7 155 rfl) rfl
theorem q1653 : (Jvm.Cond.methodLink "CliffPlots" (371 : Nat) ({ cls := "java/util/ArrayDeque", name := "pollLast", desc := "()Ljava/lang/Object;" } : Jvm.MethodName)) ∈ lw_all := lw_g (lw_at lw_m7 156 rfl) rfl
theorem q1664 : (Jvm.Cond.instanceMethod ({ cls := "CliffPlots", name := "restore", desc := "()I" } : Jvm.MethodName)) ∈ lw_all := lw_g (lw_at lw_m7 167 rfl) rfl
theorem q1665 : (Jvm.Cond.selects "CliffPlots" ({ cls := "CliffPlots", name := "restore", desc := "()I" } : Jvm.MethodName) ({ cls := "CliffPlots", name := "restore", desc := "()I" } : Jvm.MethodName)) ∈ lw_all := lw_g (lw_at lw_m7 168 rfl) rfl
theorem q1666 : (Jvm.Cond.code ({ cls := "CliffPlots", name := "restore", desc := "()I" } : Jvm.MethodName) prog_1_method_54_code (1 : Nat) (Option.some Jvm.ClassFile.FieldType.int)) ∈ lw_all := lw_g (lw_at lw_m7 169 rfl) rfl
theorem q2113 : (Jvm.Cond.castable "CliffPlots" "java/lang/Object") ∈ lw_tbl := lw_at lw_m9 136 rfl
theorem in_X1 : ∀ w ∈ wsX10, w ∈ lw_all := lw_in wsX10 [530, 532, 534, 536, 538, 540, 542, 544, 546, 548, 550] (by decide +kernel) (by decide +kernel)
