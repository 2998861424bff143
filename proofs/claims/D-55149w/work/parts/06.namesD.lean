/-! CliffPlotsModel -/
set_option maxRecDepth 100000
def RX10 : String := "CliffPlotsModel"
def TX10 : u_T := fun k => match k with
  | 0 => ("CliffPlotsModel", "g", "[I", true)
  | 1 => ("CliffPlotsModel", "f", "[F", true)
  | 2 => ("CliffPlotsModel", "before", "[I", true)
  | 3 => ("CliffPlotsModel", "floatsBefore", "[F", true)
  | 4 => ("CliffPlotsModel", "history", "[I", true)
  | 5 => ("CliffPlotsModel", "floatHistory", "[F", true)
  | 6 => ("CliffPlotsModel", "changes", "I", false)
  | 7 => ("CliffPlotsModel", "saved", "[I", true)
  | 8 => ("CliffPlotsModel", "floatsSaved", "[F", true)
  | 9 => ("CliffPlotsModel", "hasSaved", "Z", false)
  | 10 => ("CliffPlotsModel", "aside", "[I", true)
  | 11 => ("CliffPlotsModel", "floatsAside", "[F", true)
  | 12 => ("CliffPlotsModel", "input", "[C", true)
  | 13 => ("CliffPlotsModel", "typed", "I", false)
  | 14 => ("CliffPlotsModel", "errorAt", "I", false)
  | 15 => ("CliffPlotsModel", "reason", "I", false)
  | 16 => ("CliffPlotsModel", "detail", "I", false)
  | 17 => ("CliffPlotsModel", "isRefusal", "Z", false)
  | 18 => ("CliffPlotsModel", "thrown", "I", false)
  | 19 => ("CliffPlotsModel", "place", "I", false)
  | 20 => ("CliffPlotsModel", "isWrong", "Z", false)
  | _ => ("CliffPlotsModel", "told", "[I", true)
def tyX10 : Nat → FieldType := fun k => match k with
  | 0 => .array .int
  | 1 => .array .float
  | 2 => .array .int
  | 3 => .array .float
  | 4 => .array .int
  | 5 => .array .float
  | 6 => .int
  | 7 => .array .int
  | 8 => .array .float
  | 9 => .boolean
  | 10 => .array .int
  | 11 => .array .float
  | 12 => .array .char
  | 13 => .int
  | 14 => .int
  | 15 => .int
  | 16 => .int
  | 17 => .boolean
  | 18 => .int
  | 19 => .int
  | 20 => .boolean
  | _ => .array .int
abbrev wsX100 : List Cond := u_ws RX10 TX10 22
set_option maxRecDepth 100000 in
theorem nmX10 : ∀ a, a < 22 → ∀ b, b < 22 → a ≠ b → (TX10 a).2.1 ≠ (TX10 b).2.1 := by decide +kernel
set_option maxRecDepth 100000 in
theorem tyX10_ok : ∀ k, k < 22 → parseFieldDescriptor (TX10 k).2.2.1 = some (tyX10 k) := by decide +kernel
abbrev cX10_init : ByteArray := prog_13_method_1_code
def yX10_init : MethodName := ⟨RX10, "<init>", "()V"⟩
def dkwX10_init_7 : List UInt8 := [167, 255, 217, 177]
abbrev dktX10_init_7 : List UInt8 := dkwX10_init_7 ++ []
def dkwX10_init_6 : List UInt8 := [42, 180, 0, 7, 16, 27, 27, 96, 2, 79, 42, 180, 0, 13, 3, 27, 96, 18, 52, 81, 132, 1, 1]
abbrev dktX10_init_6 : List UInt8 := dkwX10_init_6 ++ dktX10_init_7
def dkwX10_init_5 : List UInt8 := [180, 0, 7, 5, 5, 79, 3, 60, 27, 16, 12, 162, 0, 39, 42, 180, 0, 7, 16, 15, 27, 96, 2, 79]
abbrev dktX10_init_5 : List UInt8 := dkwX10_init_5 ++ dktX10_init_6
def dkwX10_init_4 : List UInt8 := [42, 2, 181, 0, 45, 42, 17, 0, 180, 188, 10, 181, 0, 49, 42, 180, 0, 7, 4, 7, 79, 42]
abbrev dktX10_init_4 : List UInt8 := dkwX10_init_4 ++ dktX10_init_5
def dkwX10_init_3 : List UInt8 := [42, 16, 112, 188, 10, 181, 0, 35, 42, 16, 33, 188, 6, 181, 0, 38, 42, 16, 60, 188, 5, 181, 0, 41]
abbrev dktX10_init_3 : List UInt8 := dkwX10_init_3 ++ dktX10_init_4
def dkwX10_init_2 : List UInt8 := [17, 1, 8, 188, 6, 181, 0, 26, 42, 16, 112, 188, 10, 181, 0, 29, 42, 16, 33, 188, 6, 181, 0, 32]
abbrev dktX10_init_2 : List UInt8 := dkwX10_init_2 ++ dktX10_init_3
def dkwX10_init_1 : List UInt8 := [188, 10, 181, 0, 17, 42, 16, 33, 188, 6, 181, 0, 20, 42, 17, 3, 128, 188, 10, 181, 0, 23, 42]
abbrev dktX10_init_1 : List UInt8 := dkwX10_init_1 ++ dktX10_init_2
def dkwX10_init_0 : List UInt8 := [42, 183, 0, 1, 42, 16, 112, 188, 10, 181, 0, 7, 42, 16, 33, 188, 6, 181, 0, 13, 42, 16, 112]
abbrev dktX10_init_0 : List UInt8 := dkwX10_init_0 ++ dktX10_init_1
theorem dksX10_init_0 : cX10_init.data.toList.drop 0 = dktX10_init_0 := by decide +kernel
theorem dksX10_init_1 : cX10_init.data.toList.drop 23 = dktX10_init_1 := dk_seg dksX10_init_0 23 rfl rfl
theorem dksX10_init_2 : cX10_init.data.toList.drop 46 = dktX10_init_2 := dk_seg dksX10_init_1 23 rfl rfl
theorem dksX10_init_3 : cX10_init.data.toList.drop 70 = dktX10_init_3 := dk_seg dksX10_init_2 24 rfl rfl
theorem dksX10_init_4 : cX10_init.data.toList.drop 94 = dktX10_init_4 := dk_seg dksX10_init_3 24 rfl rfl
theorem dksX10_init_5 : cX10_init.data.toList.drop 116 = dktX10_init_5 := dk_seg dksX10_init_4 22 rfl rfl
theorem dksX10_init_6 : cX10_init.data.toList.drop 140 = dktX10_init_6 := dk_seg dksX10_init_5 24 rfl rfl
theorem dksX10_init_7 : cX10_init.data.toList.drop 163 = dktX10_init_7 := dk_seg dksX10_init_6 23 rfl rfl
theorem dX10_init_0 : decode cX10_init 0 = .ok (.aload_n 0, 1) := dk_42 (dk_at dksX10_init_0 0 rfl rfl)
theorem dX10_init_1 : decode cX10_init 1 = .ok (.invokespecial 1, 3) := dk_183 0 1 (dk_at dksX10_init_0 1 rfl rfl)
theorem dX10_init_4 : decode cX10_init 4 = .ok (.aload_n 0, 1) := dk_42 (dk_at dksX10_init_0 4 rfl rfl)
theorem dX10_init_5 : decode cX10_init 5 = .ok (.bipush 112, 2) := dk_16 112 (dk_at dksX10_init_0 5 rfl rfl)
theorem dX10_init_7 : decode cX10_init 7 = .ok (.newarray .int, 2) := dk_188_10 (dk_at dksX10_init_0 7 rfl rfl)
theorem dX10_init_9 : decode cX10_init 9 = .ok (.putfield 7, 3) := dk_181 0 7 (dk_at dksX10_init_0 9 rfl rfl)
theorem dX10_init_12 : decode cX10_init 12 = .ok (.aload_n 0, 1) := dk_42 (dk_at dksX10_init_0 12 rfl rfl)
theorem dX10_init_13 : decode cX10_init 13 = .ok (.bipush 33, 2) := dk_16 33 (dk_at dksX10_init_0 13 rfl rfl)
theorem dX10_init_15 : decode cX10_init 15 = .ok (.newarray .float, 2) := dk_188_6 (dk_at dksX10_init_0 15 rfl rfl)
theorem dX10_init_17 : decode cX10_init 17 = .ok (.putfield 13, 3) := dk_181 0 13 (dk_at dksX10_init_0 17 rfl rfl)
theorem dX10_init_20 : decode cX10_init 20 = .ok (.aload_n 0, 1) := dk_42 (dk_at dksX10_init_0 20 rfl rfl)
theorem dX10_init_21 : decode cX10_init 21 = .ok (.bipush 112, 2) := dk_16 112 (dk_at dksX10_init_0 21 rfl rfl)
theorem dX10_init_23 : decode cX10_init 23 = .ok (.newarray .int, 2) := dk_188_10 (dk_at dksX10_init_1 0 rfl rfl)
theorem dX10_init_25 : decode cX10_init 25 = .ok (.putfield 17, 3) := dk_181 0 17 (dk_at dksX10_init_1 2 rfl rfl)
theorem dX10_init_28 : decode cX10_init 28 = .ok (.aload_n 0, 1) := dk_42 (dk_at dksX10_init_1 5 rfl rfl)
theorem dX10_init_29 : decode cX10_init 29 = .ok (.bipush 33, 2) := dk_16 33 (dk_at dksX10_init_1 6 rfl rfl)
theorem dX10_init_31 : decode cX10_init 31 = .ok (.newarray .float, 2) := dk_188_6 (dk_at dksX10_init_1 8 rfl rfl)
theorem dX10_init_33 : decode cX10_init 33 = .ok (.putfield 20, 3) := dk_181 0 20 (dk_at dksX10_init_1 10 rfl rfl)
theorem dX10_init_36 : decode cX10_init 36 = .ok (.aload_n 0, 1) := dk_42 (dk_at dksX10_init_1 13 rfl rfl)
theorem dX10_init_37 : decode cX10_init 37 = .ok (.sipush 896, 3) := dk_17 3 128 (dk_at dksX10_init_1 14 rfl rfl)
theorem dX10_init_40 : decode cX10_init 40 = .ok (.newarray .int, 2) := dk_188_10 (dk_at dksX10_init_1 17 rfl rfl)
theorem dX10_init_42 : decode cX10_init 42 = .ok (.putfield 23, 3) := dk_181 0 23 (dk_at dksX10_init_1 19 rfl rfl)
theorem dX10_init_45 : decode cX10_init 45 = .ok (.aload_n 0, 1) := dk_42 (dk_at dksX10_init_1 22 rfl rfl)
theorem dX10_init_46 : decode cX10_init 46 = .ok (.sipush 264, 3) := dk_17 1 8 (dk_at dksX10_init_2 0 rfl rfl)
theorem dX10_init_49 : decode cX10_init 49 = .ok (.newarray .float, 2) := dk_188_6 (dk_at dksX10_init_2 3 rfl rfl)
theorem dX10_init_51 : decode cX10_init 51 = .ok (.putfield 26, 3) := dk_181 0 26 (dk_at dksX10_init_2 5 rfl rfl)
theorem dX10_init_54 : decode cX10_init 54 = .ok (.aload_n 0, 1) := dk_42 (dk_at dksX10_init_2 8 rfl rfl)
theorem dX10_init_55 : decode cX10_init 55 = .ok (.bipush 112, 2) := dk_16 112 (dk_at dksX10_init_2 9 rfl rfl)
theorem dX10_init_57 : decode cX10_init 57 = .ok (.newarray .int, 2) := dk_188_10 (dk_at dksX10_init_2 11 rfl rfl)
theorem dX10_init_59 : decode cX10_init 59 = .ok (.putfield 29, 3) := dk_181 0 29 (dk_at dksX10_init_2 13 rfl rfl)
theorem dX10_init_62 : decode cX10_init 62 = .ok (.aload_n 0, 1) := dk_42 (dk_at dksX10_init_2 16 rfl rfl)
theorem dX10_init_63 : decode cX10_init 63 = .ok (.bipush 33, 2) := dk_16 33 (dk_at dksX10_init_2 17 rfl rfl)
theorem dX10_init_65 : decode cX10_init 65 = .ok (.newarray .float, 2) := dk_188_6 (dk_at dksX10_init_2 19 rfl rfl)
theorem dX10_init_67 : decode cX10_init 67 = .ok (.putfield 32, 3) := dk_181 0 32 (dk_at dksX10_init_2 21 rfl rfl)
theorem dX10_init_70 : decode cX10_init 70 = .ok (.aload_n 0, 1) := dk_42 (dk_at dksX10_init_3 0 rfl rfl)
theorem dX10_init_71 : decode cX10_init 71 = .ok (.bipush 112, 2) := dk_16 112 (dk_at dksX10_init_3 1 rfl rfl)
theorem dX10_init_73 : decode cX10_init 73 = .ok (.newarray .int, 2) := dk_188_10 (dk_at dksX10_init_3 3 rfl rfl)
theorem dX10_init_75 : decode cX10_init 75 = .ok (.putfield 35, 3) := dk_181 0 35 (dk_at dksX10_init_3 5 rfl rfl)
theorem dX10_init_78 : decode cX10_init 78 = .ok (.aload_n 0, 1) := dk_42 (dk_at dksX10_init_3 8 rfl rfl)
theorem dX10_init_79 : decode cX10_init 79 = .ok (.bipush 33, 2) := dk_16 33 (dk_at dksX10_init_3 9 rfl rfl)
theorem dX10_init_81 : decode cX10_init 81 = .ok (.newarray .float, 2) := dk_188_6 (dk_at dksX10_init_3 11 rfl rfl)
theorem dX10_init_83 : decode cX10_init 83 = .ok (.putfield 38, 3) := dk_181 0 38 (dk_at dksX10_init_3 13 rfl rfl)
theorem dX10_init_86 : decode cX10_init 86 = .ok (.aload_n 0, 1) := dk_42 (dk_at dksX10_init_3 16 rfl rfl)
theorem dX10_init_87 : decode cX10_init 87 = .ok (.bipush 60, 2) := dk_16 60 (dk_at dksX10_init_3 17 rfl rfl)
theorem dX10_init_89 : decode cX10_init 89 = .ok (.newarray .char, 2) := dk_188_5 (dk_at dksX10_init_3 19 rfl rfl)
theorem dX10_init_91 : decode cX10_init 91 = .ok (.putfield 41, 3) := dk_181 0 41 (dk_at dksX10_init_3 21 rfl rfl)
theorem dX10_init_94 : decode cX10_init 94 = .ok (.aload_n 0, 1) := dk_42 (dk_at dksX10_init_4 0 rfl rfl)
theorem dX10_init_95 : decode cX10_init 95 = .ok (.iconst (-1), 1) := dk_2 (dk_at dksX10_init_4 1 rfl rfl)
theorem dX10_init_96 : decode cX10_init 96 = .ok (.putfield 45, 3) := dk_181 0 45 (dk_at dksX10_init_4 2 rfl rfl)
theorem dX10_init_99 : decode cX10_init 99 = .ok (.aload_n 0, 1) := dk_42 (dk_at dksX10_init_4 5 rfl rfl)
theorem dX10_init_100 : decode cX10_init 100 = .ok (.sipush 180, 3) := dk_17 0 180 (dk_at dksX10_init_4 6 rfl rfl)
theorem dX10_init_103 : decode cX10_init 103 = .ok (.newarray .int, 2) := dk_188_10 (dk_at dksX10_init_4 9 rfl rfl)
theorem dX10_init_105 : decode cX10_init 105 = .ok (.putfield 49, 3) := dk_181 0 49 (dk_at dksX10_init_4 11 rfl rfl)
theorem dX10_init_108 : decode cX10_init 108 = .ok (.aload_n 0, 1) := dk_42 (dk_at dksX10_init_4 14 rfl rfl)
theorem dX10_init_109 : decode cX10_init 109 = .ok (.getfield 7, 3) := dk_180 0 7 (dk_at dksX10_init_4 15 rfl rfl)
theorem dX10_init_112 : decode cX10_init 112 = .ok (.iconst 1, 1) := dk_4 (dk_at dksX10_init_4 18 rfl rfl)
theorem dX10_init_113 : decode cX10_init 113 = .ok (.iconst 4, 1) := dk_7 (dk_at dksX10_init_4 19 rfl rfl)
theorem dX10_init_114 : decode cX10_init 114 = .ok (.iastore, 1) := dk_79 (dk_at dksX10_init_4 20 rfl rfl)
theorem dX10_init_115 : decode cX10_init 115 = .ok (.aload_n 0, 1) := dk_42 (dk_at dksX10_init_4 21 rfl rfl)
theorem dX10_init_116 : decode cX10_init 116 = .ok (.getfield 7, 3) := dk_180 0 7 (dk_at dksX10_init_5 0 rfl rfl)
theorem dX10_init_119 : decode cX10_init 119 = .ok (.iconst 2, 1) := dk_5 (dk_at dksX10_init_5 3 rfl rfl)
theorem dX10_init_120 : decode cX10_init 120 = .ok (.iconst 2, 1) := dk_5 (dk_at dksX10_init_5 4 rfl rfl)
theorem dX10_init_121 : decode cX10_init 121 = .ok (.iastore, 1) := dk_79 (dk_at dksX10_init_5 5 rfl rfl)
theorem dX10_init_122 : decode cX10_init 122 = .ok (.iconst 0, 1) := dk_3 (dk_at dksX10_init_5 6 rfl rfl)
theorem dX10_init_123 : decode cX10_init 123 = .ok (.istore_n 1, 1) := dk_60 (dk_at dksX10_init_5 7 rfl rfl)
theorem dX10_init_124 : decode cX10_init 124 = .ok (.iload_n 1, 1) := dk_27 (dk_at dksX10_init_5 8 rfl rfl)
theorem dX10_init_125 : decode cX10_init 125 = .ok (.bipush 12, 2) := dk_16 12 (dk_at dksX10_init_5 9 rfl rfl)
theorem dX10_init_127 : decode cX10_init 127 = .ok (.if_icmp .ge 39, 3) := dk_162 0 39 (dk_at dksX10_init_5 11 rfl rfl)
theorem dX10_init_130 : decode cX10_init 130 = .ok (.aload_n 0, 1) := dk_42 (dk_at dksX10_init_5 14 rfl rfl)
theorem dX10_init_131 : decode cX10_init 131 = .ok (.getfield 7, 3) := dk_180 0 7 (dk_at dksX10_init_5 15 rfl rfl)
theorem dX10_init_134 : decode cX10_init 134 = .ok (.bipush 15, 2) := dk_16 15 (dk_at dksX10_init_5 18 rfl rfl)
theorem dX10_init_136 : decode cX10_init 136 = .ok (.iload_n 1, 1) := dk_27 (dk_at dksX10_init_5 20 rfl rfl)
theorem dX10_init_137 : decode cX10_init 137 = .ok (.iadd, 1) := dk_96 (dk_at dksX10_init_5 21 rfl rfl)
theorem dX10_init_138 : decode cX10_init 138 = .ok (.iconst (-1), 1) := dk_2 (dk_at dksX10_init_5 22 rfl rfl)
theorem dX10_init_139 : decode cX10_init 139 = .ok (.iastore, 1) := dk_79 (dk_at dksX10_init_5 23 rfl rfl)
theorem dX10_init_140 : decode cX10_init 140 = .ok (.aload_n 0, 1) := dk_42 (dk_at dksX10_init_6 0 rfl rfl)
theorem dX10_init_141 : decode cX10_init 141 = .ok (.getfield 7, 3) := dk_180 0 7 (dk_at dksX10_init_6 1 rfl rfl)
theorem dX10_init_144 : decode cX10_init 144 = .ok (.bipush 27, 2) := dk_16 27 (dk_at dksX10_init_6 4 rfl rfl)
theorem dX10_init_146 : decode cX10_init 146 = .ok (.iload_n 1, 1) := dk_27 (dk_at dksX10_init_6 6 rfl rfl)
theorem dX10_init_147 : decode cX10_init 147 = .ok (.iadd, 1) := dk_96 (dk_at dksX10_init_6 7 rfl rfl)
theorem dX10_init_148 : decode cX10_init 148 = .ok (.iconst (-1), 1) := dk_2 (dk_at dksX10_init_6 8 rfl rfl)
theorem dX10_init_149 : decode cX10_init 149 = .ok (.iastore, 1) := dk_79 (dk_at dksX10_init_6 9 rfl rfl)
theorem dX10_init_150 : decode cX10_init 150 = .ok (.aload_n 0, 1) := dk_42 (dk_at dksX10_init_6 10 rfl rfl)
theorem dX10_init_151 : decode cX10_init 151 = .ok (.getfield 13, 3) := dk_180 0 13 (dk_at dksX10_init_6 11 rfl rfl)
theorem dX10_init_154 : decode cX10_init 154 = .ok (.iconst 0, 1) := dk_3 (dk_at dksX10_init_6 14 rfl rfl)
theorem dX10_init_155 : decode cX10_init 155 = .ok (.iload_n 1, 1) := dk_27 (dk_at dksX10_init_6 15 rfl rfl)
theorem dX10_init_156 : decode cX10_init 156 = .ok (.iadd, 1) := dk_96 (dk_at dksX10_init_6 16 rfl rfl)
theorem dX10_init_157 : decode cX10_init 157 = .ok (.ldc 52, 2) := dk_18 52 (dk_at dksX10_init_6 17 rfl rfl)
theorem dX10_init_159 : decode cX10_init 159 = .ok (.fastore, 1) := dk_81 (dk_at dksX10_init_6 19 rfl rfl)
theorem dX10_init_160 : decode cX10_init 160 = .ok (.iinc 1 1, 3) := dk_132 1 1 (dk_at dksX10_init_6 20 rfl rfl)
theorem dX10_init_163 : decode cX10_init 163 = .ok (.goto (-39), 3) := dk_167 255 217 (dk_at dksX10_init_7 0 rfl rfl)
theorem dX10_init_166 : decode cX10_init 166 = .ok (.return_, 1) := dk_177 (dk_at dksX10_init_7 3 rfl rfl)
abbrev cX10_thrown : ByteArray := prog_13_method_2_code
def yX10_thrown : MethodName := ⟨RX10, "thrown", "()I"⟩
theorem dX10_thrown_0 : decode cX10_thrown 0 = .ok (.aload_n 0, 1) := by decide +kernel
theorem dX10_thrown_1 : decode cX10_thrown 1 = .ok (.getfield 53, 3) := by decide +kernel
theorem dX10_thrown_4 : decode cX10_thrown 4 = .ok (.ireturn, 1) := by decide +kernel
abbrev cX10_wind : ByteArray := prog_13_method_16_code
def yX10_wind : MethodName := ⟨RX10, "wind", "(I)I"⟩
def dkwX10_wind_0 : List UInt8 := [42, 182, 0, 88, 42, 42, 27, 182, 0, 91, 182, 0, 94, 172]
abbrev dktX10_wind_0 : List UInt8 := dkwX10_wind_0 ++ []
theorem dksX10_wind_0 : cX10_wind.data.toList.drop 0 = dktX10_wind_0 := by decide +kernel
theorem dX10_wind_0 : decode cX10_wind 0 = .ok (.aload_n 0, 1) := dk_42 (dk_at dksX10_wind_0 0 rfl rfl)
theorem dX10_wind_1 : decode cX10_wind 1 = .ok (.invokevirtual 88, 3) := dk_182 0 88 (dk_at dksX10_wind_0 1 rfl rfl)
theorem dX10_wind_4 : decode cX10_wind 4 = .ok (.aload_n 0, 1) := dk_42 (dk_at dksX10_wind_0 4 rfl rfl)
theorem dX10_wind_5 : decode cX10_wind 5 = .ok (.aload_n 0, 1) := dk_42 (dk_at dksX10_wind_0 5 rfl rfl)
theorem dX10_wind_6 : decode cX10_wind 6 = .ok (.iload_n 1, 1) := dk_27 (dk_at dksX10_wind_0 6 rfl rfl)
theorem dX10_wind_7 : decode cX10_wind 7 = .ok (.invokevirtual 91, 3) := dk_182 0 91 (dk_at dksX10_wind_0 7 rfl rfl)
theorem dX10_wind_10 : decode cX10_wind 10 = .ok (.invokevirtual 94, 3) := dk_182 0 94 (dk_at dksX10_wind_0 10 rfl rfl)
theorem dX10_wind_13 : decode cX10_wind 13 = .ok (.ireturn, 1) := dk_172 (dk_at dksX10_wind_0 13 rfl rfl)
abbrev cX10_looksBack : ByteArray := prog_13_method_9_code
def yX10_looksBack : MethodName := ⟨RX10, "looksBack", "()V"⟩
def dkwX10_looksBack_1 : List UInt8 := [184, 0, 70, 177]
abbrev dktX10_looksBack_1 : List UInt8 := dkwX10_looksBack_1 ++ []
def dkwX10_looksBack_0 : List UInt8 := [42, 180, 0, 7, 3, 42, 180, 0, 17, 3, 184, 0, 66, 42, 180, 0, 13, 3, 42, 180, 0, 20, 3]
abbrev dktX10_looksBack_0 : List UInt8 := dkwX10_looksBack_0 ++ dktX10_looksBack_1
theorem dksX10_looksBack_0 : cX10_looksBack.data.toList.drop 0 = dktX10_looksBack_0 := by decide +kernel
theorem dksX10_looksBack_1 : cX10_looksBack.data.toList.drop 23 = dktX10_looksBack_1 := dk_seg dksX10_looksBack_0 23 rfl rfl
theorem dX10_looksBack_0 : decode cX10_looksBack 0 = .ok (.aload_n 0, 1) := dk_42 (dk_at dksX10_looksBack_0 0 rfl rfl)
theorem dX10_looksBack_1 : decode cX10_looksBack 1 = .ok (.getfield 7, 3) := dk_180 0 7 (dk_at dksX10_looksBack_0 1 rfl rfl)
theorem dX10_looksBack_4 : decode cX10_looksBack 4 = .ok (.iconst 0, 1) := dk_3 (dk_at dksX10_looksBack_0 4 rfl rfl)
theorem dX10_looksBack_5 : decode cX10_looksBack 5 = .ok (.aload_n 0, 1) := dk_42 (dk_at dksX10_looksBack_0 5 rfl rfl)
theorem dX10_looksBack_6 : decode cX10_looksBack 6 = .ok (.getfield 17, 3) := dk_180 0 17 (dk_at dksX10_looksBack_0 6 rfl rfl)
theorem dX10_looksBack_9 : decode cX10_looksBack 9 = .ok (.iconst 0, 1) := dk_3 (dk_at dksX10_looksBack_0 9 rfl rfl)
theorem dX10_looksBack_10 : decode cX10_looksBack 10 = .ok (.invokestatic 66, 3) := dk_184 0 66 (dk_at dksX10_looksBack_0 10 rfl rfl)
theorem dX10_looksBack_13 : decode cX10_looksBack 13 = .ok (.aload_n 0, 1) := dk_42 (dk_at dksX10_looksBack_0 13 rfl rfl)
theorem dX10_looksBack_14 : decode cX10_looksBack 14 = .ok (.getfield 13, 3) := dk_180 0 13 (dk_at dksX10_looksBack_0 14 rfl rfl)
theorem dX10_looksBack_17 : decode cX10_looksBack 17 = .ok (.iconst 0, 1) := dk_3 (dk_at dksX10_looksBack_0 17 rfl rfl)
theorem dX10_looksBack_18 : decode cX10_looksBack 18 = .ok (.aload_n 0, 1) := dk_42 (dk_at dksX10_looksBack_0 18 rfl rfl)
theorem dX10_looksBack_19 : decode cX10_looksBack 19 = .ok (.getfield 20, 3) := dk_180 0 20 (dk_at dksX10_looksBack_0 19 rfl rfl)
theorem dX10_looksBack_22 : decode cX10_looksBack 22 = .ok (.iconst 0, 1) := dk_3 (dk_at dksX10_looksBack_0 22 rfl rfl)
theorem dX10_looksBack_23 : decode cX10_looksBack 23 = .ok (.invokestatic 70, 3) := dk_184 0 70 (dk_at dksX10_looksBack_1 0 rfl rfl)
theorem dX10_looksBack_26 : decode cX10_looksBack 26 = .ok (.return_, 1) := dk_177 (dk_at dksX10_looksBack_1 3 rfl rfl)
abbrev cX10_copy : ByteArray := prog_13_method_7_code
def yX10_copy : MethodName := ⟨RX10, "copy", "([II[II)V"⟩
def dkwX10_copy_1 : List UInt8 := [132, 4, 1, 167, 255, 234, 177]
abbrev dktX10_copy_1 : List UInt8 := dkwX10_copy_1 ++ []
def dkwX10_copy_0 : List UInt8 := [3, 54, 4, 21, 4, 16, 112, 162, 0, 21, 44, 29, 21, 4, 96, 42, 27, 21, 4, 96, 46, 79]
abbrev dktX10_copy_0 : List UInt8 := dkwX10_copy_0 ++ dktX10_copy_1
theorem dksX10_copy_0 : cX10_copy.data.toList.drop 0 = dktX10_copy_0 := by decide +kernel
theorem dksX10_copy_1 : cX10_copy.data.toList.drop 22 = dktX10_copy_1 := dk_seg dksX10_copy_0 22 rfl rfl
theorem dX10_copy_0 : decode cX10_copy 0 = .ok (.iconst 0, 1) := dk_3 (dk_at dksX10_copy_0 0 rfl rfl)
theorem dX10_copy_1 : decode cX10_copy 1 = .ok (.istore 4, 2) := dk_54 4 (dk_at dksX10_copy_0 1 rfl rfl)
theorem dX10_copy_3 : decode cX10_copy 3 = .ok (.iload 4, 2) := dk_21 4 (dk_at dksX10_copy_0 3 rfl rfl)
theorem dX10_copy_5 : decode cX10_copy 5 = .ok (.bipush 112, 2) := dk_16 112 (dk_at dksX10_copy_0 5 rfl rfl)
theorem dX10_copy_7 : decode cX10_copy 7 = .ok (.if_icmp .ge 21, 3) := dk_162 0 21 (dk_at dksX10_copy_0 7 rfl rfl)
theorem dX10_copy_10 : decode cX10_copy 10 = .ok (.aload_n 2, 1) := dk_44 (dk_at dksX10_copy_0 10 rfl rfl)
theorem dX10_copy_11 : decode cX10_copy 11 = .ok (.iload_n 3, 1) := dk_29 (dk_at dksX10_copy_0 11 rfl rfl)
theorem dX10_copy_12 : decode cX10_copy 12 = .ok (.iload 4, 2) := dk_21 4 (dk_at dksX10_copy_0 12 rfl rfl)
theorem dX10_copy_14 : decode cX10_copy 14 = .ok (.iadd, 1) := dk_96 (dk_at dksX10_copy_0 14 rfl rfl)
theorem dX10_copy_15 : decode cX10_copy 15 = .ok (.aload_n 0, 1) := dk_42 (dk_at dksX10_copy_0 15 rfl rfl)
theorem dX10_copy_16 : decode cX10_copy 16 = .ok (.iload_n 1, 1) := dk_27 (dk_at dksX10_copy_0 16 rfl rfl)
theorem dX10_copy_17 : decode cX10_copy 17 = .ok (.iload 4, 2) := dk_21 4 (dk_at dksX10_copy_0 17 rfl rfl)
theorem dX10_copy_19 : decode cX10_copy 19 = .ok (.iadd, 1) := dk_96 (dk_at dksX10_copy_0 19 rfl rfl)
theorem dX10_copy_20 : decode cX10_copy 20 = .ok (.iaload, 1) := dk_46 (dk_at dksX10_copy_0 20 rfl rfl)
theorem dX10_copy_21 : decode cX10_copy 21 = .ok (.iastore, 1) := dk_79 (dk_at dksX10_copy_0 21 rfl rfl)
theorem dX10_copy_22 : decode cX10_copy 22 = .ok (.iinc 4 1, 3) := dk_132 4 1 (dk_at dksX10_copy_1 0 rfl rfl)
theorem dX10_copy_25 : decode cX10_copy 25 = .ok (.goto (-22), 3) := dk_167 255 234 (dk_at dksX10_copy_1 3 rfl rfl)
theorem dX10_copy_28 : decode cX10_copy 28 = .ok (.return_, 1) := dk_177 (dk_at dksX10_copy_1 6 rfl rfl)
abbrev cX10_copyFloats : ByteArray := prog_13_method_8_code
def yX10_copyFloats : MethodName := ⟨RX10, "copyFloats", "([FI[FI)V"⟩
def dkwX10_copyFloats_1 : List UInt8 := [132, 4, 1, 167, 255, 234, 177]
abbrev dktX10_copyFloats_1 : List UInt8 := dkwX10_copyFloats_1 ++ []
def dkwX10_copyFloats_0 : List UInt8 := [3, 54, 4, 21, 4, 16, 33, 162, 0, 21, 44, 29, 21, 4, 96, 42, 27, 21, 4, 96, 48, 81]
abbrev dktX10_copyFloats_0 : List UInt8 := dkwX10_copyFloats_0 ++ dktX10_copyFloats_1
theorem dksX10_copyFloats_0 : cX10_copyFloats.data.toList.drop 0 = dktX10_copyFloats_0 := by decide +kernel
theorem dksX10_copyFloats_1 : cX10_copyFloats.data.toList.drop 22 = dktX10_copyFloats_1 := dk_seg dksX10_copyFloats_0 22 rfl rfl
theorem dX10_copyFloats_0 : decode cX10_copyFloats 0 = .ok (.iconst 0, 1) := dk_3 (dk_at dksX10_copyFloats_0 0 rfl rfl)
theorem dX10_copyFloats_1 : decode cX10_copyFloats 1 = .ok (.istore 4, 2) := dk_54 4 (dk_at dksX10_copyFloats_0 1 rfl rfl)
theorem dX10_copyFloats_3 : decode cX10_copyFloats 3 = .ok (.iload 4, 2) := dk_21 4 (dk_at dksX10_copyFloats_0 3 rfl rfl)
theorem dX10_copyFloats_5 : decode cX10_copyFloats 5 = .ok (.bipush 33, 2) := dk_16 33 (dk_at dksX10_copyFloats_0 5 rfl rfl)
theorem dX10_copyFloats_7 : decode cX10_copyFloats 7 = .ok (.if_icmp .ge 21, 3) := dk_162 0 21 (dk_at dksX10_copyFloats_0 7 rfl rfl)
theorem dX10_copyFloats_10 : decode cX10_copyFloats 10 = .ok (.aload_n 2, 1) := dk_44 (dk_at dksX10_copyFloats_0 10 rfl rfl)
theorem dX10_copyFloats_11 : decode cX10_copyFloats 11 = .ok (.iload_n 3, 1) := dk_29 (dk_at dksX10_copyFloats_0 11 rfl rfl)
theorem dX10_copyFloats_12 : decode cX10_copyFloats 12 = .ok (.iload 4, 2) := dk_21 4 (dk_at dksX10_copyFloats_0 12 rfl rfl)
theorem dX10_copyFloats_14 : decode cX10_copyFloats 14 = .ok (.iadd, 1) := dk_96 (dk_at dksX10_copyFloats_0 14 rfl rfl)
theorem dX10_copyFloats_15 : decode cX10_copyFloats 15 = .ok (.aload_n 0, 1) := dk_42 (dk_at dksX10_copyFloats_0 15 rfl rfl)
theorem dX10_copyFloats_16 : decode cX10_copyFloats 16 = .ok (.iload_n 1, 1) := dk_27 (dk_at dksX10_copyFloats_0 16 rfl rfl)
theorem dX10_copyFloats_17 : decode cX10_copyFloats 17 = .ok (.iload 4, 2) := dk_21 4 (dk_at dksX10_copyFloats_0 17 rfl rfl)
theorem dX10_copyFloats_19 : decode cX10_copyFloats 19 = .ok (.iadd, 1) := dk_96 (dk_at dksX10_copyFloats_0 19 rfl rfl)
theorem dX10_copyFloats_20 : decode cX10_copyFloats 20 = .ok (.faload, 1) := dk_48 (dk_at dksX10_copyFloats_0 20 rfl rfl)
theorem dX10_copyFloats_21 : decode cX10_copyFloats 21 = .ok (.fastore, 1) := dk_81 (dk_at dksX10_copyFloats_0 21 rfl rfl)
theorem dX10_copyFloats_22 : decode cX10_copyFloats 22 = .ok (.iinc 4 1, 3) := dk_132 4 1 (dk_at dksX10_copyFloats_1 0 rfl rfl)
theorem dX10_copyFloats_25 : decode cX10_copyFloats 25 = .ok (.goto (-22), 3) := dk_167 255 234 (dk_at dksX10_copyFloats_1 3 rfl rfl)
theorem dX10_copyFloats_28 : decode cX10_copyFloats 28 = .ok (.return_, 1) := dk_177 (dk_at dksX10_copyFloats_1 6 rfl rfl)
abbrev cX10_blows : ByteArray := prog_13_method_15_code
def yX10_blows : MethodName := ⟨RX10, "blows", "(I)I"⟩
def dkwX10_blows_1 : List UInt8 := [180, 0, 7, 4, 27, 79, 42, 28, 182, 0, 85, 172]
abbrev dktX10_blows_1 : List UInt8 := dkwX10_blows_1 ++ []
def dkwX10_blows_0 : List UInt8 := [27, 3, 16, 12, 184, 0, 77, 154, 0, 9, 42, 4, 182, 0, 81, 172, 42, 180, 0, 7, 4, 46, 61, 42]
abbrev dktX10_blows_0 : List UInt8 := dkwX10_blows_0 ++ dktX10_blows_1
theorem dksX10_blows_0 : cX10_blows.data.toList.drop 0 = dktX10_blows_0 := by decide +kernel
theorem dksX10_blows_1 : cX10_blows.data.toList.drop 24 = dktX10_blows_1 := dk_seg dksX10_blows_0 24 rfl rfl
theorem dX10_blows_0 : decode cX10_blows 0 = .ok (.iload_n 1, 1) := dk_27 (dk_at dksX10_blows_0 0 rfl rfl)
theorem dX10_blows_1 : decode cX10_blows 1 = .ok (.iconst 0, 1) := dk_3 (dk_at dksX10_blows_0 1 rfl rfl)
theorem dX10_blows_2 : decode cX10_blows 2 = .ok (.bipush 12, 2) := dk_16 12 (dk_at dksX10_blows_0 2 rfl rfl)
theorem dX10_blows_4 : decode cX10_blows 4 = .ok (.invokestatic 77, 3) := dk_184 0 77 (dk_at dksX10_blows_0 4 rfl rfl)
theorem dX10_blows_7 : decode cX10_blows 7 = .ok (.ifCond .ne 9, 3) := dk_154 0 9 (dk_at dksX10_blows_0 7 rfl rfl)
theorem dX10_blows_10 : decode cX10_blows 10 = .ok (.aload_n 0, 1) := dk_42 (dk_at dksX10_blows_0 10 rfl rfl)
theorem dX10_blows_11 : decode cX10_blows 11 = .ok (.iconst 1, 1) := dk_4 (dk_at dksX10_blows_0 11 rfl rfl)
theorem dX10_blows_12 : decode cX10_blows 12 = .ok (.invokevirtual 81, 3) := dk_182 0 81 (dk_at dksX10_blows_0 12 rfl rfl)
theorem dX10_blows_15 : decode cX10_blows 15 = .ok (.ireturn, 1) := dk_172 (dk_at dksX10_blows_0 15 rfl rfl)
theorem dX10_blows_16 : decode cX10_blows 16 = .ok (.aload_n 0, 1) := dk_42 (dk_at dksX10_blows_0 16 rfl rfl)
theorem dX10_blows_17 : decode cX10_blows 17 = .ok (.getfield 7, 3) := dk_180 0 7 (dk_at dksX10_blows_0 17 rfl rfl)
theorem dX10_blows_20 : decode cX10_blows 20 = .ok (.iconst 1, 1) := dk_4 (dk_at dksX10_blows_0 20 rfl rfl)
theorem dX10_blows_21 : decode cX10_blows 21 = .ok (.iaload, 1) := dk_46 (dk_at dksX10_blows_0 21 rfl rfl)
theorem dX10_blows_22 : decode cX10_blows 22 = .ok (.istore_n 2, 1) := dk_61 (dk_at dksX10_blows_0 22 rfl rfl)
theorem dX10_blows_23 : decode cX10_blows 23 = .ok (.aload_n 0, 1) := dk_42 (dk_at dksX10_blows_0 23 rfl rfl)
theorem dX10_blows_24 : decode cX10_blows 24 = .ok (.getfield 7, 3) := dk_180 0 7 (dk_at dksX10_blows_1 0 rfl rfl)
theorem dX10_blows_27 : decode cX10_blows 27 = .ok (.iconst 1, 1) := dk_4 (dk_at dksX10_blows_1 3 rfl rfl)
theorem dX10_blows_28 : decode cX10_blows 28 = .ok (.iload_n 1, 1) := dk_27 (dk_at dksX10_blows_1 4 rfl rfl)
theorem dX10_blows_29 : decode cX10_blows 29 = .ok (.iastore, 1) := dk_79 (dk_at dksX10_blows_1 5 rfl rfl)
theorem dX10_blows_30 : decode cX10_blows 30 = .ok (.aload_n 0, 1) := dk_42 (dk_at dksX10_blows_1 6 rfl rfl)
theorem dX10_blows_31 : decode cX10_blows 31 = .ok (.iload_n 2, 1) := dk_28 (dk_at dksX10_blows_1 7 rfl rfl)
theorem dX10_blows_32 : decode cX10_blows 32 = .ok (.invokevirtual 85, 3) := dk_182 0 85 (dk_at dksX10_blows_1 8 rfl rfl)
theorem dX10_blows_35 : decode cX10_blows 35 = .ok (.ireturn, 1) := dk_172 (dk_at dksX10_blows_1 11 rfl rfl)
abbrev cX10_in : ByteArray := prog_13_method_3_code
def yX10_in : MethodName := ⟨RX10, "in", "(III)Z"⟩
def dkwX10_in_0 : List UInt8 := [26, 27, 161, 0, 12, 26, 28, 163, 0, 7, 4, 167, 0, 4, 3, 172]
abbrev dktX10_in_0 : List UInt8 := dkwX10_in_0 ++ []
theorem dksX10_in_0 : cX10_in.data.toList.drop 0 = dktX10_in_0 := by decide +kernel
theorem dX10_in_0 : decode cX10_in 0 = .ok (.iload_n 0, 1) := dk_26 (dk_at dksX10_in_0 0 rfl rfl)
theorem dX10_in_1 : decode cX10_in 1 = .ok (.iload_n 1, 1) := dk_27 (dk_at dksX10_in_0 1 rfl rfl)
theorem dX10_in_2 : decode cX10_in 2 = .ok (.if_icmp .lt 12, 3) := dk_161 0 12 (dk_at dksX10_in_0 2 rfl rfl)
theorem dX10_in_5 : decode cX10_in 5 = .ok (.iload_n 0, 1) := dk_26 (dk_at dksX10_in_0 5 rfl rfl)
theorem dX10_in_6 : decode cX10_in 6 = .ok (.iload_n 2, 1) := dk_28 (dk_at dksX10_in_0 6 rfl rfl)
theorem dX10_in_7 : decode cX10_in 7 = .ok (.if_icmp .gt 7, 3) := dk_163 0 7 (dk_at dksX10_in_0 7 rfl rfl)
theorem dX10_in_10 : decode cX10_in 10 = .ok (.iconst 1, 1) := dk_4 (dk_at dksX10_in_0 10 rfl rfl)
theorem dX10_in_11 : decode cX10_in 11 = .ok (.goto 4, 3) := dk_167 0 4 (dk_at dksX10_in_0 11 rfl rfl)
theorem dX10_in_14 : decode cX10_in 14 = .ok (.iconst 0, 1) := dk_3 (dk_at dksX10_in_0 14 rfl rfl)
theorem dX10_in_15 : decode cX10_in 15 = .ok (.ireturn, 1) := dk_172 (dk_at dksX10_in_0 15 rfl rfl)
abbrev cX10_fails : ByteArray := prog_13_method_5_code
def yX10_fails : MethodName := ⟨RX10, "fails", "(I)I"⟩
def dkwX10_fails_0 : List UInt8 := [42, 27, 181, 0, 53, 42, 3, 181, 0, 56, 3, 172]
abbrev dktX10_fails_0 : List UInt8 := dkwX10_fails_0 ++ []
theorem dksX10_fails_0 : cX10_fails.data.toList.drop 0 = dktX10_fails_0 := by decide +kernel
theorem dX10_fails_0 : decode cX10_fails 0 = .ok (.aload_n 0, 1) := dk_42 (dk_at dksX10_fails_0 0 rfl rfl)
theorem dX10_fails_1 : decode cX10_fails 1 = .ok (.iload_n 1, 1) := dk_27 (dk_at dksX10_fails_0 1 rfl rfl)
theorem dX10_fails_2 : decode cX10_fails 2 = .ok (.putfield 53, 3) := dk_181 0 53 (dk_at dksX10_fails_0 2 rfl rfl)
theorem dX10_fails_5 : decode cX10_fails 5 = .ok (.aload_n 0, 1) := dk_42 (dk_at dksX10_fails_0 5 rfl rfl)
theorem dX10_fails_6 : decode cX10_fails 6 = .ok (.iconst 0, 1) := dk_3 (dk_at dksX10_fails_0 6 rfl rfl)
theorem dX10_fails_7 : decode cX10_fails 7 = .ok (.putfield 56, 3) := dk_181 0 56 (dk_at dksX10_fails_0 7 rfl rfl)
theorem dX10_fails_10 : decode cX10_fails 10 = .ok (.iconst 0, 1) := dk_3 (dk_at dksX10_fails_0 10 rfl rfl)
theorem dX10_fails_11 : decode cX10_fails 11 = .ok (.ireturn, 1) := dk_172 (dk_at dksX10_fails_0 11 rfl rfl)
abbrev cX10_done : ByteArray := prog_13_method_4_code
def yX10_done : MethodName := ⟨RX10, "done", "(I)I"⟩
def dkwX10_done_0 : List UInt8 := [42, 3, 181, 0, 53, 27, 172]
abbrev dktX10_done_0 : List UInt8 := dkwX10_done_0 ++ []
theorem dksX10_done_0 : cX10_done.data.toList.drop 0 = dktX10_done_0 := by decide +kernel
theorem dX10_done_0 : decode cX10_done 0 = .ok (.aload_n 0, 1) := dk_42 (dk_at dksX10_done_0 0 rfl rfl)
theorem dX10_done_1 : decode cX10_done 1 = .ok (.iconst 0, 1) := dk_3 (dk_at dksX10_done_0 1 rfl rfl)
theorem dX10_done_2 : decode cX10_done 2 = .ok (.putfield 53, 3) := dk_181 0 53 (dk_at dksX10_done_0 2 rfl rfl)
theorem dX10_done_5 : decode cX10_done 5 = .ok (.iload_n 1, 1) := dk_27 (dk_at dksX10_done_0 5 rfl rfl)
theorem dX10_done_6 : decode cX10_done 6 = .ok (.ireturn, 1) := dk_172 (dk_at dksX10_done_0 6 rfl rfl)
abbrev cX10_kept : ByteArray := prog_13_method_10_code
def yX10_kept : MethodName := ⟨RX10, "kept", "(I)I"⟩
def dkwX10_kept_6 : List UInt8 := [180, 0, 74, 16, 33, 104, 184, 0, 70, 42, 89, 180, 0, 74, 4, 96, 181, 0, 74, 27, 172]
abbrev dktX10_kept_6 : List UInt8 := dkwX10_kept_6 ++ []
def dkwX10_kept_5 : List UInt8 := [42, 180, 0, 23, 42, 180, 0, 74, 16, 112, 104, 184, 0, 66, 42, 180, 0, 20, 3, 42, 180, 0, 26, 42]
abbrev dktX10_kept_5 : List UInt8 := dkwX10_kept_5 ++ dktX10_kept_6
def dkwX10_kept_4 : List UInt8 := [96, 48, 81, 132, 2, 1, 167, 255, 231, 42, 89, 180, 0, 74, 4, 100, 181, 0, 74, 42, 180, 0, 17, 3]
abbrev dktX10_kept_4 : List UInt8 := dkwX10_kept_4 ++ dktX10_kept_5
def dkwX10_kept_3 : List UInt8 := [167, 255, 231, 3, 61, 28, 17, 0, 231, 162, 0, 24, 42, 180, 0, 26, 28, 42, 180, 0, 26, 28, 16, 33]
abbrev dktX10_kept_3 : List UInt8 := dkwX10_kept_3 ++ dktX10_kept_4
def dkwX10_kept_2 : List UInt8 := [17, 3, 16, 162, 0, 24, 42, 180, 0, 23, 28, 42, 180, 0, 23, 28, 16, 112, 96, 46, 79, 132, 2, 1]
abbrev dktX10_kept_2 : List UInt8 := dkwX10_kept_2 ++ dktX10_kept_3
def dkwX10_kept_1 : List UInt8 := [3, 42, 180, 0, 13, 3, 184, 0, 70, 3, 172, 42, 180, 0, 74, 16, 8, 160, 0, 73, 3, 61, 28]
abbrev dktX10_kept_1 : List UInt8 := dkwX10_kept_1 ++ dktX10_kept_2
def dkwX10_kept_0 : List UInt8 := [42, 180, 0, 53, 153, 0, 31, 42, 180, 0, 17, 3, 42, 180, 0, 7, 3, 184, 0, 66, 42, 180, 0, 20]
abbrev dktX10_kept_0 : List UInt8 := dkwX10_kept_0 ++ dktX10_kept_1
theorem dksX10_kept_0 : cX10_kept.data.toList.drop 0 = dktX10_kept_0 := by decide +kernel
theorem dksX10_kept_1 : cX10_kept.data.toList.drop 24 = dktX10_kept_1 := dk_seg dksX10_kept_0 24 rfl rfl
theorem dksX10_kept_2 : cX10_kept.data.toList.drop 47 = dktX10_kept_2 := dk_seg dksX10_kept_1 23 rfl rfl
theorem dksX10_kept_3 : cX10_kept.data.toList.drop 71 = dktX10_kept_3 := dk_seg dksX10_kept_2 24 rfl rfl
theorem dksX10_kept_4 : cX10_kept.data.toList.drop 95 = dktX10_kept_4 := dk_seg dksX10_kept_3 24 rfl rfl
theorem dksX10_kept_5 : cX10_kept.data.toList.drop 119 = dktX10_kept_5 := dk_seg dksX10_kept_4 24 rfl rfl
theorem dksX10_kept_6 : cX10_kept.data.toList.drop 143 = dktX10_kept_6 := dk_seg dksX10_kept_5 24 rfl rfl
theorem dX10_kept_0 : decode cX10_kept 0 = .ok (.aload_n 0, 1) := dk_42 (dk_at dksX10_kept_0 0 rfl rfl)
theorem dX10_kept_1 : decode cX10_kept 1 = .ok (.getfield 53, 3) := dk_180 0 53 (dk_at dksX10_kept_0 1 rfl rfl)
theorem dX10_kept_4 : decode cX10_kept 4 = .ok (.ifCond .eq 31, 3) := dk_153 0 31 (dk_at dksX10_kept_0 4 rfl rfl)
theorem dX10_kept_7 : decode cX10_kept 7 = .ok (.aload_n 0, 1) := dk_42 (dk_at dksX10_kept_0 7 rfl rfl)
theorem dX10_kept_8 : decode cX10_kept 8 = .ok (.getfield 17, 3) := dk_180 0 17 (dk_at dksX10_kept_0 8 rfl rfl)
theorem dX10_kept_11 : decode cX10_kept 11 = .ok (.iconst 0, 1) := dk_3 (dk_at dksX10_kept_0 11 rfl rfl)
theorem dX10_kept_12 : decode cX10_kept 12 = .ok (.aload_n 0, 1) := dk_42 (dk_at dksX10_kept_0 12 rfl rfl)
theorem dX10_kept_13 : decode cX10_kept 13 = .ok (.getfield 7, 3) := dk_180 0 7 (dk_at dksX10_kept_0 13 rfl rfl)
theorem dX10_kept_16 : decode cX10_kept 16 = .ok (.iconst 0, 1) := dk_3 (dk_at dksX10_kept_0 16 rfl rfl)
theorem dX10_kept_17 : decode cX10_kept 17 = .ok (.invokestatic 66, 3) := dk_184 0 66 (dk_at dksX10_kept_0 17 rfl rfl)
theorem dX10_kept_20 : decode cX10_kept 20 = .ok (.aload_n 0, 1) := dk_42 (dk_at dksX10_kept_0 20 rfl rfl)
theorem dX10_kept_21 : decode cX10_kept 21 = .ok (.getfield 20, 3) := dk_180 0 20 (dk_at dksX10_kept_0 21 rfl rfl)
theorem dX10_kept_24 : decode cX10_kept 24 = .ok (.iconst 0, 1) := dk_3 (dk_at dksX10_kept_1 0 rfl rfl)
theorem dX10_kept_25 : decode cX10_kept 25 = .ok (.aload_n 0, 1) := dk_42 (dk_at dksX10_kept_1 1 rfl rfl)
theorem dX10_kept_26 : decode cX10_kept 26 = .ok (.getfield 13, 3) := dk_180 0 13 (dk_at dksX10_kept_1 2 rfl rfl)
theorem dX10_kept_29 : decode cX10_kept 29 = .ok (.iconst 0, 1) := dk_3 (dk_at dksX10_kept_1 5 rfl rfl)
theorem dX10_kept_30 : decode cX10_kept 30 = .ok (.invokestatic 70, 3) := dk_184 0 70 (dk_at dksX10_kept_1 6 rfl rfl)
theorem dX10_kept_33 : decode cX10_kept 33 = .ok (.iconst 0, 1) := dk_3 (dk_at dksX10_kept_1 9 rfl rfl)
theorem dX10_kept_34 : decode cX10_kept 34 = .ok (.ireturn, 1) := dk_172 (dk_at dksX10_kept_1 10 rfl rfl)
theorem dX10_kept_35 : decode cX10_kept 35 = .ok (.aload_n 0, 1) := dk_42 (dk_at dksX10_kept_1 11 rfl rfl)
theorem dX10_kept_36 : decode cX10_kept 36 = .ok (.getfield 74, 3) := dk_180 0 74 (dk_at dksX10_kept_1 12 rfl rfl)
theorem dX10_kept_39 : decode cX10_kept 39 = .ok (.bipush 8, 2) := dk_16 8 (dk_at dksX10_kept_1 15 rfl rfl)
theorem dX10_kept_41 : decode cX10_kept 41 = .ok (.if_icmp .ne 73, 3) := dk_160 0 73 (dk_at dksX10_kept_1 17 rfl rfl)
theorem dX10_kept_44 : decode cX10_kept 44 = .ok (.iconst 0, 1) := dk_3 (dk_at dksX10_kept_1 20 rfl rfl)
theorem dX10_kept_45 : decode cX10_kept 45 = .ok (.istore_n 2, 1) := dk_61 (dk_at dksX10_kept_1 21 rfl rfl)
theorem dX10_kept_46 : decode cX10_kept 46 = .ok (.iload_n 2, 1) := dk_28 (dk_at dksX10_kept_1 22 rfl rfl)
theorem dX10_kept_47 : decode cX10_kept 47 = .ok (.sipush 784, 3) := dk_17 3 16 (dk_at dksX10_kept_2 0 rfl rfl)
theorem dX10_kept_50 : decode cX10_kept 50 = .ok (.if_icmp .ge 24, 3) := dk_162 0 24 (dk_at dksX10_kept_2 3 rfl rfl)
theorem dX10_kept_53 : decode cX10_kept 53 = .ok (.aload_n 0, 1) := dk_42 (dk_at dksX10_kept_2 6 rfl rfl)
theorem dX10_kept_54 : decode cX10_kept 54 = .ok (.getfield 23, 3) := dk_180 0 23 (dk_at dksX10_kept_2 7 rfl rfl)
theorem dX10_kept_57 : decode cX10_kept 57 = .ok (.iload_n 2, 1) := dk_28 (dk_at dksX10_kept_2 10 rfl rfl)
theorem dX10_kept_58 : decode cX10_kept 58 = .ok (.aload_n 0, 1) := dk_42 (dk_at dksX10_kept_2 11 rfl rfl)
theorem dX10_kept_59 : decode cX10_kept 59 = .ok (.getfield 23, 3) := dk_180 0 23 (dk_at dksX10_kept_2 12 rfl rfl)
theorem dX10_kept_62 : decode cX10_kept 62 = .ok (.iload_n 2, 1) := dk_28 (dk_at dksX10_kept_2 15 rfl rfl)
theorem dX10_kept_63 : decode cX10_kept 63 = .ok (.bipush 112, 2) := dk_16 112 (dk_at dksX10_kept_2 16 rfl rfl)
theorem dX10_kept_65 : decode cX10_kept 65 = .ok (.iadd, 1) := dk_96 (dk_at dksX10_kept_2 18 rfl rfl)
theorem dX10_kept_66 : decode cX10_kept 66 = .ok (.iaload, 1) := dk_46 (dk_at dksX10_kept_2 19 rfl rfl)
theorem dX10_kept_67 : decode cX10_kept 67 = .ok (.iastore, 1) := dk_79 (dk_at dksX10_kept_2 20 rfl rfl)
theorem dX10_kept_68 : decode cX10_kept 68 = .ok (.iinc 2 1, 3) := dk_132 2 1 (dk_at dksX10_kept_2 21 rfl rfl)
theorem dX10_kept_71 : decode cX10_kept 71 = .ok (.goto (-25), 3) := dk_167 255 231 (dk_at dksX10_kept_3 0 rfl rfl)
theorem dX10_kept_74 : decode cX10_kept 74 = .ok (.iconst 0, 1) := dk_3 (dk_at dksX10_kept_3 3 rfl rfl)
theorem dX10_kept_75 : decode cX10_kept 75 = .ok (.istore_n 2, 1) := dk_61 (dk_at dksX10_kept_3 4 rfl rfl)
theorem dX10_kept_76 : decode cX10_kept 76 = .ok (.iload_n 2, 1) := dk_28 (dk_at dksX10_kept_3 5 rfl rfl)
theorem dX10_kept_77 : decode cX10_kept 77 = .ok (.sipush 231, 3) := dk_17 0 231 (dk_at dksX10_kept_3 6 rfl rfl)
theorem dX10_kept_80 : decode cX10_kept 80 = .ok (.if_icmp .ge 24, 3) := dk_162 0 24 (dk_at dksX10_kept_3 9 rfl rfl)
theorem dX10_kept_83 : decode cX10_kept 83 = .ok (.aload_n 0, 1) := dk_42 (dk_at dksX10_kept_3 12 rfl rfl)
theorem dX10_kept_84 : decode cX10_kept 84 = .ok (.getfield 26, 3) := dk_180 0 26 (dk_at dksX10_kept_3 13 rfl rfl)
theorem dX10_kept_87 : decode cX10_kept 87 = .ok (.iload_n 2, 1) := dk_28 (dk_at dksX10_kept_3 16 rfl rfl)
theorem dX10_kept_88 : decode cX10_kept 88 = .ok (.aload_n 0, 1) := dk_42 (dk_at dksX10_kept_3 17 rfl rfl)
theorem dX10_kept_89 : decode cX10_kept 89 = .ok (.getfield 26, 3) := dk_180 0 26 (dk_at dksX10_kept_3 18 rfl rfl)
theorem dX10_kept_92 : decode cX10_kept 92 = .ok (.iload_n 2, 1) := dk_28 (dk_at dksX10_kept_3 21 rfl rfl)
theorem dX10_kept_93 : decode cX10_kept 93 = .ok (.bipush 33, 2) := dk_16 33 (dk_at dksX10_kept_3 22 rfl rfl)
theorem dX10_kept_95 : decode cX10_kept 95 = .ok (.iadd, 1) := dk_96 (dk_at dksX10_kept_4 0 rfl rfl)
theorem dX10_kept_96 : decode cX10_kept 96 = .ok (.faload, 1) := dk_48 (dk_at dksX10_kept_4 1 rfl rfl)
theorem dX10_kept_97 : decode cX10_kept 97 = .ok (.fastore, 1) := dk_81 (dk_at dksX10_kept_4 2 rfl rfl)
theorem dX10_kept_98 : decode cX10_kept 98 = .ok (.iinc 2 1, 3) := dk_132 2 1 (dk_at dksX10_kept_4 3 rfl rfl)
theorem dX10_kept_101 : decode cX10_kept 101 = .ok (.goto (-25), 3) := dk_167 255 231 (dk_at dksX10_kept_4 6 rfl rfl)
theorem dX10_kept_104 : decode cX10_kept 104 = .ok (.aload_n 0, 1) := dk_42 (dk_at dksX10_kept_4 9 rfl rfl)
theorem dX10_kept_105 : decode cX10_kept 105 = .ok (.dup, 1) := dk_89 (dk_at dksX10_kept_4 10 rfl rfl)
theorem dX10_kept_106 : decode cX10_kept 106 = .ok (.getfield 74, 3) := dk_180 0 74 (dk_at dksX10_kept_4 11 rfl rfl)
theorem dX10_kept_109 : decode cX10_kept 109 = .ok (.iconst 1, 1) := dk_4 (dk_at dksX10_kept_4 14 rfl rfl)
theorem dX10_kept_110 : decode cX10_kept 110 = .ok (.isub, 1) := dk_100 (dk_at dksX10_kept_4 15 rfl rfl)
theorem dX10_kept_111 : decode cX10_kept 111 = .ok (.putfield 74, 3) := dk_181 0 74 (dk_at dksX10_kept_4 16 rfl rfl)
theorem dX10_kept_114 : decode cX10_kept 114 = .ok (.aload_n 0, 1) := dk_42 (dk_at dksX10_kept_4 19 rfl rfl)
theorem dX10_kept_115 : decode cX10_kept 115 = .ok (.getfield 17, 3) := dk_180 0 17 (dk_at dksX10_kept_4 20 rfl rfl)
theorem dX10_kept_118 : decode cX10_kept 118 = .ok (.iconst 0, 1) := dk_3 (dk_at dksX10_kept_4 23 rfl rfl)
theorem dX10_kept_119 : decode cX10_kept 119 = .ok (.aload_n 0, 1) := dk_42 (dk_at dksX10_kept_5 0 rfl rfl)
theorem dX10_kept_120 : decode cX10_kept 120 = .ok (.getfield 23, 3) := dk_180 0 23 (dk_at dksX10_kept_5 1 rfl rfl)
theorem dX10_kept_123 : decode cX10_kept 123 = .ok (.aload_n 0, 1) := dk_42 (dk_at dksX10_kept_5 4 rfl rfl)
theorem dX10_kept_124 : decode cX10_kept 124 = .ok (.getfield 74, 3) := dk_180 0 74 (dk_at dksX10_kept_5 5 rfl rfl)
theorem dX10_kept_127 : decode cX10_kept 127 = .ok (.bipush 112, 2) := dk_16 112 (dk_at dksX10_kept_5 8 rfl rfl)
theorem dX10_kept_129 : decode cX10_kept 129 = .ok (.imul, 1) := dk_104 (dk_at dksX10_kept_5 10 rfl rfl)
theorem dX10_kept_130 : decode cX10_kept 130 = .ok (.invokestatic 66, 3) := dk_184 0 66 (dk_at dksX10_kept_5 11 rfl rfl)
theorem dX10_kept_133 : decode cX10_kept 133 = .ok (.aload_n 0, 1) := dk_42 (dk_at dksX10_kept_5 14 rfl rfl)
theorem dX10_kept_134 : decode cX10_kept 134 = .ok (.getfield 20, 3) := dk_180 0 20 (dk_at dksX10_kept_5 15 rfl rfl)
theorem dX10_kept_137 : decode cX10_kept 137 = .ok (.iconst 0, 1) := dk_3 (dk_at dksX10_kept_5 18 rfl rfl)
theorem dX10_kept_138 : decode cX10_kept 138 = .ok (.aload_n 0, 1) := dk_42 (dk_at dksX10_kept_5 19 rfl rfl)
theorem dX10_kept_139 : decode cX10_kept 139 = .ok (.getfield 26, 3) := dk_180 0 26 (dk_at dksX10_kept_5 20 rfl rfl)
theorem dX10_kept_142 : decode cX10_kept 142 = .ok (.aload_n 0, 1) := dk_42 (dk_at dksX10_kept_5 23 rfl rfl)
theorem dX10_kept_143 : decode cX10_kept 143 = .ok (.getfield 74, 3) := dk_180 0 74 (dk_at dksX10_kept_6 0 rfl rfl)
theorem dX10_kept_146 : decode cX10_kept 146 = .ok (.bipush 33, 2) := dk_16 33 (dk_at dksX10_kept_6 3 rfl rfl)
theorem dX10_kept_148 : decode cX10_kept 148 = .ok (.imul, 1) := dk_104 (dk_at dksX10_kept_6 5 rfl rfl)
theorem dX10_kept_149 : decode cX10_kept 149 = .ok (.invokestatic 70, 3) := dk_184 0 70 (dk_at dksX10_kept_6 6 rfl rfl)
theorem dX10_kept_152 : decode cX10_kept 152 = .ok (.aload_n 0, 1) := dk_42 (dk_at dksX10_kept_6 9 rfl rfl)
theorem dX10_kept_153 : decode cX10_kept 153 = .ok (.dup, 1) := dk_89 (dk_at dksX10_kept_6 10 rfl rfl)
theorem dX10_kept_154 : decode cX10_kept 154 = .ok (.getfield 74, 3) := dk_180 0 74 (dk_at dksX10_kept_6 11 rfl rfl)
theorem dX10_kept_157 : decode cX10_kept 157 = .ok (.iconst 1, 1) := dk_4 (dk_at dksX10_kept_6 14 rfl rfl)
theorem dX10_kept_158 : decode cX10_kept 158 = .ok (.iadd, 1) := dk_96 (dk_at dksX10_kept_6 15 rfl rfl)
theorem dX10_kept_159 : decode cX10_kept 159 = .ok (.putfield 74, 3) := dk_181 0 74 (dk_at dksX10_kept_6 16 rfl rfl)
theorem dX10_kept_162 : decode cX10_kept 162 = .ok (.iload_n 1, 1) := dk_27 (dk_at dksX10_kept_6 19 rfl rfl)
theorem dX10_kept_163 : decode cX10_kept 163 = .ok (.ireturn, 1) := dk_172 (dk_at dksX10_kept_6 20 rfl rfl)
abbrev cX10_rain : ByteArray := prog_13_method_18_code
def yX10_rain : MethodName := ⟨RX10, "rain", "(I)I"⟩
def dkwX10_rain_0 : List UInt8 := [42, 182, 0, 88, 42, 42, 27, 182, 0, 97, 182, 0, 94, 172]
abbrev dktX10_rain_0 : List UInt8 := dkwX10_rain_0 ++ []
theorem dksX10_rain_0 : cX10_rain.data.toList.drop 0 = dktX10_rain_0 := by decide +kernel
theorem dX10_rain_0 : decode cX10_rain 0 = .ok (.aload_n 0, 1) := dk_42 (dk_at dksX10_rain_0 0 rfl rfl)
theorem dX10_rain_1 : decode cX10_rain 1 = .ok (.invokevirtual 88, 3) := dk_182 0 88 (dk_at dksX10_rain_0 1 rfl rfl)
theorem dX10_rain_4 : decode cX10_rain 4 = .ok (.aload_n 0, 1) := dk_42 (dk_at dksX10_rain_0 4 rfl rfl)
theorem dX10_rain_5 : decode cX10_rain 5 = .ok (.aload_n 0, 1) := dk_42 (dk_at dksX10_rain_0 5 rfl rfl)
theorem dX10_rain_6 : decode cX10_rain 6 = .ok (.iload_n 1, 1) := dk_27 (dk_at dksX10_rain_0 6 rfl rfl)
theorem dX10_rain_7 : decode cX10_rain 7 = .ok (.invokevirtual 97, 3) := dk_182 0 97 (dk_at dksX10_rain_0 7 rfl rfl)
theorem dX10_rain_10 : decode cX10_rain 10 = .ok (.invokevirtual 94, 3) := dk_182 0 94 (dk_at dksX10_rain_0 10 rfl rfl)
theorem dX10_rain_13 : decode cX10_rain 13 = .ok (.ireturn, 1) := dk_172 (dk_at dksX10_rain_0 13 rfl rfl)
abbrev cX10_rains : ByteArray := prog_13_method_17_code
def yX10_rains : MethodName := ⟨RX10, "rains", "(I)I"⟩
def dkwX10_rains_1 : List UInt8 := [180, 0, 7, 5, 27, 79, 42, 28, 182, 0, 85, 172]
abbrev dktX10_rains_1 : List UInt8 := dkwX10_rains_1 ++ []
def dkwX10_rains_0 : List UInt8 := [27, 3, 16, 20, 184, 0, 77, 154, 0, 9, 42, 4, 182, 0, 81, 172, 42, 180, 0, 7, 5, 46, 61, 42]
abbrev dktX10_rains_0 : List UInt8 := dkwX10_rains_0 ++ dktX10_rains_1
theorem dksX10_rains_0 : cX10_rains.data.toList.drop 0 = dktX10_rains_0 := by decide +kernel
theorem dksX10_rains_1 : cX10_rains.data.toList.drop 24 = dktX10_rains_1 := dk_seg dksX10_rains_0 24 rfl rfl
theorem dX10_rains_0 : decode cX10_rains 0 = .ok (.iload_n 1, 1) := dk_27 (dk_at dksX10_rains_0 0 rfl rfl)
theorem dX10_rains_1 : decode cX10_rains 1 = .ok (.iconst 0, 1) := dk_3 (dk_at dksX10_rains_0 1 rfl rfl)
theorem dX10_rains_2 : decode cX10_rains 2 = .ok (.bipush 20, 2) := dk_16 20 (dk_at dksX10_rains_0 2 rfl rfl)
theorem dX10_rains_4 : decode cX10_rains 4 = .ok (.invokestatic 77, 3) := dk_184 0 77 (dk_at dksX10_rains_0 4 rfl rfl)
theorem dX10_rains_7 : decode cX10_rains 7 = .ok (.ifCond .ne 9, 3) := dk_154 0 9 (dk_at dksX10_rains_0 7 rfl rfl)
theorem dX10_rains_10 : decode cX10_rains 10 = .ok (.aload_n 0, 1) := dk_42 (dk_at dksX10_rains_0 10 rfl rfl)
theorem dX10_rains_11 : decode cX10_rains 11 = .ok (.iconst 1, 1) := dk_4 (dk_at dksX10_rains_0 11 rfl rfl)
theorem dX10_rains_12 : decode cX10_rains 12 = .ok (.invokevirtual 81, 3) := dk_182 0 81 (dk_at dksX10_rains_0 12 rfl rfl)
theorem dX10_rains_15 : decode cX10_rains 15 = .ok (.ireturn, 1) := dk_172 (dk_at dksX10_rains_0 15 rfl rfl)
theorem dX10_rains_16 : decode cX10_rains 16 = .ok (.aload_n 0, 1) := dk_42 (dk_at dksX10_rains_0 16 rfl rfl)
theorem dX10_rains_17 : decode cX10_rains 17 = .ok (.getfield 7, 3) := dk_180 0 7 (dk_at dksX10_rains_0 17 rfl rfl)
theorem dX10_rains_20 : decode cX10_rains 20 = .ok (.iconst 2, 1) := dk_5 (dk_at dksX10_rains_0 20 rfl rfl)
theorem dX10_rains_21 : decode cX10_rains 21 = .ok (.iaload, 1) := dk_46 (dk_at dksX10_rains_0 21 rfl rfl)
theorem dX10_rains_22 : decode cX10_rains 22 = .ok (.istore_n 2, 1) := dk_61 (dk_at dksX10_rains_0 22 rfl rfl)
theorem dX10_rains_23 : decode cX10_rains 23 = .ok (.aload_n 0, 1) := dk_42 (dk_at dksX10_rains_0 23 rfl rfl)
theorem dX10_rains_24 : decode cX10_rains 24 = .ok (.getfield 7, 3) := dk_180 0 7 (dk_at dksX10_rains_1 0 rfl rfl)
theorem dX10_rains_27 : decode cX10_rains 27 = .ok (.iconst 2, 1) := dk_5 (dk_at dksX10_rains_1 3 rfl rfl)
theorem dX10_rains_28 : decode cX10_rains 28 = .ok (.iload_n 1, 1) := dk_27 (dk_at dksX10_rains_1 4 rfl rfl)
theorem dX10_rains_29 : decode cX10_rains 29 = .ok (.iastore, 1) := dk_79 (dk_at dksX10_rains_1 5 rfl rfl)
theorem dX10_rains_30 : decode cX10_rains 30 = .ok (.aload_n 0, 1) := dk_42 (dk_at dksX10_rains_1 6 rfl rfl)
theorem dX10_rains_31 : decode cX10_rains 31 = .ok (.iload_n 2, 1) := dk_28 (dk_at dksX10_rains_1 7 rfl rfl)
theorem dX10_rains_32 : decode cX10_rains 32 = .ok (.invokevirtual 85, 3) := dk_182 0 85 (dk_at dksX10_rains_1 8 rfl rfl)
theorem dX10_rains_35 : decode cX10_rains 35 = .ok (.ireturn, 1) := dk_172 (dk_at dksX10_rains_1 11 rfl rfl)
abbrev cX10_member : ByteArray := prog_13_method_21_code
def yX10_member : MethodName := ⟨RX10, "member", "()I"⟩
def dkwX10_member_2 : List UInt8 := [42, 42, 27, 182, 0, 85, 182, 0, 94, 172]
abbrev dktX10_member_2 : List UInt8 := dkwX10_member_2 ++ []
def dkwX10_member_1 : List UInt8 := [182, 0, 88, 42, 180, 0, 7, 16, 52, 27, 96, 2, 79, 42, 180, 0, 7, 16, 51, 92, 46, 4, 96, 79]
abbrev dktX10_member_1 : List UInt8 := dkwX10_member_1 ++ dktX10_member_2
def dkwX10_member_0 : List UInt8 := [42, 180, 0, 7, 16, 51, 46, 60, 27, 16, 6, 160, 0, 12, 42, 4, 16, 6, 4, 182, 0, 100, 172, 42]
abbrev dktX10_member_0 : List UInt8 := dkwX10_member_0 ++ dktX10_member_1
theorem dksX10_member_0 : cX10_member.data.toList.drop 0 = dktX10_member_0 := by decide +kernel
theorem dksX10_member_1 : cX10_member.data.toList.drop 24 = dktX10_member_1 := dk_seg dksX10_member_0 24 rfl rfl
theorem dksX10_member_2 : cX10_member.data.toList.drop 48 = dktX10_member_2 := dk_seg dksX10_member_1 24 rfl rfl
theorem dX10_member_0 : decode cX10_member 0 = .ok (.aload_n 0, 1) := dk_42 (dk_at dksX10_member_0 0 rfl rfl)
theorem dX10_member_1 : decode cX10_member 1 = .ok (.getfield 7, 3) := dk_180 0 7 (dk_at dksX10_member_0 1 rfl rfl)
theorem dX10_member_4 : decode cX10_member 4 = .ok (.bipush 51, 2) := dk_16 51 (dk_at dksX10_member_0 4 rfl rfl)
theorem dX10_member_6 : decode cX10_member 6 = .ok (.iaload, 1) := dk_46 (dk_at dksX10_member_0 6 rfl rfl)
theorem dX10_member_7 : decode cX10_member 7 = .ok (.istore_n 1, 1) := dk_60 (dk_at dksX10_member_0 7 rfl rfl)
theorem dX10_member_8 : decode cX10_member 8 = .ok (.iload_n 1, 1) := dk_27 (dk_at dksX10_member_0 8 rfl rfl)
theorem dX10_member_9 : decode cX10_member 9 = .ok (.bipush 6, 2) := dk_16 6 (dk_at dksX10_member_0 9 rfl rfl)
theorem dX10_member_11 : decode cX10_member 11 = .ok (.if_icmp .ne 12, 3) := dk_160 0 12 (dk_at dksX10_member_0 11 rfl rfl)
theorem dX10_member_14 : decode cX10_member 14 = .ok (.aload_n 0, 1) := dk_42 (dk_at dksX10_member_0 14 rfl rfl)
theorem dX10_member_15 : decode cX10_member 15 = .ok (.iconst 1, 1) := dk_4 (dk_at dksX10_member_0 15 rfl rfl)
theorem dX10_member_16 : decode cX10_member 16 = .ok (.bipush 6, 2) := dk_16 6 (dk_at dksX10_member_0 16 rfl rfl)
theorem dX10_member_18 : decode cX10_member 18 = .ok (.iconst 1, 1) := dk_4 (dk_at dksX10_member_0 18 rfl rfl)
theorem dX10_member_19 : decode cX10_member 19 = .ok (.invokevirtual 100, 3) := dk_182 0 100 (dk_at dksX10_member_0 19 rfl rfl)
theorem dX10_member_22 : decode cX10_member 22 = .ok (.ireturn, 1) := dk_172 (dk_at dksX10_member_0 22 rfl rfl)
theorem dX10_member_23 : decode cX10_member 23 = .ok (.aload_n 0, 1) := dk_42 (dk_at dksX10_member_0 23 rfl rfl)
theorem dX10_member_24 : decode cX10_member 24 = .ok (.invokevirtual 88, 3) := dk_182 0 88 (dk_at dksX10_member_1 0 rfl rfl)
theorem dX10_member_27 : decode cX10_member 27 = .ok (.aload_n 0, 1) := dk_42 (dk_at dksX10_member_1 3 rfl rfl)
theorem dX10_member_28 : decode cX10_member 28 = .ok (.getfield 7, 3) := dk_180 0 7 (dk_at dksX10_member_1 4 rfl rfl)
theorem dX10_member_31 : decode cX10_member 31 = .ok (.bipush 52, 2) := dk_16 52 (dk_at dksX10_member_1 7 rfl rfl)
theorem dX10_member_33 : decode cX10_member 33 = .ok (.iload_n 1, 1) := dk_27 (dk_at dksX10_member_1 9 rfl rfl)
theorem dX10_member_34 : decode cX10_member 34 = .ok (.iadd, 1) := dk_96 (dk_at dksX10_member_1 10 rfl rfl)
theorem dX10_member_35 : decode cX10_member 35 = .ok (.iconst (-1), 1) := dk_2 (dk_at dksX10_member_1 11 rfl rfl)
theorem dX10_member_36 : decode cX10_member 36 = .ok (.iastore, 1) := dk_79 (dk_at dksX10_member_1 12 rfl rfl)
theorem dX10_member_37 : decode cX10_member 37 = .ok (.aload_n 0, 1) := dk_42 (dk_at dksX10_member_1 13 rfl rfl)
theorem dX10_member_38 : decode cX10_member 38 = .ok (.getfield 7, 3) := dk_180 0 7 (dk_at dksX10_member_1 14 rfl rfl)
theorem dX10_member_41 : decode cX10_member 41 = .ok (.bipush 51, 2) := dk_16 51 (dk_at dksX10_member_1 17 rfl rfl)
theorem dX10_member_43 : decode cX10_member 43 = .ok (.dup2, 1) := dk_92 (dk_at dksX10_member_1 19 rfl rfl)
theorem dX10_member_44 : decode cX10_member 44 = .ok (.iaload, 1) := dk_46 (dk_at dksX10_member_1 20 rfl rfl)
theorem dX10_member_45 : decode cX10_member 45 = .ok (.iconst 1, 1) := dk_4 (dk_at dksX10_member_1 21 rfl rfl)
theorem dX10_member_46 : decode cX10_member 46 = .ok (.iadd, 1) := dk_96 (dk_at dksX10_member_1 22 rfl rfl)
theorem dX10_member_47 : decode cX10_member 47 = .ok (.iastore, 1) := dk_79 (dk_at dksX10_member_1 23 rfl rfl)
theorem dX10_member_48 : decode cX10_member 48 = .ok (.aload_n 0, 1) := dk_42 (dk_at dksX10_member_2 0 rfl rfl)
theorem dX10_member_49 : decode cX10_member 49 = .ok (.aload_n 0, 1) := dk_42 (dk_at dksX10_member_2 1 rfl rfl)
theorem dX10_member_50 : decode cX10_member 50 = .ok (.iload_n 1, 1) := dk_27 (dk_at dksX10_member_2 2 rfl rfl)
theorem dX10_member_51 : decode cX10_member 51 = .ok (.invokevirtual 85, 3) := dk_182 0 85 (dk_at dksX10_member_2 3 rfl rfl)
theorem dX10_member_54 : decode cX10_member 54 = .ok (.invokevirtual 94, 3) := dk_182 0 94 (dk_at dksX10_member_2 6 rfl rfl)
theorem dX10_member_57 : decode cX10_member 57 = .ok (.ireturn, 1) := dk_172 (dk_at dksX10_member_2 9 rfl rfl)
abbrev cX10_refused : ByteArray := prog_13_method_6_code
def yX10_refused : MethodName := ⟨RX10, "refused", "(III)I"⟩
def dkwX10_refused_0 : List UInt8 := [42, 27, 181, 0, 60, 42, 28, 181, 0, 63, 42, 29, 181, 0, 53, 42, 4, 181, 0, 56, 3, 172]
abbrev dktX10_refused_0 : List UInt8 := dkwX10_refused_0 ++ []
theorem dksX10_refused_0 : cX10_refused.data.toList.drop 0 = dktX10_refused_0 := by decide +kernel
theorem dX10_refused_0 : decode cX10_refused 0 = .ok (.aload_n 0, 1) := dk_42 (dk_at dksX10_refused_0 0 rfl rfl)
theorem dX10_refused_1 : decode cX10_refused 1 = .ok (.iload_n 1, 1) := dk_27 (dk_at dksX10_refused_0 1 rfl rfl)
theorem dX10_refused_2 : decode cX10_refused 2 = .ok (.putfield 60, 3) := dk_181 0 60 (dk_at dksX10_refused_0 2 rfl rfl)
theorem dX10_refused_5 : decode cX10_refused 5 = .ok (.aload_n 0, 1) := dk_42 (dk_at dksX10_refused_0 5 rfl rfl)
theorem dX10_refused_6 : decode cX10_refused 6 = .ok (.iload_n 2, 1) := dk_28 (dk_at dksX10_refused_0 6 rfl rfl)
theorem dX10_refused_7 : decode cX10_refused 7 = .ok (.putfield 63, 3) := dk_181 0 63 (dk_at dksX10_refused_0 7 rfl rfl)
theorem dX10_refused_10 : decode cX10_refused 10 = .ok (.aload_n 0, 1) := dk_42 (dk_at dksX10_refused_0 10 rfl rfl)
theorem dX10_refused_11 : decode cX10_refused 11 = .ok (.iload_n 3, 1) := dk_29 (dk_at dksX10_refused_0 11 rfl rfl)
theorem dX10_refused_12 : decode cX10_refused 12 = .ok (.putfield 53, 3) := dk_181 0 53 (dk_at dksX10_refused_0 12 rfl rfl)
theorem dX10_refused_15 : decode cX10_refused 15 = .ok (.aload_n 0, 1) := dk_42 (dk_at dksX10_refused_0 15 rfl rfl)
theorem dX10_refused_16 : decode cX10_refused 16 = .ok (.iconst 1, 1) := dk_4 (dk_at dksX10_refused_0 16 rfl rfl)
theorem dX10_refused_17 : decode cX10_refused 17 = .ok (.putfield 56, 3) := dk_181 0 56 (dk_at dksX10_refused_0 17 rfl rfl)
theorem dX10_refused_20 : decode cX10_refused 20 = .ok (.iconst 0, 1) := dk_3 (dk_at dksX10_refused_0 20 rfl rfl)
theorem dX10_refused_21 : decode cX10_refused 21 = .ok (.ireturn, 1) := dk_172 (dk_at dksX10_refused_0 21 rfl rfl)
abbrev cX10_dig : ByteArray := prog_13_method_24_code
def yX10_dig : MethodName := ⟨RX10, "dig", "(II)I"⟩
def dkwX10_dig_0 : List UInt8 := [42, 182, 0, 88, 42, 42, 27, 28, 182, 0, 115, 182, 0, 94, 172]
abbrev dktX10_dig_0 : List UInt8 := dkwX10_dig_0 ++ []
theorem dksX10_dig_0 : cX10_dig.data.toList.drop 0 = dktX10_dig_0 := by decide +kernel
theorem dX10_dig_0 : decode cX10_dig 0 = .ok (.aload_n 0, 1) := dk_42 (dk_at dksX10_dig_0 0 rfl rfl)
theorem dX10_dig_1 : decode cX10_dig 1 = .ok (.invokevirtual 88, 3) := dk_182 0 88 (dk_at dksX10_dig_0 1 rfl rfl)
theorem dX10_dig_4 : decode cX10_dig 4 = .ok (.aload_n 0, 1) := dk_42 (dk_at dksX10_dig_0 4 rfl rfl)
theorem dX10_dig_5 : decode cX10_dig 5 = .ok (.aload_n 0, 1) := dk_42 (dk_at dksX10_dig_0 5 rfl rfl)
theorem dX10_dig_6 : decode cX10_dig 6 = .ok (.iload_n 1, 1) := dk_27 (dk_at dksX10_dig_0 6 rfl rfl)
theorem dX10_dig_7 : decode cX10_dig 7 = .ok (.iload_n 2, 1) := dk_28 (dk_at dksX10_dig_0 7 rfl rfl)
theorem dX10_dig_8 : decode cX10_dig 8 = .ok (.invokevirtual 115, 3) := dk_182 0 115 (dk_at dksX10_dig_0 8 rfl rfl)
theorem dX10_dig_11 : decode cX10_dig 11 = .ok (.invokevirtual 94, 3) := dk_182 0 94 (dk_at dksX10_dig_0 11 rfl rfl)
theorem dX10_dig_14 : decode cX10_dig 14 = .ok (.ireturn, 1) := dk_172 (dk_at dksX10_dig_0 14 rfl rfl)
abbrev cX10_digs : ByteArray := prog_13_method_23_code
def yX10_digs : MethodName := ⟨RX10, "digs", "(II)I"⟩
def dkwX10_digs_4 : List UInt8 := [16, 15, 28, 96, 27, 79, 42, 42, 182, 0, 111, 182, 0, 85, 172]
abbrev dktX10_digs_4 : List UInt8 := dkwX10_digs_4 ++ []
def dkwX10_digs_3 : List UInt8 := [16, 15, 28, 96, 46, 5, 182, 0, 100, 172, 42, 180, 0, 7, 16, 52, 27, 96, 28, 79, 42, 180, 0, 7]
abbrev dktX10_digs_3 : List UInt8 := dkwX10_digs_3 ++ dktX10_digs_4
def dkwX10_digs_2 : List UInt8 := [182, 0, 100, 172, 42, 180, 0, 7, 16, 15, 28, 96, 46, 2, 159, 0, 19, 42, 6, 42, 180, 0, 7]
abbrev dktX10_digs_2 : List UInt8 := dkwX10_digs_2 ++ dktX10_digs_3
def dkwX10_digs_1 : List UInt8 := [180, 0, 7, 16, 52, 27, 96, 46, 2, 159, 0, 19, 42, 5, 42, 180, 0, 7, 16, 52, 27, 96, 46, 5]
abbrev dktX10_digs_1 : List UInt8 := dkwX10_digs_1 ++ dktX10_digs_2
def dkwX10_digs_0 : List UInt8 := [42, 27, 182, 0, 104, 153, 0, 10, 28, 184, 0, 108, 154, 0, 9, 42, 4, 182, 0, 81, 172, 42]
abbrev dktX10_digs_0 : List UInt8 := dkwX10_digs_0 ++ dktX10_digs_1
theorem dksX10_digs_0 : cX10_digs.data.toList.drop 0 = dktX10_digs_0 := by decide +kernel
theorem dksX10_digs_1 : cX10_digs.data.toList.drop 22 = dktX10_digs_1 := dk_seg dksX10_digs_0 22 rfl rfl
theorem dksX10_digs_2 : cX10_digs.data.toList.drop 46 = dktX10_digs_2 := dk_seg dksX10_digs_1 24 rfl rfl
theorem dksX10_digs_3 : cX10_digs.data.toList.drop 69 = dktX10_digs_3 := dk_seg dksX10_digs_2 23 rfl rfl
theorem dksX10_digs_4 : cX10_digs.data.toList.drop 93 = dktX10_digs_4 := dk_seg dksX10_digs_3 24 rfl rfl
theorem dX10_digs_0 : decode cX10_digs 0 = .ok (.aload_n 0, 1) := dk_42 (dk_at dksX10_digs_0 0 rfl rfl)
theorem dX10_digs_1 : decode cX10_digs 1 = .ok (.iload_n 1, 1) := dk_27 (dk_at dksX10_digs_0 1 rfl rfl)
theorem dX10_digs_2 : decode cX10_digs 2 = .ok (.invokevirtual 104, 3) := dk_182 0 104 (dk_at dksX10_digs_0 2 rfl rfl)
theorem dX10_digs_5 : decode cX10_digs 5 = .ok (.ifCond .eq 10, 3) := dk_153 0 10 (dk_at dksX10_digs_0 5 rfl rfl)
theorem dX10_digs_8 : decode cX10_digs 8 = .ok (.iload_n 2, 1) := dk_28 (dk_at dksX10_digs_0 8 rfl rfl)
theorem dX10_digs_9 : decode cX10_digs 9 = .ok (.invokestatic 108, 3) := dk_184 0 108 (dk_at dksX10_digs_0 9 rfl rfl)
theorem dX10_digs_12 : decode cX10_digs 12 = .ok (.ifCond .ne 9, 3) := dk_154 0 9 (dk_at dksX10_digs_0 12 rfl rfl)
theorem dX10_digs_15 : decode cX10_digs 15 = .ok (.aload_n 0, 1) := dk_42 (dk_at dksX10_digs_0 15 rfl rfl)
theorem dX10_digs_16 : decode cX10_digs 16 = .ok (.iconst 1, 1) := dk_4 (dk_at dksX10_digs_0 16 rfl rfl)
theorem dX10_digs_17 : decode cX10_digs 17 = .ok (.invokevirtual 81, 3) := dk_182 0 81 (dk_at dksX10_digs_0 17 rfl rfl)
theorem dX10_digs_20 : decode cX10_digs 20 = .ok (.ireturn, 1) := dk_172 (dk_at dksX10_digs_0 20 rfl rfl)
theorem dX10_digs_21 : decode cX10_digs 21 = .ok (.aload_n 0, 1) := dk_42 (dk_at dksX10_digs_0 21 rfl rfl)
theorem dX10_digs_22 : decode cX10_digs 22 = .ok (.getfield 7, 3) := dk_180 0 7 (dk_at dksX10_digs_1 0 rfl rfl)
theorem dX10_digs_25 : decode cX10_digs 25 = .ok (.bipush 52, 2) := dk_16 52 (dk_at dksX10_digs_1 3 rfl rfl)
theorem dX10_digs_27 : decode cX10_digs 27 = .ok (.iload_n 1, 1) := dk_27 (dk_at dksX10_digs_1 5 rfl rfl)
theorem dX10_digs_28 : decode cX10_digs 28 = .ok (.iadd, 1) := dk_96 (dk_at dksX10_digs_1 6 rfl rfl)
theorem dX10_digs_29 : decode cX10_digs 29 = .ok (.iaload, 1) := dk_46 (dk_at dksX10_digs_1 7 rfl rfl)
theorem dX10_digs_30 : decode cX10_digs 30 = .ok (.iconst (-1), 1) := dk_2 (dk_at dksX10_digs_1 8 rfl rfl)
theorem dX10_digs_31 : decode cX10_digs 31 = .ok (.if_icmp .eq 19, 3) := dk_159 0 19 (dk_at dksX10_digs_1 9 rfl rfl)
theorem dX10_digs_34 : decode cX10_digs 34 = .ok (.aload_n 0, 1) := dk_42 (dk_at dksX10_digs_1 12 rfl rfl)
theorem dX10_digs_35 : decode cX10_digs 35 = .ok (.iconst 2, 1) := dk_5 (dk_at dksX10_digs_1 13 rfl rfl)
theorem dX10_digs_36 : decode cX10_digs 36 = .ok (.aload_n 0, 1) := dk_42 (dk_at dksX10_digs_1 14 rfl rfl)
theorem dX10_digs_37 : decode cX10_digs 37 = .ok (.getfield 7, 3) := dk_180 0 7 (dk_at dksX10_digs_1 15 rfl rfl)
theorem dX10_digs_40 : decode cX10_digs 40 = .ok (.bipush 52, 2) := dk_16 52 (dk_at dksX10_digs_1 18 rfl rfl)
theorem dX10_digs_42 : decode cX10_digs 42 = .ok (.iload_n 1, 1) := dk_27 (dk_at dksX10_digs_1 20 rfl rfl)
theorem dX10_digs_43 : decode cX10_digs 43 = .ok (.iadd, 1) := dk_96 (dk_at dksX10_digs_1 21 rfl rfl)
theorem dX10_digs_44 : decode cX10_digs 44 = .ok (.iaload, 1) := dk_46 (dk_at dksX10_digs_1 22 rfl rfl)
theorem dX10_digs_45 : decode cX10_digs 45 = .ok (.iconst 2, 1) := dk_5 (dk_at dksX10_digs_1 23 rfl rfl)
theorem dX10_digs_46 : decode cX10_digs 46 = .ok (.invokevirtual 100, 3) := dk_182 0 100 (dk_at dksX10_digs_2 0 rfl rfl)
theorem dX10_digs_49 : decode cX10_digs 49 = .ok (.ireturn, 1) := dk_172 (dk_at dksX10_digs_2 3 rfl rfl)
theorem dX10_digs_50 : decode cX10_digs 50 = .ok (.aload_n 0, 1) := dk_42 (dk_at dksX10_digs_2 4 rfl rfl)
theorem dX10_digs_51 : decode cX10_digs 51 = .ok (.getfield 7, 3) := dk_180 0 7 (dk_at dksX10_digs_2 5 rfl rfl)
theorem dX10_digs_54 : decode cX10_digs 54 = .ok (.bipush 15, 2) := dk_16 15 (dk_at dksX10_digs_2 8 rfl rfl)
theorem dX10_digs_56 : decode cX10_digs 56 = .ok (.iload_n 2, 1) := dk_28 (dk_at dksX10_digs_2 10 rfl rfl)
theorem dX10_digs_57 : decode cX10_digs 57 = .ok (.iadd, 1) := dk_96 (dk_at dksX10_digs_2 11 rfl rfl)
theorem dX10_digs_58 : decode cX10_digs 58 = .ok (.iaload, 1) := dk_46 (dk_at dksX10_digs_2 12 rfl rfl)
theorem dX10_digs_59 : decode cX10_digs 59 = .ok (.iconst (-1), 1) := dk_2 (dk_at dksX10_digs_2 13 rfl rfl)
theorem dX10_digs_60 : decode cX10_digs 60 = .ok (.if_icmp .eq 19, 3) := dk_159 0 19 (dk_at dksX10_digs_2 14 rfl rfl)
theorem dX10_digs_63 : decode cX10_digs 63 = .ok (.aload_n 0, 1) := dk_42 (dk_at dksX10_digs_2 17 rfl rfl)
theorem dX10_digs_64 : decode cX10_digs 64 = .ok (.iconst 3, 1) := dk_6 (dk_at dksX10_digs_2 18 rfl rfl)
theorem dX10_digs_65 : decode cX10_digs 65 = .ok (.aload_n 0, 1) := dk_42 (dk_at dksX10_digs_2 19 rfl rfl)
theorem dX10_digs_66 : decode cX10_digs 66 = .ok (.getfield 7, 3) := dk_180 0 7 (dk_at dksX10_digs_2 20 rfl rfl)
theorem dX10_digs_69 : decode cX10_digs 69 = .ok (.bipush 15, 2) := dk_16 15 (dk_at dksX10_digs_3 0 rfl rfl)
theorem dX10_digs_71 : decode cX10_digs 71 = .ok (.iload_n 2, 1) := dk_28 (dk_at dksX10_digs_3 2 rfl rfl)
theorem dX10_digs_72 : decode cX10_digs 72 = .ok (.iadd, 1) := dk_96 (dk_at dksX10_digs_3 3 rfl rfl)
theorem dX10_digs_73 : decode cX10_digs 73 = .ok (.iaload, 1) := dk_46 (dk_at dksX10_digs_3 4 rfl rfl)
theorem dX10_digs_74 : decode cX10_digs 74 = .ok (.iconst 2, 1) := dk_5 (dk_at dksX10_digs_3 5 rfl rfl)
theorem dX10_digs_75 : decode cX10_digs 75 = .ok (.invokevirtual 100, 3) := dk_182 0 100 (dk_at dksX10_digs_3 6 rfl rfl)
theorem dX10_digs_78 : decode cX10_digs 78 = .ok (.ireturn, 1) := dk_172 (dk_at dksX10_digs_3 9 rfl rfl)
theorem dX10_digs_79 : decode cX10_digs 79 = .ok (.aload_n 0, 1) := dk_42 (dk_at dksX10_digs_3 10 rfl rfl)
theorem dX10_digs_80 : decode cX10_digs 80 = .ok (.getfield 7, 3) := dk_180 0 7 (dk_at dksX10_digs_3 11 rfl rfl)
theorem dX10_digs_83 : decode cX10_digs 83 = .ok (.bipush 52, 2) := dk_16 52 (dk_at dksX10_digs_3 14 rfl rfl)
theorem dX10_digs_85 : decode cX10_digs 85 = .ok (.iload_n 1, 1) := dk_27 (dk_at dksX10_digs_3 16 rfl rfl)
theorem dX10_digs_86 : decode cX10_digs 86 = .ok (.iadd, 1) := dk_96 (dk_at dksX10_digs_3 17 rfl rfl)
theorem dX10_digs_87 : decode cX10_digs 87 = .ok (.iload_n 2, 1) := dk_28 (dk_at dksX10_digs_3 18 rfl rfl)
theorem dX10_digs_88 : decode cX10_digs 88 = .ok (.iastore, 1) := dk_79 (dk_at dksX10_digs_3 19 rfl rfl)
theorem dX10_digs_89 : decode cX10_digs 89 = .ok (.aload_n 0, 1) := dk_42 (dk_at dksX10_digs_3 20 rfl rfl)
theorem dX10_digs_90 : decode cX10_digs 90 = .ok (.getfield 7, 3) := dk_180 0 7 (dk_at dksX10_digs_3 21 rfl rfl)
theorem dX10_digs_93 : decode cX10_digs 93 = .ok (.bipush 15, 2) := dk_16 15 (dk_at dksX10_digs_4 0 rfl rfl)
theorem dX10_digs_95 : decode cX10_digs 95 = .ok (.iload_n 2, 1) := dk_28 (dk_at dksX10_digs_4 2 rfl rfl)
theorem dX10_digs_96 : decode cX10_digs 96 = .ok (.iadd, 1) := dk_96 (dk_at dksX10_digs_4 3 rfl rfl)
theorem dX10_digs_97 : decode cX10_digs 97 = .ok (.iload_n 1, 1) := dk_27 (dk_at dksX10_digs_4 4 rfl rfl)
theorem dX10_digs_98 : decode cX10_digs 98 = .ok (.iastore, 1) := dk_79 (dk_at dksX10_digs_4 5 rfl rfl)
theorem dX10_digs_99 : decode cX10_digs 99 = .ok (.aload_n 0, 1) := dk_42 (dk_at dksX10_digs_4 6 rfl rfl)
theorem dX10_digs_100 : decode cX10_digs 100 = .ok (.aload_n 0, 1) := dk_42 (dk_at dksX10_digs_4 7 rfl rfl)
theorem dX10_digs_101 : decode cX10_digs 101 = .ok (.invokevirtual 111, 3) := dk_182 0 111 (dk_at dksX10_digs_4 8 rfl rfl)
theorem dX10_digs_104 : decode cX10_digs 104 = .ok (.invokevirtual 85, 3) := dk_182 0 85 (dk_at dksX10_digs_4 11 rfl rfl)
theorem dX10_digs_107 : decode cX10_digs 107 = .ok (.ireturn, 1) := dk_172 (dk_at dksX10_digs_4 14 rfl rfl)
abbrev cX10_isMember : ByteArray := prog_13_method_19_code
def yX10_isMember : MethodName := ⟨RX10, "isMember", "(I)Z"⟩
def dkwX10_isMember_0 : List UInt8 := [27, 3, 42, 180, 0, 7, 16, 51, 46, 4, 100, 184, 0, 77, 172]
abbrev dktX10_isMember_0 : List UInt8 := dkwX10_isMember_0 ++ []
theorem dksX10_isMember_0 : cX10_isMember.data.toList.drop 0 = dktX10_isMember_0 := by decide +kernel
theorem dX10_isMember_0 : decode cX10_isMember 0 = .ok (.iload_n 1, 1) := dk_27 (dk_at dksX10_isMember_0 0 rfl rfl)
theorem dX10_isMember_1 : decode cX10_isMember 1 = .ok (.iconst 0, 1) := dk_3 (dk_at dksX10_isMember_0 1 rfl rfl)
theorem dX10_isMember_2 : decode cX10_isMember 2 = .ok (.aload_n 0, 1) := dk_42 (dk_at dksX10_isMember_0 2 rfl rfl)
theorem dX10_isMember_3 : decode cX10_isMember 3 = .ok (.getfield 7, 3) := dk_180 0 7 (dk_at dksX10_isMember_0 3 rfl rfl)
theorem dX10_isMember_6 : decode cX10_isMember 6 = .ok (.bipush 51, 2) := dk_16 51 (dk_at dksX10_isMember_0 6 rfl rfl)
theorem dX10_isMember_8 : decode cX10_isMember 8 = .ok (.iaload, 1) := dk_46 (dk_at dksX10_isMember_0 8 rfl rfl)
theorem dX10_isMember_9 : decode cX10_isMember 9 = .ok (.iconst 1, 1) := dk_4 (dk_at dksX10_isMember_0 9 rfl rfl)
theorem dX10_isMember_10 : decode cX10_isMember 10 = .ok (.isub, 1) := dk_100 (dk_at dksX10_isMember_0 10 rfl rfl)
theorem dX10_isMember_11 : decode cX10_isMember 11 = .ok (.invokestatic 77, 3) := dk_184 0 77 (dk_at dksX10_isMember_0 11 rfl rfl)
theorem dX10_isMember_14 : decode cX10_isMember 14 = .ok (.ireturn, 1) := dk_172 (dk_at dksX10_isMember_0 14 rfl rfl)
abbrev cX10_isPlot : ByteArray := prog_13_method_20_code
def yX10_isPlot : MethodName := ⟨RX10, "isPlot", "(I)Z"⟩
def dkwX10_isPlot_0 : List UInt8 := [26, 3, 16, 11, 184, 0, 77, 172]
abbrev dktX10_isPlot_0 : List UInt8 := dkwX10_isPlot_0 ++ []
theorem dksX10_isPlot_0 : cX10_isPlot.data.toList.drop 0 = dktX10_isPlot_0 := by decide +kernel
theorem dX10_isPlot_0 : decode cX10_isPlot 0 = .ok (.iload_n 0, 1) := dk_26 (dk_at dksX10_isPlot_0 0 rfl rfl)
theorem dX10_isPlot_1 : decode cX10_isPlot 1 = .ok (.iconst 0, 1) := dk_3 (dk_at dksX10_isPlot_0 1 rfl rfl)
theorem dX10_isPlot_2 : decode cX10_isPlot 2 = .ok (.bipush 11, 2) := dk_16 11 (dk_at dksX10_isPlot_0 2 rfl rfl)
theorem dX10_isPlot_4 : decode cX10_isPlot 4 = .ok (.invokestatic 77, 3) := dk_184 0 77 (dk_at dksX10_isPlot_0 4 rfl rfl)
theorem dX10_isPlot_7 : decode cX10_isPlot 7 = .ok (.ireturn, 1) := dk_172 (dk_at dksX10_isPlot_0 7 rfl rfl)
abbrev cX10_plotsDug : ByteArray := prog_13_method_22_code
def yX10_plotsDug : MethodName := ⟨RX10, "plotsDug", "()I"⟩
def dkwX10_plotsDug_1 : List UInt8 := [3, 167, 0, 4, 4, 96, 60, 132, 2, 1, 167, 255, 226, 27, 172]
abbrev dktX10_plotsDug_1 : List UInt8 := dkwX10_plotsDug_1 ++ []
def dkwX10_plotsDug_0 : List UInt8 := [3, 60, 3, 61, 28, 16, 12, 162, 0, 30, 27, 42, 180, 0, 7, 16, 15, 28, 96, 46, 2, 160, 0, 7]
abbrev dktX10_plotsDug_0 : List UInt8 := dkwX10_plotsDug_0 ++ dktX10_plotsDug_1
theorem dksX10_plotsDug_0 : cX10_plotsDug.data.toList.drop 0 = dktX10_plotsDug_0 := by decide +kernel
theorem dksX10_plotsDug_1 : cX10_plotsDug.data.toList.drop 24 = dktX10_plotsDug_1 := dk_seg dksX10_plotsDug_0 24 rfl rfl
theorem dX10_plotsDug_0 : decode cX10_plotsDug 0 = .ok (.iconst 0, 1) := dk_3 (dk_at dksX10_plotsDug_0 0 rfl rfl)
theorem dX10_plotsDug_1 : decode cX10_plotsDug 1 = .ok (.istore_n 1, 1) := dk_60 (dk_at dksX10_plotsDug_0 1 rfl rfl)
theorem dX10_plotsDug_2 : decode cX10_plotsDug 2 = .ok (.iconst 0, 1) := dk_3 (dk_at dksX10_plotsDug_0 2 rfl rfl)
theorem dX10_plotsDug_3 : decode cX10_plotsDug 3 = .ok (.istore_n 2, 1) := dk_61 (dk_at dksX10_plotsDug_0 3 rfl rfl)
theorem dX10_plotsDug_4 : decode cX10_plotsDug 4 = .ok (.iload_n 2, 1) := dk_28 (dk_at dksX10_plotsDug_0 4 rfl rfl)
theorem dX10_plotsDug_5 : decode cX10_plotsDug 5 = .ok (.bipush 12, 2) := dk_16 12 (dk_at dksX10_plotsDug_0 5 rfl rfl)
theorem dX10_plotsDug_7 : decode cX10_plotsDug 7 = .ok (.if_icmp .ge 30, 3) := dk_162 0 30 (dk_at dksX10_plotsDug_0 7 rfl rfl)
theorem dX10_plotsDug_10 : decode cX10_plotsDug 10 = .ok (.iload_n 1, 1) := dk_27 (dk_at dksX10_plotsDug_0 10 rfl rfl)
theorem dX10_plotsDug_11 : decode cX10_plotsDug 11 = .ok (.aload_n 0, 1) := dk_42 (dk_at dksX10_plotsDug_0 11 rfl rfl)
theorem dX10_plotsDug_12 : decode cX10_plotsDug 12 = .ok (.getfield 7, 3) := dk_180 0 7 (dk_at dksX10_plotsDug_0 12 rfl rfl)
theorem dX10_plotsDug_15 : decode cX10_plotsDug 15 = .ok (.bipush 15, 2) := dk_16 15 (dk_at dksX10_plotsDug_0 15 rfl rfl)
theorem dX10_plotsDug_17 : decode cX10_plotsDug 17 = .ok (.iload_n 2, 1) := dk_28 (dk_at dksX10_plotsDug_0 17 rfl rfl)
theorem dX10_plotsDug_18 : decode cX10_plotsDug 18 = .ok (.iadd, 1) := dk_96 (dk_at dksX10_plotsDug_0 18 rfl rfl)
theorem dX10_plotsDug_19 : decode cX10_plotsDug 19 = .ok (.iaload, 1) := dk_46 (dk_at dksX10_plotsDug_0 19 rfl rfl)
theorem dX10_plotsDug_20 : decode cX10_plotsDug 20 = .ok (.iconst (-1), 1) := dk_2 (dk_at dksX10_plotsDug_0 20 rfl rfl)
theorem dX10_plotsDug_21 : decode cX10_plotsDug 21 = .ok (.if_icmp .ne 7, 3) := dk_160 0 7 (dk_at dksX10_plotsDug_0 21 rfl rfl)
theorem dX10_plotsDug_24 : decode cX10_plotsDug 24 = .ok (.iconst 0, 1) := dk_3 (dk_at dksX10_plotsDug_1 0 rfl rfl)
theorem dX10_plotsDug_25 : decode cX10_plotsDug 25 = .ok (.goto 4, 3) := dk_167 0 4 (dk_at dksX10_plotsDug_1 1 rfl rfl)
theorem dX10_plotsDug_28 : decode cX10_plotsDug 28 = .ok (.iconst 1, 1) := dk_4 (dk_at dksX10_plotsDug_1 4 rfl rfl)
theorem dX10_plotsDug_29 : decode cX10_plotsDug 29 = .ok (.iadd, 1) := dk_96 (dk_at dksX10_plotsDug_1 5 rfl rfl)
theorem dX10_plotsDug_30 : decode cX10_plotsDug 30 = .ok (.istore_n 1, 1) := dk_60 (dk_at dksX10_plotsDug_1 6 rfl rfl)
theorem dX10_plotsDug_31 : decode cX10_plotsDug 31 = .ok (.iinc 2 1, 3) := dk_132 2 1 (dk_at dksX10_plotsDug_1 7 rfl rfl)
theorem dX10_plotsDug_34 : decode cX10_plotsDug 34 = .ok (.goto (-30), 3) := dk_167 255 226 (dk_at dksX10_plotsDug_1 10 rfl rfl)
theorem dX10_plotsDug_37 : decode cX10_plotsDug 37 = .ok (.iload_n 1, 1) := dk_27 (dk_at dksX10_plotsDug_1 13 rfl rfl)
theorem dX10_plotsDug_38 : decode cX10_plotsDug 38 = .ok (.ireturn, 1) := dk_172 (dk_at dksX10_plotsDug_1 14 rfl rfl)
abbrev cX10_rest : ByteArray := prog_13_method_26_code
def yX10_rest : MethodName := ⟨RX10, "rest", "(I)I"⟩
def dkwX10_rest_0 : List UInt8 := [42, 182, 0, 88, 42, 42, 27, 182, 0, 119, 182, 0, 94, 172]
abbrev dktX10_rest_0 : List UInt8 := dkwX10_rest_0 ++ []
theorem dksX10_rest_0 : cX10_rest.data.toList.drop 0 = dktX10_rest_0 := by decide +kernel
theorem dX10_rest_0 : decode cX10_rest 0 = .ok (.aload_n 0, 1) := dk_42 (dk_at dksX10_rest_0 0 rfl rfl)
theorem dX10_rest_1 : decode cX10_rest 1 = .ok (.invokevirtual 88, 3) := dk_182 0 88 (dk_at dksX10_rest_0 1 rfl rfl)
theorem dX10_rest_4 : decode cX10_rest 4 = .ok (.aload_n 0, 1) := dk_42 (dk_at dksX10_rest_0 4 rfl rfl)
theorem dX10_rest_5 : decode cX10_rest 5 = .ok (.aload_n 0, 1) := dk_42 (dk_at dksX10_rest_0 5 rfl rfl)
theorem dX10_rest_6 : decode cX10_rest 6 = .ok (.iload_n 1, 1) := dk_27 (dk_at dksX10_rest_0 6 rfl rfl)
theorem dX10_rest_7 : decode cX10_rest 7 = .ok (.invokevirtual 119, 3) := dk_182 0 119 (dk_at dksX10_rest_0 7 rfl rfl)
theorem dX10_rest_10 : decode cX10_rest 10 = .ok (.invokevirtual 94, 3) := dk_182 0 94 (dk_at dksX10_rest_0 10 rfl rfl)
theorem dX10_rest_13 : decode cX10_rest 13 = .ok (.ireturn, 1) := dk_172 (dk_at dksX10_rest_0 13 rfl rfl)
abbrev cX10_rests : ByteArray := prog_13_method_25_code
def yX10_rests : MethodName := ⟨RX10, "rests", "(I)I"⟩
def dkwX10_rests_2 : List UInt8 := [180, 0, 7, 16, 15, 28, 96, 2, 79, 42, 28, 182, 0, 85, 172]
abbrev dktX10_rests_2 : List UInt8 := dkwX10_rests_2 ++ []
def dkwX10_rests_1 : List UInt8 := [28, 2, 160, 0, 11, 42, 7, 27, 5, 182, 0, 100, 172, 42, 180, 0, 7, 16, 52, 27, 96, 2, 79, 42]
abbrev dktX10_rests_1 : List UInt8 := dkwX10_rests_1 ++ dktX10_rests_2
def dkwX10_rests_0 : List UInt8 := [42, 27, 182, 0, 104, 154, 0, 9, 42, 4, 182, 0, 81, 172, 42, 180, 0, 7, 16, 52, 27, 96, 46, 61]
abbrev dktX10_rests_0 : List UInt8 := dkwX10_rests_0 ++ dktX10_rests_1
theorem dksX10_rests_0 : cX10_rests.data.toList.drop 0 = dktX10_rests_0 := by decide +kernel
theorem dksX10_rests_1 : cX10_rests.data.toList.drop 24 = dktX10_rests_1 := dk_seg dksX10_rests_0 24 rfl rfl
theorem dksX10_rests_2 : cX10_rests.data.toList.drop 48 = dktX10_rests_2 := dk_seg dksX10_rests_1 24 rfl rfl
theorem dX10_rests_0 : decode cX10_rests 0 = .ok (.aload_n 0, 1) := dk_42 (dk_at dksX10_rests_0 0 rfl rfl)
theorem dX10_rests_1 : decode cX10_rests 1 = .ok (.iload_n 1, 1) := dk_27 (dk_at dksX10_rests_0 1 rfl rfl)
theorem dX10_rests_2 : decode cX10_rests 2 = .ok (.invokevirtual 104, 3) := dk_182 0 104 (dk_at dksX10_rests_0 2 rfl rfl)
theorem dX10_rests_5 : decode cX10_rests 5 = .ok (.ifCond .ne 9, 3) := dk_154 0 9 (dk_at dksX10_rests_0 5 rfl rfl)
theorem dX10_rests_8 : decode cX10_rests 8 = .ok (.aload_n 0, 1) := dk_42 (dk_at dksX10_rests_0 8 rfl rfl)
theorem dX10_rests_9 : decode cX10_rests 9 = .ok (.iconst 1, 1) := dk_4 (dk_at dksX10_rests_0 9 rfl rfl)
theorem dX10_rests_10 : decode cX10_rests 10 = .ok (.invokevirtual 81, 3) := dk_182 0 81 (dk_at dksX10_rests_0 10 rfl rfl)
theorem dX10_rests_13 : decode cX10_rests 13 = .ok (.ireturn, 1) := dk_172 (dk_at dksX10_rests_0 13 rfl rfl)
theorem dX10_rests_14 : decode cX10_rests 14 = .ok (.aload_n 0, 1) := dk_42 (dk_at dksX10_rests_0 14 rfl rfl)
theorem dX10_rests_15 : decode cX10_rests 15 = .ok (.getfield 7, 3) := dk_180 0 7 (dk_at dksX10_rests_0 15 rfl rfl)
theorem dX10_rests_18 : decode cX10_rests 18 = .ok (.bipush 52, 2) := dk_16 52 (dk_at dksX10_rests_0 18 rfl rfl)
theorem dX10_rests_20 : decode cX10_rests 20 = .ok (.iload_n 1, 1) := dk_27 (dk_at dksX10_rests_0 20 rfl rfl)
theorem dX10_rests_21 : decode cX10_rests 21 = .ok (.iadd, 1) := dk_96 (dk_at dksX10_rests_0 21 rfl rfl)
theorem dX10_rests_22 : decode cX10_rests 22 = .ok (.iaload, 1) := dk_46 (dk_at dksX10_rests_0 22 rfl rfl)
theorem dX10_rests_23 : decode cX10_rests 23 = .ok (.istore_n 2, 1) := dk_61 (dk_at dksX10_rests_0 23 rfl rfl)
theorem dX10_rests_24 : decode cX10_rests 24 = .ok (.iload_n 2, 1) := dk_28 (dk_at dksX10_rests_1 0 rfl rfl)
theorem dX10_rests_25 : decode cX10_rests 25 = .ok (.iconst (-1), 1) := dk_2 (dk_at dksX10_rests_1 1 rfl rfl)
theorem dX10_rests_26 : decode cX10_rests 26 = .ok (.if_icmp .ne 11, 3) := dk_160 0 11 (dk_at dksX10_rests_1 2 rfl rfl)
theorem dX10_rests_29 : decode cX10_rests 29 = .ok (.aload_n 0, 1) := dk_42 (dk_at dksX10_rests_1 5 rfl rfl)
theorem dX10_rests_30 : decode cX10_rests 30 = .ok (.iconst 4, 1) := dk_7 (dk_at dksX10_rests_1 6 rfl rfl)
theorem dX10_rests_31 : decode cX10_rests 31 = .ok (.iload_n 1, 1) := dk_27 (dk_at dksX10_rests_1 7 rfl rfl)
theorem dX10_rests_32 : decode cX10_rests 32 = .ok (.iconst 2, 1) := dk_5 (dk_at dksX10_rests_1 8 rfl rfl)
theorem dX10_rests_33 : decode cX10_rests 33 = .ok (.invokevirtual 100, 3) := dk_182 0 100 (dk_at dksX10_rests_1 9 rfl rfl)
theorem dX10_rests_36 : decode cX10_rests 36 = .ok (.ireturn, 1) := dk_172 (dk_at dksX10_rests_1 12 rfl rfl)
theorem dX10_rests_37 : decode cX10_rests 37 = .ok (.aload_n 0, 1) := dk_42 (dk_at dksX10_rests_1 13 rfl rfl)
theorem dX10_rests_38 : decode cX10_rests 38 = .ok (.getfield 7, 3) := dk_180 0 7 (dk_at dksX10_rests_1 14 rfl rfl)
theorem dX10_rests_41 : decode cX10_rests 41 = .ok (.bipush 52, 2) := dk_16 52 (dk_at dksX10_rests_1 17 rfl rfl)
theorem dX10_rests_43 : decode cX10_rests 43 = .ok (.iload_n 1, 1) := dk_27 (dk_at dksX10_rests_1 19 rfl rfl)
theorem dX10_rests_44 : decode cX10_rests 44 = .ok (.iadd, 1) := dk_96 (dk_at dksX10_rests_1 20 rfl rfl)
theorem dX10_rests_45 : decode cX10_rests 45 = .ok (.iconst (-1), 1) := dk_2 (dk_at dksX10_rests_1 21 rfl rfl)
theorem dX10_rests_46 : decode cX10_rests 46 = .ok (.iastore, 1) := dk_79 (dk_at dksX10_rests_1 22 rfl rfl)
theorem dX10_rests_47 : decode cX10_rests 47 = .ok (.aload_n 0, 1) := dk_42 (dk_at dksX10_rests_1 23 rfl rfl)
theorem dX10_rests_48 : decode cX10_rests 48 = .ok (.getfield 7, 3) := dk_180 0 7 (dk_at dksX10_rests_2 0 rfl rfl)
theorem dX10_rests_51 : decode cX10_rests 51 = .ok (.bipush 15, 2) := dk_16 15 (dk_at dksX10_rests_2 3 rfl rfl)
theorem dX10_rests_53 : decode cX10_rests 53 = .ok (.iload_n 2, 1) := dk_28 (dk_at dksX10_rests_2 5 rfl rfl)
theorem dX10_rests_54 : decode cX10_rests 54 = .ok (.iadd, 1) := dk_96 (dk_at dksX10_rests_2 6 rfl rfl)
theorem dX10_rests_55 : decode cX10_rests 55 = .ok (.iconst (-1), 1) := dk_2 (dk_at dksX10_rests_2 7 rfl rfl)
theorem dX10_rests_56 : decode cX10_rests 56 = .ok (.iastore, 1) := dk_79 (dk_at dksX10_rests_2 8 rfl rfl)
theorem dX10_rests_57 : decode cX10_rests 57 = .ok (.aload_n 0, 1) := dk_42 (dk_at dksX10_rests_2 9 rfl rfl)
theorem dX10_rests_58 : decode cX10_rests 58 = .ok (.iload_n 2, 1) := dk_28 (dk_at dksX10_rests_2 10 rfl rfl)
theorem dX10_rests_59 : decode cX10_rests 59 = .ok (.invokevirtual 85, 3) := dk_182 0 85 (dk_at dksX10_rests_2 11 rfl rfl)
theorem dX10_rests_62 : decode cX10_rests 62 = .ok (.ireturn, 1) := dk_172 (dk_at dksX10_rests_2 14 rfl rfl)
abbrev cX10_memberOf : ByteArray := prog_13_method_27_code
def yX10_memberOf : MethodName := ⟨RX10, "memberOf", "(II)I"⟩
def dkwX10_memberOf_2 : List UInt8 := [182, 0, 81, 172]
abbrev dktX10_memberOf_2 : List UInt8 := dkwX10_memberOf_2 ++ []
def dkwX10_memberOf_1 : List UInt8 := [42, 180, 0, 7, 16, 52, 16, 6, 28, 104, 96, 27, 96, 46, 182, 0, 85, 167, 0, 8, 42, 5]
abbrev dktX10_memberOf_1 : List UInt8 := dkwX10_memberOf_1 ++ dktX10_memberOf_2
def dkwX10_memberOf_0 : List UInt8 := [42, 27, 182, 0, 104, 154, 0, 9, 42, 4, 182, 0, 81, 172, 28, 3, 5, 184, 0, 77, 153, 0, 24, 42]
abbrev dktX10_memberOf_0 : List UInt8 := dkwX10_memberOf_0 ++ dktX10_memberOf_1
theorem dksX10_memberOf_0 : cX10_memberOf.data.toList.drop 0 = dktX10_memberOf_0 := by decide +kernel
theorem dksX10_memberOf_1 : cX10_memberOf.data.toList.drop 24 = dktX10_memberOf_1 := dk_seg dksX10_memberOf_0 24 rfl rfl
theorem dksX10_memberOf_2 : cX10_memberOf.data.toList.drop 46 = dktX10_memberOf_2 := dk_seg dksX10_memberOf_1 22 rfl rfl
theorem dX10_memberOf_0 : decode cX10_memberOf 0 = .ok (.aload_n 0, 1) := dk_42 (dk_at dksX10_memberOf_0 0 rfl rfl)
theorem dX10_memberOf_1 : decode cX10_memberOf 1 = .ok (.iload_n 1, 1) := dk_27 (dk_at dksX10_memberOf_0 1 rfl rfl)
theorem dX10_memberOf_2 : decode cX10_memberOf 2 = .ok (.invokevirtual 104, 3) := dk_182 0 104 (dk_at dksX10_memberOf_0 2 rfl rfl)
theorem dX10_memberOf_5 : decode cX10_memberOf 5 = .ok (.ifCond .ne 9, 3) := dk_154 0 9 (dk_at dksX10_memberOf_0 5 rfl rfl)
theorem dX10_memberOf_8 : decode cX10_memberOf 8 = .ok (.aload_n 0, 1) := dk_42 (dk_at dksX10_memberOf_0 8 rfl rfl)
theorem dX10_memberOf_9 : decode cX10_memberOf 9 = .ok (.iconst 1, 1) := dk_4 (dk_at dksX10_memberOf_0 9 rfl rfl)
theorem dX10_memberOf_10 : decode cX10_memberOf 10 = .ok (.invokevirtual 81, 3) := dk_182 0 81 (dk_at dksX10_memberOf_0 10 rfl rfl)
theorem dX10_memberOf_13 : decode cX10_memberOf 13 = .ok (.ireturn, 1) := dk_172 (dk_at dksX10_memberOf_0 13 rfl rfl)
theorem dX10_memberOf_14 : decode cX10_memberOf 14 = .ok (.iload_n 2, 1) := dk_28 (dk_at dksX10_memberOf_0 14 rfl rfl)
theorem dX10_memberOf_15 : decode cX10_memberOf 15 = .ok (.iconst 0, 1) := dk_3 (dk_at dksX10_memberOf_0 15 rfl rfl)
theorem dX10_memberOf_16 : decode cX10_memberOf 16 = .ok (.iconst 2, 1) := dk_5 (dk_at dksX10_memberOf_0 16 rfl rfl)
theorem dX10_memberOf_17 : decode cX10_memberOf 17 = .ok (.invokestatic 77, 3) := dk_184 0 77 (dk_at dksX10_memberOf_0 17 rfl rfl)
theorem dX10_memberOf_20 : decode cX10_memberOf 20 = .ok (.ifCond .eq 24, 3) := dk_153 0 24 (dk_at dksX10_memberOf_0 20 rfl rfl)
theorem dX10_memberOf_23 : decode cX10_memberOf 23 = .ok (.aload_n 0, 1) := dk_42 (dk_at dksX10_memberOf_0 23 rfl rfl)
theorem dX10_memberOf_24 : decode cX10_memberOf 24 = .ok (.aload_n 0, 1) := dk_42 (dk_at dksX10_memberOf_1 0 rfl rfl)
theorem dX10_memberOf_25 : decode cX10_memberOf 25 = .ok (.getfield 7, 3) := dk_180 0 7 (dk_at dksX10_memberOf_1 1 rfl rfl)
theorem dX10_memberOf_28 : decode cX10_memberOf 28 = .ok (.bipush 52, 2) := dk_16 52 (dk_at dksX10_memberOf_1 4 rfl rfl)
theorem dX10_memberOf_30 : decode cX10_memberOf 30 = .ok (.bipush 6, 2) := dk_16 6 (dk_at dksX10_memberOf_1 6 rfl rfl)
theorem dX10_memberOf_32 : decode cX10_memberOf 32 = .ok (.iload_n 2, 1) := dk_28 (dk_at dksX10_memberOf_1 8 rfl rfl)
theorem dX10_memberOf_33 : decode cX10_memberOf 33 = .ok (.imul, 1) := dk_104 (dk_at dksX10_memberOf_1 9 rfl rfl)
theorem dX10_memberOf_34 : decode cX10_memberOf 34 = .ok (.iadd, 1) := dk_96 (dk_at dksX10_memberOf_1 10 rfl rfl)
theorem dX10_memberOf_35 : decode cX10_memberOf 35 = .ok (.iload_n 1, 1) := dk_27 (dk_at dksX10_memberOf_1 11 rfl rfl)
theorem dX10_memberOf_36 : decode cX10_memberOf 36 = .ok (.iadd, 1) := dk_96 (dk_at dksX10_memberOf_1 12 rfl rfl)
theorem dX10_memberOf_37 : decode cX10_memberOf 37 = .ok (.iaload, 1) := dk_46 (dk_at dksX10_memberOf_1 13 rfl rfl)
theorem dX10_memberOf_38 : decode cX10_memberOf 38 = .ok (.invokevirtual 85, 3) := dk_182 0 85 (dk_at dksX10_memberOf_1 14 rfl rfl)
theorem dX10_memberOf_41 : decode cX10_memberOf 41 = .ok (.goto 8, 3) := dk_167 0 8 (dk_at dksX10_memberOf_1 17 rfl rfl)
theorem dX10_memberOf_44 : decode cX10_memberOf 44 = .ok (.aload_n 0, 1) := dk_42 (dk_at dksX10_memberOf_1 20 rfl rfl)
theorem dX10_memberOf_45 : decode cX10_memberOf 45 = .ok (.iconst 2, 1) := dk_5 (dk_at dksX10_memberOf_1 21 rfl rfl)
theorem dX10_memberOf_46 : decode cX10_memberOf 46 = .ok (.invokevirtual 81, 3) := dk_182 0 81 (dk_at dksX10_memberOf_2 0 rfl rfl)
theorem dX10_memberOf_49 : decode cX10_memberOf 49 = .ok (.ireturn, 1) := dk_172 (dk_at dksX10_memberOf_2 3 rfl rfl)
abbrev cX10_plotOf : ByteArray := prog_13_method_29_code
def yX10_plotOf : MethodName := ⟨RX10, "plotOf", "(II)I"⟩
def dkwX10_plotOf_5 : List UInt8 := [6, 27, 96, 46, 182, 0, 85, 172, 42, 42, 27, 182, 0, 122, 182, 0, 85, 172, 42, 5, 182, 0, 81, 172]
abbrev dktX10_plotOf_5 : List UInt8 := dkwX10_plotOf_5 ++ []
def dkwX10_plotOf_4 : List UInt8 := [180, 0, 7, 3, 46, 42, 180, 0, 7, 16, 39, 27, 96, 46, 100, 182, 0, 85, 172, 42, 42, 180, 0, 7]
abbrev dktX10_plotOf_4 : List UInt8 := dkwX10_plotOf_4 ++ dktX10_plotOf_5
def dkwX10_plotOf_3 : List UInt8 := [182, 0, 85, 172, 42, 42, 180, 0, 7, 16, 27, 27, 96, 46, 2, 160, 0, 7, 2, 167, 0, 19, 42]
abbrev dktX10_plotOf_3 : List UInt8 := dkwX10_plotOf_3 ++ dktX10_plotOf_4
def dkwX10_plotOf_2 : List UInt8 := [42, 42, 180, 0, 7, 16, 15, 27, 96, 46, 182, 0, 85, 172, 42, 42, 180, 0, 7, 16, 27, 27, 96, 46]
abbrev dktX10_plotOf_2 : List UInt8 := dkwX10_plotOf_2 ++ dktX10_plotOf_3
def dkwX10_plotOf_1 : List UInt8 := [170, 0, 0, 0, 0, 123, 0, 0, 0, 0, 0, 0, 0, 4, 0, 0, 0, 34, 0, 0, 0, 48, 0, 0, 0, 62, 0, 0, 0, 100, 0, 0, 0, 113]
abbrev dktX10_plotOf_1 : List UInt8 := dkwX10_plotOf_1 ++ dktX10_plotOf_2
def dkwX10_plotOf_0 : List UInt8 := [27, 184, 0, 108, 154, 0, 9, 42, 4, 182, 0, 81, 172, 28]
abbrev dktX10_plotOf_0 : List UInt8 := dkwX10_plotOf_0 ++ dktX10_plotOf_1
theorem dksX10_plotOf_0 : cX10_plotOf.data.toList.drop 0 = dktX10_plotOf_0 := by decide +kernel
theorem dksX10_plotOf_1 : cX10_plotOf.data.toList.drop 14 = dktX10_plotOf_1 := dk_seg dksX10_plotOf_0 14 rfl rfl
theorem dksX10_plotOf_2 : cX10_plotOf.data.toList.drop 48 = dktX10_plotOf_2 := dk_seg dksX10_plotOf_1 34 rfl rfl
theorem dksX10_plotOf_3 : cX10_plotOf.data.toList.drop 72 = dktX10_plotOf_3 := dk_seg dksX10_plotOf_2 24 rfl rfl
theorem dksX10_plotOf_4 : cX10_plotOf.data.toList.drop 95 = dktX10_plotOf_4 := dk_seg dksX10_plotOf_3 23 rfl rfl
theorem dksX10_plotOf_5 : cX10_plotOf.data.toList.drop 119 = dktX10_plotOf_5 := dk_seg dksX10_plotOf_4 24 rfl rfl
theorem dX10_plotOf_0 : decode cX10_plotOf 0 = .ok (.iload_n 1, 1) := dk_27 (dk_at dksX10_plotOf_0 0 rfl rfl)
theorem dX10_plotOf_1 : decode cX10_plotOf 1 = .ok (.invokestatic 108, 3) := dk_184 0 108 (dk_at dksX10_plotOf_0 1 rfl rfl)
theorem dX10_plotOf_4 : decode cX10_plotOf 4 = .ok (.ifCond .ne 9, 3) := dk_154 0 9 (dk_at dksX10_plotOf_0 4 rfl rfl)
theorem dX10_plotOf_7 : decode cX10_plotOf 7 = .ok (.aload_n 0, 1) := dk_42 (dk_at dksX10_plotOf_0 7 rfl rfl)
theorem dX10_plotOf_8 : decode cX10_plotOf 8 = .ok (.iconst 1, 1) := dk_4 (dk_at dksX10_plotOf_0 8 rfl rfl)
theorem dX10_plotOf_9 : decode cX10_plotOf 9 = .ok (.invokevirtual 81, 3) := dk_182 0 81 (dk_at dksX10_plotOf_0 9 rfl rfl)
theorem dX10_plotOf_12 : decode cX10_plotOf 12 = .ok (.ireturn, 1) := dk_172 (dk_at dksX10_plotOf_0 12 rfl rfl)
theorem dX10_plotOf_13 : decode cX10_plotOf 13 = .ok (.iload_n 2, 1) := dk_28 (dk_at dksX10_plotOf_0 13 rfl rfl)
theorem dX10_plotOf_14 : decode cX10_plotOf 14 = .ok (.tableswitch 123 0 4 #[34, 48, 62, 100, 113], 34) := by decide +kernel
theorem dX10_plotOf_48 : decode cX10_plotOf 48 = .ok (.aload_n 0, 1) := dk_42 (dk_at dksX10_plotOf_2 0 rfl rfl)
theorem dX10_plotOf_49 : decode cX10_plotOf 49 = .ok (.aload_n 0, 1) := dk_42 (dk_at dksX10_plotOf_2 1 rfl rfl)
theorem dX10_plotOf_50 : decode cX10_plotOf 50 = .ok (.getfield 7, 3) := dk_180 0 7 (dk_at dksX10_plotOf_2 2 rfl rfl)
theorem dX10_plotOf_53 : decode cX10_plotOf 53 = .ok (.bipush 15, 2) := dk_16 15 (dk_at dksX10_plotOf_2 5 rfl rfl)
theorem dX10_plotOf_55 : decode cX10_plotOf 55 = .ok (.iload_n 1, 1) := dk_27 (dk_at dksX10_plotOf_2 7 rfl rfl)
theorem dX10_plotOf_56 : decode cX10_plotOf 56 = .ok (.iadd, 1) := dk_96 (dk_at dksX10_plotOf_2 8 rfl rfl)
theorem dX10_plotOf_57 : decode cX10_plotOf 57 = .ok (.iaload, 1) := dk_46 (dk_at dksX10_plotOf_2 9 rfl rfl)
theorem dX10_plotOf_58 : decode cX10_plotOf 58 = .ok (.invokevirtual 85, 3) := dk_182 0 85 (dk_at dksX10_plotOf_2 10 rfl rfl)
theorem dX10_plotOf_61 : decode cX10_plotOf 61 = .ok (.ireturn, 1) := dk_172 (dk_at dksX10_plotOf_2 13 rfl rfl)
theorem dX10_plotOf_62 : decode cX10_plotOf 62 = .ok (.aload_n 0, 1) := dk_42 (dk_at dksX10_plotOf_2 14 rfl rfl)
theorem dX10_plotOf_63 : decode cX10_plotOf 63 = .ok (.aload_n 0, 1) := dk_42 (dk_at dksX10_plotOf_2 15 rfl rfl)
theorem dX10_plotOf_64 : decode cX10_plotOf 64 = .ok (.getfield 7, 3) := dk_180 0 7 (dk_at dksX10_plotOf_2 16 rfl rfl)
theorem dX10_plotOf_67 : decode cX10_plotOf 67 = .ok (.bipush 27, 2) := dk_16 27 (dk_at dksX10_plotOf_2 19 rfl rfl)
theorem dX10_plotOf_69 : decode cX10_plotOf 69 = .ok (.iload_n 1, 1) := dk_27 (dk_at dksX10_plotOf_2 21 rfl rfl)
theorem dX10_plotOf_70 : decode cX10_plotOf 70 = .ok (.iadd, 1) := dk_96 (dk_at dksX10_plotOf_2 22 rfl rfl)
theorem dX10_plotOf_71 : decode cX10_plotOf 71 = .ok (.iaload, 1) := dk_46 (dk_at dksX10_plotOf_2 23 rfl rfl)
theorem dX10_plotOf_72 : decode cX10_plotOf 72 = .ok (.invokevirtual 85, 3) := dk_182 0 85 (dk_at dksX10_plotOf_3 0 rfl rfl)
theorem dX10_plotOf_75 : decode cX10_plotOf 75 = .ok (.ireturn, 1) := dk_172 (dk_at dksX10_plotOf_3 3 rfl rfl)
theorem dX10_plotOf_76 : decode cX10_plotOf 76 = .ok (.aload_n 0, 1) := dk_42 (dk_at dksX10_plotOf_3 4 rfl rfl)
theorem dX10_plotOf_77 : decode cX10_plotOf 77 = .ok (.aload_n 0, 1) := dk_42 (dk_at dksX10_plotOf_3 5 rfl rfl)
theorem dX10_plotOf_78 : decode cX10_plotOf 78 = .ok (.getfield 7, 3) := dk_180 0 7 (dk_at dksX10_plotOf_3 6 rfl rfl)
theorem dX10_plotOf_81 : decode cX10_plotOf 81 = .ok (.bipush 27, 2) := dk_16 27 (dk_at dksX10_plotOf_3 9 rfl rfl)
theorem dX10_plotOf_83 : decode cX10_plotOf 83 = .ok (.iload_n 1, 1) := dk_27 (dk_at dksX10_plotOf_3 11 rfl rfl)
theorem dX10_plotOf_84 : decode cX10_plotOf 84 = .ok (.iadd, 1) := dk_96 (dk_at dksX10_plotOf_3 12 rfl rfl)
theorem dX10_plotOf_85 : decode cX10_plotOf 85 = .ok (.iaload, 1) := dk_46 (dk_at dksX10_plotOf_3 13 rfl rfl)
theorem dX10_plotOf_86 : decode cX10_plotOf 86 = .ok (.iconst (-1), 1) := dk_2 (dk_at dksX10_plotOf_3 14 rfl rfl)
theorem dX10_plotOf_87 : decode cX10_plotOf 87 = .ok (.if_icmp .ne 7, 3) := dk_160 0 7 (dk_at dksX10_plotOf_3 15 rfl rfl)
theorem dX10_plotOf_90 : decode cX10_plotOf 90 = .ok (.iconst (-1), 1) := dk_2 (dk_at dksX10_plotOf_3 18 rfl rfl)
theorem dX10_plotOf_91 : decode cX10_plotOf 91 = .ok (.goto 19, 3) := dk_167 0 19 (dk_at dksX10_plotOf_3 19 rfl rfl)
theorem dX10_plotOf_94 : decode cX10_plotOf 94 = .ok (.aload_n 0, 1) := dk_42 (dk_at dksX10_plotOf_3 22 rfl rfl)
theorem dX10_plotOf_95 : decode cX10_plotOf 95 = .ok (.getfield 7, 3) := dk_180 0 7 (dk_at dksX10_plotOf_4 0 rfl rfl)
theorem dX10_plotOf_98 : decode cX10_plotOf 98 = .ok (.iconst 0, 1) := dk_3 (dk_at dksX10_plotOf_4 3 rfl rfl)
theorem dX10_plotOf_99 : decode cX10_plotOf 99 = .ok (.iaload, 1) := dk_46 (dk_at dksX10_plotOf_4 4 rfl rfl)
theorem dX10_plotOf_100 : decode cX10_plotOf 100 = .ok (.aload_n 0, 1) := dk_42 (dk_at dksX10_plotOf_4 5 rfl rfl)
theorem dX10_plotOf_101 : decode cX10_plotOf 101 = .ok (.getfield 7, 3) := dk_180 0 7 (dk_at dksX10_plotOf_4 6 rfl rfl)
theorem dX10_plotOf_104 : decode cX10_plotOf 104 = .ok (.bipush 39, 2) := dk_16 39 (dk_at dksX10_plotOf_4 9 rfl rfl)
theorem dX10_plotOf_106 : decode cX10_plotOf 106 = .ok (.iload_n 1, 1) := dk_27 (dk_at dksX10_plotOf_4 11 rfl rfl)
theorem dX10_plotOf_107 : decode cX10_plotOf 107 = .ok (.iadd, 1) := dk_96 (dk_at dksX10_plotOf_4 12 rfl rfl)
theorem dX10_plotOf_108 : decode cX10_plotOf 108 = .ok (.iaload, 1) := dk_46 (dk_at dksX10_plotOf_4 13 rfl rfl)
theorem dX10_plotOf_109 : decode cX10_plotOf 109 = .ok (.isub, 1) := dk_100 (dk_at dksX10_plotOf_4 14 rfl rfl)
theorem dX10_plotOf_110 : decode cX10_plotOf 110 = .ok (.invokevirtual 85, 3) := dk_182 0 85 (dk_at dksX10_plotOf_4 15 rfl rfl)
theorem dX10_plotOf_113 : decode cX10_plotOf 113 = .ok (.ireturn, 1) := dk_172 (dk_at dksX10_plotOf_4 18 rfl rfl)
theorem dX10_plotOf_114 : decode cX10_plotOf 114 = .ok (.aload_n 0, 1) := dk_42 (dk_at dksX10_plotOf_4 19 rfl rfl)
theorem dX10_plotOf_115 : decode cX10_plotOf 115 = .ok (.aload_n 0, 1) := dk_42 (dk_at dksX10_plotOf_4 20 rfl rfl)
theorem dX10_plotOf_116 : decode cX10_plotOf 116 = .ok (.getfield 7, 3) := dk_180 0 7 (dk_at dksX10_plotOf_4 21 rfl rfl)
theorem dX10_plotOf_119 : decode cX10_plotOf 119 = .ok (.iconst 3, 1) := dk_6 (dk_at dksX10_plotOf_5 0 rfl rfl)
theorem dX10_plotOf_120 : decode cX10_plotOf 120 = .ok (.iload_n 1, 1) := dk_27 (dk_at dksX10_plotOf_5 1 rfl rfl)
theorem dX10_plotOf_121 : decode cX10_plotOf 121 = .ok (.iadd, 1) := dk_96 (dk_at dksX10_plotOf_5 2 rfl rfl)
theorem dX10_plotOf_122 : decode cX10_plotOf 122 = .ok (.iaload, 1) := dk_46 (dk_at dksX10_plotOf_5 3 rfl rfl)
theorem dX10_plotOf_123 : decode cX10_plotOf 123 = .ok (.invokevirtual 85, 3) := dk_182 0 85 (dk_at dksX10_plotOf_5 4 rfl rfl)
theorem dX10_plotOf_126 : decode cX10_plotOf 126 = .ok (.ireturn, 1) := dk_172 (dk_at dksX10_plotOf_5 7 rfl rfl)
theorem dX10_plotOf_127 : decode cX10_plotOf 127 = .ok (.aload_n 0, 1) := dk_42 (dk_at dksX10_plotOf_5 8 rfl rfl)
theorem dX10_plotOf_128 : decode cX10_plotOf 128 = .ok (.aload_n 0, 1) := dk_42 (dk_at dksX10_plotOf_5 9 rfl rfl)
theorem dX10_plotOf_129 : decode cX10_plotOf 129 = .ok (.iload_n 1, 1) := dk_27 (dk_at dksX10_plotOf_5 10 rfl rfl)
theorem dX10_plotOf_130 : decode cX10_plotOf 130 = .ok (.invokevirtual 122, 3) := dk_182 0 122 (dk_at dksX10_plotOf_5 11 rfl rfl)
theorem dX10_plotOf_133 : decode cX10_plotOf 133 = .ok (.invokevirtual 85, 3) := dk_182 0 85 (dk_at dksX10_plotOf_5 14 rfl rfl)
theorem dX10_plotOf_136 : decode cX10_plotOf 136 = .ok (.ireturn, 1) := dk_172 (dk_at dksX10_plotOf_5 17 rfl rfl)
theorem dX10_plotOf_137 : decode cX10_plotOf 137 = .ok (.aload_n 0, 1) := dk_42 (dk_at dksX10_plotOf_5 18 rfl rfl)
theorem dX10_plotOf_138 : decode cX10_plotOf 138 = .ok (.iconst 2, 1) := dk_5 (dk_at dksX10_plotOf_5 19 rfl rfl)
theorem dX10_plotOf_139 : decode cX10_plotOf 139 = .ok (.invokevirtual 81, 3) := dk_182 0 81 (dk_at dksX10_plotOf_5 20 rfl rfl)
theorem dX10_plotOf_142 : decode cX10_plotOf 142 = .ok (.ireturn, 1) := dk_172 (dk_at dksX10_plotOf_5 23 rfl rfl)
abbrev cX10_shedOn : ByteArray := prog_13_method_28_code
def yX10_shedOn : MethodName := ⟨RX10, "shedOn", "(I)I"⟩
def dkwX10_shedOn_2 : List UInt8 := [2, 172]
abbrev dktX10_shedOn_2 : List UInt8 := dkwX10_shedOn_2 ++ []
def dkwX10_shedOn_1 : List UInt8 := [160, 0, 18, 42, 180, 0, 7, 16, 89, 28, 96, 46, 4, 160, 0, 5, 28, 172, 132, 2, 1, 167, 255, 214]
abbrev dktX10_shedOn_1 : List UInt8 := dkwX10_shedOn_1 ++ dktX10_shedOn_2
def dkwX10_shedOn_0 : List UInt8 := [3, 61, 28, 42, 180, 0, 7, 16, 80, 46, 162, 0, 37, 42, 180, 0, 7, 16, 81, 28, 96, 46, 27]
abbrev dktX10_shedOn_0 : List UInt8 := dkwX10_shedOn_0 ++ dktX10_shedOn_1
theorem dksX10_shedOn_0 : cX10_shedOn.data.toList.drop 0 = dktX10_shedOn_0 := by decide +kernel
theorem dksX10_shedOn_1 : cX10_shedOn.data.toList.drop 23 = dktX10_shedOn_1 := dk_seg dksX10_shedOn_0 23 rfl rfl
theorem dksX10_shedOn_2 : cX10_shedOn.data.toList.drop 47 = dktX10_shedOn_2 := dk_seg dksX10_shedOn_1 24 rfl rfl
theorem dX10_shedOn_0 : decode cX10_shedOn 0 = .ok (.iconst 0, 1) := dk_3 (dk_at dksX10_shedOn_0 0 rfl rfl)
theorem dX10_shedOn_1 : decode cX10_shedOn 1 = .ok (.istore_n 2, 1) := dk_61 (dk_at dksX10_shedOn_0 1 rfl rfl)
theorem dX10_shedOn_2 : decode cX10_shedOn 2 = .ok (.iload_n 2, 1) := dk_28 (dk_at dksX10_shedOn_0 2 rfl rfl)
theorem dX10_shedOn_3 : decode cX10_shedOn 3 = .ok (.aload_n 0, 1) := dk_42 (dk_at dksX10_shedOn_0 3 rfl rfl)
theorem dX10_shedOn_4 : decode cX10_shedOn 4 = .ok (.getfield 7, 3) := dk_180 0 7 (dk_at dksX10_shedOn_0 4 rfl rfl)
theorem dX10_shedOn_7 : decode cX10_shedOn 7 = .ok (.bipush 80, 2) := dk_16 80 (dk_at dksX10_shedOn_0 7 rfl rfl)
theorem dX10_shedOn_9 : decode cX10_shedOn 9 = .ok (.iaload, 1) := dk_46 (dk_at dksX10_shedOn_0 9 rfl rfl)
theorem dX10_shedOn_10 : decode cX10_shedOn 10 = .ok (.if_icmp .ge 37, 3) := dk_162 0 37 (dk_at dksX10_shedOn_0 10 rfl rfl)
theorem dX10_shedOn_13 : decode cX10_shedOn 13 = .ok (.aload_n 0, 1) := dk_42 (dk_at dksX10_shedOn_0 13 rfl rfl)
theorem dX10_shedOn_14 : decode cX10_shedOn 14 = .ok (.getfield 7, 3) := dk_180 0 7 (dk_at dksX10_shedOn_0 14 rfl rfl)
theorem dX10_shedOn_17 : decode cX10_shedOn 17 = .ok (.bipush 81, 2) := dk_16 81 (dk_at dksX10_shedOn_0 17 rfl rfl)
theorem dX10_shedOn_19 : decode cX10_shedOn 19 = .ok (.iload_n 2, 1) := dk_28 (dk_at dksX10_shedOn_0 19 rfl rfl)
theorem dX10_shedOn_20 : decode cX10_shedOn 20 = .ok (.iadd, 1) := dk_96 (dk_at dksX10_shedOn_0 20 rfl rfl)
theorem dX10_shedOn_21 : decode cX10_shedOn 21 = .ok (.iaload, 1) := dk_46 (dk_at dksX10_shedOn_0 21 rfl rfl)
theorem dX10_shedOn_22 : decode cX10_shedOn 22 = .ok (.iload_n 1, 1) := dk_27 (dk_at dksX10_shedOn_0 22 rfl rfl)
theorem dX10_shedOn_23 : decode cX10_shedOn 23 = .ok (.if_icmp .ne 18, 3) := dk_160 0 18 (dk_at dksX10_shedOn_1 0 rfl rfl)
theorem dX10_shedOn_26 : decode cX10_shedOn 26 = .ok (.aload_n 0, 1) := dk_42 (dk_at dksX10_shedOn_1 3 rfl rfl)
theorem dX10_shedOn_27 : decode cX10_shedOn 27 = .ok (.getfield 7, 3) := dk_180 0 7 (dk_at dksX10_shedOn_1 4 rfl rfl)
theorem dX10_shedOn_30 : decode cX10_shedOn 30 = .ok (.bipush 89, 2) := dk_16 89 (dk_at dksX10_shedOn_1 7 rfl rfl)
theorem dX10_shedOn_32 : decode cX10_shedOn 32 = .ok (.iload_n 2, 1) := dk_28 (dk_at dksX10_shedOn_1 9 rfl rfl)
theorem dX10_shedOn_33 : decode cX10_shedOn 33 = .ok (.iadd, 1) := dk_96 (dk_at dksX10_shedOn_1 10 rfl rfl)
theorem dX10_shedOn_34 : decode cX10_shedOn 34 = .ok (.iaload, 1) := dk_46 (dk_at dksX10_shedOn_1 11 rfl rfl)
theorem dX10_shedOn_35 : decode cX10_shedOn 35 = .ok (.iconst 1, 1) := dk_4 (dk_at dksX10_shedOn_1 12 rfl rfl)
theorem dX10_shedOn_36 : decode cX10_shedOn 36 = .ok (.if_icmp .ne 5, 3) := dk_160 0 5 (dk_at dksX10_shedOn_1 13 rfl rfl)
theorem dX10_shedOn_39 : decode cX10_shedOn 39 = .ok (.iload_n 2, 1) := dk_28 (dk_at dksX10_shedOn_1 16 rfl rfl)
theorem dX10_shedOn_40 : decode cX10_shedOn 40 = .ok (.ireturn, 1) := dk_172 (dk_at dksX10_shedOn_1 17 rfl rfl)
theorem dX10_shedOn_41 : decode cX10_shedOn 41 = .ok (.iinc 2 1, 3) := dk_132 2 1 (dk_at dksX10_shedOn_1 18 rfl rfl)
theorem dX10_shedOn_44 : decode cX10_shedOn 44 = .ok (.goto (-42), 3) := dk_167 255 214 (dk_at dksX10_shedOn_1 21 rfl rfl)
theorem dX10_shedOn_47 : decode cX10_shedOn 47 = .ok (.iconst (-1), 1) := dk_2 (dk_at dksX10_shedOn_2 0 rfl rfl)
theorem dX10_shedOn_48 : decode cX10_shedOn 48 = .ok (.ireturn, 1) := dk_172 (dk_at dksX10_shedOn_2 1 rfl rfl)
abbrev cX10_water : ByteArray := prog_13_method_30_code
def yX10_water : MethodName := ⟨RX10, "water", "(I)F"⟩
def dkwX10_water_1 : List UInt8 := [180, 0, 13, 3, 27, 96, 48, 167, 0, 4, 11, 174]
abbrev dktX10_water_1 : List UInt8 := dkwX10_water_1 ++ []
def dkwX10_water_0 : List UInt8 := [42, 27, 184, 0, 108, 153, 0, 7, 3, 167, 0, 4, 4, 181, 0, 53, 42, 180, 0, 53, 154, 0, 14, 42]
abbrev dktX10_water_0 : List UInt8 := dkwX10_water_0 ++ dktX10_water_1
theorem dksX10_water_0 : cX10_water.data.toList.drop 0 = dktX10_water_0 := by decide +kernel
theorem dksX10_water_1 : cX10_water.data.toList.drop 24 = dktX10_water_1 := dk_seg dksX10_water_0 24 rfl rfl
theorem dX10_water_0 : decode cX10_water 0 = .ok (.aload_n 0, 1) := dk_42 (dk_at dksX10_water_0 0 rfl rfl)
theorem dX10_water_1 : decode cX10_water 1 = .ok (.iload_n 1, 1) := dk_27 (dk_at dksX10_water_0 1 rfl rfl)
theorem dX10_water_2 : decode cX10_water 2 = .ok (.invokestatic 108, 3) := dk_184 0 108 (dk_at dksX10_water_0 2 rfl rfl)
theorem dX10_water_5 : decode cX10_water 5 = .ok (.ifCond .eq 7, 3) := dk_153 0 7 (dk_at dksX10_water_0 5 rfl rfl)
theorem dX10_water_8 : decode cX10_water 8 = .ok (.iconst 0, 1) := dk_3 (dk_at dksX10_water_0 8 rfl rfl)
theorem dX10_water_9 : decode cX10_water 9 = .ok (.goto 4, 3) := dk_167 0 4 (dk_at dksX10_water_0 9 rfl rfl)
theorem dX10_water_12 : decode cX10_water 12 = .ok (.iconst 1, 1) := dk_4 (dk_at dksX10_water_0 12 rfl rfl)
theorem dX10_water_13 : decode cX10_water 13 = .ok (.putfield 53, 3) := dk_181 0 53 (dk_at dksX10_water_0 13 rfl rfl)
theorem dX10_water_16 : decode cX10_water 16 = .ok (.aload_n 0, 1) := dk_42 (dk_at dksX10_water_0 16 rfl rfl)
theorem dX10_water_17 : decode cX10_water 17 = .ok (.getfield 53, 3) := dk_180 0 53 (dk_at dksX10_water_0 17 rfl rfl)
theorem dX10_water_20 : decode cX10_water 20 = .ok (.ifCond .ne 14, 3) := dk_154 0 14 (dk_at dksX10_water_0 20 rfl rfl)
theorem dX10_water_23 : decode cX10_water 23 = .ok (.aload_n 0, 1) := dk_42 (dk_at dksX10_water_0 23 rfl rfl)
theorem dX10_water_24 : decode cX10_water 24 = .ok (.getfield 13, 3) := dk_180 0 13 (dk_at dksX10_water_1 0 rfl rfl)
theorem dX10_water_27 : decode cX10_water 27 = .ok (.iconst 0, 1) := dk_3 (dk_at dksX10_water_1 3 rfl rfl)
theorem dX10_water_28 : decode cX10_water 28 = .ok (.iload_n 1, 1) := dk_27 (dk_at dksX10_water_1 4 rfl rfl)
theorem dX10_water_29 : decode cX10_water 29 = .ok (.iadd, 1) := dk_96 (dk_at dksX10_water_1 5 rfl rfl)
theorem dX10_water_30 : decode cX10_water 30 = .ok (.faload, 1) := dk_48 (dk_at dksX10_water_1 6 rfl rfl)
theorem dX10_water_31 : decode cX10_water 31 = .ok (.goto 4, 3) := dk_167 0 4 (dk_at dksX10_water_1 7 rfl rfl)
theorem dX10_water_34 : decode cX10_water 34 = .ok (.fconst 0, 1) := dk_11 (dk_at dksX10_water_1 10 rfl rfl)
theorem dX10_water_35 : decode cX10_water 35 = .ok (.freturn, 1) := dk_174 (dk_at dksX10_water_1 11 rfl rfl)
abbrev cX10_waterIn : ByteArray := prog_13_method_32_code
def yX10_waterIn : MethodName := ⟨RX10, "waterIn", "(II)I"⟩
def dkwX10_waterIn_2 : List UInt8 := [37, 182, 0, 137, 70, 132, 4, 1, 167, 255, 241, 42, 37, 184, 0, 140, 182, 0, 85, 172]
abbrev dktX10_waterIn_2 : List UInt8 := dkwX10_waterIn_2 ++ []
def dkwX10_waterIn_1 : List UInt8 := [5, 182, 0, 81, 172, 42, 180, 0, 13, 3, 27, 96, 48, 70, 3, 54, 4, 21, 4, 28, 162, 0, 15, 42]
abbrev dktX10_waterIn_1 : List UInt8 := dkwX10_waterIn_1 ++ dktX10_waterIn_2
def dkwX10_waterIn_0 : List UInt8 := [27, 184, 0, 108, 154, 0, 9, 42, 4, 182, 0, 81, 172, 28, 3, 16, 60, 184, 0, 77, 154, 0, 9, 42]
abbrev dktX10_waterIn_0 : List UInt8 := dkwX10_waterIn_0 ++ dktX10_waterIn_1
theorem dksX10_waterIn_0 : cX10_waterIn.data.toList.drop 0 = dktX10_waterIn_0 := by decide +kernel
theorem dksX10_waterIn_1 : cX10_waterIn.data.toList.drop 24 = dktX10_waterIn_1 := dk_seg dksX10_waterIn_0 24 rfl rfl
theorem dksX10_waterIn_2 : cX10_waterIn.data.toList.drop 48 = dktX10_waterIn_2 := dk_seg dksX10_waterIn_1 24 rfl rfl
theorem dX10_waterIn_0 : decode cX10_waterIn 0 = .ok (.iload_n 1, 1) := dk_27 (dk_at dksX10_waterIn_0 0 rfl rfl)
theorem dX10_waterIn_1 : decode cX10_waterIn 1 = .ok (.invokestatic 108, 3) := dk_184 0 108 (dk_at dksX10_waterIn_0 1 rfl rfl)
theorem dX10_waterIn_4 : decode cX10_waterIn 4 = .ok (.ifCond .ne 9, 3) := dk_154 0 9 (dk_at dksX10_waterIn_0 4 rfl rfl)
theorem dX10_waterIn_7 : decode cX10_waterIn 7 = .ok (.aload_n 0, 1) := dk_42 (dk_at dksX10_waterIn_0 7 rfl rfl)
theorem dX10_waterIn_8 : decode cX10_waterIn 8 = .ok (.iconst 1, 1) := dk_4 (dk_at dksX10_waterIn_0 8 rfl rfl)
theorem dX10_waterIn_9 : decode cX10_waterIn 9 = .ok (.invokevirtual 81, 3) := dk_182 0 81 (dk_at dksX10_waterIn_0 9 rfl rfl)
theorem dX10_waterIn_12 : decode cX10_waterIn 12 = .ok (.ireturn, 1) := dk_172 (dk_at dksX10_waterIn_0 12 rfl rfl)
theorem dX10_waterIn_13 : decode cX10_waterIn 13 = .ok (.iload_n 2, 1) := dk_28 (dk_at dksX10_waterIn_0 13 rfl rfl)
theorem dX10_waterIn_14 : decode cX10_waterIn 14 = .ok (.iconst 0, 1) := dk_3 (dk_at dksX10_waterIn_0 14 rfl rfl)
theorem dX10_waterIn_15 : decode cX10_waterIn 15 = .ok (.bipush 60, 2) := dk_16 60 (dk_at dksX10_waterIn_0 15 rfl rfl)
theorem dX10_waterIn_17 : decode cX10_waterIn 17 = .ok (.invokestatic 77, 3) := dk_184 0 77 (dk_at dksX10_waterIn_0 17 rfl rfl)
theorem dX10_waterIn_20 : decode cX10_waterIn 20 = .ok (.ifCond .ne 9, 3) := dk_154 0 9 (dk_at dksX10_waterIn_0 20 rfl rfl)
theorem dX10_waterIn_23 : decode cX10_waterIn 23 = .ok (.aload_n 0, 1) := dk_42 (dk_at dksX10_waterIn_0 23 rfl rfl)
theorem dX10_waterIn_24 : decode cX10_waterIn 24 = .ok (.iconst 2, 1) := dk_5 (dk_at dksX10_waterIn_1 0 rfl rfl)
theorem dX10_waterIn_25 : decode cX10_waterIn 25 = .ok (.invokevirtual 81, 3) := dk_182 0 81 (dk_at dksX10_waterIn_1 1 rfl rfl)
theorem dX10_waterIn_28 : decode cX10_waterIn 28 = .ok (.ireturn, 1) := dk_172 (dk_at dksX10_waterIn_1 4 rfl rfl)
theorem dX10_waterIn_29 : decode cX10_waterIn 29 = .ok (.aload_n 0, 1) := dk_42 (dk_at dksX10_waterIn_1 5 rfl rfl)
theorem dX10_waterIn_30 : decode cX10_waterIn 30 = .ok (.getfield 13, 3) := dk_180 0 13 (dk_at dksX10_waterIn_1 6 rfl rfl)
theorem dX10_waterIn_33 : decode cX10_waterIn 33 = .ok (.iconst 0, 1) := dk_3 (dk_at dksX10_waterIn_1 9 rfl rfl)
theorem dX10_waterIn_34 : decode cX10_waterIn 34 = .ok (.iload_n 1, 1) := dk_27 (dk_at dksX10_waterIn_1 10 rfl rfl)
theorem dX10_waterIn_35 : decode cX10_waterIn 35 = .ok (.iadd, 1) := dk_96 (dk_at dksX10_waterIn_1 11 rfl rfl)
theorem dX10_waterIn_36 : decode cX10_waterIn 36 = .ok (.faload, 1) := dk_48 (dk_at dksX10_waterIn_1 12 rfl rfl)
theorem dX10_waterIn_37 : decode cX10_waterIn 37 = .ok (.fstore_n 3, 1) := dk_70 (dk_at dksX10_waterIn_1 13 rfl rfl)
theorem dX10_waterIn_38 : decode cX10_waterIn 38 = .ok (.iconst 0, 1) := dk_3 (dk_at dksX10_waterIn_1 14 rfl rfl)
theorem dX10_waterIn_39 : decode cX10_waterIn 39 = .ok (.istore 4, 2) := dk_54 4 (dk_at dksX10_waterIn_1 15 rfl rfl)
theorem dX10_waterIn_41 : decode cX10_waterIn 41 = .ok (.iload 4, 2) := dk_21 4 (dk_at dksX10_waterIn_1 17 rfl rfl)
theorem dX10_waterIn_43 : decode cX10_waterIn 43 = .ok (.iload_n 2, 1) := dk_28 (dk_at dksX10_waterIn_1 19 rfl rfl)
theorem dX10_waterIn_44 : decode cX10_waterIn 44 = .ok (.if_icmp .ge 15, 3) := dk_162 0 15 (dk_at dksX10_waterIn_1 20 rfl rfl)
theorem dX10_waterIn_47 : decode cX10_waterIn 47 = .ok (.aload_n 0, 1) := dk_42 (dk_at dksX10_waterIn_1 23 rfl rfl)
theorem dX10_waterIn_48 : decode cX10_waterIn 48 = .ok (.fload_n 3, 1) := dk_37 (dk_at dksX10_waterIn_2 0 rfl rfl)
theorem dX10_waterIn_49 : decode cX10_waterIn 49 = .ok (.invokevirtual 137, 3) := dk_182 0 137 (dk_at dksX10_waterIn_2 1 rfl rfl)
theorem dX10_waterIn_52 : decode cX10_waterIn 52 = .ok (.fstore_n 3, 1) := dk_70 (dk_at dksX10_waterIn_2 4 rfl rfl)
theorem dX10_waterIn_53 : decode cX10_waterIn 53 = .ok (.iinc 4 1, 3) := dk_132 4 1 (dk_at dksX10_waterIn_2 5 rfl rfl)
theorem dX10_waterIn_56 : decode cX10_waterIn 56 = .ok (.goto (-15), 3) := dk_167 255 241 (dk_at dksX10_waterIn_2 8 rfl rfl)
theorem dX10_waterIn_59 : decode cX10_waterIn 59 = .ok (.aload_n 0, 1) := dk_42 (dk_at dksX10_waterIn_2 11 rfl rfl)
theorem dX10_waterIn_60 : decode cX10_waterIn 60 = .ok (.fload_n 3, 1) := dk_37 (dk_at dksX10_waterIn_2 12 rfl rfl)
theorem dX10_waterIn_61 : decode cX10_waterIn 61 = .ok (.invokestatic 140, 3) := dk_184 0 140 (dk_at dksX10_waterIn_2 13 rfl rfl)
theorem dX10_waterIn_64 : decode cX10_waterIn 64 = .ok (.invokevirtual 85, 3) := dk_182 0 85 (dk_at dksX10_waterIn_2 16 rfl rfl)
theorem dX10_waterIn_67 : decode cX10_waterIn 67 = .ok (.ireturn, 1) := dk_172 (dk_at dksX10_waterIn_2 19 rfl rfl)
abbrev cX10_wetter : ByteArray := prog_13_method_31_code
def yX10_wetter : MethodName := ⟨RX10, "wetter", "(F)F"⟩
def dkwX10_wetter_1 : List UInt8 := [180, 0, 7, 4, 46, 134, 106, 98, 102, 184, 0, 133, 174]
abbrev dktX10_wetter_1 : List UInt8 := dkwX10_wetter_1 ++ []
def dkwX10_wetter_0 : List UInt8 := [35, 18, 125, 42, 180, 0, 7, 5, 46, 134, 106, 98, 18, 126, 184, 0, 127, 69, 36, 18, 131, 18, 132, 42]
abbrev dktX10_wetter_0 : List UInt8 := dkwX10_wetter_0 ++ dktX10_wetter_1
theorem dksX10_wetter_0 : cX10_wetter.data.toList.drop 0 = dktX10_wetter_0 := by decide +kernel
theorem dksX10_wetter_1 : cX10_wetter.data.toList.drop 24 = dktX10_wetter_1 := dk_seg dksX10_wetter_0 24 rfl rfl
theorem dX10_wetter_0 : decode cX10_wetter 0 = .ok (.fload_n 1, 1) := dk_35 (dk_at dksX10_wetter_0 0 rfl rfl)
theorem dX10_wetter_1 : decode cX10_wetter 1 = .ok (.ldc 125, 2) := dk_18 125 (dk_at dksX10_wetter_0 1 rfl rfl)
theorem dX10_wetter_3 : decode cX10_wetter 3 = .ok (.aload_n 0, 1) := dk_42 (dk_at dksX10_wetter_0 3 rfl rfl)
theorem dX10_wetter_4 : decode cX10_wetter 4 = .ok (.getfield 7, 3) := dk_180 0 7 (dk_at dksX10_wetter_0 4 rfl rfl)
theorem dX10_wetter_7 : decode cX10_wetter 7 = .ok (.iconst 2, 1) := dk_5 (dk_at dksX10_wetter_0 7 rfl rfl)
theorem dX10_wetter_8 : decode cX10_wetter 8 = .ok (.iaload, 1) := dk_46 (dk_at dksX10_wetter_0 8 rfl rfl)
theorem dX10_wetter_9 : decode cX10_wetter 9 = .ok (.i2f, 1) := dk_134 (dk_at dksX10_wetter_0 9 rfl rfl)
theorem dX10_wetter_10 : decode cX10_wetter 10 = .ok (.fmul, 1) := dk_106 (dk_at dksX10_wetter_0 10 rfl rfl)
theorem dX10_wetter_11 : decode cX10_wetter 11 = .ok (.fadd, 1) := dk_98 (dk_at dksX10_wetter_0 11 rfl rfl)
theorem dX10_wetter_12 : decode cX10_wetter 12 = .ok (.ldc 126, 2) := dk_18 126 (dk_at dksX10_wetter_0 12 rfl rfl)
theorem dX10_wetter_14 : decode cX10_wetter 14 = .ok (.invokestatic 127, 3) := dk_184 0 127 (dk_at dksX10_wetter_0 14 rfl rfl)
theorem dX10_wetter_17 : decode cX10_wetter 17 = .ok (.fstore_n 2, 1) := dk_69 (dk_at dksX10_wetter_0 17 rfl rfl)
theorem dX10_wetter_18 : decode cX10_wetter 18 = .ok (.fload_n 2, 1) := dk_36 (dk_at dksX10_wetter_0 18 rfl rfl)
theorem dX10_wetter_19 : decode cX10_wetter 19 = .ok (.ldc 131, 2) := dk_18 131 (dk_at dksX10_wetter_0 19 rfl rfl)
theorem dX10_wetter_21 : decode cX10_wetter 21 = .ok (.ldc 132, 2) := dk_18 132 (dk_at dksX10_wetter_0 21 rfl rfl)
theorem dX10_wetter_23 : decode cX10_wetter 23 = .ok (.aload_n 0, 1) := dk_42 (dk_at dksX10_wetter_0 23 rfl rfl)
theorem dX10_wetter_24 : decode cX10_wetter 24 = .ok (.getfield 7, 3) := dk_180 0 7 (dk_at dksX10_wetter_1 0 rfl rfl)
theorem dX10_wetter_27 : decode cX10_wetter 27 = .ok (.iconst 1, 1) := dk_4 (dk_at dksX10_wetter_1 3 rfl rfl)
theorem dX10_wetter_28 : decode cX10_wetter 28 = .ok (.iaload, 1) := dk_46 (dk_at dksX10_wetter_1 4 rfl rfl)
theorem dX10_wetter_29 : decode cX10_wetter 29 = .ok (.i2f, 1) := dk_134 (dk_at dksX10_wetter_1 5 rfl rfl)
theorem dX10_wetter_30 : decode cX10_wetter 30 = .ok (.fmul, 1) := dk_106 (dk_at dksX10_wetter_1 6 rfl rfl)
theorem dX10_wetter_31 : decode cX10_wetter 31 = .ok (.fadd, 1) := dk_98 (dk_at dksX10_wetter_1 7 rfl rfl)
theorem dX10_wetter_32 : decode cX10_wetter 32 = .ok (.fsub, 1) := dk_102 (dk_at dksX10_wetter_1 8 rfl rfl)
theorem dX10_wetter_33 : decode cX10_wetter 33 = .ok (.invokestatic 133, 3) := dk_184 0 133 (dk_at dksX10_wetter_1 9 rfl rfl)
theorem dX10_wetter_36 : decode cX10_wetter 36 = .ok (.freturn, 1) := dk_174 (dk_at dksX10_wetter_1 12 rfl rfl)
abbrev cX10_most : ByteArray := prog_13_method_13_code
def yX10_most : MethodName := ⟨RX10, "most", "(FF)F"⟩
def dkwX10_most_0 : List UInt8 := [34, 35, 149, 158, 0, 7, 35, 167, 0, 4, 34, 174]
abbrev dktX10_most_0 : List UInt8 := dkwX10_most_0 ++ []
theorem dksX10_most_0 : cX10_most.data.toList.drop 0 = dktX10_most_0 := by decide +kernel
theorem dX10_most_0 : decode cX10_most 0 = .ok (.fload_n 0, 1) := dk_34 (dk_at dksX10_most_0 0 rfl rfl)
theorem dX10_most_1 : decode cX10_most 1 = .ok (.fload_n 1, 1) := dk_35 (dk_at dksX10_most_0 1 rfl rfl)
theorem dX10_most_2 : decode cX10_most 2 = .ok (.fcmp .l, 1) := dk_149 (dk_at dksX10_most_0 2 rfl rfl)
theorem dX10_most_3 : decode cX10_most 3 = .ok (.ifCond .le 7, 3) := dk_158 0 7 (dk_at dksX10_most_0 3 rfl rfl)
theorem dX10_most_6 : decode cX10_most 6 = .ok (.fload_n 1, 1) := dk_35 (dk_at dksX10_most_0 6 rfl rfl)
theorem dX10_most_7 : decode cX10_most 7 = .ok (.goto 4, 3) := dk_167 0 4 (dk_at dksX10_most_0 7 rfl rfl)
theorem dX10_most_10 : decode cX10_most 10 = .ok (.fload_n 0, 1) := dk_34 (dk_at dksX10_most_0 10 rfl rfl)
theorem dX10_most_11 : decode cX10_most 11 = .ok (.freturn, 1) := dk_174 (dk_at dksX10_most_0 11 rfl rfl)
abbrev cX10_least : ByteArray := prog_13_method_14_code
def yX10_least : MethodName := ⟨RX10, "least", "(F)F"⟩
def dkwX10_least_0 : List UInt8 := [34, 11, 150, 156, 0, 7, 11, 167, 0, 4, 34, 174]
abbrev dktX10_least_0 : List UInt8 := dkwX10_least_0 ++ []
theorem dksX10_least_0 : cX10_least.data.toList.drop 0 = dktX10_least_0 := by decide +kernel
theorem dX10_least_0 : decode cX10_least 0 = .ok (.fload_n 0, 1) := dk_34 (dk_at dksX10_least_0 0 rfl rfl)
theorem dX10_least_1 : decode cX10_least 1 = .ok (.fconst 0, 1) := dk_11 (dk_at dksX10_least_0 1 rfl rfl)
theorem dX10_least_2 : decode cX10_least 2 = .ok (.fcmp .g, 1) := dk_150 (dk_at dksX10_least_0 2 rfl rfl)
theorem dX10_least_3 : decode cX10_least 3 = .ok (.ifCond .ge 7, 3) := dk_156 0 7 (dk_at dksX10_least_0 3 rfl rfl)
theorem dX10_least_6 : decode cX10_least 6 = .ok (.fconst 0, 1) := dk_11 (dk_at dksX10_least_0 6 rfl rfl)
theorem dX10_least_7 : decode cX10_least 7 = .ok (.goto 4, 3) := dk_167 0 4 (dk_at dksX10_least_0 7 rfl rfl)
theorem dX10_least_10 : decode cX10_least 10 = .ok (.fload_n 0, 1) := dk_34 (dk_at dksX10_least_0 10 rfl rfl)
theorem dX10_least_11 : decode cX10_least 11 = .ok (.freturn, 1) := dk_174 (dk_at dksX10_least_0 11 rfl rfl)
abbrev cX10_waterAgain : ByteArray := prog_13_method_33_code
def yX10_waterAgain : MethodName := ⟨RX10, "waterAgain", "(II)I"⟩
def dkwX10_waterAgain_3 : List UInt8 := [172]
abbrev dktX10_waterAgain_3 : List UInt8 := dkwX10_waterAgain_3 ++ []
def dkwX10_waterAgain_2 : List UInt8 := [167, 255, 243, 42, 180, 0, 13, 3, 27, 96, 48, 70, 42, 182, 0, 152, 42, 37, 184, 0, 140, 182, 0, 85]
abbrev dktX10_waterAgain_2 : List UInt8 := dkwX10_waterAgain_2 ++ dktX10_waterAgain_3
def dkwX10_waterAgain_1 : List UInt8 := [5, 182, 0, 81, 172, 42, 182, 0, 146, 3, 62, 29, 28, 162, 0, 14, 42, 182, 0, 149, 87, 132, 3, 1]
abbrev dktX10_waterAgain_1 : List UInt8 := dkwX10_waterAgain_1 ++ dktX10_waterAgain_2
def dkwX10_waterAgain_0 : List UInt8 := [27, 184, 0, 108, 154, 0, 9, 42, 4, 182, 0, 81, 172, 28, 3, 16, 60, 184, 0, 77, 154, 0, 9, 42]
abbrev dktX10_waterAgain_0 : List UInt8 := dkwX10_waterAgain_0 ++ dktX10_waterAgain_1
theorem dksX10_waterAgain_0 : cX10_waterAgain.data.toList.drop 0 = dktX10_waterAgain_0 := by decide +kernel
theorem dksX10_waterAgain_1 : cX10_waterAgain.data.toList.drop 24 = dktX10_waterAgain_1 := dk_seg dksX10_waterAgain_0 24 rfl rfl
theorem dksX10_waterAgain_2 : cX10_waterAgain.data.toList.drop 48 = dktX10_waterAgain_2 := dk_seg dksX10_waterAgain_1 24 rfl rfl
theorem dksX10_waterAgain_3 : cX10_waterAgain.data.toList.drop 72 = dktX10_waterAgain_3 := dk_seg dksX10_waterAgain_2 24 rfl rfl
theorem dX10_waterAgain_0 : decode cX10_waterAgain 0 = .ok (.iload_n 1, 1) := dk_27 (dk_at dksX10_waterAgain_0 0 rfl rfl)
theorem dX10_waterAgain_1 : decode cX10_waterAgain 1 = .ok (.invokestatic 108, 3) := dk_184 0 108 (dk_at dksX10_waterAgain_0 1 rfl rfl)
theorem dX10_waterAgain_4 : decode cX10_waterAgain 4 = .ok (.ifCond .ne 9, 3) := dk_154 0 9 (dk_at dksX10_waterAgain_0 4 rfl rfl)
theorem dX10_waterAgain_7 : decode cX10_waterAgain 7 = .ok (.aload_n 0, 1) := dk_42 (dk_at dksX10_waterAgain_0 7 rfl rfl)
theorem dX10_waterAgain_8 : decode cX10_waterAgain 8 = .ok (.iconst 1, 1) := dk_4 (dk_at dksX10_waterAgain_0 8 rfl rfl)
theorem dX10_waterAgain_9 : decode cX10_waterAgain 9 = .ok (.invokevirtual 81, 3) := dk_182 0 81 (dk_at dksX10_waterAgain_0 9 rfl rfl)
theorem dX10_waterAgain_12 : decode cX10_waterAgain 12 = .ok (.ireturn, 1) := dk_172 (dk_at dksX10_waterAgain_0 12 rfl rfl)
theorem dX10_waterAgain_13 : decode cX10_waterAgain 13 = .ok (.iload_n 2, 1) := dk_28 (dk_at dksX10_waterAgain_0 13 rfl rfl)
theorem dX10_waterAgain_14 : decode cX10_waterAgain 14 = .ok (.iconst 0, 1) := dk_3 (dk_at dksX10_waterAgain_0 14 rfl rfl)
theorem dX10_waterAgain_15 : decode cX10_waterAgain 15 = .ok (.bipush 60, 2) := dk_16 60 (dk_at dksX10_waterAgain_0 15 rfl rfl)
theorem dX10_waterAgain_17 : decode cX10_waterAgain 17 = .ok (.invokestatic 77, 3) := dk_184 0 77 (dk_at dksX10_waterAgain_0 17 rfl rfl)
theorem dX10_waterAgain_20 : decode cX10_waterAgain 20 = .ok (.ifCond .ne 9, 3) := dk_154 0 9 (dk_at dksX10_waterAgain_0 20 rfl rfl)
theorem dX10_waterAgain_23 : decode cX10_waterAgain 23 = .ok (.aload_n 0, 1) := dk_42 (dk_at dksX10_waterAgain_0 23 rfl rfl)
theorem dX10_waterAgain_24 : decode cX10_waterAgain 24 = .ok (.iconst 2, 1) := dk_5 (dk_at dksX10_waterAgain_1 0 rfl rfl)
theorem dX10_waterAgain_25 : decode cX10_waterAgain 25 = .ok (.invokevirtual 81, 3) := dk_182 0 81 (dk_at dksX10_waterAgain_1 1 rfl rfl)
theorem dX10_waterAgain_28 : decode cX10_waterAgain 28 = .ok (.ireturn, 1) := dk_172 (dk_at dksX10_waterAgain_1 4 rfl rfl)
theorem dX10_waterAgain_29 : decode cX10_waterAgain 29 = .ok (.aload_n 0, 1) := dk_42 (dk_at dksX10_waterAgain_1 5 rfl rfl)
theorem dX10_waterAgain_30 : decode cX10_waterAgain 30 = .ok (.invokevirtual 146, 3) := dk_182 0 146 (dk_at dksX10_waterAgain_1 6 rfl rfl)
theorem dX10_waterAgain_33 : decode cX10_waterAgain 33 = .ok (.iconst 0, 1) := dk_3 (dk_at dksX10_waterAgain_1 9 rfl rfl)
theorem dX10_waterAgain_34 : decode cX10_waterAgain 34 = .ok (.istore_n 3, 1) := dk_62 (dk_at dksX10_waterAgain_1 10 rfl rfl)
theorem dX10_waterAgain_35 : decode cX10_waterAgain 35 = .ok (.iload_n 3, 1) := dk_29 (dk_at dksX10_waterAgain_1 11 rfl rfl)
theorem dX10_waterAgain_36 : decode cX10_waterAgain 36 = .ok (.iload_n 2, 1) := dk_28 (dk_at dksX10_waterAgain_1 12 rfl rfl)
theorem dX10_waterAgain_37 : decode cX10_waterAgain 37 = .ok (.if_icmp .ge 14, 3) := dk_162 0 14 (dk_at dksX10_waterAgain_1 13 rfl rfl)
theorem dX10_waterAgain_40 : decode cX10_waterAgain 40 = .ok (.aload_n 0, 1) := dk_42 (dk_at dksX10_waterAgain_1 16 rfl rfl)
theorem dX10_waterAgain_41 : decode cX10_waterAgain 41 = .ok (.invokevirtual 149, 3) := dk_182 0 149 (dk_at dksX10_waterAgain_1 17 rfl rfl)
theorem dX10_waterAgain_44 : decode cX10_waterAgain 44 = .ok (.pop, 1) := dk_87 (dk_at dksX10_waterAgain_1 20 rfl rfl)
theorem dX10_waterAgain_45 : decode cX10_waterAgain 45 = .ok (.iinc 3 1, 3) := dk_132 3 1 (dk_at dksX10_waterAgain_1 21 rfl rfl)
theorem dX10_waterAgain_48 : decode cX10_waterAgain 48 = .ok (.goto (-13), 3) := dk_167 255 243 (dk_at dksX10_waterAgain_2 0 rfl rfl)
theorem dX10_waterAgain_51 : decode cX10_waterAgain 51 = .ok (.aload_n 0, 1) := dk_42 (dk_at dksX10_waterAgain_2 3 rfl rfl)
theorem dX10_waterAgain_52 : decode cX10_waterAgain 52 = .ok (.getfield 13, 3) := dk_180 0 13 (dk_at dksX10_waterAgain_2 4 rfl rfl)
theorem dX10_waterAgain_55 : decode cX10_waterAgain 55 = .ok (.iconst 0, 1) := dk_3 (dk_at dksX10_waterAgain_2 7 rfl rfl)
theorem dX10_waterAgain_56 : decode cX10_waterAgain 56 = .ok (.iload_n 1, 1) := dk_27 (dk_at dksX10_waterAgain_2 8 rfl rfl)
theorem dX10_waterAgain_57 : decode cX10_waterAgain 57 = .ok (.iadd, 1) := dk_96 (dk_at dksX10_waterAgain_2 9 rfl rfl)
theorem dX10_waterAgain_58 : decode cX10_waterAgain 58 = .ok (.faload, 1) := dk_48 (dk_at dksX10_waterAgain_2 10 rfl rfl)
theorem dX10_waterAgain_59 : decode cX10_waterAgain 59 = .ok (.fstore_n 3, 1) := dk_70 (dk_at dksX10_waterAgain_2 11 rfl rfl)
theorem dX10_waterAgain_60 : decode cX10_waterAgain 60 = .ok (.aload_n 0, 1) := dk_42 (dk_at dksX10_waterAgain_2 12 rfl rfl)
theorem dX10_waterAgain_61 : decode cX10_waterAgain 61 = .ok (.invokevirtual 152, 3) := dk_182 0 152 (dk_at dksX10_waterAgain_2 13 rfl rfl)
theorem dX10_waterAgain_64 : decode cX10_waterAgain 64 = .ok (.aload_n 0, 1) := dk_42 (dk_at dksX10_waterAgain_2 16 rfl rfl)
theorem dX10_waterAgain_65 : decode cX10_waterAgain 65 = .ok (.fload_n 3, 1) := dk_37 (dk_at dksX10_waterAgain_2 17 rfl rfl)
theorem dX10_waterAgain_66 : decode cX10_waterAgain 66 = .ok (.invokestatic 140, 3) := dk_184 0 140 (dk_at dksX10_waterAgain_2 18 rfl rfl)
theorem dX10_waterAgain_69 : decode cX10_waterAgain 69 = .ok (.invokevirtual 85, 3) := dk_182 0 85 (dk_at dksX10_waterAgain_2 21 rfl rfl)
theorem dX10_waterAgain_72 : decode cX10_waterAgain 72 = .ok (.ireturn, 1) := dk_172 (dk_at dksX10_waterAgain_3 0 rfl rfl)
abbrev cX10_laysAside : ByteArray := prog_13_method_11_code
def yX10_laysAside : MethodName := ⟨RX10, "laysAside", "()V"⟩
def dkwX10_laysAside_1 : List UInt8 := [184, 0, 70, 177]
abbrev dktX10_laysAside_1 : List UInt8 := dkwX10_laysAside_1 ++ []
def dkwX10_laysAside_0 : List UInt8 := [42, 180, 0, 7, 3, 42, 180, 0, 35, 3, 184, 0, 66, 42, 180, 0, 13, 3, 42, 180, 0, 38, 3]
abbrev dktX10_laysAside_0 : List UInt8 := dkwX10_laysAside_0 ++ dktX10_laysAside_1
theorem dksX10_laysAside_0 : cX10_laysAside.data.toList.drop 0 = dktX10_laysAside_0 := by decide +kernel
theorem dksX10_laysAside_1 : cX10_laysAside.data.toList.drop 23 = dktX10_laysAside_1 := dk_seg dksX10_laysAside_0 23 rfl rfl
theorem dX10_laysAside_0 : decode cX10_laysAside 0 = .ok (.aload_n 0, 1) := dk_42 (dk_at dksX10_laysAside_0 0 rfl rfl)
theorem dX10_laysAside_1 : decode cX10_laysAside 1 = .ok (.getfield 7, 3) := dk_180 0 7 (dk_at dksX10_laysAside_0 1 rfl rfl)
theorem dX10_laysAside_4 : decode cX10_laysAside 4 = .ok (.iconst 0, 1) := dk_3 (dk_at dksX10_laysAside_0 4 rfl rfl)
theorem dX10_laysAside_5 : decode cX10_laysAside 5 = .ok (.aload_n 0, 1) := dk_42 (dk_at dksX10_laysAside_0 5 rfl rfl)
theorem dX10_laysAside_6 : decode cX10_laysAside 6 = .ok (.getfield 35, 3) := dk_180 0 35 (dk_at dksX10_laysAside_0 6 rfl rfl)
theorem dX10_laysAside_9 : decode cX10_laysAside 9 = .ok (.iconst 0, 1) := dk_3 (dk_at dksX10_laysAside_0 9 rfl rfl)
theorem dX10_laysAside_10 : decode cX10_laysAside 10 = .ok (.invokestatic 66, 3) := dk_184 0 66 (dk_at dksX10_laysAside_0 10 rfl rfl)
theorem dX10_laysAside_13 : decode cX10_laysAside 13 = .ok (.aload_n 0, 1) := dk_42 (dk_at dksX10_laysAside_0 13 rfl rfl)
theorem dX10_laysAside_14 : decode cX10_laysAside 14 = .ok (.getfield 13, 3) := dk_180 0 13 (dk_at dksX10_laysAside_0 14 rfl rfl)
theorem dX10_laysAside_17 : decode cX10_laysAside 17 = .ok (.iconst 0, 1) := dk_3 (dk_at dksX10_laysAside_0 17 rfl rfl)
theorem dX10_laysAside_18 : decode cX10_laysAside 18 = .ok (.aload_n 0, 1) := dk_42 (dk_at dksX10_laysAside_0 18 rfl rfl)
theorem dX10_laysAside_19 : decode cX10_laysAside 19 = .ok (.getfield 38, 3) := dk_180 0 38 (dk_at dksX10_laysAside_0 19 rfl rfl)
theorem dX10_laysAside_22 : decode cX10_laysAside 22 = .ok (.iconst 0, 1) := dk_3 (dk_at dksX10_laysAside_0 22 rfl rfl)
theorem dX10_laysAside_23 : decode cX10_laysAside 23 = .ok (.invokestatic 70, 3) := dk_184 0 70 (dk_at dksX10_laysAside_1 0 rfl rfl)
theorem dX10_laysAside_26 : decode cX10_laysAside 26 = .ok (.return_, 1) := dk_177 (dk_at dksX10_laysAside_1 3 rfl rfl)
abbrev cX10_goesDay : ByteArray := prog_13_method_63_code
def yX10_goesDay : MethodName := ⟨RX10, "goesDay", "()I"⟩
def dkwX10_goesDay_9 : List UInt8 := [182, 0, 200, 42, 180, 0, 7, 3, 92, 46, 4, 96, 79, 27, 172]
abbrev dktX10_goesDay_9 : List UInt8 := dkwX10_goesDay_9 ++ []
def dkwX10_goesDay_8 : List UInt8 := [167, 0, 4, 11, 81, 132, 2, 1, 167, 255, 119, 42, 180, 0, 7, 3, 46, 6, 112, 154, 0, 7, 42]
abbrev dktX10_goesDay_8 : List UInt8 := dkwX10_goesDay_8 ++ dktX10_goesDay_9
def dkwX10_goesDay_7 : List UInt8 := [180, 0, 13, 16, 24, 28, 96, 48, 18, 198, 42, 180, 0, 7, 5, 46, 134, 106, 98, 18, 199, 184, 0, 127]
abbrev dktX10_goesDay_7 : List UInt8 := dkwX10_goesDay_7 ++ dktX10_goesDay_8
def dkwX10_goesDay_6 : List UInt8 := [153, 0, 7, 4, 167, 0, 4, 3, 79, 42, 180, 0, 13, 16, 24, 28, 96, 21, 4, 153, 0, 31, 42]
abbrev dktX10_goesDay_6 : List UInt8 := dkwX10_goesDay_6 ++ dktX10_goesDay_7
def dkwX10_goesDay_5 : List UInt8 := [21, 4, 154, 0, 7, 4, 167, 0, 4, 3, 96, 60, 42, 180, 0, 7, 16, 89, 28, 96, 21, 4]
abbrev dktX10_goesDay_5 : List UInt8 := dkwX10_goesDay_5 ++ dktX10_goesDay_6
def dkwX10_goesDay_4 : List UInt8 := [180, 0, 7, 4, 46, 182, 0, 173, 153, 0, 7, 4, 167, 0, 4, 3, 54, 4, 27, 29, 153, 0, 12]
abbrev dktX10_goesDay_4 : List UInt8 := dkwX10_goesDay_4 ++ dktX10_goesDay_5
def dkwX10_goesDay_3 : List UInt8 := [16, 89, 28, 96, 46, 4, 160, 0, 7, 4, 167, 0, 4, 3, 62, 29, 153, 0, 21, 42, 28, 42]
abbrev dktX10_goesDay_3 : List UInt8 := dkwX10_goesDay_3 ++ dktX10_goesDay_4
def dkwX10_goesDay_2 : List UInt8 := [132, 2, 1, 167, 255, 209, 3, 61, 28, 42, 180, 0, 7, 16, 80, 46, 162, 0, 132, 42, 180, 0, 7]
abbrev dktX10_goesDay_2 : List UInt8 := dkwX10_goesDay_2 ++ dktX10_goesDay_3
def dkwX10_goesDay_1 : List UInt8 := [96, 48, 182, 0, 137, 81, 42, 180, 0, 7, 16, 27, 28, 96, 46, 2, 159, 0, 8, 42, 28, 182, 0, 194]
abbrev dktX10_goesDay_1 : List UInt8 := dkwX10_goesDay_1 ++ dktX10_goesDay_2
def dkwX10_goesDay_0 : List UInt8 := [3, 60, 3, 61, 28, 16, 12, 162, 0, 47, 42, 180, 0, 13, 3, 28, 96, 42, 42, 180, 0, 13, 3, 28]
abbrev dktX10_goesDay_0 : List UInt8 := dkwX10_goesDay_0 ++ dktX10_goesDay_1
theorem dksX10_goesDay_0 : cX10_goesDay.data.toList.drop 0 = dktX10_goesDay_0 := by decide +kernel
theorem dksX10_goesDay_1 : cX10_goesDay.data.toList.drop 24 = dktX10_goesDay_1 := dk_seg dksX10_goesDay_0 24 rfl rfl
theorem dksX10_goesDay_2 : cX10_goesDay.data.toList.drop 48 = dktX10_goesDay_2 := dk_seg dksX10_goesDay_1 24 rfl rfl
theorem dksX10_goesDay_3 : cX10_goesDay.data.toList.drop 71 = dktX10_goesDay_3 := dk_seg dksX10_goesDay_2 23 rfl rfl
theorem dksX10_goesDay_4 : cX10_goesDay.data.toList.drop 93 = dktX10_goesDay_4 := dk_seg dksX10_goesDay_3 22 rfl rfl
theorem dksX10_goesDay_5 : cX10_goesDay.data.toList.drop 116 = dktX10_goesDay_5 := dk_seg dksX10_goesDay_4 23 rfl rfl
theorem dksX10_goesDay_6 : cX10_goesDay.data.toList.drop 138 = dktX10_goesDay_6 := dk_seg dksX10_goesDay_5 22 rfl rfl
theorem dksX10_goesDay_7 : cX10_goesDay.data.toList.drop 161 = dktX10_goesDay_7 := dk_seg dksX10_goesDay_6 23 rfl rfl
theorem dksX10_goesDay_8 : cX10_goesDay.data.toList.drop 185 = dktX10_goesDay_8 := dk_seg dksX10_goesDay_7 24 rfl rfl
theorem dksX10_goesDay_9 : cX10_goesDay.data.toList.drop 208 = dktX10_goesDay_9 := dk_seg dksX10_goesDay_8 23 rfl rfl
theorem dX10_goesDay_0 : decode cX10_goesDay 0 = .ok (.iconst 0, 1) := dk_3 (dk_at dksX10_goesDay_0 0 rfl rfl)
theorem dX10_goesDay_1 : decode cX10_goesDay 1 = .ok (.istore_n 1, 1) := dk_60 (dk_at dksX10_goesDay_0 1 rfl rfl)
theorem dX10_goesDay_2 : decode cX10_goesDay 2 = .ok (.iconst 0, 1) := dk_3 (dk_at dksX10_goesDay_0 2 rfl rfl)
theorem dX10_goesDay_3 : decode cX10_goesDay 3 = .ok (.istore_n 2, 1) := dk_61 (dk_at dksX10_goesDay_0 3 rfl rfl)
theorem dX10_goesDay_4 : decode cX10_goesDay 4 = .ok (.iload_n 2, 1) := dk_28 (dk_at dksX10_goesDay_0 4 rfl rfl)
theorem dX10_goesDay_5 : decode cX10_goesDay 5 = .ok (.bipush 12, 2) := dk_16 12 (dk_at dksX10_goesDay_0 5 rfl rfl)
theorem dX10_goesDay_7 : decode cX10_goesDay 7 = .ok (.if_icmp .ge 47, 3) := dk_162 0 47 (dk_at dksX10_goesDay_0 7 rfl rfl)
theorem dX10_goesDay_10 : decode cX10_goesDay 10 = .ok (.aload_n 0, 1) := dk_42 (dk_at dksX10_goesDay_0 10 rfl rfl)
theorem dX10_goesDay_11 : decode cX10_goesDay 11 = .ok (.getfield 13, 3) := dk_180 0 13 (dk_at dksX10_goesDay_0 11 rfl rfl)
theorem dX10_goesDay_14 : decode cX10_goesDay 14 = .ok (.iconst 0, 1) := dk_3 (dk_at dksX10_goesDay_0 14 rfl rfl)
theorem dX10_goesDay_15 : decode cX10_goesDay 15 = .ok (.iload_n 2, 1) := dk_28 (dk_at dksX10_goesDay_0 15 rfl rfl)
theorem dX10_goesDay_16 : decode cX10_goesDay 16 = .ok (.iadd, 1) := dk_96 (dk_at dksX10_goesDay_0 16 rfl rfl)
theorem dX10_goesDay_17 : decode cX10_goesDay 17 = .ok (.aload_n 0, 1) := dk_42 (dk_at dksX10_goesDay_0 17 rfl rfl)
theorem dX10_goesDay_18 : decode cX10_goesDay 18 = .ok (.aload_n 0, 1) := dk_42 (dk_at dksX10_goesDay_0 18 rfl rfl)
theorem dX10_goesDay_19 : decode cX10_goesDay 19 = .ok (.getfield 13, 3) := dk_180 0 13 (dk_at dksX10_goesDay_0 19 rfl rfl)
theorem dX10_goesDay_22 : decode cX10_goesDay 22 = .ok (.iconst 0, 1) := dk_3 (dk_at dksX10_goesDay_0 22 rfl rfl)
theorem dX10_goesDay_23 : decode cX10_goesDay 23 = .ok (.iload_n 2, 1) := dk_28 (dk_at dksX10_goesDay_0 23 rfl rfl)
theorem dX10_goesDay_24 : decode cX10_goesDay 24 = .ok (.iadd, 1) := dk_96 (dk_at dksX10_goesDay_1 0 rfl rfl)
theorem dX10_goesDay_25 : decode cX10_goesDay 25 = .ok (.faload, 1) := dk_48 (dk_at dksX10_goesDay_1 1 rfl rfl)
theorem dX10_goesDay_26 : decode cX10_goesDay 26 = .ok (.invokevirtual 137, 3) := dk_182 0 137 (dk_at dksX10_goesDay_1 2 rfl rfl)
theorem dX10_goesDay_29 : decode cX10_goesDay 29 = .ok (.fastore, 1) := dk_81 (dk_at dksX10_goesDay_1 5 rfl rfl)
theorem dX10_goesDay_30 : decode cX10_goesDay 30 = .ok (.aload_n 0, 1) := dk_42 (dk_at dksX10_goesDay_1 6 rfl rfl)
theorem dX10_goesDay_31 : decode cX10_goesDay 31 = .ok (.getfield 7, 3) := dk_180 0 7 (dk_at dksX10_goesDay_1 7 rfl rfl)
theorem dX10_goesDay_34 : decode cX10_goesDay 34 = .ok (.bipush 27, 2) := dk_16 27 (dk_at dksX10_goesDay_1 10 rfl rfl)
theorem dX10_goesDay_36 : decode cX10_goesDay 36 = .ok (.iload_n 2, 1) := dk_28 (dk_at dksX10_goesDay_1 12 rfl rfl)
theorem dX10_goesDay_37 : decode cX10_goesDay 37 = .ok (.iadd, 1) := dk_96 (dk_at dksX10_goesDay_1 13 rfl rfl)
theorem dX10_goesDay_38 : decode cX10_goesDay 38 = .ok (.iaload, 1) := dk_46 (dk_at dksX10_goesDay_1 14 rfl rfl)
theorem dX10_goesDay_39 : decode cX10_goesDay 39 = .ok (.iconst (-1), 1) := dk_2 (dk_at dksX10_goesDay_1 15 rfl rfl)
theorem dX10_goesDay_40 : decode cX10_goesDay 40 = .ok (.if_icmp .eq 8, 3) := dk_159 0 8 (dk_at dksX10_goesDay_1 16 rfl rfl)
theorem dX10_goesDay_43 : decode cX10_goesDay 43 = .ok (.aload_n 0, 1) := dk_42 (dk_at dksX10_goesDay_1 19 rfl rfl)
theorem dX10_goesDay_44 : decode cX10_goesDay 44 = .ok (.iload_n 2, 1) := dk_28 (dk_at dksX10_goesDay_1 20 rfl rfl)
theorem dX10_goesDay_45 : decode cX10_goesDay 45 = .ok (.invokevirtual 194, 3) := dk_182 0 194 (dk_at dksX10_goesDay_1 21 rfl rfl)
theorem dX10_goesDay_48 : decode cX10_goesDay 48 = .ok (.iinc 2 1, 3) := dk_132 2 1 (dk_at dksX10_goesDay_2 0 rfl rfl)
theorem dX10_goesDay_51 : decode cX10_goesDay 51 = .ok (.goto (-47), 3) := dk_167 255 209 (dk_at dksX10_goesDay_2 3 rfl rfl)
theorem dX10_goesDay_54 : decode cX10_goesDay 54 = .ok (.iconst 0, 1) := dk_3 (dk_at dksX10_goesDay_2 6 rfl rfl)
theorem dX10_goesDay_55 : decode cX10_goesDay 55 = .ok (.istore_n 2, 1) := dk_61 (dk_at dksX10_goesDay_2 7 rfl rfl)
theorem dX10_goesDay_56 : decode cX10_goesDay 56 = .ok (.iload_n 2, 1) := dk_28 (dk_at dksX10_goesDay_2 8 rfl rfl)
theorem dX10_goesDay_57 : decode cX10_goesDay 57 = .ok (.aload_n 0, 1) := dk_42 (dk_at dksX10_goesDay_2 9 rfl rfl)
theorem dX10_goesDay_58 : decode cX10_goesDay 58 = .ok (.getfield 7, 3) := dk_180 0 7 (dk_at dksX10_goesDay_2 10 rfl rfl)
theorem dX10_goesDay_61 : decode cX10_goesDay 61 = .ok (.bipush 80, 2) := dk_16 80 (dk_at dksX10_goesDay_2 13 rfl rfl)
theorem dX10_goesDay_63 : decode cX10_goesDay 63 = .ok (.iaload, 1) := dk_46 (dk_at dksX10_goesDay_2 15 rfl rfl)
theorem dX10_goesDay_64 : decode cX10_goesDay 64 = .ok (.if_icmp .ge 132, 3) := dk_162 0 132 (dk_at dksX10_goesDay_2 16 rfl rfl)
theorem dX10_goesDay_67 : decode cX10_goesDay 67 = .ok (.aload_n 0, 1) := dk_42 (dk_at dksX10_goesDay_2 19 rfl rfl)
theorem dX10_goesDay_68 : decode cX10_goesDay 68 = .ok (.getfield 7, 3) := dk_180 0 7 (dk_at dksX10_goesDay_2 20 rfl rfl)
theorem dX10_goesDay_71 : decode cX10_goesDay 71 = .ok (.bipush 89, 2) := dk_16 89 (dk_at dksX10_goesDay_3 0 rfl rfl)
theorem dX10_goesDay_73 : decode cX10_goesDay 73 = .ok (.iload_n 2, 1) := dk_28 (dk_at dksX10_goesDay_3 2 rfl rfl)
theorem dX10_goesDay_74 : decode cX10_goesDay 74 = .ok (.iadd, 1) := dk_96 (dk_at dksX10_goesDay_3 3 rfl rfl)
theorem dX10_goesDay_75 : decode cX10_goesDay 75 = .ok (.iaload, 1) := dk_46 (dk_at dksX10_goesDay_3 4 rfl rfl)
theorem dX10_goesDay_76 : decode cX10_goesDay 76 = .ok (.iconst 1, 1) := dk_4 (dk_at dksX10_goesDay_3 5 rfl rfl)
theorem dX10_goesDay_77 : decode cX10_goesDay 77 = .ok (.if_icmp .ne 7, 3) := dk_160 0 7 (dk_at dksX10_goesDay_3 6 rfl rfl)
theorem dX10_goesDay_80 : decode cX10_goesDay 80 = .ok (.iconst 1, 1) := dk_4 (dk_at dksX10_goesDay_3 9 rfl rfl)
theorem dX10_goesDay_81 : decode cX10_goesDay 81 = .ok (.goto 4, 3) := dk_167 0 4 (dk_at dksX10_goesDay_3 10 rfl rfl)
theorem dX10_goesDay_84 : decode cX10_goesDay 84 = .ok (.iconst 0, 1) := dk_3 (dk_at dksX10_goesDay_3 13 rfl rfl)
theorem dX10_goesDay_85 : decode cX10_goesDay 85 = .ok (.istore_n 3, 1) := dk_62 (dk_at dksX10_goesDay_3 14 rfl rfl)
theorem dX10_goesDay_86 : decode cX10_goesDay 86 = .ok (.iload_n 3, 1) := dk_29 (dk_at dksX10_goesDay_3 15 rfl rfl)
theorem dX10_goesDay_87 : decode cX10_goesDay 87 = .ok (.ifCond .eq 21, 3) := dk_153 0 21 (dk_at dksX10_goesDay_3 16 rfl rfl)
theorem dX10_goesDay_90 : decode cX10_goesDay 90 = .ok (.aload_n 0, 1) := dk_42 (dk_at dksX10_goesDay_3 19 rfl rfl)
theorem dX10_goesDay_91 : decode cX10_goesDay 91 = .ok (.iload_n 2, 1) := dk_28 (dk_at dksX10_goesDay_3 20 rfl rfl)
theorem dX10_goesDay_92 : decode cX10_goesDay 92 = .ok (.aload_n 0, 1) := dk_42 (dk_at dksX10_goesDay_3 21 rfl rfl)
theorem dX10_goesDay_93 : decode cX10_goesDay 93 = .ok (.getfield 7, 3) := dk_180 0 7 (dk_at dksX10_goesDay_4 0 rfl rfl)
theorem dX10_goesDay_96 : decode cX10_goesDay 96 = .ok (.iconst 1, 1) := dk_4 (dk_at dksX10_goesDay_4 3 rfl rfl)
theorem dX10_goesDay_97 : decode cX10_goesDay 97 = .ok (.iaload, 1) := dk_46 (dk_at dksX10_goesDay_4 4 rfl rfl)
theorem dX10_goesDay_98 : decode cX10_goesDay 98 = .ok (.invokevirtual 173, 3) := dk_182 0 173 (dk_at dksX10_goesDay_4 5 rfl rfl)
theorem dX10_goesDay_101 : decode cX10_goesDay 101 = .ok (.ifCond .eq 7, 3) := dk_153 0 7 (dk_at dksX10_goesDay_4 8 rfl rfl)
theorem dX10_goesDay_104 : decode cX10_goesDay 104 = .ok (.iconst 1, 1) := dk_4 (dk_at dksX10_goesDay_4 11 rfl rfl)
theorem dX10_goesDay_105 : decode cX10_goesDay 105 = .ok (.goto 4, 3) := dk_167 0 4 (dk_at dksX10_goesDay_4 12 rfl rfl)
theorem dX10_goesDay_108 : decode cX10_goesDay 108 = .ok (.iconst 0, 1) := dk_3 (dk_at dksX10_goesDay_4 15 rfl rfl)
theorem dX10_goesDay_109 : decode cX10_goesDay 109 = .ok (.istore 4, 2) := dk_54 4 (dk_at dksX10_goesDay_4 16 rfl rfl)
theorem dX10_goesDay_111 : decode cX10_goesDay 111 = .ok (.iload_n 1, 1) := dk_27 (dk_at dksX10_goesDay_4 18 rfl rfl)
theorem dX10_goesDay_112 : decode cX10_goesDay 112 = .ok (.iload_n 3, 1) := dk_29 (dk_at dksX10_goesDay_4 19 rfl rfl)
theorem dX10_goesDay_113 : decode cX10_goesDay 113 = .ok (.ifCond .eq 12, 3) := dk_153 0 12 (dk_at dksX10_goesDay_4 20 rfl rfl)
theorem dX10_goesDay_116 : decode cX10_goesDay 116 = .ok (.iload 4, 2) := dk_21 4 (dk_at dksX10_goesDay_5 0 rfl rfl)
theorem dX10_goesDay_118 : decode cX10_goesDay 118 = .ok (.ifCond .ne 7, 3) := dk_154 0 7 (dk_at dksX10_goesDay_5 2 rfl rfl)
theorem dX10_goesDay_121 : decode cX10_goesDay 121 = .ok (.iconst 1, 1) := dk_4 (dk_at dksX10_goesDay_5 5 rfl rfl)
theorem dX10_goesDay_122 : decode cX10_goesDay 122 = .ok (.goto 4, 3) := dk_167 0 4 (dk_at dksX10_goesDay_5 6 rfl rfl)
theorem dX10_goesDay_125 : decode cX10_goesDay 125 = .ok (.iconst 0, 1) := dk_3 (dk_at dksX10_goesDay_5 9 rfl rfl)
theorem dX10_goesDay_126 : decode cX10_goesDay 126 = .ok (.iadd, 1) := dk_96 (dk_at dksX10_goesDay_5 10 rfl rfl)
theorem dX10_goesDay_127 : decode cX10_goesDay 127 = .ok (.istore_n 1, 1) := dk_60 (dk_at dksX10_goesDay_5 11 rfl rfl)
theorem dX10_goesDay_128 : decode cX10_goesDay 128 = .ok (.aload_n 0, 1) := dk_42 (dk_at dksX10_goesDay_5 12 rfl rfl)
theorem dX10_goesDay_129 : decode cX10_goesDay 129 = .ok (.getfield 7, 3) := dk_180 0 7 (dk_at dksX10_goesDay_5 13 rfl rfl)
theorem dX10_goesDay_132 : decode cX10_goesDay 132 = .ok (.bipush 89, 2) := dk_16 89 (dk_at dksX10_goesDay_5 16 rfl rfl)
theorem dX10_goesDay_134 : decode cX10_goesDay 134 = .ok (.iload_n 2, 1) := dk_28 (dk_at dksX10_goesDay_5 18 rfl rfl)
theorem dX10_goesDay_135 : decode cX10_goesDay 135 = .ok (.iadd, 1) := dk_96 (dk_at dksX10_goesDay_5 19 rfl rfl)
theorem dX10_goesDay_136 : decode cX10_goesDay 136 = .ok (.iload 4, 2) := dk_21 4 (dk_at dksX10_goesDay_5 20 rfl rfl)
theorem dX10_goesDay_138 : decode cX10_goesDay 138 = .ok (.ifCond .eq 7, 3) := dk_153 0 7 (dk_at dksX10_goesDay_6 0 rfl rfl)
theorem dX10_goesDay_141 : decode cX10_goesDay 141 = .ok (.iconst 1, 1) := dk_4 (dk_at dksX10_goesDay_6 3 rfl rfl)
theorem dX10_goesDay_142 : decode cX10_goesDay 142 = .ok (.goto 4, 3) := dk_167 0 4 (dk_at dksX10_goesDay_6 4 rfl rfl)
theorem dX10_goesDay_145 : decode cX10_goesDay 145 = .ok (.iconst 0, 1) := dk_3 (dk_at dksX10_goesDay_6 7 rfl rfl)
theorem dX10_goesDay_146 : decode cX10_goesDay 146 = .ok (.iastore, 1) := dk_79 (dk_at dksX10_goesDay_6 8 rfl rfl)
theorem dX10_goesDay_147 : decode cX10_goesDay 147 = .ok (.aload_n 0, 1) := dk_42 (dk_at dksX10_goesDay_6 9 rfl rfl)
theorem dX10_goesDay_148 : decode cX10_goesDay 148 = .ok (.getfield 13, 3) := dk_180 0 13 (dk_at dksX10_goesDay_6 10 rfl rfl)
theorem dX10_goesDay_151 : decode cX10_goesDay 151 = .ok (.bipush 24, 2) := dk_16 24 (dk_at dksX10_goesDay_6 13 rfl rfl)
theorem dX10_goesDay_153 : decode cX10_goesDay 153 = .ok (.iload_n 2, 1) := dk_28 (dk_at dksX10_goesDay_6 15 rfl rfl)
theorem dX10_goesDay_154 : decode cX10_goesDay 154 = .ok (.iadd, 1) := dk_96 (dk_at dksX10_goesDay_6 16 rfl rfl)
theorem dX10_goesDay_155 : decode cX10_goesDay 155 = .ok (.iload 4, 2) := dk_21 4 (dk_at dksX10_goesDay_6 17 rfl rfl)
theorem dX10_goesDay_157 : decode cX10_goesDay 157 = .ok (.ifCond .eq 31, 3) := dk_153 0 31 (dk_at dksX10_goesDay_6 19 rfl rfl)
theorem dX10_goesDay_160 : decode cX10_goesDay 160 = .ok (.aload_n 0, 1) := dk_42 (dk_at dksX10_goesDay_6 22 rfl rfl)
theorem dX10_goesDay_161 : decode cX10_goesDay 161 = .ok (.getfield 13, 3) := dk_180 0 13 (dk_at dksX10_goesDay_7 0 rfl rfl)
theorem dX10_goesDay_164 : decode cX10_goesDay 164 = .ok (.bipush 24, 2) := dk_16 24 (dk_at dksX10_goesDay_7 3 rfl rfl)
theorem dX10_goesDay_166 : decode cX10_goesDay 166 = .ok (.iload_n 2, 1) := dk_28 (dk_at dksX10_goesDay_7 5 rfl rfl)
theorem dX10_goesDay_167 : decode cX10_goesDay 167 = .ok (.iadd, 1) := dk_96 (dk_at dksX10_goesDay_7 6 rfl rfl)
theorem dX10_goesDay_168 : decode cX10_goesDay 168 = .ok (.faload, 1) := dk_48 (dk_at dksX10_goesDay_7 7 rfl rfl)
theorem dX10_goesDay_169 : decode cX10_goesDay 169 = .ok (.ldc 198, 2) := dk_18 198 (dk_at dksX10_goesDay_7 8 rfl rfl)
theorem dX10_goesDay_171 : decode cX10_goesDay 171 = .ok (.aload_n 0, 1) := dk_42 (dk_at dksX10_goesDay_7 10 rfl rfl)
theorem dX10_goesDay_172 : decode cX10_goesDay 172 = .ok (.getfield 7, 3) := dk_180 0 7 (dk_at dksX10_goesDay_7 11 rfl rfl)
theorem dX10_goesDay_175 : decode cX10_goesDay 175 = .ok (.iconst 2, 1) := dk_5 (dk_at dksX10_goesDay_7 14 rfl rfl)
theorem dX10_goesDay_176 : decode cX10_goesDay 176 = .ok (.iaload, 1) := dk_46 (dk_at dksX10_goesDay_7 15 rfl rfl)
theorem dX10_goesDay_177 : decode cX10_goesDay 177 = .ok (.i2f, 1) := dk_134 (dk_at dksX10_goesDay_7 16 rfl rfl)
theorem dX10_goesDay_178 : decode cX10_goesDay 178 = .ok (.fmul, 1) := dk_106 (dk_at dksX10_goesDay_7 17 rfl rfl)
theorem dX10_goesDay_179 : decode cX10_goesDay 179 = .ok (.fadd, 1) := dk_98 (dk_at dksX10_goesDay_7 18 rfl rfl)
theorem dX10_goesDay_180 : decode cX10_goesDay 180 = .ok (.ldc 199, 2) := dk_18 199 (dk_at dksX10_goesDay_7 19 rfl rfl)
theorem dX10_goesDay_182 : decode cX10_goesDay 182 = .ok (.invokestatic 127, 3) := dk_184 0 127 (dk_at dksX10_goesDay_7 21 rfl rfl)
theorem dX10_goesDay_185 : decode cX10_goesDay 185 = .ok (.goto 4, 3) := dk_167 0 4 (dk_at dksX10_goesDay_8 0 rfl rfl)
theorem dX10_goesDay_188 : decode cX10_goesDay 188 = .ok (.fconst 0, 1) := dk_11 (dk_at dksX10_goesDay_8 3 rfl rfl)
theorem dX10_goesDay_189 : decode cX10_goesDay 189 = .ok (.fastore, 1) := dk_81 (dk_at dksX10_goesDay_8 4 rfl rfl)
theorem dX10_goesDay_190 : decode cX10_goesDay 190 = .ok (.iinc 2 1, 3) := dk_132 2 1 (dk_at dksX10_goesDay_8 5 rfl rfl)
theorem dX10_goesDay_193 : decode cX10_goesDay 193 = .ok (.goto (-137), 3) := dk_167 255 119 (dk_at dksX10_goesDay_8 8 rfl rfl)
theorem dX10_goesDay_196 : decode cX10_goesDay 196 = .ok (.aload_n 0, 1) := dk_42 (dk_at dksX10_goesDay_8 11 rfl rfl)
theorem dX10_goesDay_197 : decode cX10_goesDay 197 = .ok (.getfield 7, 3) := dk_180 0 7 (dk_at dksX10_goesDay_8 12 rfl rfl)
theorem dX10_goesDay_200 : decode cX10_goesDay 200 = .ok (.iconst 0, 1) := dk_3 (dk_at dksX10_goesDay_8 15 rfl rfl)
theorem dX10_goesDay_201 : decode cX10_goesDay 201 = .ok (.iaload, 1) := dk_46 (dk_at dksX10_goesDay_8 16 rfl rfl)
theorem dX10_goesDay_202 : decode cX10_goesDay 202 = .ok (.iconst 3, 1) := dk_6 (dk_at dksX10_goesDay_8 17 rfl rfl)
theorem dX10_goesDay_203 : decode cX10_goesDay 203 = .ok (.irem, 1) := dk_112 (dk_at dksX10_goesDay_8 18 rfl rfl)
theorem dX10_goesDay_204 : decode cX10_goesDay 204 = .ok (.ifCond .ne 7, 3) := dk_154 0 7 (dk_at dksX10_goesDay_8 19 rfl rfl)
theorem dX10_goesDay_207 : decode cX10_goesDay 207 = .ok (.aload_n 0, 1) := dk_42 (dk_at dksX10_goesDay_8 22 rfl rfl)
theorem dX10_goesDay_208 : decode cX10_goesDay 208 = .ok (.invokevirtual 200, 3) := dk_182 0 200 (dk_at dksX10_goesDay_9 0 rfl rfl)
theorem dX10_goesDay_211 : decode cX10_goesDay 211 = .ok (.aload_n 0, 1) := dk_42 (dk_at dksX10_goesDay_9 3 rfl rfl)
theorem dX10_goesDay_212 : decode cX10_goesDay 212 = .ok (.getfield 7, 3) := dk_180 0 7 (dk_at dksX10_goesDay_9 4 rfl rfl)
theorem dX10_goesDay_215 : decode cX10_goesDay 215 = .ok (.iconst 0, 1) := dk_3 (dk_at dksX10_goesDay_9 7 rfl rfl)
theorem dX10_goesDay_216 : decode cX10_goesDay 216 = .ok (.dup2, 1) := dk_92 (dk_at dksX10_goesDay_9 8 rfl rfl)
theorem dX10_goesDay_217 : decode cX10_goesDay 217 = .ok (.iaload, 1) := dk_46 (dk_at dksX10_goesDay_9 9 rfl rfl)
theorem dX10_goesDay_218 : decode cX10_goesDay 218 = .ok (.iconst 1, 1) := dk_4 (dk_at dksX10_goesDay_9 10 rfl rfl)
theorem dX10_goesDay_219 : decode cX10_goesDay 219 = .ok (.iadd, 1) := dk_96 (dk_at dksX10_goesDay_9 11 rfl rfl)
theorem dX10_goesDay_220 : decode cX10_goesDay 220 = .ok (.iastore, 1) := dk_79 (dk_at dksX10_goesDay_9 12 rfl rfl)
theorem dX10_goesDay_221 : decode cX10_goesDay 221 = .ok (.iload_n 1, 1) := dk_27 (dk_at dksX10_goesDay_9 13 rfl rfl)
theorem dX10_goesDay_222 : decode cX10_goesDay 222 = .ok (.ireturn, 1) := dk_172 (dk_at dksX10_goesDay_9 14 rfl rfl)
abbrev cX10_grows : ByteArray := prog_13_method_61_code
def yX10_grows : MethodName := ⟨RX10, "grows", "(I)V"⟩
def dkwX10_grows_3 : List UInt8 := [42, 180, 0, 13, 16, 12, 27, 96, 37, 184, 0, 133, 18, 193, 184, 0, 127, 81, 177]
abbrev dktX10_grows_3 : List UInt8 := dkwX10_grows_3 ++ []
def dkwX10_grows_2 : List UInt8 := [18, 191, 98, 110, 106, 98, 70, 37, 18, 192, 42, 180, 0, 7, 6, 27, 96, 46, 134, 106, 37, 106, 102, 70]
abbrev dktX10_grows_2 : List UInt8 := dkwX10_grows_2 ++ dktX10_grows_3
def dkwX10_grows_1 : List UInt8 := [16, 27, 27, 96, 46, 154, 0, 8, 18, 189, 167, 0, 5, 18, 190, 56, 4, 37, 37, 23, 4, 106, 36, 36]
abbrev dktX10_grows_1 : List UInt8 := dkwX10_grows_1 ++ dktX10_grows_2
def dkwX10_grows_0 : List UInt8 := [42, 180, 0, 13, 3, 27, 96, 48, 69, 42, 180, 0, 13, 16, 12, 27, 96, 48, 70, 42, 180, 0, 7]
abbrev dktX10_grows_0 : List UInt8 := dkwX10_grows_0 ++ dktX10_grows_1
theorem dksX10_grows_0 : cX10_grows.data.toList.drop 0 = dktX10_grows_0 := by decide +kernel
theorem dksX10_grows_1 : cX10_grows.data.toList.drop 23 = dktX10_grows_1 := dk_seg dksX10_grows_0 23 rfl rfl
theorem dksX10_grows_2 : cX10_grows.data.toList.drop 47 = dktX10_grows_2 := dk_seg dksX10_grows_1 24 rfl rfl
theorem dksX10_grows_3 : cX10_grows.data.toList.drop 71 = dktX10_grows_3 := dk_seg dksX10_grows_2 24 rfl rfl
theorem dX10_grows_0 : decode cX10_grows 0 = .ok (.aload_n 0, 1) := dk_42 (dk_at dksX10_grows_0 0 rfl rfl)
theorem dX10_grows_1 : decode cX10_grows 1 = .ok (.getfield 13, 3) := dk_180 0 13 (dk_at dksX10_grows_0 1 rfl rfl)
theorem dX10_grows_4 : decode cX10_grows 4 = .ok (.iconst 0, 1) := dk_3 (dk_at dksX10_grows_0 4 rfl rfl)
theorem dX10_grows_5 : decode cX10_grows 5 = .ok (.iload_n 1, 1) := dk_27 (dk_at dksX10_grows_0 5 rfl rfl)
theorem dX10_grows_6 : decode cX10_grows 6 = .ok (.iadd, 1) := dk_96 (dk_at dksX10_grows_0 6 rfl rfl)
theorem dX10_grows_7 : decode cX10_grows 7 = .ok (.faload, 1) := dk_48 (dk_at dksX10_grows_0 7 rfl rfl)
theorem dX10_grows_8 : decode cX10_grows 8 = .ok (.fstore_n 2, 1) := dk_69 (dk_at dksX10_grows_0 8 rfl rfl)
theorem dX10_grows_9 : decode cX10_grows 9 = .ok (.aload_n 0, 1) := dk_42 (dk_at dksX10_grows_0 9 rfl rfl)
theorem dX10_grows_10 : decode cX10_grows 10 = .ok (.getfield 13, 3) := dk_180 0 13 (dk_at dksX10_grows_0 10 rfl rfl)
theorem dX10_grows_13 : decode cX10_grows 13 = .ok (.bipush 12, 2) := dk_16 12 (dk_at dksX10_grows_0 13 rfl rfl)
theorem dX10_grows_15 : decode cX10_grows 15 = .ok (.iload_n 1, 1) := dk_27 (dk_at dksX10_grows_0 15 rfl rfl)
theorem dX10_grows_16 : decode cX10_grows 16 = .ok (.iadd, 1) := dk_96 (dk_at dksX10_grows_0 16 rfl rfl)
theorem dX10_grows_17 : decode cX10_grows 17 = .ok (.faload, 1) := dk_48 (dk_at dksX10_grows_0 17 rfl rfl)
theorem dX10_grows_18 : decode cX10_grows 18 = .ok (.fstore_n 3, 1) := dk_70 (dk_at dksX10_grows_0 18 rfl rfl)
theorem dX10_grows_19 : decode cX10_grows 19 = .ok (.aload_n 0, 1) := dk_42 (dk_at dksX10_grows_0 19 rfl rfl)
theorem dX10_grows_20 : decode cX10_grows 20 = .ok (.getfield 7, 3) := dk_180 0 7 (dk_at dksX10_grows_0 20 rfl rfl)
theorem dX10_grows_23 : decode cX10_grows 23 = .ok (.bipush 27, 2) := dk_16 27 (dk_at dksX10_grows_1 0 rfl rfl)
theorem dX10_grows_25 : decode cX10_grows 25 = .ok (.iload_n 1, 1) := dk_27 (dk_at dksX10_grows_1 2 rfl rfl)
theorem dX10_grows_26 : decode cX10_grows 26 = .ok (.iadd, 1) := dk_96 (dk_at dksX10_grows_1 3 rfl rfl)
theorem dX10_grows_27 : decode cX10_grows 27 = .ok (.iaload, 1) := dk_46 (dk_at dksX10_grows_1 4 rfl rfl)
theorem dX10_grows_28 : decode cX10_grows 28 = .ok (.ifCond .ne 8, 3) := dk_154 0 8 (dk_at dksX10_grows_1 5 rfl rfl)
theorem dX10_grows_31 : decode cX10_grows 31 = .ok (.ldc 189, 2) := dk_18 189 (dk_at dksX10_grows_1 8 rfl rfl)
theorem dX10_grows_33 : decode cX10_grows 33 = .ok (.goto 5, 3) := dk_167 0 5 (dk_at dksX10_grows_1 10 rfl rfl)
theorem dX10_grows_36 : decode cX10_grows 36 = .ok (.ldc 190, 2) := dk_18 190 (dk_at dksX10_grows_1 13 rfl rfl)
theorem dX10_grows_38 : decode cX10_grows 38 = .ok (.fstore 4, 2) := dk_56 4 (dk_at dksX10_grows_1 15 rfl rfl)
theorem dX10_grows_40 : decode cX10_grows 40 = .ok (.fload_n 3, 1) := dk_37 (dk_at dksX10_grows_1 17 rfl rfl)
theorem dX10_grows_41 : decode cX10_grows 41 = .ok (.fload_n 3, 1) := dk_37 (dk_at dksX10_grows_1 18 rfl rfl)
theorem dX10_grows_42 : decode cX10_grows 42 = .ok (.fload 4, 2) := dk_23 4 (dk_at dksX10_grows_1 19 rfl rfl)
theorem dX10_grows_44 : decode cX10_grows 44 = .ok (.fmul, 1) := dk_106 (dk_at dksX10_grows_1 21 rfl rfl)
theorem dX10_grows_45 : decode cX10_grows 45 = .ok (.fload_n 2, 1) := dk_36 (dk_at dksX10_grows_1 22 rfl rfl)
theorem dX10_grows_46 : decode cX10_grows 46 = .ok (.fload_n 2, 1) := dk_36 (dk_at dksX10_grows_1 23 rfl rfl)
theorem dX10_grows_47 : decode cX10_grows 47 = .ok (.ldc 191, 2) := dk_18 191 (dk_at dksX10_grows_2 0 rfl rfl)
theorem dX10_grows_49 : decode cX10_grows 49 = .ok (.fadd, 1) := dk_98 (dk_at dksX10_grows_2 2 rfl rfl)
theorem dX10_grows_50 : decode cX10_grows 50 = .ok (.fdiv, 1) := dk_110 (dk_at dksX10_grows_2 3 rfl rfl)
theorem dX10_grows_51 : decode cX10_grows 51 = .ok (.fmul, 1) := dk_106 (dk_at dksX10_grows_2 4 rfl rfl)
theorem dX10_grows_52 : decode cX10_grows 52 = .ok (.fadd, 1) := dk_98 (dk_at dksX10_grows_2 5 rfl rfl)
theorem dX10_grows_53 : decode cX10_grows 53 = .ok (.fstore_n 3, 1) := dk_70 (dk_at dksX10_grows_2 6 rfl rfl)
theorem dX10_grows_54 : decode cX10_grows 54 = .ok (.fload_n 3, 1) := dk_37 (dk_at dksX10_grows_2 7 rfl rfl)
theorem dX10_grows_55 : decode cX10_grows 55 = .ok (.ldc 192, 2) := dk_18 192 (dk_at dksX10_grows_2 8 rfl rfl)
theorem dX10_grows_57 : decode cX10_grows 57 = .ok (.aload_n 0, 1) := dk_42 (dk_at dksX10_grows_2 10 rfl rfl)
theorem dX10_grows_58 : decode cX10_grows 58 = .ok (.getfield 7, 3) := dk_180 0 7 (dk_at dksX10_grows_2 11 rfl rfl)
theorem dX10_grows_61 : decode cX10_grows 61 = .ok (.iconst 3, 1) := dk_6 (dk_at dksX10_grows_2 14 rfl rfl)
theorem dX10_grows_62 : decode cX10_grows 62 = .ok (.iload_n 1, 1) := dk_27 (dk_at dksX10_grows_2 15 rfl rfl)
theorem dX10_grows_63 : decode cX10_grows 63 = .ok (.iadd, 1) := dk_96 (dk_at dksX10_grows_2 16 rfl rfl)
theorem dX10_grows_64 : decode cX10_grows 64 = .ok (.iaload, 1) := dk_46 (dk_at dksX10_grows_2 17 rfl rfl)
theorem dX10_grows_65 : decode cX10_grows 65 = .ok (.i2f, 1) := dk_134 (dk_at dksX10_grows_2 18 rfl rfl)
theorem dX10_grows_66 : decode cX10_grows 66 = .ok (.fmul, 1) := dk_106 (dk_at dksX10_grows_2 19 rfl rfl)
theorem dX10_grows_67 : decode cX10_grows 67 = .ok (.fload_n 3, 1) := dk_37 (dk_at dksX10_grows_2 20 rfl rfl)
theorem dX10_grows_68 : decode cX10_grows 68 = .ok (.fmul, 1) := dk_106 (dk_at dksX10_grows_2 21 rfl rfl)
theorem dX10_grows_69 : decode cX10_grows 69 = .ok (.fsub, 1) := dk_102 (dk_at dksX10_grows_2 22 rfl rfl)
theorem dX10_grows_70 : decode cX10_grows 70 = .ok (.fstore_n 3, 1) := dk_70 (dk_at dksX10_grows_2 23 rfl rfl)
theorem dX10_grows_71 : decode cX10_grows 71 = .ok (.aload_n 0, 1) := dk_42 (dk_at dksX10_grows_3 0 rfl rfl)
theorem dX10_grows_72 : decode cX10_grows 72 = .ok (.getfield 13, 3) := dk_180 0 13 (dk_at dksX10_grows_3 1 rfl rfl)
theorem dX10_grows_75 : decode cX10_grows 75 = .ok (.bipush 12, 2) := dk_16 12 (dk_at dksX10_grows_3 4 rfl rfl)
theorem dX10_grows_77 : decode cX10_grows 77 = .ok (.iload_n 1, 1) := dk_27 (dk_at dksX10_grows_3 6 rfl rfl)
theorem dX10_grows_78 : decode cX10_grows 78 = .ok (.iadd, 1) := dk_96 (dk_at dksX10_grows_3 7 rfl rfl)
theorem dX10_grows_79 : decode cX10_grows 79 = .ok (.fload_n 3, 1) := dk_37 (dk_at dksX10_grows_3 8 rfl rfl)
theorem dX10_grows_80 : decode cX10_grows 80 = .ok (.invokestatic 133, 3) := dk_184 0 133 (dk_at dksX10_grows_3 9 rfl rfl)
theorem dX10_grows_83 : decode cX10_grows 83 = .ok (.ldc 193, 2) := dk_18 193 (dk_at dksX10_grows_3 12 rfl rfl)
theorem dX10_grows_85 : decode cX10_grows 85 = .ok (.invokestatic 127, 3) := dk_184 0 127 (dk_at dksX10_grows_3 14 rfl rfl)
theorem dX10_grows_88 : decode cX10_grows 88 = .ok (.fastore, 1) := dk_81 (dk_at dksX10_grows_3 17 rfl rfl)
theorem dX10_grows_89 : decode cX10_grows 89 = .ok (.return_, 1) := dk_177 (dk_at dksX10_grows_3 18 rfl rfl)
abbrev cX10_holds : ByteArray := prog_13_method_49_code
def yX10_holds : MethodName := ⟨RX10, "holds", "(II)Z"⟩
def dkwX10_holds_1 : List UInt8 := [167, 0, 4, 3, 172]
abbrev dktX10_holds_1 : List UInt8 := dkwX10_holds_1 ++ []
def dkwX10_holds_0 : List UInt8 := [28, 134, 13, 18, 172, 42, 180, 0, 7, 16, 85, 27, 96, 46, 134, 106, 98, 150, 157, 0, 7, 4]
abbrev dktX10_holds_0 : List UInt8 := dkwX10_holds_0 ++ dktX10_holds_1
theorem dksX10_holds_0 : cX10_holds.data.toList.drop 0 = dktX10_holds_0 := by decide +kernel
theorem dksX10_holds_1 : cX10_holds.data.toList.drop 22 = dktX10_holds_1 := dk_seg dksX10_holds_0 22 rfl rfl
theorem dX10_holds_0 : decode cX10_holds 0 = .ok (.iload_n 2, 1) := dk_28 (dk_at dksX10_holds_0 0 rfl rfl)
theorem dX10_holds_1 : decode cX10_holds 1 = .ok (.i2f, 1) := dk_134 (dk_at dksX10_holds_0 1 rfl rfl)
theorem dX10_holds_2 : decode cX10_holds 2 = .ok (.fconst 2, 1) := dk_13 (dk_at dksX10_holds_0 2 rfl rfl)
theorem dX10_holds_3 : decode cX10_holds 3 = .ok (.ldc 172, 2) := dk_18 172 (dk_at dksX10_holds_0 3 rfl rfl)
theorem dX10_holds_5 : decode cX10_holds 5 = .ok (.aload_n 0, 1) := dk_42 (dk_at dksX10_holds_0 5 rfl rfl)
theorem dX10_holds_6 : decode cX10_holds 6 = .ok (.getfield 7, 3) := dk_180 0 7 (dk_at dksX10_holds_0 6 rfl rfl)
theorem dX10_holds_9 : decode cX10_holds 9 = .ok (.bipush 85, 2) := dk_16 85 (dk_at dksX10_holds_0 9 rfl rfl)
theorem dX10_holds_11 : decode cX10_holds 11 = .ok (.iload_n 1, 1) := dk_27 (dk_at dksX10_holds_0 11 rfl rfl)
theorem dX10_holds_12 : decode cX10_holds 12 = .ok (.iadd, 1) := dk_96 (dk_at dksX10_holds_0 12 rfl rfl)
theorem dX10_holds_13 : decode cX10_holds 13 = .ok (.iaload, 1) := dk_46 (dk_at dksX10_holds_0 13 rfl rfl)
theorem dX10_holds_14 : decode cX10_holds 14 = .ok (.i2f, 1) := dk_134 (dk_at dksX10_holds_0 14 rfl rfl)
theorem dX10_holds_15 : decode cX10_holds 15 = .ok (.fmul, 1) := dk_106 (dk_at dksX10_holds_0 15 rfl rfl)
theorem dX10_holds_16 : decode cX10_holds 16 = .ok (.fadd, 1) := dk_98 (dk_at dksX10_holds_0 16 rfl rfl)
theorem dX10_holds_17 : decode cX10_holds 17 = .ok (.fcmp .g, 1) := dk_150 (dk_at dksX10_holds_0 17 rfl rfl)
theorem dX10_holds_18 : decode cX10_holds 18 = .ok (.ifCond .gt 7, 3) := dk_157 0 7 (dk_at dksX10_holds_0 18 rfl rfl)
theorem dX10_holds_21 : decode cX10_holds 21 = .ok (.iconst 1, 1) := dk_4 (dk_at dksX10_holds_0 21 rfl rfl)
theorem dX10_holds_22 : decode cX10_holds 22 = .ok (.goto 4, 3) := dk_167 0 4 (dk_at dksX10_holds_1 0 rfl rfl)
theorem dX10_holds_25 : decode cX10_holds 25 = .ok (.iconst 0, 1) := dk_3 (dk_at dksX10_holds_1 3 rfl rfl)
theorem dX10_holds_26 : decode cX10_holds 26 = .ok (.ireturn, 1) := dk_172 (dk_at dksX10_holds_1 4 rfl rfl)
abbrev cX10_movesMoles : ByteArray := prog_13_method_62_code
def yX10_movesMoles : MethodName := ⟨RX10, "movesMoles", "()V"⟩
def dkwX10_movesMoles_1 : List UInt8 := [180, 0, 7, 6, 28, 96, 4, 100, 46, 79, 132, 2, 255, 167, 255, 231, 42, 180, 0, 7, 6, 27, 79, 177]
abbrev dktX10_movesMoles_1 : List UInt8 := dkwX10_movesMoles_1 ++ []
def dkwX10_movesMoles_0 : List UInt8 := [42, 180, 0, 7, 16, 14, 46, 60, 16, 11, 61, 28, 158, 0, 27, 42, 180, 0, 7, 6, 28, 96, 42]
abbrev dktX10_movesMoles_0 : List UInt8 := dkwX10_movesMoles_0 ++ dktX10_movesMoles_1
theorem dksX10_movesMoles_0 : cX10_movesMoles.data.toList.drop 0 = dktX10_movesMoles_0 := by decide +kernel
theorem dksX10_movesMoles_1 : cX10_movesMoles.data.toList.drop 23 = dktX10_movesMoles_1 := dk_seg dksX10_movesMoles_0 23 rfl rfl
theorem dX10_movesMoles_0 : decode cX10_movesMoles 0 = .ok (.aload_n 0, 1) := dk_42 (dk_at dksX10_movesMoles_0 0 rfl rfl)
theorem dX10_movesMoles_1 : decode cX10_movesMoles 1 = .ok (.getfield 7, 3) := dk_180 0 7 (dk_at dksX10_movesMoles_0 1 rfl rfl)
theorem dX10_movesMoles_4 : decode cX10_movesMoles 4 = .ok (.bipush 14, 2) := dk_16 14 (dk_at dksX10_movesMoles_0 4 rfl rfl)
theorem dX10_movesMoles_6 : decode cX10_movesMoles 6 = .ok (.iaload, 1) := dk_46 (dk_at dksX10_movesMoles_0 6 rfl rfl)
theorem dX10_movesMoles_7 : decode cX10_movesMoles 7 = .ok (.istore_n 1, 1) := dk_60 (dk_at dksX10_movesMoles_0 7 rfl rfl)
theorem dX10_movesMoles_8 : decode cX10_movesMoles 8 = .ok (.bipush 11, 2) := dk_16 11 (dk_at dksX10_movesMoles_0 8 rfl rfl)
theorem dX10_movesMoles_10 : decode cX10_movesMoles 10 = .ok (.istore_n 2, 1) := dk_61 (dk_at dksX10_movesMoles_0 10 rfl rfl)
theorem dX10_movesMoles_11 : decode cX10_movesMoles 11 = .ok (.iload_n 2, 1) := dk_28 (dk_at dksX10_movesMoles_0 11 rfl rfl)
theorem dX10_movesMoles_12 : decode cX10_movesMoles 12 = .ok (.ifCond .le 27, 3) := dk_158 0 27 (dk_at dksX10_movesMoles_0 12 rfl rfl)
theorem dX10_movesMoles_15 : decode cX10_movesMoles 15 = .ok (.aload_n 0, 1) := dk_42 (dk_at dksX10_movesMoles_0 15 rfl rfl)
theorem dX10_movesMoles_16 : decode cX10_movesMoles 16 = .ok (.getfield 7, 3) := dk_180 0 7 (dk_at dksX10_movesMoles_0 16 rfl rfl)
theorem dX10_movesMoles_19 : decode cX10_movesMoles 19 = .ok (.iconst 3, 1) := dk_6 (dk_at dksX10_movesMoles_0 19 rfl rfl)
theorem dX10_movesMoles_20 : decode cX10_movesMoles 20 = .ok (.iload_n 2, 1) := dk_28 (dk_at dksX10_movesMoles_0 20 rfl rfl)
theorem dX10_movesMoles_21 : decode cX10_movesMoles 21 = .ok (.iadd, 1) := dk_96 (dk_at dksX10_movesMoles_0 21 rfl rfl)
theorem dX10_movesMoles_22 : decode cX10_movesMoles 22 = .ok (.aload_n 0, 1) := dk_42 (dk_at dksX10_movesMoles_0 22 rfl rfl)
theorem dX10_movesMoles_23 : decode cX10_movesMoles 23 = .ok (.getfield 7, 3) := dk_180 0 7 (dk_at dksX10_movesMoles_1 0 rfl rfl)
theorem dX10_movesMoles_26 : decode cX10_movesMoles 26 = .ok (.iconst 3, 1) := dk_6 (dk_at dksX10_movesMoles_1 3 rfl rfl)
theorem dX10_movesMoles_27 : decode cX10_movesMoles 27 = .ok (.iload_n 2, 1) := dk_28 (dk_at dksX10_movesMoles_1 4 rfl rfl)
theorem dX10_movesMoles_28 : decode cX10_movesMoles 28 = .ok (.iadd, 1) := dk_96 (dk_at dksX10_movesMoles_1 5 rfl rfl)
theorem dX10_movesMoles_29 : decode cX10_movesMoles 29 = .ok (.iconst 1, 1) := dk_4 (dk_at dksX10_movesMoles_1 6 rfl rfl)
theorem dX10_movesMoles_30 : decode cX10_movesMoles 30 = .ok (.isub, 1) := dk_100 (dk_at dksX10_movesMoles_1 7 rfl rfl)
theorem dX10_movesMoles_31 : decode cX10_movesMoles 31 = .ok (.iaload, 1) := dk_46 (dk_at dksX10_movesMoles_1 8 rfl rfl)
theorem dX10_movesMoles_32 : decode cX10_movesMoles 32 = .ok (.iastore, 1) := dk_79 (dk_at dksX10_movesMoles_1 9 rfl rfl)
theorem dX10_movesMoles_33 : decode cX10_movesMoles 33 = .ok (.iinc 2 (-1), 3) := dk_132 2 255 (dk_at dksX10_movesMoles_1 10 rfl rfl)
theorem dX10_movesMoles_36 : decode cX10_movesMoles 36 = .ok (.goto (-25), 3) := dk_167 255 231 (dk_at dksX10_movesMoles_1 13 rfl rfl)
theorem dX10_movesMoles_39 : decode cX10_movesMoles 39 = .ok (.aload_n 0, 1) := dk_42 (dk_at dksX10_movesMoles_1 16 rfl rfl)
theorem dX10_movesMoles_40 : decode cX10_movesMoles 40 = .ok (.getfield 7, 3) := dk_180 0 7 (dk_at dksX10_movesMoles_1 17 rfl rfl)
theorem dX10_movesMoles_43 : decode cX10_movesMoles 43 = .ok (.iconst 3, 1) := dk_6 (dk_at dksX10_movesMoles_1 20 rfl rfl)
theorem dX10_movesMoles_44 : decode cX10_movesMoles 44 = .ok (.iload_n 1, 1) := dk_27 (dk_at dksX10_movesMoles_1 21 rfl rfl)
theorem dX10_movesMoles_45 : decode cX10_movesMoles 45 = .ok (.iastore, 1) := dk_79 (dk_at dksX10_movesMoles_1 22 rfl rfl)
theorem dX10_movesMoles_46 : decode cX10_movesMoles 46 = .ok (.return_, 1) := dk_177 (dk_at dksX10_movesMoles_1 23 rfl rfl)
abbrev cX10_laysBack : ByteArray := prog_13_method_12_code
def yX10_laysBack : MethodName := ⟨RX10, "laysBack", "()V"⟩
def dkwX10_laysBack_1 : List UInt8 := [184, 0, 70, 177]
abbrev dktX10_laysBack_1 : List UInt8 := dkwX10_laysBack_1 ++ []
def dkwX10_laysBack_0 : List UInt8 := [42, 180, 0, 35, 3, 42, 180, 0, 7, 3, 184, 0, 66, 42, 180, 0, 38, 3, 42, 180, 0, 13, 3]
abbrev dktX10_laysBack_0 : List UInt8 := dkwX10_laysBack_0 ++ dktX10_laysBack_1
theorem dksX10_laysBack_0 : cX10_laysBack.data.toList.drop 0 = dktX10_laysBack_0 := by decide +kernel
theorem dksX10_laysBack_1 : cX10_laysBack.data.toList.drop 23 = dktX10_laysBack_1 := dk_seg dksX10_laysBack_0 23 rfl rfl
theorem dX10_laysBack_0 : decode cX10_laysBack 0 = .ok (.aload_n 0, 1) := dk_42 (dk_at dksX10_laysBack_0 0 rfl rfl)
theorem dX10_laysBack_1 : decode cX10_laysBack 1 = .ok (.getfield 35, 3) := dk_180 0 35 (dk_at dksX10_laysBack_0 1 rfl rfl)
theorem dX10_laysBack_4 : decode cX10_laysBack 4 = .ok (.iconst 0, 1) := dk_3 (dk_at dksX10_laysBack_0 4 rfl rfl)
theorem dX10_laysBack_5 : decode cX10_laysBack 5 = .ok (.aload_n 0, 1) := dk_42 (dk_at dksX10_laysBack_0 5 rfl rfl)
theorem dX10_laysBack_6 : decode cX10_laysBack 6 = .ok (.getfield 7, 3) := dk_180 0 7 (dk_at dksX10_laysBack_0 6 rfl rfl)
theorem dX10_laysBack_9 : decode cX10_laysBack 9 = .ok (.iconst 0, 1) := dk_3 (dk_at dksX10_laysBack_0 9 rfl rfl)
theorem dX10_laysBack_10 : decode cX10_laysBack 10 = .ok (.invokestatic 66, 3) := dk_184 0 66 (dk_at dksX10_laysBack_0 10 rfl rfl)
theorem dX10_laysBack_13 : decode cX10_laysBack 13 = .ok (.aload_n 0, 1) := dk_42 (dk_at dksX10_laysBack_0 13 rfl rfl)
theorem dX10_laysBack_14 : decode cX10_laysBack 14 = .ok (.getfield 38, 3) := dk_180 0 38 (dk_at dksX10_laysBack_0 14 rfl rfl)
theorem dX10_laysBack_17 : decode cX10_laysBack 17 = .ok (.iconst 0, 1) := dk_3 (dk_at dksX10_laysBack_0 17 rfl rfl)
theorem dX10_laysBack_18 : decode cX10_laysBack 18 = .ok (.aload_n 0, 1) := dk_42 (dk_at dksX10_laysBack_0 18 rfl rfl)
theorem dX10_laysBack_19 : decode cX10_laysBack 19 = .ok (.getfield 13, 3) := dk_180 0 13 (dk_at dksX10_laysBack_0 19 rfl rfl)
theorem dX10_laysBack_22 : decode cX10_laysBack 22 = .ok (.iconst 0, 1) := dk_3 (dk_at dksX10_laysBack_0 22 rfl rfl)
theorem dX10_laysBack_23 : decode cX10_laysBack 23 = .ok (.invokestatic 70, 3) := dk_184 0 70 (dk_at dksX10_laysBack_1 0 rfl rfl)
theorem dX10_laysBack_26 : decode cX10_laysBack 26 = .ok (.return_, 1) := dk_177 (dk_at dksX10_laysBack_1 3 rfl rfl)
abbrev cX10_seedling : ByteArray := prog_13_method_37_code
def yX10_seedling : MethodName := ⟨RX10, "seedling", "(II)I"⟩
def dkwX10_seedling_4 : List UInt8 := [79, 42, 42, 29, 182, 0, 85, 182, 0, 94, 172]
abbrev dktX10_seedling_4 : List UInt8 := dkwX10_seedling_4 ++ []
def dkwX10_seedling_3 : List UInt8 := [28, 104, 96, 29, 96, 42, 180, 0, 7, 3, 46, 4, 96, 79, 42, 180, 0, 7, 16, 93, 92, 46, 4, 96]
abbrev dktX10_seedling_3 : List UInt8 := dkwX10_seedling_3 ++ dktX10_seedling_4
def dkwX10_seedling_2 : List UInt8 := [28, 159, 0, 12, 42, 16, 6, 28, 6, 182, 0, 100, 172, 42, 182, 0, 88, 42, 180, 0, 7, 16, 70, 8]
abbrev dktX10_seedling_2 : List UInt8 := dkwX10_seedling_2 ++ dktX10_seedling_3
def dkwX10_seedling_1 : List UInt8 := [182, 0, 81, 172, 42, 28, 182, 0, 158, 62, 29, 8, 160, 0, 11, 42, 8, 28, 6, 182, 0, 100, 172, 27]
abbrev dktX10_seedling_1 : List UInt8 := dkwX10_seedling_1 ++ dktX10_seedling_2
def dkwX10_seedling_0 : List UInt8 := [28, 184, 0, 155, 154, 0, 9, 42, 4, 182, 0, 81, 172, 27, 184, 0, 155, 154, 0, 9, 42, 5]
abbrev dktX10_seedling_0 : List UInt8 := dkwX10_seedling_0 ++ dktX10_seedling_1
theorem dksX10_seedling_0 : cX10_seedling.data.toList.drop 0 = dktX10_seedling_0 := by decide +kernel
theorem dksX10_seedling_1 : cX10_seedling.data.toList.drop 22 = dktX10_seedling_1 := dk_seg dksX10_seedling_0 22 rfl rfl
theorem dksX10_seedling_2 : cX10_seedling.data.toList.drop 46 = dktX10_seedling_2 := dk_seg dksX10_seedling_1 24 rfl rfl
theorem dksX10_seedling_3 : cX10_seedling.data.toList.drop 70 = dktX10_seedling_3 := dk_seg dksX10_seedling_2 24 rfl rfl
theorem dksX10_seedling_4 : cX10_seedling.data.toList.drop 94 = dktX10_seedling_4 := dk_seg dksX10_seedling_3 24 rfl rfl
theorem dX10_seedling_0 : decode cX10_seedling 0 = .ok (.iload_n 2, 1) := dk_28 (dk_at dksX10_seedling_0 0 rfl rfl)
theorem dX10_seedling_1 : decode cX10_seedling 1 = .ok (.invokestatic 155, 3) := dk_184 0 155 (dk_at dksX10_seedling_0 1 rfl rfl)
theorem dX10_seedling_4 : decode cX10_seedling 4 = .ok (.ifCond .ne 9, 3) := dk_154 0 9 (dk_at dksX10_seedling_0 4 rfl rfl)
theorem dX10_seedling_7 : decode cX10_seedling 7 = .ok (.aload_n 0, 1) := dk_42 (dk_at dksX10_seedling_0 7 rfl rfl)
theorem dX10_seedling_8 : decode cX10_seedling 8 = .ok (.iconst 1, 1) := dk_4 (dk_at dksX10_seedling_0 8 rfl rfl)
theorem dX10_seedling_9 : decode cX10_seedling 9 = .ok (.invokevirtual 81, 3) := dk_182 0 81 (dk_at dksX10_seedling_0 9 rfl rfl)
theorem dX10_seedling_12 : decode cX10_seedling 12 = .ok (.ireturn, 1) := dk_172 (dk_at dksX10_seedling_0 12 rfl rfl)
theorem dX10_seedling_13 : decode cX10_seedling 13 = .ok (.iload_n 1, 1) := dk_27 (dk_at dksX10_seedling_0 13 rfl rfl)
theorem dX10_seedling_14 : decode cX10_seedling 14 = .ok (.invokestatic 155, 3) := dk_184 0 155 (dk_at dksX10_seedling_0 14 rfl rfl)
theorem dX10_seedling_17 : decode cX10_seedling 17 = .ok (.ifCond .ne 9, 3) := dk_154 0 9 (dk_at dksX10_seedling_0 17 rfl rfl)
theorem dX10_seedling_20 : decode cX10_seedling 20 = .ok (.aload_n 0, 1) := dk_42 (dk_at dksX10_seedling_0 20 rfl rfl)
theorem dX10_seedling_21 : decode cX10_seedling 21 = .ok (.iconst 2, 1) := dk_5 (dk_at dksX10_seedling_0 21 rfl rfl)
theorem dX10_seedling_22 : decode cX10_seedling 22 = .ok (.invokevirtual 81, 3) := dk_182 0 81 (dk_at dksX10_seedling_1 0 rfl rfl)
theorem dX10_seedling_25 : decode cX10_seedling 25 = .ok (.ireturn, 1) := dk_172 (dk_at dksX10_seedling_1 3 rfl rfl)
theorem dX10_seedling_26 : decode cX10_seedling 26 = .ok (.aload_n 0, 1) := dk_42 (dk_at dksX10_seedling_1 4 rfl rfl)
theorem dX10_seedling_27 : decode cX10_seedling 27 = .ok (.iload_n 2, 1) := dk_28 (dk_at dksX10_seedling_1 5 rfl rfl)
theorem dX10_seedling_28 : decode cX10_seedling 28 = .ok (.invokevirtual 158, 3) := dk_182 0 158 (dk_at dksX10_seedling_1 6 rfl rfl)
theorem dX10_seedling_31 : decode cX10_seedling 31 = .ok (.istore_n 3, 1) := dk_62 (dk_at dksX10_seedling_1 9 rfl rfl)
theorem dX10_seedling_32 : decode cX10_seedling 32 = .ok (.iload_n 3, 1) := dk_29 (dk_at dksX10_seedling_1 10 rfl rfl)
theorem dX10_seedling_33 : decode cX10_seedling 33 = .ok (.iconst 5, 1) := dk_8 (dk_at dksX10_seedling_1 11 rfl rfl)
theorem dX10_seedling_34 : decode cX10_seedling 34 = .ok (.if_icmp .ne 11, 3) := dk_160 0 11 (dk_at dksX10_seedling_1 12 rfl rfl)
theorem dX10_seedling_37 : decode cX10_seedling 37 = .ok (.aload_n 0, 1) := dk_42 (dk_at dksX10_seedling_1 15 rfl rfl)
theorem dX10_seedling_38 : decode cX10_seedling 38 = .ok (.iconst 5, 1) := dk_8 (dk_at dksX10_seedling_1 16 rfl rfl)
theorem dX10_seedling_39 : decode cX10_seedling 39 = .ok (.iload_n 2, 1) := dk_28 (dk_at dksX10_seedling_1 17 rfl rfl)
theorem dX10_seedling_40 : decode cX10_seedling 40 = .ok (.iconst 3, 1) := dk_6 (dk_at dksX10_seedling_1 18 rfl rfl)
theorem dX10_seedling_41 : decode cX10_seedling 41 = .ok (.invokevirtual 100, 3) := dk_182 0 100 (dk_at dksX10_seedling_1 19 rfl rfl)
theorem dX10_seedling_44 : decode cX10_seedling 44 = .ok (.ireturn, 1) := dk_172 (dk_at dksX10_seedling_1 22 rfl rfl)
theorem dX10_seedling_45 : decode cX10_seedling 45 = .ok (.iload_n 1, 1) := dk_27 (dk_at dksX10_seedling_1 23 rfl rfl)
theorem dX10_seedling_46 : decode cX10_seedling 46 = .ok (.iload_n 2, 1) := dk_28 (dk_at dksX10_seedling_2 0 rfl rfl)
theorem dX10_seedling_47 : decode cX10_seedling 47 = .ok (.if_icmp .eq 12, 3) := dk_159 0 12 (dk_at dksX10_seedling_2 1 rfl rfl)
theorem dX10_seedling_50 : decode cX10_seedling 50 = .ok (.aload_n 0, 1) := dk_42 (dk_at dksX10_seedling_2 4 rfl rfl)
theorem dX10_seedling_51 : decode cX10_seedling 51 = .ok (.bipush 6, 2) := dk_16 6 (dk_at dksX10_seedling_2 5 rfl rfl)
theorem dX10_seedling_53 : decode cX10_seedling 53 = .ok (.iload_n 2, 1) := dk_28 (dk_at dksX10_seedling_2 7 rfl rfl)
theorem dX10_seedling_54 : decode cX10_seedling 54 = .ok (.iconst 3, 1) := dk_6 (dk_at dksX10_seedling_2 8 rfl rfl)
theorem dX10_seedling_55 : decode cX10_seedling 55 = .ok (.invokevirtual 100, 3) := dk_182 0 100 (dk_at dksX10_seedling_2 9 rfl rfl)
theorem dX10_seedling_58 : decode cX10_seedling 58 = .ok (.ireturn, 1) := dk_172 (dk_at dksX10_seedling_2 12 rfl rfl)
theorem dX10_seedling_59 : decode cX10_seedling 59 = .ok (.aload_n 0, 1) := dk_42 (dk_at dksX10_seedling_2 13 rfl rfl)
theorem dX10_seedling_60 : decode cX10_seedling 60 = .ok (.invokevirtual 88, 3) := dk_182 0 88 (dk_at dksX10_seedling_2 14 rfl rfl)
theorem dX10_seedling_63 : decode cX10_seedling 63 = .ok (.aload_n 0, 1) := dk_42 (dk_at dksX10_seedling_2 17 rfl rfl)
theorem dX10_seedling_64 : decode cX10_seedling 64 = .ok (.getfield 7, 3) := dk_180 0 7 (dk_at dksX10_seedling_2 18 rfl rfl)
theorem dX10_seedling_67 : decode cX10_seedling 67 = .ok (.bipush 70, 2) := dk_16 70 (dk_at dksX10_seedling_2 21 rfl rfl)
theorem dX10_seedling_69 : decode cX10_seedling 69 = .ok (.iconst 5, 1) := dk_8 (dk_at dksX10_seedling_2 23 rfl rfl)
theorem dX10_seedling_70 : decode cX10_seedling 70 = .ok (.iload_n 2, 1) := dk_28 (dk_at dksX10_seedling_3 0 rfl rfl)
theorem dX10_seedling_71 : decode cX10_seedling 71 = .ok (.imul, 1) := dk_104 (dk_at dksX10_seedling_3 1 rfl rfl)
theorem dX10_seedling_72 : decode cX10_seedling 72 = .ok (.iadd, 1) := dk_96 (dk_at dksX10_seedling_3 2 rfl rfl)
theorem dX10_seedling_73 : decode cX10_seedling 73 = .ok (.iload_n 3, 1) := dk_29 (dk_at dksX10_seedling_3 3 rfl rfl)
theorem dX10_seedling_74 : decode cX10_seedling 74 = .ok (.iadd, 1) := dk_96 (dk_at dksX10_seedling_3 4 rfl rfl)
theorem dX10_seedling_75 : decode cX10_seedling 75 = .ok (.aload_n 0, 1) := dk_42 (dk_at dksX10_seedling_3 5 rfl rfl)
theorem dX10_seedling_76 : decode cX10_seedling 76 = .ok (.getfield 7, 3) := dk_180 0 7 (dk_at dksX10_seedling_3 6 rfl rfl)
theorem dX10_seedling_79 : decode cX10_seedling 79 = .ok (.iconst 0, 1) := dk_3 (dk_at dksX10_seedling_3 9 rfl rfl)
theorem dX10_seedling_80 : decode cX10_seedling 80 = .ok (.iaload, 1) := dk_46 (dk_at dksX10_seedling_3 10 rfl rfl)
theorem dX10_seedling_81 : decode cX10_seedling 81 = .ok (.iconst 1, 1) := dk_4 (dk_at dksX10_seedling_3 11 rfl rfl)
theorem dX10_seedling_82 : decode cX10_seedling 82 = .ok (.iadd, 1) := dk_96 (dk_at dksX10_seedling_3 12 rfl rfl)
theorem dX10_seedling_83 : decode cX10_seedling 83 = .ok (.iastore, 1) := dk_79 (dk_at dksX10_seedling_3 13 rfl rfl)
theorem dX10_seedling_84 : decode cX10_seedling 84 = .ok (.aload_n 0, 1) := dk_42 (dk_at dksX10_seedling_3 14 rfl rfl)
theorem dX10_seedling_85 : decode cX10_seedling 85 = .ok (.getfield 7, 3) := dk_180 0 7 (dk_at dksX10_seedling_3 15 rfl rfl)
theorem dX10_seedling_88 : decode cX10_seedling 88 = .ok (.bipush 93, 2) := dk_16 93 (dk_at dksX10_seedling_3 18 rfl rfl)
theorem dX10_seedling_90 : decode cX10_seedling 90 = .ok (.dup2, 1) := dk_92 (dk_at dksX10_seedling_3 20 rfl rfl)
theorem dX10_seedling_91 : decode cX10_seedling 91 = .ok (.iaload, 1) := dk_46 (dk_at dksX10_seedling_3 21 rfl rfl)
theorem dX10_seedling_92 : decode cX10_seedling 92 = .ok (.iconst 1, 1) := dk_4 (dk_at dksX10_seedling_3 22 rfl rfl)
theorem dX10_seedling_93 : decode cX10_seedling 93 = .ok (.iadd, 1) := dk_96 (dk_at dksX10_seedling_3 23 rfl rfl)
theorem dX10_seedling_94 : decode cX10_seedling 94 = .ok (.iastore, 1) := dk_79 (dk_at dksX10_seedling_4 0 rfl rfl)
theorem dX10_seedling_95 : decode cX10_seedling 95 = .ok (.aload_n 0, 1) := dk_42 (dk_at dksX10_seedling_4 1 rfl rfl)
theorem dX10_seedling_96 : decode cX10_seedling 96 = .ok (.aload_n 0, 1) := dk_42 (dk_at dksX10_seedling_4 2 rfl rfl)
theorem dX10_seedling_97 : decode cX10_seedling 97 = .ok (.iload_n 3, 1) := dk_29 (dk_at dksX10_seedling_4 3 rfl rfl)
theorem dX10_seedling_98 : decode cX10_seedling 98 = .ok (.invokevirtual 85, 3) := dk_182 0 85 (dk_at dksX10_seedling_4 4 rfl rfl)
theorem dX10_seedling_101 : decode cX10_seedling 101 = .ok (.invokevirtual 94, 3) := dk_182 0 94 (dk_at dksX10_seedling_4 7 rfl rfl)
theorem dX10_seedling_104 : decode cX10_seedling 104 = .ok (.ireturn, 1) := dk_172 (dk_at dksX10_seedling_4 10 rfl rfl)
abbrev cX10_isBench : ByteArray := prog_13_method_34_code
def yX10_isBench : MethodName := ⟨RX10, "isBench", "(I)Z"⟩
def dkwX10_isBench_0 : List UInt8 := [26, 3, 4, 184, 0, 77, 172]
abbrev dktX10_isBench_0 : List UInt8 := dkwX10_isBench_0 ++ []
theorem dksX10_isBench_0 : cX10_isBench.data.toList.drop 0 = dktX10_isBench_0 := by decide +kernel
theorem dX10_isBench_0 : decode cX10_isBench 0 = .ok (.iload_n 0, 1) := dk_26 (dk_at dksX10_isBench_0 0 rfl rfl)
theorem dX10_isBench_1 : decode cX10_isBench 1 = .ok (.iconst 0, 1) := dk_3 (dk_at dksX10_isBench_0 1 rfl rfl)
theorem dX10_isBench_2 : decode cX10_isBench 2 = .ok (.iconst 1, 1) := dk_4 (dk_at dksX10_isBench_0 2 rfl rfl)
theorem dX10_isBench_3 : decode cX10_isBench 3 = .ok (.invokestatic 77, 3) := dk_184 0 77 (dk_at dksX10_isBench_0 3 rfl rfl)
theorem dX10_isBench_6 : decode cX10_isBench 6 = .ok (.ireturn, 1) := dk_172 (dk_at dksX10_isBench_0 6 rfl rfl)
abbrev cX10_freePlace : ByteArray := prog_13_method_36_code
def yX10_freePlace : MethodName := ⟨RX10, "freePlace", "(I)I"⟩
def dkwX10_freePlace_1 : List UInt8 := [132, 2, 1, 167, 255, 232, 28, 172]
abbrev dktX10_freePlace_1 : List UInt8 := dkwX10_freePlace_1 ++ []
def dkwX10_freePlace_0 : List UInt8 := [3, 61, 28, 8, 162, 0, 25, 42, 180, 0, 7, 16, 70, 8, 27, 104, 96, 28, 96, 46, 158, 0, 9]
abbrev dktX10_freePlace_0 : List UInt8 := dkwX10_freePlace_0 ++ dktX10_freePlace_1
theorem dksX10_freePlace_0 : cX10_freePlace.data.toList.drop 0 = dktX10_freePlace_0 := by decide +kernel
theorem dksX10_freePlace_1 : cX10_freePlace.data.toList.drop 23 = dktX10_freePlace_1 := dk_seg dksX10_freePlace_0 23 rfl rfl
theorem dX10_freePlace_0 : decode cX10_freePlace 0 = .ok (.iconst 0, 1) := dk_3 (dk_at dksX10_freePlace_0 0 rfl rfl)
theorem dX10_freePlace_1 : decode cX10_freePlace 1 = .ok (.istore_n 2, 1) := dk_61 (dk_at dksX10_freePlace_0 1 rfl rfl)
theorem dX10_freePlace_2 : decode cX10_freePlace 2 = .ok (.iload_n 2, 1) := dk_28 (dk_at dksX10_freePlace_0 2 rfl rfl)
theorem dX10_freePlace_3 : decode cX10_freePlace 3 = .ok (.iconst 5, 1) := dk_8 (dk_at dksX10_freePlace_0 3 rfl rfl)
theorem dX10_freePlace_4 : decode cX10_freePlace 4 = .ok (.if_icmp .ge 25, 3) := dk_162 0 25 (dk_at dksX10_freePlace_0 4 rfl rfl)
theorem dX10_freePlace_7 : decode cX10_freePlace 7 = .ok (.aload_n 0, 1) := dk_42 (dk_at dksX10_freePlace_0 7 rfl rfl)
theorem dX10_freePlace_8 : decode cX10_freePlace 8 = .ok (.getfield 7, 3) := dk_180 0 7 (dk_at dksX10_freePlace_0 8 rfl rfl)
theorem dX10_freePlace_11 : decode cX10_freePlace 11 = .ok (.bipush 70, 2) := dk_16 70 (dk_at dksX10_freePlace_0 11 rfl rfl)
theorem dX10_freePlace_13 : decode cX10_freePlace 13 = .ok (.iconst 5, 1) := dk_8 (dk_at dksX10_freePlace_0 13 rfl rfl)
theorem dX10_freePlace_14 : decode cX10_freePlace 14 = .ok (.iload_n 1, 1) := dk_27 (dk_at dksX10_freePlace_0 14 rfl rfl)
theorem dX10_freePlace_15 : decode cX10_freePlace 15 = .ok (.imul, 1) := dk_104 (dk_at dksX10_freePlace_0 15 rfl rfl)
theorem dX10_freePlace_16 : decode cX10_freePlace 16 = .ok (.iadd, 1) := dk_96 (dk_at dksX10_freePlace_0 16 rfl rfl)
theorem dX10_freePlace_17 : decode cX10_freePlace 17 = .ok (.iload_n 2, 1) := dk_28 (dk_at dksX10_freePlace_0 17 rfl rfl)
theorem dX10_freePlace_18 : decode cX10_freePlace 18 = .ok (.iadd, 1) := dk_96 (dk_at dksX10_freePlace_0 18 rfl rfl)
theorem dX10_freePlace_19 : decode cX10_freePlace 19 = .ok (.iaload, 1) := dk_46 (dk_at dksX10_freePlace_0 19 rfl rfl)
theorem dX10_freePlace_20 : decode cX10_freePlace 20 = .ok (.ifCond .le 9, 3) := dk_158 0 9 (dk_at dksX10_freePlace_0 20 rfl rfl)
theorem dX10_freePlace_23 : decode cX10_freePlace 23 = .ok (.iinc 2 1, 3) := dk_132 2 1 (dk_at dksX10_freePlace_1 0 rfl rfl)
theorem dX10_freePlace_26 : decode cX10_freePlace 26 = .ok (.goto (-24), 3) := dk_167 255 232 (dk_at dksX10_freePlace_1 3 rfl rfl)
theorem dX10_freePlace_29 : decode cX10_freePlace 29 = .ok (.iload_n 2, 1) := dk_28 (dk_at dksX10_freePlace_1 6 rfl rfl)
theorem dX10_freePlace_30 : decode cX10_freePlace 30 = .ok (.ireturn, 1) := dk_172 (dk_at dksX10_freePlace_1 7 rfl rfl)
abbrev cX10_waits : ByteArray := prog_13_method_38_code
def yX10_waits : MethodName := ⟨RX10, "waits", "(II)I"⟩
def dkwX10_waits_2 : List UInt8 := [96, 29, 100, 182, 0, 85, 172]
abbrev dktX10_waits_2 : List UInt8 := dkwX10_waits_2 ++ []
def dkwX10_waits_1 : List UInt8 := [28, 96, 46, 62, 29, 154, 0, 11, 42, 5, 182, 0, 81, 167, 0, 17, 42, 42, 180, 0, 7, 3, 46, 4]
abbrev dktX10_waits_1 : List UInt8 := dkwX10_waits_1 ++ dktX10_waits_2
def dkwX10_waits_0 : List UInt8 := [27, 28, 184, 0, 161, 154, 0, 9, 42, 4, 182, 0, 81, 172, 42, 180, 0, 7, 16, 70, 8, 27, 104, 96]
abbrev dktX10_waits_0 : List UInt8 := dkwX10_waits_0 ++ dktX10_waits_1
theorem dksX10_waits_0 : cX10_waits.data.toList.drop 0 = dktX10_waits_0 := by decide +kernel
theorem dksX10_waits_1 : cX10_waits.data.toList.drop 24 = dktX10_waits_1 := dk_seg dksX10_waits_0 24 rfl rfl
theorem dksX10_waits_2 : cX10_waits.data.toList.drop 48 = dktX10_waits_2 := dk_seg dksX10_waits_1 24 rfl rfl
theorem dX10_waits_0 : decode cX10_waits 0 = .ok (.iload_n 1, 1) := dk_27 (dk_at dksX10_waits_0 0 rfl rfl)
theorem dX10_waits_1 : decode cX10_waits 1 = .ok (.iload_n 2, 1) := dk_28 (dk_at dksX10_waits_0 1 rfl rfl)
theorem dX10_waits_2 : decode cX10_waits 2 = .ok (.invokestatic 161, 3) := dk_184 0 161 (dk_at dksX10_waits_0 2 rfl rfl)
theorem dX10_waits_5 : decode cX10_waits 5 = .ok (.ifCond .ne 9, 3) := dk_154 0 9 (dk_at dksX10_waits_0 5 rfl rfl)
theorem dX10_waits_8 : decode cX10_waits 8 = .ok (.aload_n 0, 1) := dk_42 (dk_at dksX10_waits_0 8 rfl rfl)
theorem dX10_waits_9 : decode cX10_waits 9 = .ok (.iconst 1, 1) := dk_4 (dk_at dksX10_waits_0 9 rfl rfl)
theorem dX10_waits_10 : decode cX10_waits 10 = .ok (.invokevirtual 81, 3) := dk_182 0 81 (dk_at dksX10_waits_0 10 rfl rfl)
theorem dX10_waits_13 : decode cX10_waits 13 = .ok (.ireturn, 1) := dk_172 (dk_at dksX10_waits_0 13 rfl rfl)
theorem dX10_waits_14 : decode cX10_waits 14 = .ok (.aload_n 0, 1) := dk_42 (dk_at dksX10_waits_0 14 rfl rfl)
theorem dX10_waits_15 : decode cX10_waits 15 = .ok (.getfield 7, 3) := dk_180 0 7 (dk_at dksX10_waits_0 15 rfl rfl)
theorem dX10_waits_18 : decode cX10_waits 18 = .ok (.bipush 70, 2) := dk_16 70 (dk_at dksX10_waits_0 18 rfl rfl)
theorem dX10_waits_20 : decode cX10_waits 20 = .ok (.iconst 5, 1) := dk_8 (dk_at dksX10_waits_0 20 rfl rfl)
theorem dX10_waits_21 : decode cX10_waits 21 = .ok (.iload_n 1, 1) := dk_27 (dk_at dksX10_waits_0 21 rfl rfl)
theorem dX10_waits_22 : decode cX10_waits 22 = .ok (.imul, 1) := dk_104 (dk_at dksX10_waits_0 22 rfl rfl)
theorem dX10_waits_23 : decode cX10_waits 23 = .ok (.iadd, 1) := dk_96 (dk_at dksX10_waits_0 23 rfl rfl)
theorem dX10_waits_24 : decode cX10_waits 24 = .ok (.iload_n 2, 1) := dk_28 (dk_at dksX10_waits_1 0 rfl rfl)
theorem dX10_waits_25 : decode cX10_waits 25 = .ok (.iadd, 1) := dk_96 (dk_at dksX10_waits_1 1 rfl rfl)
theorem dX10_waits_26 : decode cX10_waits 26 = .ok (.iaload, 1) := dk_46 (dk_at dksX10_waits_1 2 rfl rfl)
theorem dX10_waits_27 : decode cX10_waits 27 = .ok (.istore_n 3, 1) := dk_62 (dk_at dksX10_waits_1 3 rfl rfl)
theorem dX10_waits_28 : decode cX10_waits 28 = .ok (.iload_n 3, 1) := dk_29 (dk_at dksX10_waits_1 4 rfl rfl)
theorem dX10_waits_29 : decode cX10_waits 29 = .ok (.ifCond .ne 11, 3) := dk_154 0 11 (dk_at dksX10_waits_1 5 rfl rfl)
theorem dX10_waits_32 : decode cX10_waits 32 = .ok (.aload_n 0, 1) := dk_42 (dk_at dksX10_waits_1 8 rfl rfl)
theorem dX10_waits_33 : decode cX10_waits 33 = .ok (.iconst 2, 1) := dk_5 (dk_at dksX10_waits_1 9 rfl rfl)
theorem dX10_waits_34 : decode cX10_waits 34 = .ok (.invokevirtual 81, 3) := dk_182 0 81 (dk_at dksX10_waits_1 10 rfl rfl)
theorem dX10_waits_37 : decode cX10_waits 37 = .ok (.goto 17, 3) := dk_167 0 17 (dk_at dksX10_waits_1 13 rfl rfl)
theorem dX10_waits_40 : decode cX10_waits 40 = .ok (.aload_n 0, 1) := dk_42 (dk_at dksX10_waits_1 16 rfl rfl)
theorem dX10_waits_41 : decode cX10_waits 41 = .ok (.aload_n 0, 1) := dk_42 (dk_at dksX10_waits_1 17 rfl rfl)
theorem dX10_waits_42 : decode cX10_waits 42 = .ok (.getfield 7, 3) := dk_180 0 7 (dk_at dksX10_waits_1 18 rfl rfl)
theorem dX10_waits_45 : decode cX10_waits 45 = .ok (.iconst 0, 1) := dk_3 (dk_at dksX10_waits_1 21 rfl rfl)
theorem dX10_waits_46 : decode cX10_waits 46 = .ok (.iaload, 1) := dk_46 (dk_at dksX10_waits_1 22 rfl rfl)
theorem dX10_waits_47 : decode cX10_waits 47 = .ok (.iconst 1, 1) := dk_4 (dk_at dksX10_waits_1 23 rfl rfl)
theorem dX10_waits_48 : decode cX10_waits 48 = .ok (.iadd, 1) := dk_96 (dk_at dksX10_waits_2 0 rfl rfl)
theorem dX10_waits_49 : decode cX10_waits 49 = .ok (.iload_n 3, 1) := dk_29 (dk_at dksX10_waits_2 1 rfl rfl)
theorem dX10_waits_50 : decode cX10_waits 50 = .ok (.isub, 1) := dk_100 (dk_at dksX10_waits_2 2 rfl rfl)
theorem dX10_waits_51 : decode cX10_waits 51 = .ok (.invokevirtual 85, 3) := dk_182 0 85 (dk_at dksX10_waits_2 3 rfl rfl)
theorem dX10_waits_54 : decode cX10_waits 54 = .ok (.ireturn, 1) := dk_172 (dk_at dksX10_waits_2 6 rfl rfl)
abbrev cX10_isPlace : ByteArray := prog_13_method_35_code
def yX10_isPlace : MethodName := ⟨RX10, "isPlace", "(II)Z"⟩
def dkwX10_isPlace_0 : List UInt8 := [26, 184, 0, 155, 153, 0, 16, 27, 3, 7, 184, 0, 77, 153, 0, 7, 4, 167, 0, 4, 3, 172]
abbrev dktX10_isPlace_0 : List UInt8 := dkwX10_isPlace_0 ++ []
theorem dksX10_isPlace_0 : cX10_isPlace.data.toList.drop 0 = dktX10_isPlace_0 := by decide +kernel
theorem dX10_isPlace_0 : decode cX10_isPlace 0 = .ok (.iload_n 0, 1) := dk_26 (dk_at dksX10_isPlace_0 0 rfl rfl)
theorem dX10_isPlace_1 : decode cX10_isPlace 1 = .ok (.invokestatic 155, 3) := dk_184 0 155 (dk_at dksX10_isPlace_0 1 rfl rfl)
theorem dX10_isPlace_4 : decode cX10_isPlace 4 = .ok (.ifCond .eq 16, 3) := dk_153 0 16 (dk_at dksX10_isPlace_0 4 rfl rfl)
theorem dX10_isPlace_7 : decode cX10_isPlace 7 = .ok (.iload_n 1, 1) := dk_27 (dk_at dksX10_isPlace_0 7 rfl rfl)
theorem dX10_isPlace_8 : decode cX10_isPlace 8 = .ok (.iconst 0, 1) := dk_3 (dk_at dksX10_isPlace_0 8 rfl rfl)
theorem dX10_isPlace_9 : decode cX10_isPlace 9 = .ok (.iconst 4, 1) := dk_7 (dk_at dksX10_isPlace_0 9 rfl rfl)
theorem dX10_isPlace_10 : decode cX10_isPlace 10 = .ok (.invokestatic 77, 3) := dk_184 0 77 (dk_at dksX10_isPlace_0 10 rfl rfl)
theorem dX10_isPlace_13 : decode cX10_isPlace 13 = .ok (.ifCond .eq 7, 3) := dk_153 0 7 (dk_at dksX10_isPlace_0 13 rfl rfl)
theorem dX10_isPlace_16 : decode cX10_isPlace 16 = .ok (.iconst 1, 1) := dk_4 (dk_at dksX10_isPlace_0 16 rfl rfl)
theorem dX10_isPlace_17 : decode cX10_isPlace 17 = .ok (.goto 4, 3) := dk_167 0 4 (dk_at dksX10_isPlace_0 17 rfl rfl)
theorem dX10_isPlace_20 : decode cX10_isPlace 20 = .ok (.iconst 0, 1) := dk_3 (dk_at dksX10_isPlace_0 20 rfl rfl)
theorem dX10_isPlace_21 : decode cX10_isPlace 21 = .ok (.ireturn, 1) := dk_172 (dk_at dksX10_isPlace_0 21 rfl rfl)
abbrev cX10_plant : ByteArray := prog_13_method_39_code
def yX10_plant : MethodName := ⟨RX10, "plant", "(III)I"⟩
def dkwX10_plant_7 : List UInt8 := [18, 131, 81, 42, 42, 21, 4, 182, 0, 85, 182, 0, 94, 172]
abbrev dktX10_plant_7 : List UInt8 := dkwX10_plant_7 ++ []
def dkwX10_plant_6 : List UInt8 := [180, 0, 7, 3, 46, 79, 42, 180, 0, 13, 16, 12, 21, 4, 96, 28, 154, 0, 7, 12, 167, 0, 5]
abbrev dktX10_plant_6 : List UInt8 := dkwX10_plant_6 ++ dktX10_plant_7
def dkwX10_plant_5 : List UInt8 := [96, 3, 79, 42, 180, 0, 7, 16, 27, 21, 4, 96, 28, 79, 42, 180, 0, 7, 16, 39, 21, 4, 96, 42]
abbrev dktX10_plant_5 : List UInt8 := dkwX10_plant_5 ++ dktX10_plant_6
def dkwX10_plant_4 : List UInt8 := [21, 4, 96, 46, 6, 182, 0, 100, 172, 42, 182, 0, 88, 42, 180, 0, 7, 16, 70, 8, 28, 104, 96, 29]
abbrev dktX10_plant_4 : List UInt8 := dkwX10_plant_4 ++ dktX10_plant_5
def dkwX10_plant_3 : List UInt8 := [42, 180, 0, 7, 16, 27, 21, 4, 96, 46, 2, 159, 0, 21, 42, 16, 7, 42, 180, 0, 7, 16, 27]
abbrev dktX10_plant_3 : List UInt8 := dkwX10_plant_3 ++ dktX10_plant_4
def dkwX10_plant_2 : List UInt8 := [180, 0, 7, 16, 52, 27, 96, 46, 54, 4, 21, 4, 2, 160, 0, 11, 42, 7, 27, 6, 182, 0, 100, 172]
abbrev dktX10_plant_2 : List UInt8 := dkwX10_plant_2 ++ dktX10_plant_3
def dkwX10_plant_1 : List UInt8 := [180, 0, 7, 16, 70, 8, 28, 104, 96, 29, 96, 46, 154, 0, 9, 42, 5, 182, 0, 81, 172, 42]
abbrev dktX10_plant_1 : List UInt8 := dkwX10_plant_1 ++ dktX10_plant_2
def dkwX10_plant_0 : List UInt8 := [42, 27, 182, 0, 104, 153, 0, 11, 28, 29, 184, 0, 161, 154, 0, 9, 42, 4, 182, 0, 81, 172, 42]
abbrev dktX10_plant_0 : List UInt8 := dkwX10_plant_0 ++ dktX10_plant_1
theorem dksX10_plant_0 : cX10_plant.data.toList.drop 0 = dktX10_plant_0 := by decide +kernel
theorem dksX10_plant_1 : cX10_plant.data.toList.drop 23 = dktX10_plant_1 := dk_seg dksX10_plant_0 23 rfl rfl
theorem dksX10_plant_2 : cX10_plant.data.toList.drop 45 = dktX10_plant_2 := dk_seg dksX10_plant_1 22 rfl rfl
theorem dksX10_plant_3 : cX10_plant.data.toList.drop 69 = dktX10_plant_3 := dk_seg dksX10_plant_2 24 rfl rfl
theorem dksX10_plant_4 : cX10_plant.data.toList.drop 92 = dktX10_plant_4 := dk_seg dksX10_plant_3 23 rfl rfl
theorem dksX10_plant_5 : cX10_plant.data.toList.drop 116 = dktX10_plant_5 := dk_seg dksX10_plant_4 24 rfl rfl
theorem dksX10_plant_6 : cX10_plant.data.toList.drop 140 = dktX10_plant_6 := dk_seg dksX10_plant_5 24 rfl rfl
theorem dksX10_plant_7 : cX10_plant.data.toList.drop 163 = dktX10_plant_7 := dk_seg dksX10_plant_6 23 rfl rfl
theorem dX10_plant_0 : decode cX10_plant 0 = .ok (.aload_n 0, 1) := dk_42 (dk_at dksX10_plant_0 0 rfl rfl)
theorem dX10_plant_1 : decode cX10_plant 1 = .ok (.iload_n 1, 1) := dk_27 (dk_at dksX10_plant_0 1 rfl rfl)
theorem dX10_plant_2 : decode cX10_plant 2 = .ok (.invokevirtual 104, 3) := dk_182 0 104 (dk_at dksX10_plant_0 2 rfl rfl)
theorem dX10_plant_5 : decode cX10_plant 5 = .ok (.ifCond .eq 11, 3) := dk_153 0 11 (dk_at dksX10_plant_0 5 rfl rfl)
theorem dX10_plant_8 : decode cX10_plant 8 = .ok (.iload_n 2, 1) := dk_28 (dk_at dksX10_plant_0 8 rfl rfl)
theorem dX10_plant_9 : decode cX10_plant 9 = .ok (.iload_n 3, 1) := dk_29 (dk_at dksX10_plant_0 9 rfl rfl)
theorem dX10_plant_10 : decode cX10_plant 10 = .ok (.invokestatic 161, 3) := dk_184 0 161 (dk_at dksX10_plant_0 10 rfl rfl)
theorem dX10_plant_13 : decode cX10_plant 13 = .ok (.ifCond .ne 9, 3) := dk_154 0 9 (dk_at dksX10_plant_0 13 rfl rfl)
theorem dX10_plant_16 : decode cX10_plant 16 = .ok (.aload_n 0, 1) := dk_42 (dk_at dksX10_plant_0 16 rfl rfl)
theorem dX10_plant_17 : decode cX10_plant 17 = .ok (.iconst 1, 1) := dk_4 (dk_at dksX10_plant_0 17 rfl rfl)
theorem dX10_plant_18 : decode cX10_plant 18 = .ok (.invokevirtual 81, 3) := dk_182 0 81 (dk_at dksX10_plant_0 18 rfl rfl)
theorem dX10_plant_21 : decode cX10_plant 21 = .ok (.ireturn, 1) := dk_172 (dk_at dksX10_plant_0 21 rfl rfl)
theorem dX10_plant_22 : decode cX10_plant 22 = .ok (.aload_n 0, 1) := dk_42 (dk_at dksX10_plant_0 22 rfl rfl)
theorem dX10_plant_23 : decode cX10_plant 23 = .ok (.getfield 7, 3) := dk_180 0 7 (dk_at dksX10_plant_1 0 rfl rfl)
theorem dX10_plant_26 : decode cX10_plant 26 = .ok (.bipush 70, 2) := dk_16 70 (dk_at dksX10_plant_1 3 rfl rfl)
theorem dX10_plant_28 : decode cX10_plant 28 = .ok (.iconst 5, 1) := dk_8 (dk_at dksX10_plant_1 5 rfl rfl)
theorem dX10_plant_29 : decode cX10_plant 29 = .ok (.iload_n 2, 1) := dk_28 (dk_at dksX10_plant_1 6 rfl rfl)
theorem dX10_plant_30 : decode cX10_plant 30 = .ok (.imul, 1) := dk_104 (dk_at dksX10_plant_1 7 rfl rfl)
theorem dX10_plant_31 : decode cX10_plant 31 = .ok (.iadd, 1) := dk_96 (dk_at dksX10_plant_1 8 rfl rfl)
theorem dX10_plant_32 : decode cX10_plant 32 = .ok (.iload_n 3, 1) := dk_29 (dk_at dksX10_plant_1 9 rfl rfl)
theorem dX10_plant_33 : decode cX10_plant 33 = .ok (.iadd, 1) := dk_96 (dk_at dksX10_plant_1 10 rfl rfl)
theorem dX10_plant_34 : decode cX10_plant 34 = .ok (.iaload, 1) := dk_46 (dk_at dksX10_plant_1 11 rfl rfl)
theorem dX10_plant_35 : decode cX10_plant 35 = .ok (.ifCond .ne 9, 3) := dk_154 0 9 (dk_at dksX10_plant_1 12 rfl rfl)
theorem dX10_plant_38 : decode cX10_plant 38 = .ok (.aload_n 0, 1) := dk_42 (dk_at dksX10_plant_1 15 rfl rfl)
theorem dX10_plant_39 : decode cX10_plant 39 = .ok (.iconst 2, 1) := dk_5 (dk_at dksX10_plant_1 16 rfl rfl)
theorem dX10_plant_40 : decode cX10_plant 40 = .ok (.invokevirtual 81, 3) := dk_182 0 81 (dk_at dksX10_plant_1 17 rfl rfl)
theorem dX10_plant_43 : decode cX10_plant 43 = .ok (.ireturn, 1) := dk_172 (dk_at dksX10_plant_1 20 rfl rfl)
theorem dX10_plant_44 : decode cX10_plant 44 = .ok (.aload_n 0, 1) := dk_42 (dk_at dksX10_plant_1 21 rfl rfl)
theorem dX10_plant_45 : decode cX10_plant 45 = .ok (.getfield 7, 3) := dk_180 0 7 (dk_at dksX10_plant_2 0 rfl rfl)
theorem dX10_plant_48 : decode cX10_plant 48 = .ok (.bipush 52, 2) := dk_16 52 (dk_at dksX10_plant_2 3 rfl rfl)
theorem dX10_plant_50 : decode cX10_plant 50 = .ok (.iload_n 1, 1) := dk_27 (dk_at dksX10_plant_2 5 rfl rfl)
theorem dX10_plant_51 : decode cX10_plant 51 = .ok (.iadd, 1) := dk_96 (dk_at dksX10_plant_2 6 rfl rfl)
theorem dX10_plant_52 : decode cX10_plant 52 = .ok (.iaload, 1) := dk_46 (dk_at dksX10_plant_2 7 rfl rfl)
theorem dX10_plant_53 : decode cX10_plant 53 = .ok (.istore 4, 2) := dk_54 4 (dk_at dksX10_plant_2 8 rfl rfl)
theorem dX10_plant_55 : decode cX10_plant 55 = .ok (.iload 4, 2) := dk_21 4 (dk_at dksX10_plant_2 10 rfl rfl)
theorem dX10_plant_57 : decode cX10_plant 57 = .ok (.iconst (-1), 1) := dk_2 (dk_at dksX10_plant_2 12 rfl rfl)
theorem dX10_plant_58 : decode cX10_plant 58 = .ok (.if_icmp .ne 11, 3) := dk_160 0 11 (dk_at dksX10_plant_2 13 rfl rfl)
theorem dX10_plant_61 : decode cX10_plant 61 = .ok (.aload_n 0, 1) := dk_42 (dk_at dksX10_plant_2 16 rfl rfl)
theorem dX10_plant_62 : decode cX10_plant 62 = .ok (.iconst 4, 1) := dk_7 (dk_at dksX10_plant_2 17 rfl rfl)
theorem dX10_plant_63 : decode cX10_plant 63 = .ok (.iload_n 1, 1) := dk_27 (dk_at dksX10_plant_2 18 rfl rfl)
theorem dX10_plant_64 : decode cX10_plant 64 = .ok (.iconst 3, 1) := dk_6 (dk_at dksX10_plant_2 19 rfl rfl)
theorem dX10_plant_65 : decode cX10_plant 65 = .ok (.invokevirtual 100, 3) := dk_182 0 100 (dk_at dksX10_plant_2 20 rfl rfl)
theorem dX10_plant_68 : decode cX10_plant 68 = .ok (.ireturn, 1) := dk_172 (dk_at dksX10_plant_2 23 rfl rfl)
theorem dX10_plant_69 : decode cX10_plant 69 = .ok (.aload_n 0, 1) := dk_42 (dk_at dksX10_plant_3 0 rfl rfl)
theorem dX10_plant_70 : decode cX10_plant 70 = .ok (.getfield 7, 3) := dk_180 0 7 (dk_at dksX10_plant_3 1 rfl rfl)
theorem dX10_plant_73 : decode cX10_plant 73 = .ok (.bipush 27, 2) := dk_16 27 (dk_at dksX10_plant_3 4 rfl rfl)
theorem dX10_plant_75 : decode cX10_plant 75 = .ok (.iload 4, 2) := dk_21 4 (dk_at dksX10_plant_3 6 rfl rfl)
theorem dX10_plant_77 : decode cX10_plant 77 = .ok (.iadd, 1) := dk_96 (dk_at dksX10_plant_3 8 rfl rfl)
theorem dX10_plant_78 : decode cX10_plant 78 = .ok (.iaload, 1) := dk_46 (dk_at dksX10_plant_3 9 rfl rfl)
theorem dX10_plant_79 : decode cX10_plant 79 = .ok (.iconst (-1), 1) := dk_2 (dk_at dksX10_plant_3 10 rfl rfl)
theorem dX10_plant_80 : decode cX10_plant 80 = .ok (.if_icmp .eq 21, 3) := dk_159 0 21 (dk_at dksX10_plant_3 11 rfl rfl)
theorem dX10_plant_83 : decode cX10_plant 83 = .ok (.aload_n 0, 1) := dk_42 (dk_at dksX10_plant_3 14 rfl rfl)
theorem dX10_plant_84 : decode cX10_plant 84 = .ok (.bipush 7, 2) := dk_16 7 (dk_at dksX10_plant_3 15 rfl rfl)
theorem dX10_plant_86 : decode cX10_plant 86 = .ok (.aload_n 0, 1) := dk_42 (dk_at dksX10_plant_3 17 rfl rfl)
theorem dX10_plant_87 : decode cX10_plant 87 = .ok (.getfield 7, 3) := dk_180 0 7 (dk_at dksX10_plant_3 18 rfl rfl)
theorem dX10_plant_90 : decode cX10_plant 90 = .ok (.bipush 27, 2) := dk_16 27 (dk_at dksX10_plant_3 21 rfl rfl)
theorem dX10_plant_92 : decode cX10_plant 92 = .ok (.iload 4, 2) := dk_21 4 (dk_at dksX10_plant_4 0 rfl rfl)
theorem dX10_plant_94 : decode cX10_plant 94 = .ok (.iadd, 1) := dk_96 (dk_at dksX10_plant_4 2 rfl rfl)
theorem dX10_plant_95 : decode cX10_plant 95 = .ok (.iaload, 1) := dk_46 (dk_at dksX10_plant_4 3 rfl rfl)
theorem dX10_plant_96 : decode cX10_plant 96 = .ok (.iconst 3, 1) := dk_6 (dk_at dksX10_plant_4 4 rfl rfl)
theorem dX10_plant_97 : decode cX10_plant 97 = .ok (.invokevirtual 100, 3) := dk_182 0 100 (dk_at dksX10_plant_4 5 rfl rfl)
theorem dX10_plant_100 : decode cX10_plant 100 = .ok (.ireturn, 1) := dk_172 (dk_at dksX10_plant_4 8 rfl rfl)
theorem dX10_plant_101 : decode cX10_plant 101 = .ok (.aload_n 0, 1) := dk_42 (dk_at dksX10_plant_4 9 rfl rfl)
theorem dX10_plant_102 : decode cX10_plant 102 = .ok (.invokevirtual 88, 3) := dk_182 0 88 (dk_at dksX10_plant_4 10 rfl rfl)
theorem dX10_plant_105 : decode cX10_plant 105 = .ok (.aload_n 0, 1) := dk_42 (dk_at dksX10_plant_4 13 rfl rfl)
theorem dX10_plant_106 : decode cX10_plant 106 = .ok (.getfield 7, 3) := dk_180 0 7 (dk_at dksX10_plant_4 14 rfl rfl)
theorem dX10_plant_109 : decode cX10_plant 109 = .ok (.bipush 70, 2) := dk_16 70 (dk_at dksX10_plant_4 17 rfl rfl)
theorem dX10_plant_111 : decode cX10_plant 111 = .ok (.iconst 5, 1) := dk_8 (dk_at dksX10_plant_4 19 rfl rfl)
theorem dX10_plant_112 : decode cX10_plant 112 = .ok (.iload_n 2, 1) := dk_28 (dk_at dksX10_plant_4 20 rfl rfl)
theorem dX10_plant_113 : decode cX10_plant 113 = .ok (.imul, 1) := dk_104 (dk_at dksX10_plant_4 21 rfl rfl)
theorem dX10_plant_114 : decode cX10_plant 114 = .ok (.iadd, 1) := dk_96 (dk_at dksX10_plant_4 22 rfl rfl)
theorem dX10_plant_115 : decode cX10_plant 115 = .ok (.iload_n 3, 1) := dk_29 (dk_at dksX10_plant_4 23 rfl rfl)
theorem dX10_plant_116 : decode cX10_plant 116 = .ok (.iadd, 1) := dk_96 (dk_at dksX10_plant_5 0 rfl rfl)
theorem dX10_plant_117 : decode cX10_plant 117 = .ok (.iconst 0, 1) := dk_3 (dk_at dksX10_plant_5 1 rfl rfl)
theorem dX10_plant_118 : decode cX10_plant 118 = .ok (.iastore, 1) := dk_79 (dk_at dksX10_plant_5 2 rfl rfl)
theorem dX10_plant_119 : decode cX10_plant 119 = .ok (.aload_n 0, 1) := dk_42 (dk_at dksX10_plant_5 3 rfl rfl)
theorem dX10_plant_120 : decode cX10_plant 120 = .ok (.getfield 7, 3) := dk_180 0 7 (dk_at dksX10_plant_5 4 rfl rfl)
theorem dX10_plant_123 : decode cX10_plant 123 = .ok (.bipush 27, 2) := dk_16 27 (dk_at dksX10_plant_5 7 rfl rfl)
theorem dX10_plant_125 : decode cX10_plant 125 = .ok (.iload 4, 2) := dk_21 4 (dk_at dksX10_plant_5 9 rfl rfl)
theorem dX10_plant_127 : decode cX10_plant 127 = .ok (.iadd, 1) := dk_96 (dk_at dksX10_plant_5 11 rfl rfl)
theorem dX10_plant_128 : decode cX10_plant 128 = .ok (.iload_n 2, 1) := dk_28 (dk_at dksX10_plant_5 12 rfl rfl)
theorem dX10_plant_129 : decode cX10_plant 129 = .ok (.iastore, 1) := dk_79 (dk_at dksX10_plant_5 13 rfl rfl)
theorem dX10_plant_130 : decode cX10_plant 130 = .ok (.aload_n 0, 1) := dk_42 (dk_at dksX10_plant_5 14 rfl rfl)
theorem dX10_plant_131 : decode cX10_plant 131 = .ok (.getfield 7, 3) := dk_180 0 7 (dk_at dksX10_plant_5 15 rfl rfl)
theorem dX10_plant_134 : decode cX10_plant 134 = .ok (.bipush 39, 2) := dk_16 39 (dk_at dksX10_plant_5 18 rfl rfl)
theorem dX10_plant_136 : decode cX10_plant 136 = .ok (.iload 4, 2) := dk_21 4 (dk_at dksX10_plant_5 20 rfl rfl)
theorem dX10_plant_138 : decode cX10_plant 138 = .ok (.iadd, 1) := dk_96 (dk_at dksX10_plant_5 22 rfl rfl)
theorem dX10_plant_139 : decode cX10_plant 139 = .ok (.aload_n 0, 1) := dk_42 (dk_at dksX10_plant_5 23 rfl rfl)
theorem dX10_plant_140 : decode cX10_plant 140 = .ok (.getfield 7, 3) := dk_180 0 7 (dk_at dksX10_plant_6 0 rfl rfl)
theorem dX10_plant_143 : decode cX10_plant 143 = .ok (.iconst 0, 1) := dk_3 (dk_at dksX10_plant_6 3 rfl rfl)
theorem dX10_plant_144 : decode cX10_plant 144 = .ok (.iaload, 1) := dk_46 (dk_at dksX10_plant_6 4 rfl rfl)
theorem dX10_plant_145 : decode cX10_plant 145 = .ok (.iastore, 1) := dk_79 (dk_at dksX10_plant_6 5 rfl rfl)
theorem dX10_plant_146 : decode cX10_plant 146 = .ok (.aload_n 0, 1) := dk_42 (dk_at dksX10_plant_6 6 rfl rfl)
theorem dX10_plant_147 : decode cX10_plant 147 = .ok (.getfield 13, 3) := dk_180 0 13 (dk_at dksX10_plant_6 7 rfl rfl)
theorem dX10_plant_150 : decode cX10_plant 150 = .ok (.bipush 12, 2) := dk_16 12 (dk_at dksX10_plant_6 10 rfl rfl)
theorem dX10_plant_152 : decode cX10_plant 152 = .ok (.iload 4, 2) := dk_21 4 (dk_at dksX10_plant_6 12 rfl rfl)
theorem dX10_plant_154 : decode cX10_plant 154 = .ok (.iadd, 1) := dk_96 (dk_at dksX10_plant_6 14 rfl rfl)
theorem dX10_plant_155 : decode cX10_plant 155 = .ok (.iload_n 2, 1) := dk_28 (dk_at dksX10_plant_6 15 rfl rfl)
theorem dX10_plant_156 : decode cX10_plant 156 = .ok (.ifCond .ne 7, 3) := dk_154 0 7 (dk_at dksX10_plant_6 16 rfl rfl)
theorem dX10_plant_159 : decode cX10_plant 159 = .ok (.fconst 1, 1) := dk_12 (dk_at dksX10_plant_6 19 rfl rfl)
theorem dX10_plant_160 : decode cX10_plant 160 = .ok (.goto 5, 3) := dk_167 0 5 (dk_at dksX10_plant_6 20 rfl rfl)
theorem dX10_plant_163 : decode cX10_plant 163 = .ok (.ldc 131, 2) := dk_18 131 (dk_at dksX10_plant_7 0 rfl rfl)
theorem dX10_plant_165 : decode cX10_plant 165 = .ok (.fastore, 1) := dk_81 (dk_at dksX10_plant_7 2 rfl rfl)
theorem dX10_plant_166 : decode cX10_plant 166 = .ok (.aload_n 0, 1) := dk_42 (dk_at dksX10_plant_7 3 rfl rfl)
theorem dX10_plant_167 : decode cX10_plant 167 = .ok (.aload_n 0, 1) := dk_42 (dk_at dksX10_plant_7 4 rfl rfl)
theorem dX10_plant_168 : decode cX10_plant 168 = .ok (.iload 4, 2) := dk_21 4 (dk_at dksX10_plant_7 5 rfl rfl)
theorem dX10_plant_170 : decode cX10_plant 170 = .ok (.invokevirtual 85, 3) := dk_182 0 85 (dk_at dksX10_plant_7 7 rfl rfl)
theorem dX10_plant_173 : decode cX10_plant 173 = .ok (.invokevirtual 94, 3) := dk_182 0 94 (dk_at dksX10_plant_7 10 rfl rfl)
theorem dX10_plant_176 : decode cX10_plant 176 = .ok (.ireturn, 1) := dk_172 (dk_at dksX10_plant_7 13 rfl rfl)
abbrev cX10_weight : ByteArray := prog_13_method_40_code
def yX10_weight : MethodName := ⟨RX10, "weight", "(I)I"⟩
def dkwX10_weight_2 : List UInt8 := [182, 0, 85, 172]
abbrev dktX10_weight_2 : List UInt8 := dkwX10_weight_2 ++ []
def dkwX10_weight_1 : List UInt8 := [160, 0, 11, 42, 5, 182, 0, 81, 167, 0, 19, 42, 42, 180, 0, 13, 16, 12, 27, 96, 48, 184, 0, 140]
abbrev dktX10_weight_1 : List UInt8 := dkwX10_weight_1 ++ dktX10_weight_2
def dkwX10_weight_0 : List UInt8 := [27, 184, 0, 108, 154, 0, 9, 42, 4, 182, 0, 81, 172, 42, 180, 0, 7, 16, 27, 27, 96, 46, 2]
abbrev dktX10_weight_0 : List UInt8 := dkwX10_weight_0 ++ dktX10_weight_1
theorem dksX10_weight_0 : cX10_weight.data.toList.drop 0 = dktX10_weight_0 := by decide +kernel
theorem dksX10_weight_1 : cX10_weight.data.toList.drop 23 = dktX10_weight_1 := dk_seg dksX10_weight_0 23 rfl rfl
theorem dksX10_weight_2 : cX10_weight.data.toList.drop 47 = dktX10_weight_2 := dk_seg dksX10_weight_1 24 rfl rfl
theorem dX10_weight_0 : decode cX10_weight 0 = .ok (.iload_n 1, 1) := dk_27 (dk_at dksX10_weight_0 0 rfl rfl)
theorem dX10_weight_1 : decode cX10_weight 1 = .ok (.invokestatic 108, 3) := dk_184 0 108 (dk_at dksX10_weight_0 1 rfl rfl)
theorem dX10_weight_4 : decode cX10_weight 4 = .ok (.ifCond .ne 9, 3) := dk_154 0 9 (dk_at dksX10_weight_0 4 rfl rfl)
theorem dX10_weight_7 : decode cX10_weight 7 = .ok (.aload_n 0, 1) := dk_42 (dk_at dksX10_weight_0 7 rfl rfl)
theorem dX10_weight_8 : decode cX10_weight 8 = .ok (.iconst 1, 1) := dk_4 (dk_at dksX10_weight_0 8 rfl rfl)
theorem dX10_weight_9 : decode cX10_weight 9 = .ok (.invokevirtual 81, 3) := dk_182 0 81 (dk_at dksX10_weight_0 9 rfl rfl)
theorem dX10_weight_12 : decode cX10_weight 12 = .ok (.ireturn, 1) := dk_172 (dk_at dksX10_weight_0 12 rfl rfl)
theorem dX10_weight_13 : decode cX10_weight 13 = .ok (.aload_n 0, 1) := dk_42 (dk_at dksX10_weight_0 13 rfl rfl)
theorem dX10_weight_14 : decode cX10_weight 14 = .ok (.getfield 7, 3) := dk_180 0 7 (dk_at dksX10_weight_0 14 rfl rfl)
theorem dX10_weight_17 : decode cX10_weight 17 = .ok (.bipush 27, 2) := dk_16 27 (dk_at dksX10_weight_0 17 rfl rfl)
theorem dX10_weight_19 : decode cX10_weight 19 = .ok (.iload_n 1, 1) := dk_27 (dk_at dksX10_weight_0 19 rfl rfl)
theorem dX10_weight_20 : decode cX10_weight 20 = .ok (.iadd, 1) := dk_96 (dk_at dksX10_weight_0 20 rfl rfl)
theorem dX10_weight_21 : decode cX10_weight 21 = .ok (.iaload, 1) := dk_46 (dk_at dksX10_weight_0 21 rfl rfl)
theorem dX10_weight_22 : decode cX10_weight 22 = .ok (.iconst (-1), 1) := dk_2 (dk_at dksX10_weight_0 22 rfl rfl)
theorem dX10_weight_23 : decode cX10_weight 23 = .ok (.if_icmp .ne 11, 3) := dk_160 0 11 (dk_at dksX10_weight_1 0 rfl rfl)
theorem dX10_weight_26 : decode cX10_weight 26 = .ok (.aload_n 0, 1) := dk_42 (dk_at dksX10_weight_1 3 rfl rfl)
theorem dX10_weight_27 : decode cX10_weight 27 = .ok (.iconst 2, 1) := dk_5 (dk_at dksX10_weight_1 4 rfl rfl)
theorem dX10_weight_28 : decode cX10_weight 28 = .ok (.invokevirtual 81, 3) := dk_182 0 81 (dk_at dksX10_weight_1 5 rfl rfl)
theorem dX10_weight_31 : decode cX10_weight 31 = .ok (.goto 19, 3) := dk_167 0 19 (dk_at dksX10_weight_1 8 rfl rfl)
theorem dX10_weight_34 : decode cX10_weight 34 = .ok (.aload_n 0, 1) := dk_42 (dk_at dksX10_weight_1 11 rfl rfl)
theorem dX10_weight_35 : decode cX10_weight 35 = .ok (.aload_n 0, 1) := dk_42 (dk_at dksX10_weight_1 12 rfl rfl)
theorem dX10_weight_36 : decode cX10_weight 36 = .ok (.getfield 13, 3) := dk_180 0 13 (dk_at dksX10_weight_1 13 rfl rfl)
theorem dX10_weight_39 : decode cX10_weight 39 = .ok (.bipush 12, 2) := dk_16 12 (dk_at dksX10_weight_1 16 rfl rfl)
theorem dX10_weight_41 : decode cX10_weight 41 = .ok (.iload_n 1, 1) := dk_27 (dk_at dksX10_weight_1 18 rfl rfl)
theorem dX10_weight_42 : decode cX10_weight 42 = .ok (.iadd, 1) := dk_96 (dk_at dksX10_weight_1 19 rfl rfl)
theorem dX10_weight_43 : decode cX10_weight 43 = .ok (.faload, 1) := dk_48 (dk_at dksX10_weight_1 20 rfl rfl)
theorem dX10_weight_44 : decode cX10_weight 44 = .ok (.invokestatic 140, 3) := dk_184 0 140 (dk_at dksX10_weight_1 21 rfl rfl)
theorem dX10_weight_47 : decode cX10_weight 47 = .ok (.invokevirtual 85, 3) := dk_182 0 85 (dk_at dksX10_weight_2 0 rfl rfl)
theorem dX10_weight_50 : decode cX10_weight 50 = .ok (.ireturn, 1) := dk_172 (dk_at dksX10_weight_2 3 rfl rfl)
abbrev cX10_weightIn : ByteArray := prog_13_method_41_code
def yX10_weightIn : MethodName := ⟨RX10, "weightIn", "(II)I"⟩
def dkwX10_weightIn_3 : List UInt8 := [180, 0, 13, 16, 12, 27, 96, 48, 70, 42, 182, 0, 152, 42, 37, 184, 0, 140, 182, 0, 85, 172]
abbrev dktX10_weightIn_3 : List UInt8 := dkwX10_weightIn_3 ++ []
def dkwX10_weightIn_2 : List UInt8 := [42, 182, 0, 146, 3, 62, 29, 28, 162, 0, 14, 42, 182, 0, 149, 87, 132, 3, 1, 167, 255, 243, 42]
abbrev dktX10_weightIn_2 : List UInt8 := dkwX10_weightIn_2 ++ dktX10_weightIn_3
def dkwX10_weightIn_1 : List UInt8 := [5, 182, 0, 81, 172, 42, 180, 0, 7, 16, 27, 27, 96, 46, 2, 160, 0, 9, 42, 6, 182, 0, 81, 172]
abbrev dktX10_weightIn_1 : List UInt8 := dkwX10_weightIn_1 ++ dktX10_weightIn_2
def dkwX10_weightIn_0 : List UInt8 := [27, 184, 0, 108, 154, 0, 9, 42, 4, 182, 0, 81, 172, 28, 3, 16, 60, 184, 0, 77, 154, 0, 9, 42]
abbrev dktX10_weightIn_0 : List UInt8 := dkwX10_weightIn_0 ++ dktX10_weightIn_1
theorem dksX10_weightIn_0 : cX10_weightIn.data.toList.drop 0 = dktX10_weightIn_0 := by decide +kernel
theorem dksX10_weightIn_1 : cX10_weightIn.data.toList.drop 24 = dktX10_weightIn_1 := dk_seg dksX10_weightIn_0 24 rfl rfl
theorem dksX10_weightIn_2 : cX10_weightIn.data.toList.drop 48 = dktX10_weightIn_2 := dk_seg dksX10_weightIn_1 24 rfl rfl
theorem dksX10_weightIn_3 : cX10_weightIn.data.toList.drop 71 = dktX10_weightIn_3 := dk_seg dksX10_weightIn_2 23 rfl rfl
theorem dX10_weightIn_0 : decode cX10_weightIn 0 = .ok (.iload_n 1, 1) := dk_27 (dk_at dksX10_weightIn_0 0 rfl rfl)
theorem dX10_weightIn_1 : decode cX10_weightIn 1 = .ok (.invokestatic 108, 3) := dk_184 0 108 (dk_at dksX10_weightIn_0 1 rfl rfl)
theorem dX10_weightIn_4 : decode cX10_weightIn 4 = .ok (.ifCond .ne 9, 3) := dk_154 0 9 (dk_at dksX10_weightIn_0 4 rfl rfl)
theorem dX10_weightIn_7 : decode cX10_weightIn 7 = .ok (.aload_n 0, 1) := dk_42 (dk_at dksX10_weightIn_0 7 rfl rfl)
theorem dX10_weightIn_8 : decode cX10_weightIn 8 = .ok (.iconst 1, 1) := dk_4 (dk_at dksX10_weightIn_0 8 rfl rfl)
theorem dX10_weightIn_9 : decode cX10_weightIn 9 = .ok (.invokevirtual 81, 3) := dk_182 0 81 (dk_at dksX10_weightIn_0 9 rfl rfl)
theorem dX10_weightIn_12 : decode cX10_weightIn 12 = .ok (.ireturn, 1) := dk_172 (dk_at dksX10_weightIn_0 12 rfl rfl)
theorem dX10_weightIn_13 : decode cX10_weightIn 13 = .ok (.iload_n 2, 1) := dk_28 (dk_at dksX10_weightIn_0 13 rfl rfl)
theorem dX10_weightIn_14 : decode cX10_weightIn 14 = .ok (.iconst 0, 1) := dk_3 (dk_at dksX10_weightIn_0 14 rfl rfl)
theorem dX10_weightIn_15 : decode cX10_weightIn 15 = .ok (.bipush 60, 2) := dk_16 60 (dk_at dksX10_weightIn_0 15 rfl rfl)
theorem dX10_weightIn_17 : decode cX10_weightIn 17 = .ok (.invokestatic 77, 3) := dk_184 0 77 (dk_at dksX10_weightIn_0 17 rfl rfl)
theorem dX10_weightIn_20 : decode cX10_weightIn 20 = .ok (.ifCond .ne 9, 3) := dk_154 0 9 (dk_at dksX10_weightIn_0 20 rfl rfl)
theorem dX10_weightIn_23 : decode cX10_weightIn 23 = .ok (.aload_n 0, 1) := dk_42 (dk_at dksX10_weightIn_0 23 rfl rfl)
theorem dX10_weightIn_24 : decode cX10_weightIn 24 = .ok (.iconst 2, 1) := dk_5 (dk_at dksX10_weightIn_1 0 rfl rfl)
theorem dX10_weightIn_25 : decode cX10_weightIn 25 = .ok (.invokevirtual 81, 3) := dk_182 0 81 (dk_at dksX10_weightIn_1 1 rfl rfl)
theorem dX10_weightIn_28 : decode cX10_weightIn 28 = .ok (.ireturn, 1) := dk_172 (dk_at dksX10_weightIn_1 4 rfl rfl)
theorem dX10_weightIn_29 : decode cX10_weightIn 29 = .ok (.aload_n 0, 1) := dk_42 (dk_at dksX10_weightIn_1 5 rfl rfl)
theorem dX10_weightIn_30 : decode cX10_weightIn 30 = .ok (.getfield 7, 3) := dk_180 0 7 (dk_at dksX10_weightIn_1 6 rfl rfl)
theorem dX10_weightIn_33 : decode cX10_weightIn 33 = .ok (.bipush 27, 2) := dk_16 27 (dk_at dksX10_weightIn_1 9 rfl rfl)
theorem dX10_weightIn_35 : decode cX10_weightIn 35 = .ok (.iload_n 1, 1) := dk_27 (dk_at dksX10_weightIn_1 11 rfl rfl)
theorem dX10_weightIn_36 : decode cX10_weightIn 36 = .ok (.iadd, 1) := dk_96 (dk_at dksX10_weightIn_1 12 rfl rfl)
theorem dX10_weightIn_37 : decode cX10_weightIn 37 = .ok (.iaload, 1) := dk_46 (dk_at dksX10_weightIn_1 13 rfl rfl)
theorem dX10_weightIn_38 : decode cX10_weightIn 38 = .ok (.iconst (-1), 1) := dk_2 (dk_at dksX10_weightIn_1 14 rfl rfl)
theorem dX10_weightIn_39 : decode cX10_weightIn 39 = .ok (.if_icmp .ne 9, 3) := dk_160 0 9 (dk_at dksX10_weightIn_1 15 rfl rfl)
theorem dX10_weightIn_42 : decode cX10_weightIn 42 = .ok (.aload_n 0, 1) := dk_42 (dk_at dksX10_weightIn_1 18 rfl rfl)
theorem dX10_weightIn_43 : decode cX10_weightIn 43 = .ok (.iconst 3, 1) := dk_6 (dk_at dksX10_weightIn_1 19 rfl rfl)
theorem dX10_weightIn_44 : decode cX10_weightIn 44 = .ok (.invokevirtual 81, 3) := dk_182 0 81 (dk_at dksX10_weightIn_1 20 rfl rfl)
theorem dX10_weightIn_47 : decode cX10_weightIn 47 = .ok (.ireturn, 1) := dk_172 (dk_at dksX10_weightIn_1 23 rfl rfl)
theorem dX10_weightIn_48 : decode cX10_weightIn 48 = .ok (.aload_n 0, 1) := dk_42 (dk_at dksX10_weightIn_2 0 rfl rfl)
theorem dX10_weightIn_49 : decode cX10_weightIn 49 = .ok (.invokevirtual 146, 3) := dk_182 0 146 (dk_at dksX10_weightIn_2 1 rfl rfl)
theorem dX10_weightIn_52 : decode cX10_weightIn 52 = .ok (.iconst 0, 1) := dk_3 (dk_at dksX10_weightIn_2 4 rfl rfl)
theorem dX10_weightIn_53 : decode cX10_weightIn 53 = .ok (.istore_n 3, 1) := dk_62 (dk_at dksX10_weightIn_2 5 rfl rfl)
theorem dX10_weightIn_54 : decode cX10_weightIn 54 = .ok (.iload_n 3, 1) := dk_29 (dk_at dksX10_weightIn_2 6 rfl rfl)
theorem dX10_weightIn_55 : decode cX10_weightIn 55 = .ok (.iload_n 2, 1) := dk_28 (dk_at dksX10_weightIn_2 7 rfl rfl)
theorem dX10_weightIn_56 : decode cX10_weightIn 56 = .ok (.if_icmp .ge 14, 3) := dk_162 0 14 (dk_at dksX10_weightIn_2 8 rfl rfl)
theorem dX10_weightIn_59 : decode cX10_weightIn 59 = .ok (.aload_n 0, 1) := dk_42 (dk_at dksX10_weightIn_2 11 rfl rfl)
theorem dX10_weightIn_60 : decode cX10_weightIn 60 = .ok (.invokevirtual 149, 3) := dk_182 0 149 (dk_at dksX10_weightIn_2 12 rfl rfl)
theorem dX10_weightIn_63 : decode cX10_weightIn 63 = .ok (.pop, 1) := dk_87 (dk_at dksX10_weightIn_2 15 rfl rfl)
theorem dX10_weightIn_64 : decode cX10_weightIn 64 = .ok (.iinc 3 1, 3) := dk_132 3 1 (dk_at dksX10_weightIn_2 16 rfl rfl)
theorem dX10_weightIn_67 : decode cX10_weightIn 67 = .ok (.goto (-13), 3) := dk_167 255 243 (dk_at dksX10_weightIn_2 19 rfl rfl)
theorem dX10_weightIn_70 : decode cX10_weightIn 70 = .ok (.aload_n 0, 1) := dk_42 (dk_at dksX10_weightIn_2 22 rfl rfl)
theorem dX10_weightIn_71 : decode cX10_weightIn 71 = .ok (.getfield 13, 3) := dk_180 0 13 (dk_at dksX10_weightIn_3 0 rfl rfl)
theorem dX10_weightIn_74 : decode cX10_weightIn 74 = .ok (.bipush 12, 2) := dk_16 12 (dk_at dksX10_weightIn_3 3 rfl rfl)
theorem dX10_weightIn_76 : decode cX10_weightIn 76 = .ok (.iload_n 1, 1) := dk_27 (dk_at dksX10_weightIn_3 5 rfl rfl)
theorem dX10_weightIn_77 : decode cX10_weightIn 77 = .ok (.iadd, 1) := dk_96 (dk_at dksX10_weightIn_3 6 rfl rfl)
theorem dX10_weightIn_78 : decode cX10_weightIn 78 = .ok (.faload, 1) := dk_48 (dk_at dksX10_weightIn_3 7 rfl rfl)
theorem dX10_weightIn_79 : decode cX10_weightIn 79 = .ok (.fstore_n 3, 1) := dk_70 (dk_at dksX10_weightIn_3 8 rfl rfl)
theorem dX10_weightIn_80 : decode cX10_weightIn 80 = .ok (.aload_n 0, 1) := dk_42 (dk_at dksX10_weightIn_3 9 rfl rfl)
theorem dX10_weightIn_81 : decode cX10_weightIn 81 = .ok (.invokevirtual 152, 3) := dk_182 0 152 (dk_at dksX10_weightIn_3 10 rfl rfl)
theorem dX10_weightIn_84 : decode cX10_weightIn 84 = .ok (.aload_n 0, 1) := dk_42 (dk_at dksX10_weightIn_3 13 rfl rfl)
theorem dX10_weightIn_85 : decode cX10_weightIn 85 = .ok (.fload_n 3, 1) := dk_37 (dk_at dksX10_weightIn_3 14 rfl rfl)
theorem dX10_weightIn_86 : decode cX10_weightIn 86 = .ok (.invokestatic 140, 3) := dk_184 0 140 (dk_at dksX10_weightIn_3 15 rfl rfl)
theorem dX10_weightIn_89 : decode cX10_weightIn 89 = .ok (.invokevirtual 85, 3) := dk_182 0 85 (dk_at dksX10_weightIn_3 18 rfl rfl)
theorem dX10_weightIn_92 : decode cX10_weightIn 92 = .ok (.ireturn, 1) := dk_172 (dk_at dksX10_weightIn_3 21 rfl rfl)
abbrev cX10_heaviest : ByteArray := prog_13_method_42_code
def yX10_heaviest : MethodName := ⟨RX10, "heaviest", "(I)I"⟩
def dkwX10_heaviest_4 : List UInt8 := [160, 0, 11, 42, 5, 182, 0, 81, 167, 0, 8, 42, 28, 182, 0, 85, 172]
abbrev dktX10_heaviest_4 : List UInt8 := dkwX10_heaviest_4 ++ []
def dkwX10_heaviest_3 : List UInt8 := [16, 12, 28, 96, 48, 149, 158, 0, 7, 29, 167, 0, 4, 28, 61, 132, 3, 1, 167, 255, 189, 28, 2]
abbrev dktX10_heaviest_3 : List UInt8 := dkwX10_heaviest_3 ++ dktX10_heaviest_4
def dkwX10_heaviest_2 : List UInt8 := [21, 4, 153, 0, 34, 28, 2, 159, 0, 25, 42, 180, 0, 13, 16, 12, 29, 96, 48, 42, 180, 0, 13]
abbrev dktX10_heaviest_2 : List UInt8 := dkwX10_heaviest_2 ++ dktX10_heaviest_3
def dkwX10_heaviest_1 : List UInt8 := [162, 0, 67, 42, 180, 0, 7, 16, 27, 29, 96, 46, 27, 160, 0, 7, 4, 167, 0, 4, 3, 54, 4]
abbrev dktX10_heaviest_1 : List UInt8 := dkwX10_heaviest_1 ++ dktX10_heaviest_2
def dkwX10_heaviest_0 : List UInt8 := [27, 3, 4, 184, 0, 77, 154, 0, 9, 42, 4, 182, 0, 81, 172, 2, 61, 3, 62, 29, 16, 12]
abbrev dktX10_heaviest_0 : List UInt8 := dkwX10_heaviest_0 ++ dktX10_heaviest_1
theorem dksX10_heaviest_0 : cX10_heaviest.data.toList.drop 0 = dktX10_heaviest_0 := by decide +kernel
theorem dksX10_heaviest_1 : cX10_heaviest.data.toList.drop 22 = dktX10_heaviest_1 := dk_seg dksX10_heaviest_0 22 rfl rfl
theorem dksX10_heaviest_2 : cX10_heaviest.data.toList.drop 45 = dktX10_heaviest_2 := dk_seg dksX10_heaviest_1 23 rfl rfl
theorem dksX10_heaviest_3 : cX10_heaviest.data.toList.drop 68 = dktX10_heaviest_3 := dk_seg dksX10_heaviest_2 23 rfl rfl
theorem dksX10_heaviest_4 : cX10_heaviest.data.toList.drop 91 = dktX10_heaviest_4 := dk_seg dksX10_heaviest_3 23 rfl rfl
theorem dX10_heaviest_0 : decode cX10_heaviest 0 = .ok (.iload_n 1, 1) := dk_27 (dk_at dksX10_heaviest_0 0 rfl rfl)
theorem dX10_heaviest_1 : decode cX10_heaviest 1 = .ok (.iconst 0, 1) := dk_3 (dk_at dksX10_heaviest_0 1 rfl rfl)
theorem dX10_heaviest_2 : decode cX10_heaviest 2 = .ok (.iconst 1, 1) := dk_4 (dk_at dksX10_heaviest_0 2 rfl rfl)
theorem dX10_heaviest_3 : decode cX10_heaviest 3 = .ok (.invokestatic 77, 3) := dk_184 0 77 (dk_at dksX10_heaviest_0 3 rfl rfl)
theorem dX10_heaviest_6 : decode cX10_heaviest 6 = .ok (.ifCond .ne 9, 3) := dk_154 0 9 (dk_at dksX10_heaviest_0 6 rfl rfl)
theorem dX10_heaviest_9 : decode cX10_heaviest 9 = .ok (.aload_n 0, 1) := dk_42 (dk_at dksX10_heaviest_0 9 rfl rfl)
theorem dX10_heaviest_10 : decode cX10_heaviest 10 = .ok (.iconst 1, 1) := dk_4 (dk_at dksX10_heaviest_0 10 rfl rfl)
theorem dX10_heaviest_11 : decode cX10_heaviest 11 = .ok (.invokevirtual 81, 3) := dk_182 0 81 (dk_at dksX10_heaviest_0 11 rfl rfl)
theorem dX10_heaviest_14 : decode cX10_heaviest 14 = .ok (.ireturn, 1) := dk_172 (dk_at dksX10_heaviest_0 14 rfl rfl)
theorem dX10_heaviest_15 : decode cX10_heaviest 15 = .ok (.iconst (-1), 1) := dk_2 (dk_at dksX10_heaviest_0 15 rfl rfl)
theorem dX10_heaviest_16 : decode cX10_heaviest 16 = .ok (.istore_n 2, 1) := dk_61 (dk_at dksX10_heaviest_0 16 rfl rfl)
theorem dX10_heaviest_17 : decode cX10_heaviest 17 = .ok (.iconst 0, 1) := dk_3 (dk_at dksX10_heaviest_0 17 rfl rfl)
theorem dX10_heaviest_18 : decode cX10_heaviest 18 = .ok (.istore_n 3, 1) := dk_62 (dk_at dksX10_heaviest_0 18 rfl rfl)
theorem dX10_heaviest_19 : decode cX10_heaviest 19 = .ok (.iload_n 3, 1) := dk_29 (dk_at dksX10_heaviest_0 19 rfl rfl)
theorem dX10_heaviest_20 : decode cX10_heaviest 20 = .ok (.bipush 12, 2) := dk_16 12 (dk_at dksX10_heaviest_0 20 rfl rfl)
theorem dX10_heaviest_22 : decode cX10_heaviest 22 = .ok (.if_icmp .ge 67, 3) := dk_162 0 67 (dk_at dksX10_heaviest_1 0 rfl rfl)
theorem dX10_heaviest_25 : decode cX10_heaviest 25 = .ok (.aload_n 0, 1) := dk_42 (dk_at dksX10_heaviest_1 3 rfl rfl)
theorem dX10_heaviest_26 : decode cX10_heaviest 26 = .ok (.getfield 7, 3) := dk_180 0 7 (dk_at dksX10_heaviest_1 4 rfl rfl)
theorem dX10_heaviest_29 : decode cX10_heaviest 29 = .ok (.bipush 27, 2) := dk_16 27 (dk_at dksX10_heaviest_1 7 rfl rfl)
theorem dX10_heaviest_31 : decode cX10_heaviest 31 = .ok (.iload_n 3, 1) := dk_29 (dk_at dksX10_heaviest_1 9 rfl rfl)
theorem dX10_heaviest_32 : decode cX10_heaviest 32 = .ok (.iadd, 1) := dk_96 (dk_at dksX10_heaviest_1 10 rfl rfl)
theorem dX10_heaviest_33 : decode cX10_heaviest 33 = .ok (.iaload, 1) := dk_46 (dk_at dksX10_heaviest_1 11 rfl rfl)
theorem dX10_heaviest_34 : decode cX10_heaviest 34 = .ok (.iload_n 1, 1) := dk_27 (dk_at dksX10_heaviest_1 12 rfl rfl)
theorem dX10_heaviest_35 : decode cX10_heaviest 35 = .ok (.if_icmp .ne 7, 3) := dk_160 0 7 (dk_at dksX10_heaviest_1 13 rfl rfl)
theorem dX10_heaviest_38 : decode cX10_heaviest 38 = .ok (.iconst 1, 1) := dk_4 (dk_at dksX10_heaviest_1 16 rfl rfl)
theorem dX10_heaviest_39 : decode cX10_heaviest 39 = .ok (.goto 4, 3) := dk_167 0 4 (dk_at dksX10_heaviest_1 17 rfl rfl)
theorem dX10_heaviest_42 : decode cX10_heaviest 42 = .ok (.iconst 0, 1) := dk_3 (dk_at dksX10_heaviest_1 20 rfl rfl)
theorem dX10_heaviest_43 : decode cX10_heaviest 43 = .ok (.istore 4, 2) := dk_54 4 (dk_at dksX10_heaviest_1 21 rfl rfl)
theorem dX10_heaviest_45 : decode cX10_heaviest 45 = .ok (.iload 4, 2) := dk_21 4 (dk_at dksX10_heaviest_2 0 rfl rfl)
theorem dX10_heaviest_47 : decode cX10_heaviest 47 = .ok (.ifCond .eq 34, 3) := dk_153 0 34 (dk_at dksX10_heaviest_2 2 rfl rfl)
theorem dX10_heaviest_50 : decode cX10_heaviest 50 = .ok (.iload_n 2, 1) := dk_28 (dk_at dksX10_heaviest_2 5 rfl rfl)
theorem dX10_heaviest_51 : decode cX10_heaviest 51 = .ok (.iconst (-1), 1) := dk_2 (dk_at dksX10_heaviest_2 6 rfl rfl)
theorem dX10_heaviest_52 : decode cX10_heaviest 52 = .ok (.if_icmp .eq 25, 3) := dk_159 0 25 (dk_at dksX10_heaviest_2 7 rfl rfl)
theorem dX10_heaviest_55 : decode cX10_heaviest 55 = .ok (.aload_n 0, 1) := dk_42 (dk_at dksX10_heaviest_2 10 rfl rfl)
theorem dX10_heaviest_56 : decode cX10_heaviest 56 = .ok (.getfield 13, 3) := dk_180 0 13 (dk_at dksX10_heaviest_2 11 rfl rfl)
theorem dX10_heaviest_59 : decode cX10_heaviest 59 = .ok (.bipush 12, 2) := dk_16 12 (dk_at dksX10_heaviest_2 14 rfl rfl)
theorem dX10_heaviest_61 : decode cX10_heaviest 61 = .ok (.iload_n 3, 1) := dk_29 (dk_at dksX10_heaviest_2 16 rfl rfl)
theorem dX10_heaviest_62 : decode cX10_heaviest 62 = .ok (.iadd, 1) := dk_96 (dk_at dksX10_heaviest_2 17 rfl rfl)
theorem dX10_heaviest_63 : decode cX10_heaviest 63 = .ok (.faload, 1) := dk_48 (dk_at dksX10_heaviest_2 18 rfl rfl)
theorem dX10_heaviest_64 : decode cX10_heaviest 64 = .ok (.aload_n 0, 1) := dk_42 (dk_at dksX10_heaviest_2 19 rfl rfl)
theorem dX10_heaviest_65 : decode cX10_heaviest 65 = .ok (.getfield 13, 3) := dk_180 0 13 (dk_at dksX10_heaviest_2 20 rfl rfl)
theorem dX10_heaviest_68 : decode cX10_heaviest 68 = .ok (.bipush 12, 2) := dk_16 12 (dk_at dksX10_heaviest_3 0 rfl rfl)
theorem dX10_heaviest_70 : decode cX10_heaviest 70 = .ok (.iload_n 2, 1) := dk_28 (dk_at dksX10_heaviest_3 2 rfl rfl)
theorem dX10_heaviest_71 : decode cX10_heaviest 71 = .ok (.iadd, 1) := dk_96 (dk_at dksX10_heaviest_3 3 rfl rfl)
theorem dX10_heaviest_72 : decode cX10_heaviest 72 = .ok (.faload, 1) := dk_48 (dk_at dksX10_heaviest_3 4 rfl rfl)
theorem dX10_heaviest_73 : decode cX10_heaviest 73 = .ok (.fcmp .l, 1) := dk_149 (dk_at dksX10_heaviest_3 5 rfl rfl)
theorem dX10_heaviest_74 : decode cX10_heaviest 74 = .ok (.ifCond .le 7, 3) := dk_158 0 7 (dk_at dksX10_heaviest_3 6 rfl rfl)
theorem dX10_heaviest_77 : decode cX10_heaviest 77 = .ok (.iload_n 3, 1) := dk_29 (dk_at dksX10_heaviest_3 9 rfl rfl)
theorem dX10_heaviest_78 : decode cX10_heaviest 78 = .ok (.goto 4, 3) := dk_167 0 4 (dk_at dksX10_heaviest_3 10 rfl rfl)
theorem dX10_heaviest_81 : decode cX10_heaviest 81 = .ok (.iload_n 2, 1) := dk_28 (dk_at dksX10_heaviest_3 13 rfl rfl)
theorem dX10_heaviest_82 : decode cX10_heaviest 82 = .ok (.istore_n 2, 1) := dk_61 (dk_at dksX10_heaviest_3 14 rfl rfl)
theorem dX10_heaviest_83 : decode cX10_heaviest 83 = .ok (.iinc 3 1, 3) := dk_132 3 1 (dk_at dksX10_heaviest_3 15 rfl rfl)
theorem dX10_heaviest_86 : decode cX10_heaviest 86 = .ok (.goto (-67), 3) := dk_167 255 189 (dk_at dksX10_heaviest_3 18 rfl rfl)
theorem dX10_heaviest_89 : decode cX10_heaviest 89 = .ok (.iload_n 2, 1) := dk_28 (dk_at dksX10_heaviest_3 21 rfl rfl)
theorem dX10_heaviest_90 : decode cX10_heaviest 90 = .ok (.iconst (-1), 1) := dk_2 (dk_at dksX10_heaviest_3 22 rfl rfl)
theorem dX10_heaviest_91 : decode cX10_heaviest 91 = .ok (.if_icmp .ne 11, 3) := dk_160 0 11 (dk_at dksX10_heaviest_4 0 rfl rfl)
theorem dX10_heaviest_94 : decode cX10_heaviest 94 = .ok (.aload_n 0, 1) := dk_42 (dk_at dksX10_heaviest_4 3 rfl rfl)
theorem dX10_heaviest_95 : decode cX10_heaviest 95 = .ok (.iconst 2, 1) := dk_5 (dk_at dksX10_heaviest_4 4 rfl rfl)
theorem dX10_heaviest_96 : decode cX10_heaviest 96 = .ok (.invokevirtual 81, 3) := dk_182 0 81 (dk_at dksX10_heaviest_4 5 rfl rfl)
theorem dX10_heaviest_99 : decode cX10_heaviest 99 = .ok (.goto 8, 3) := dk_167 0 8 (dk_at dksX10_heaviest_4 8 rfl rfl)
theorem dX10_heaviest_102 : decode cX10_heaviest 102 = .ok (.aload_n 0, 1) := dk_42 (dk_at dksX10_heaviest_4 11 rfl rfl)
theorem dX10_heaviest_103 : decode cX10_heaviest 103 = .ok (.iload_n 2, 1) := dk_28 (dk_at dksX10_heaviest_4 12 rfl rfl)
theorem dX10_heaviest_104 : decode cX10_heaviest 104 = .ok (.invokevirtual 85, 3) := dk_182 0 85 (dk_at dksX10_heaviest_4 13 rfl rfl)
theorem dX10_heaviest_107 : decode cX10_heaviest 107 = .ok (.ireturn, 1) := dk_172 (dk_at dksX10_heaviest_4 16 rfl rfl)
abbrev cX10_harvest : ByteArray := prog_13_method_44_code
def yX10_harvest : MethodName := ⟨RX10, "harvest", "(I)I"⟩
def dkwX10_harvest_6 : List UInt8 := [182, 0, 94, 172]
abbrev dktX10_harvest_6 : List UInt8 := dkwX10_harvest_6 ++ []
def dkwX10_harvest_5 : List UInt8 := [96, 79, 42, 180, 0, 7, 16, 94, 92, 46, 4, 96, 79, 42, 42, 37, 184, 0, 140, 182, 0, 85]
abbrev dktX10_harvest_5 : List UInt8 := dkwX10_harvest_5 ++ dktX10_harvest_6
def dkwX10_harvest_4 : List UInt8 := [96, 2, 79, 42, 180, 0, 13, 16, 12, 28, 96, 11, 81, 42, 180, 0, 7, 16, 64, 27, 96, 92, 46, 4]
abbrev dktX10_harvest_4 : List UInt8 := dkwX10_harvest_4 ++ dktX10_harvest_5
def dkwX10_harvest_3 : List UInt8 := [48, 70, 42, 42, 180, 0, 7, 16, 27, 28, 96, 46, 27, 37, 182, 0, 165, 42, 180, 0, 7, 16, 27, 28]
abbrev dktX10_harvest_3 : List UInt8 := dkwX10_harvest_3 ++ dktX10_harvest_4
def dkwX10_harvest_2 : List UInt8 := [160, 0, 12, 42, 16, 8, 28, 5, 182, 0, 100, 172, 42, 182, 0, 88, 42, 180, 0, 13, 16, 12, 28, 96]
abbrev dktX10_harvest_2 : List UInt8 := dkwX10_harvest_2 ++ dktX10_harvest_3
def dkwX10_harvest_1 : List UInt8 := [28, 2, 160, 0, 11, 42, 7, 27, 5, 182, 0, 100, 172, 42, 180, 0, 7, 16, 27, 28, 96, 46, 2]
abbrev dktX10_harvest_1 : List UInt8 := dkwX10_harvest_1 ++ dktX10_harvest_2
def dkwX10_harvest_0 : List UInt8 := [42, 27, 182, 0, 104, 154, 0, 9, 42, 4, 182, 0, 81, 172, 42, 180, 0, 7, 16, 52, 27, 96, 46, 61]
abbrev dktX10_harvest_0 : List UInt8 := dkwX10_harvest_0 ++ dktX10_harvest_1
theorem dksX10_harvest_0 : cX10_harvest.data.toList.drop 0 = dktX10_harvest_0 := by decide +kernel
theorem dksX10_harvest_1 : cX10_harvest.data.toList.drop 24 = dktX10_harvest_1 := dk_seg dksX10_harvest_0 24 rfl rfl
theorem dksX10_harvest_2 : cX10_harvest.data.toList.drop 47 = dktX10_harvest_2 := dk_seg dksX10_harvest_1 23 rfl rfl
theorem dksX10_harvest_3 : cX10_harvest.data.toList.drop 71 = dktX10_harvest_3 := dk_seg dksX10_harvest_2 24 rfl rfl
theorem dksX10_harvest_4 : cX10_harvest.data.toList.drop 95 = dktX10_harvest_4 := dk_seg dksX10_harvest_3 24 rfl rfl
theorem dksX10_harvest_5 : cX10_harvest.data.toList.drop 119 = dktX10_harvest_5 := dk_seg dksX10_harvest_4 24 rfl rfl
theorem dksX10_harvest_6 : cX10_harvest.data.toList.drop 141 = dktX10_harvest_6 := dk_seg dksX10_harvest_5 22 rfl rfl
theorem dX10_harvest_0 : decode cX10_harvest 0 = .ok (.aload_n 0, 1) := dk_42 (dk_at dksX10_harvest_0 0 rfl rfl)
theorem dX10_harvest_1 : decode cX10_harvest 1 = .ok (.iload_n 1, 1) := dk_27 (dk_at dksX10_harvest_0 1 rfl rfl)
theorem dX10_harvest_2 : decode cX10_harvest 2 = .ok (.invokevirtual 104, 3) := dk_182 0 104 (dk_at dksX10_harvest_0 2 rfl rfl)
theorem dX10_harvest_5 : decode cX10_harvest 5 = .ok (.ifCond .ne 9, 3) := dk_154 0 9 (dk_at dksX10_harvest_0 5 rfl rfl)
theorem dX10_harvest_8 : decode cX10_harvest 8 = .ok (.aload_n 0, 1) := dk_42 (dk_at dksX10_harvest_0 8 rfl rfl)
theorem dX10_harvest_9 : decode cX10_harvest 9 = .ok (.iconst 1, 1) := dk_4 (dk_at dksX10_harvest_0 9 rfl rfl)
theorem dX10_harvest_10 : decode cX10_harvest 10 = .ok (.invokevirtual 81, 3) := dk_182 0 81 (dk_at dksX10_harvest_0 10 rfl rfl)
theorem dX10_harvest_13 : decode cX10_harvest 13 = .ok (.ireturn, 1) := dk_172 (dk_at dksX10_harvest_0 13 rfl rfl)
theorem dX10_harvest_14 : decode cX10_harvest 14 = .ok (.aload_n 0, 1) := dk_42 (dk_at dksX10_harvest_0 14 rfl rfl)
theorem dX10_harvest_15 : decode cX10_harvest 15 = .ok (.getfield 7, 3) := dk_180 0 7 (dk_at dksX10_harvest_0 15 rfl rfl)
theorem dX10_harvest_18 : decode cX10_harvest 18 = .ok (.bipush 52, 2) := dk_16 52 (dk_at dksX10_harvest_0 18 rfl rfl)
theorem dX10_harvest_20 : decode cX10_harvest 20 = .ok (.iload_n 1, 1) := dk_27 (dk_at dksX10_harvest_0 20 rfl rfl)
theorem dX10_harvest_21 : decode cX10_harvest 21 = .ok (.iadd, 1) := dk_96 (dk_at dksX10_harvest_0 21 rfl rfl)
theorem dX10_harvest_22 : decode cX10_harvest 22 = .ok (.iaload, 1) := dk_46 (dk_at dksX10_harvest_0 22 rfl rfl)
theorem dX10_harvest_23 : decode cX10_harvest 23 = .ok (.istore_n 2, 1) := dk_61 (dk_at dksX10_harvest_0 23 rfl rfl)
theorem dX10_harvest_24 : decode cX10_harvest 24 = .ok (.iload_n 2, 1) := dk_28 (dk_at dksX10_harvest_1 0 rfl rfl)
theorem dX10_harvest_25 : decode cX10_harvest 25 = .ok (.iconst (-1), 1) := dk_2 (dk_at dksX10_harvest_1 1 rfl rfl)
theorem dX10_harvest_26 : decode cX10_harvest 26 = .ok (.if_icmp .ne 11, 3) := dk_160 0 11 (dk_at dksX10_harvest_1 2 rfl rfl)
theorem dX10_harvest_29 : decode cX10_harvest 29 = .ok (.aload_n 0, 1) := dk_42 (dk_at dksX10_harvest_1 5 rfl rfl)
theorem dX10_harvest_30 : decode cX10_harvest 30 = .ok (.iconst 4, 1) := dk_7 (dk_at dksX10_harvest_1 6 rfl rfl)
theorem dX10_harvest_31 : decode cX10_harvest 31 = .ok (.iload_n 1, 1) := dk_27 (dk_at dksX10_harvest_1 7 rfl rfl)
theorem dX10_harvest_32 : decode cX10_harvest 32 = .ok (.iconst 2, 1) := dk_5 (dk_at dksX10_harvest_1 8 rfl rfl)
theorem dX10_harvest_33 : decode cX10_harvest 33 = .ok (.invokevirtual 100, 3) := dk_182 0 100 (dk_at dksX10_harvest_1 9 rfl rfl)
theorem dX10_harvest_36 : decode cX10_harvest 36 = .ok (.ireturn, 1) := dk_172 (dk_at dksX10_harvest_1 12 rfl rfl)
theorem dX10_harvest_37 : decode cX10_harvest 37 = .ok (.aload_n 0, 1) := dk_42 (dk_at dksX10_harvest_1 13 rfl rfl)
theorem dX10_harvest_38 : decode cX10_harvest 38 = .ok (.getfield 7, 3) := dk_180 0 7 (dk_at dksX10_harvest_1 14 rfl rfl)
theorem dX10_harvest_41 : decode cX10_harvest 41 = .ok (.bipush 27, 2) := dk_16 27 (dk_at dksX10_harvest_1 17 rfl rfl)
theorem dX10_harvest_43 : decode cX10_harvest 43 = .ok (.iload_n 2, 1) := dk_28 (dk_at dksX10_harvest_1 19 rfl rfl)
theorem dX10_harvest_44 : decode cX10_harvest 44 = .ok (.iadd, 1) := dk_96 (dk_at dksX10_harvest_1 20 rfl rfl)
theorem dX10_harvest_45 : decode cX10_harvest 45 = .ok (.iaload, 1) := dk_46 (dk_at dksX10_harvest_1 21 rfl rfl)
theorem dX10_harvest_46 : decode cX10_harvest 46 = .ok (.iconst (-1), 1) := dk_2 (dk_at dksX10_harvest_1 22 rfl rfl)
theorem dX10_harvest_47 : decode cX10_harvest 47 = .ok (.if_icmp .ne 12, 3) := dk_160 0 12 (dk_at dksX10_harvest_2 0 rfl rfl)
theorem dX10_harvest_50 : decode cX10_harvest 50 = .ok (.aload_n 0, 1) := dk_42 (dk_at dksX10_harvest_2 3 rfl rfl)
theorem dX10_harvest_51 : decode cX10_harvest 51 = .ok (.bipush 8, 2) := dk_16 8 (dk_at dksX10_harvest_2 4 rfl rfl)
theorem dX10_harvest_53 : decode cX10_harvest 53 = .ok (.iload_n 2, 1) := dk_28 (dk_at dksX10_harvest_2 6 rfl rfl)
theorem dX10_harvest_54 : decode cX10_harvest 54 = .ok (.iconst 2, 1) := dk_5 (dk_at dksX10_harvest_2 7 rfl rfl)
theorem dX10_harvest_55 : decode cX10_harvest 55 = .ok (.invokevirtual 100, 3) := dk_182 0 100 (dk_at dksX10_harvest_2 8 rfl rfl)
theorem dX10_harvest_58 : decode cX10_harvest 58 = .ok (.ireturn, 1) := dk_172 (dk_at dksX10_harvest_2 11 rfl rfl)
theorem dX10_harvest_59 : decode cX10_harvest 59 = .ok (.aload_n 0, 1) := dk_42 (dk_at dksX10_harvest_2 12 rfl rfl)
theorem dX10_harvest_60 : decode cX10_harvest 60 = .ok (.invokevirtual 88, 3) := dk_182 0 88 (dk_at dksX10_harvest_2 13 rfl rfl)
theorem dX10_harvest_63 : decode cX10_harvest 63 = .ok (.aload_n 0, 1) := dk_42 (dk_at dksX10_harvest_2 16 rfl rfl)
theorem dX10_harvest_64 : decode cX10_harvest 64 = .ok (.getfield 13, 3) := dk_180 0 13 (dk_at dksX10_harvest_2 17 rfl rfl)
theorem dX10_harvest_67 : decode cX10_harvest 67 = .ok (.bipush 12, 2) := dk_16 12 (dk_at dksX10_harvest_2 20 rfl rfl)
theorem dX10_harvest_69 : decode cX10_harvest 69 = .ok (.iload_n 2, 1) := dk_28 (dk_at dksX10_harvest_2 22 rfl rfl)
theorem dX10_harvest_70 : decode cX10_harvest 70 = .ok (.iadd, 1) := dk_96 (dk_at dksX10_harvest_2 23 rfl rfl)
theorem dX10_harvest_71 : decode cX10_harvest 71 = .ok (.faload, 1) := dk_48 (dk_at dksX10_harvest_3 0 rfl rfl)
theorem dX10_harvest_72 : decode cX10_harvest 72 = .ok (.fstore_n 3, 1) := dk_70 (dk_at dksX10_harvest_3 1 rfl rfl)
theorem dX10_harvest_73 : decode cX10_harvest 73 = .ok (.aload_n 0, 1) := dk_42 (dk_at dksX10_harvest_3 2 rfl rfl)
theorem dX10_harvest_74 : decode cX10_harvest 74 = .ok (.aload_n 0, 1) := dk_42 (dk_at dksX10_harvest_3 3 rfl rfl)
theorem dX10_harvest_75 : decode cX10_harvest 75 = .ok (.getfield 7, 3) := dk_180 0 7 (dk_at dksX10_harvest_3 4 rfl rfl)
theorem dX10_harvest_78 : decode cX10_harvest 78 = .ok (.bipush 27, 2) := dk_16 27 (dk_at dksX10_harvest_3 7 rfl rfl)
theorem dX10_harvest_80 : decode cX10_harvest 80 = .ok (.iload_n 2, 1) := dk_28 (dk_at dksX10_harvest_3 9 rfl rfl)
theorem dX10_harvest_81 : decode cX10_harvest 81 = .ok (.iadd, 1) := dk_96 (dk_at dksX10_harvest_3 10 rfl rfl)
theorem dX10_harvest_82 : decode cX10_harvest 82 = .ok (.iaload, 1) := dk_46 (dk_at dksX10_harvest_3 11 rfl rfl)
theorem dX10_harvest_83 : decode cX10_harvest 83 = .ok (.iload_n 1, 1) := dk_27 (dk_at dksX10_harvest_3 12 rfl rfl)
theorem dX10_harvest_84 : decode cX10_harvest 84 = .ok (.fload_n 3, 1) := dk_37 (dk_at dksX10_harvest_3 13 rfl rfl)
theorem dX10_harvest_85 : decode cX10_harvest 85 = .ok (.invokevirtual 165, 3) := dk_182 0 165 (dk_at dksX10_harvest_3 14 rfl rfl)
theorem dX10_harvest_88 : decode cX10_harvest 88 = .ok (.aload_n 0, 1) := dk_42 (dk_at dksX10_harvest_3 17 rfl rfl)
theorem dX10_harvest_89 : decode cX10_harvest 89 = .ok (.getfield 7, 3) := dk_180 0 7 (dk_at dksX10_harvest_3 18 rfl rfl)
theorem dX10_harvest_92 : decode cX10_harvest 92 = .ok (.bipush 27, 2) := dk_16 27 (dk_at dksX10_harvest_3 21 rfl rfl)
theorem dX10_harvest_94 : decode cX10_harvest 94 = .ok (.iload_n 2, 1) := dk_28 (dk_at dksX10_harvest_3 23 rfl rfl)
theorem dX10_harvest_95 : decode cX10_harvest 95 = .ok (.iadd, 1) := dk_96 (dk_at dksX10_harvest_4 0 rfl rfl)
theorem dX10_harvest_96 : decode cX10_harvest 96 = .ok (.iconst (-1), 1) := dk_2 (dk_at dksX10_harvest_4 1 rfl rfl)
theorem dX10_harvest_97 : decode cX10_harvest 97 = .ok (.iastore, 1) := dk_79 (dk_at dksX10_harvest_4 2 rfl rfl)
theorem dX10_harvest_98 : decode cX10_harvest 98 = .ok (.aload_n 0, 1) := dk_42 (dk_at dksX10_harvest_4 3 rfl rfl)
theorem dX10_harvest_99 : decode cX10_harvest 99 = .ok (.getfield 13, 3) := dk_180 0 13 (dk_at dksX10_harvest_4 4 rfl rfl)
theorem dX10_harvest_102 : decode cX10_harvest 102 = .ok (.bipush 12, 2) := dk_16 12 (dk_at dksX10_harvest_4 7 rfl rfl)
theorem dX10_harvest_104 : decode cX10_harvest 104 = .ok (.iload_n 2, 1) := dk_28 (dk_at dksX10_harvest_4 9 rfl rfl)
theorem dX10_harvest_105 : decode cX10_harvest 105 = .ok (.iadd, 1) := dk_96 (dk_at dksX10_harvest_4 10 rfl rfl)
theorem dX10_harvest_106 : decode cX10_harvest 106 = .ok (.fconst 0, 1) := dk_11 (dk_at dksX10_harvest_4 11 rfl rfl)
theorem dX10_harvest_107 : decode cX10_harvest 107 = .ok (.fastore, 1) := dk_81 (dk_at dksX10_harvest_4 12 rfl rfl)
theorem dX10_harvest_108 : decode cX10_harvest 108 = .ok (.aload_n 0, 1) := dk_42 (dk_at dksX10_harvest_4 13 rfl rfl)
theorem dX10_harvest_109 : decode cX10_harvest 109 = .ok (.getfield 7, 3) := dk_180 0 7 (dk_at dksX10_harvest_4 14 rfl rfl)
theorem dX10_harvest_112 : decode cX10_harvest 112 = .ok (.bipush 64, 2) := dk_16 64 (dk_at dksX10_harvest_4 17 rfl rfl)
theorem dX10_harvest_114 : decode cX10_harvest 114 = .ok (.iload_n 1, 1) := dk_27 (dk_at dksX10_harvest_4 19 rfl rfl)
theorem dX10_harvest_115 : decode cX10_harvest 115 = .ok (.iadd, 1) := dk_96 (dk_at dksX10_harvest_4 20 rfl rfl)
theorem dX10_harvest_116 : decode cX10_harvest 116 = .ok (.dup2, 1) := dk_92 (dk_at dksX10_harvest_4 21 rfl rfl)
theorem dX10_harvest_117 : decode cX10_harvest 117 = .ok (.iaload, 1) := dk_46 (dk_at dksX10_harvest_4 22 rfl rfl)
theorem dX10_harvest_118 : decode cX10_harvest 118 = .ok (.iconst 1, 1) := dk_4 (dk_at dksX10_harvest_4 23 rfl rfl)
theorem dX10_harvest_119 : decode cX10_harvest 119 = .ok (.iadd, 1) := dk_96 (dk_at dksX10_harvest_5 0 rfl rfl)
theorem dX10_harvest_120 : decode cX10_harvest 120 = .ok (.iastore, 1) := dk_79 (dk_at dksX10_harvest_5 1 rfl rfl)
theorem dX10_harvest_121 : decode cX10_harvest 121 = .ok (.aload_n 0, 1) := dk_42 (dk_at dksX10_harvest_5 2 rfl rfl)
theorem dX10_harvest_122 : decode cX10_harvest 122 = .ok (.getfield 7, 3) := dk_180 0 7 (dk_at dksX10_harvest_5 3 rfl rfl)
theorem dX10_harvest_125 : decode cX10_harvest 125 = .ok (.bipush 94, 2) := dk_16 94 (dk_at dksX10_harvest_5 6 rfl rfl)
theorem dX10_harvest_127 : decode cX10_harvest 127 = .ok (.dup2, 1) := dk_92 (dk_at dksX10_harvest_5 8 rfl rfl)
theorem dX10_harvest_128 : decode cX10_harvest 128 = .ok (.iaload, 1) := dk_46 (dk_at dksX10_harvest_5 9 rfl rfl)
theorem dX10_harvest_129 : decode cX10_harvest 129 = .ok (.iconst 1, 1) := dk_4 (dk_at dksX10_harvest_5 10 rfl rfl)
theorem dX10_harvest_130 : decode cX10_harvest 130 = .ok (.iadd, 1) := dk_96 (dk_at dksX10_harvest_5 11 rfl rfl)
theorem dX10_harvest_131 : decode cX10_harvest 131 = .ok (.iastore, 1) := dk_79 (dk_at dksX10_harvest_5 12 rfl rfl)
theorem dX10_harvest_132 : decode cX10_harvest 132 = .ok (.aload_n 0, 1) := dk_42 (dk_at dksX10_harvest_5 13 rfl rfl)
theorem dX10_harvest_133 : decode cX10_harvest 133 = .ok (.aload_n 0, 1) := dk_42 (dk_at dksX10_harvest_5 14 rfl rfl)
theorem dX10_harvest_134 : decode cX10_harvest 134 = .ok (.fload_n 3, 1) := dk_37 (dk_at dksX10_harvest_5 15 rfl rfl)
theorem dX10_harvest_135 : decode cX10_harvest 135 = .ok (.invokestatic 140, 3) := dk_184 0 140 (dk_at dksX10_harvest_5 16 rfl rfl)
theorem dX10_harvest_138 : decode cX10_harvest 138 = .ok (.invokevirtual 85, 3) := dk_182 0 85 (dk_at dksX10_harvest_5 19 rfl rfl)
theorem dX10_harvest_141 : decode cX10_harvest 141 = .ok (.invokevirtual 94, 3) := dk_182 0 94 (dk_at dksX10_harvest_6 0 rfl rfl)
theorem dX10_harvest_144 : decode cX10_harvest 144 = .ok (.ireturn, 1) := dk_172 (dk_at dksX10_harvest_6 3 rfl rfl)
abbrev cX10_lists : ByteArray := prog_13_method_43_code
def yX10_lists : MethodName := ⟨RX10, "lists", "(IIF)V"⟩
def dkwX10_lists_9 : List UInt8 := [96, 42, 180, 0, 7, 3, 46, 79, 42, 180, 0, 13, 16, 28, 21, 4, 96, 37, 81, 177]
abbrev dktX10_lists_9 : List UInt8 := dkwX10_lists_9 ++ []
def dkwX10_lists_8 : List UInt8 := [21, 4, 96, 27, 79, 42, 180, 0, 7, 16, 102, 21, 4, 96, 28, 79, 42, 180, 0, 7, 16, 107, 21, 4]
abbrev dktX10_lists_8 : List UInt8 := dkwX10_lists_8 ++ dktX10_lists_9
def dkwX10_lists_7 : List UInt8 := [180, 0, 13, 16, 28, 21, 5, 96, 4, 100, 48, 81, 132, 5, 255, 167, 255, 158, 42, 180, 0, 7, 16, 97]
abbrev dktX10_lists_7 : List UInt8 := dkwX10_lists_7 ++ dktX10_lists_8
def dkwX10_lists_6 : List UInt8 := [180, 0, 7, 16, 107, 21, 5, 96, 4, 100, 46, 79, 42, 180, 0, 13, 16, 28, 21, 5, 96, 42]
abbrev dktX10_lists_6 : List UInt8 := dkwX10_lists_6 ++ dktX10_lists_7
def dkwX10_lists_5 : List UInt8 := [96, 42, 180, 0, 7, 16, 102, 21, 5, 96, 4, 100, 46, 79, 42, 180, 0, 7, 16, 107, 21, 5, 96, 42]
abbrev dktX10_lists_5 : List UInt8 := dkwX10_lists_5 ++ dktX10_lists_6
def dkwX10_lists_4 : List UInt8 := [21, 5, 96, 42, 180, 0, 7, 16, 97, 21, 5, 96, 4, 100, 46, 79, 42, 180, 0, 7, 16, 102, 21, 5]
abbrev dktX10_lists_4 : List UInt8 := dkwX10_lists_4 ++ dktX10_lists_5
def dkwX10_lists_3 : List UInt8 := [180, 0, 7, 16, 96, 46, 4, 100, 54, 5, 21, 5, 21, 4, 164, 0, 97, 42, 180, 0, 7, 16, 97]
abbrev dktX10_lists_3 : List UInt8 := dkwX10_lists_3 ++ dktX10_lists_4
def dkwX10_lists_2 : List UInt8 := [16, 96, 92, 46, 42, 180, 0, 7, 16, 96, 46, 8, 162, 0, 7, 4, 167, 0, 4, 3, 96, 79, 42]
abbrev dktX10_lists_2 : List UInt8 := dkwX10_lists_2 ++ dktX10_lists_3
def dkwX10_lists_1 : List UInt8 := [100, 48, 37, 150, 156, 0, 9, 132, 4, 255, 167, 255, 231, 21, 4, 8, 160, 0, 4, 177, 42, 180, 0, 7]
abbrev dktX10_lists_1 : List UInt8 := dkwX10_lists_1 ++ dktX10_lists_2
def dkwX10_lists_0 : List UInt8 := [42, 180, 0, 7, 16, 96, 46, 54, 4, 21, 4, 158, 0, 26, 42, 180, 0, 13, 16, 28, 21, 4, 96, 4]
abbrev dktX10_lists_0 : List UInt8 := dkwX10_lists_0 ++ dktX10_lists_1
theorem dksX10_lists_0 : cX10_lists.data.toList.drop 0 = dktX10_lists_0 := by decide +kernel
theorem dksX10_lists_1 : cX10_lists.data.toList.drop 24 = dktX10_lists_1 := dk_seg dksX10_lists_0 24 rfl rfl
theorem dksX10_lists_2 : cX10_lists.data.toList.drop 48 = dktX10_lists_2 := dk_seg dksX10_lists_1 24 rfl rfl
theorem dksX10_lists_3 : cX10_lists.data.toList.drop 71 = dktX10_lists_3 := dk_seg dksX10_lists_2 23 rfl rfl
theorem dksX10_lists_4 : cX10_lists.data.toList.drop 94 = dktX10_lists_4 := dk_seg dksX10_lists_3 23 rfl rfl
theorem dksX10_lists_5 : cX10_lists.data.toList.drop 118 = dktX10_lists_5 := dk_seg dksX10_lists_4 24 rfl rfl
theorem dksX10_lists_6 : cX10_lists.data.toList.drop 142 = dktX10_lists_6 := dk_seg dksX10_lists_5 24 rfl rfl
theorem dksX10_lists_7 : cX10_lists.data.toList.drop 164 = dktX10_lists_7 := dk_seg dksX10_lists_6 22 rfl rfl
theorem dksX10_lists_8 : cX10_lists.data.toList.drop 188 = dktX10_lists_8 := dk_seg dksX10_lists_7 24 rfl rfl
theorem dksX10_lists_9 : cX10_lists.data.toList.drop 212 = dktX10_lists_9 := dk_seg dksX10_lists_8 24 rfl rfl
theorem dX10_lists_0 : decode cX10_lists 0 = .ok (.aload_n 0, 1) := dk_42 (dk_at dksX10_lists_0 0 rfl rfl)
theorem dX10_lists_1 : decode cX10_lists 1 = .ok (.getfield 7, 3) := dk_180 0 7 (dk_at dksX10_lists_0 1 rfl rfl)
theorem dX10_lists_4 : decode cX10_lists 4 = .ok (.bipush 96, 2) := dk_16 96 (dk_at dksX10_lists_0 4 rfl rfl)
theorem dX10_lists_6 : decode cX10_lists 6 = .ok (.iaload, 1) := dk_46 (dk_at dksX10_lists_0 6 rfl rfl)
theorem dX10_lists_7 : decode cX10_lists 7 = .ok (.istore 4, 2) := dk_54 4 (dk_at dksX10_lists_0 7 rfl rfl)
theorem dX10_lists_9 : decode cX10_lists 9 = .ok (.iload 4, 2) := dk_21 4 (dk_at dksX10_lists_0 9 rfl rfl)
theorem dX10_lists_11 : decode cX10_lists 11 = .ok (.ifCond .le 26, 3) := dk_158 0 26 (dk_at dksX10_lists_0 11 rfl rfl)
theorem dX10_lists_14 : decode cX10_lists 14 = .ok (.aload_n 0, 1) := dk_42 (dk_at dksX10_lists_0 14 rfl rfl)
theorem dX10_lists_15 : decode cX10_lists 15 = .ok (.getfield 13, 3) := dk_180 0 13 (dk_at dksX10_lists_0 15 rfl rfl)
theorem dX10_lists_18 : decode cX10_lists 18 = .ok (.bipush 28, 2) := dk_16 28 (dk_at dksX10_lists_0 18 rfl rfl)
theorem dX10_lists_20 : decode cX10_lists 20 = .ok (.iload 4, 2) := dk_21 4 (dk_at dksX10_lists_0 20 rfl rfl)
theorem dX10_lists_22 : decode cX10_lists 22 = .ok (.iadd, 1) := dk_96 (dk_at dksX10_lists_0 22 rfl rfl)
theorem dX10_lists_23 : decode cX10_lists 23 = .ok (.iconst 1, 1) := dk_4 (dk_at dksX10_lists_0 23 rfl rfl)
theorem dX10_lists_24 : decode cX10_lists 24 = .ok (.isub, 1) := dk_100 (dk_at dksX10_lists_1 0 rfl rfl)
theorem dX10_lists_25 : decode cX10_lists 25 = .ok (.faload, 1) := dk_48 (dk_at dksX10_lists_1 1 rfl rfl)
theorem dX10_lists_26 : decode cX10_lists 26 = .ok (.fload_n 3, 1) := dk_37 (dk_at dksX10_lists_1 2 rfl rfl)
theorem dX10_lists_27 : decode cX10_lists 27 = .ok (.fcmp .g, 1) := dk_150 (dk_at dksX10_lists_1 3 rfl rfl)
theorem dX10_lists_28 : decode cX10_lists 28 = .ok (.ifCond .ge 9, 3) := dk_156 0 9 (dk_at dksX10_lists_1 4 rfl rfl)
theorem dX10_lists_31 : decode cX10_lists 31 = .ok (.iinc 4 (-1), 3) := dk_132 4 255 (dk_at dksX10_lists_1 7 rfl rfl)
theorem dX10_lists_34 : decode cX10_lists 34 = .ok (.goto (-25), 3) := dk_167 255 231 (dk_at dksX10_lists_1 10 rfl rfl)
theorem dX10_lists_37 : decode cX10_lists 37 = .ok (.iload 4, 2) := dk_21 4 (dk_at dksX10_lists_1 13 rfl rfl)
theorem dX10_lists_39 : decode cX10_lists 39 = .ok (.iconst 5, 1) := dk_8 (dk_at dksX10_lists_1 15 rfl rfl)
theorem dX10_lists_40 : decode cX10_lists 40 = .ok (.if_icmp .ne 4, 3) := dk_160 0 4 (dk_at dksX10_lists_1 16 rfl rfl)
theorem dX10_lists_43 : decode cX10_lists 43 = .ok (.return_, 1) := dk_177 (dk_at dksX10_lists_1 19 rfl rfl)
theorem dX10_lists_44 : decode cX10_lists 44 = .ok (.aload_n 0, 1) := dk_42 (dk_at dksX10_lists_1 20 rfl rfl)
theorem dX10_lists_45 : decode cX10_lists 45 = .ok (.getfield 7, 3) := dk_180 0 7 (dk_at dksX10_lists_1 21 rfl rfl)
theorem dX10_lists_48 : decode cX10_lists 48 = .ok (.bipush 96, 2) := dk_16 96 (dk_at dksX10_lists_2 0 rfl rfl)
theorem dX10_lists_50 : decode cX10_lists 50 = .ok (.dup2, 1) := dk_92 (dk_at dksX10_lists_2 2 rfl rfl)
theorem dX10_lists_51 : decode cX10_lists 51 = .ok (.iaload, 1) := dk_46 (dk_at dksX10_lists_2 3 rfl rfl)
theorem dX10_lists_52 : decode cX10_lists 52 = .ok (.aload_n 0, 1) := dk_42 (dk_at dksX10_lists_2 4 rfl rfl)
theorem dX10_lists_53 : decode cX10_lists 53 = .ok (.getfield 7, 3) := dk_180 0 7 (dk_at dksX10_lists_2 5 rfl rfl)
theorem dX10_lists_56 : decode cX10_lists 56 = .ok (.bipush 96, 2) := dk_16 96 (dk_at dksX10_lists_2 8 rfl rfl)
theorem dX10_lists_58 : decode cX10_lists 58 = .ok (.iaload, 1) := dk_46 (dk_at dksX10_lists_2 10 rfl rfl)
theorem dX10_lists_59 : decode cX10_lists 59 = .ok (.iconst 5, 1) := dk_8 (dk_at dksX10_lists_2 11 rfl rfl)
theorem dX10_lists_60 : decode cX10_lists 60 = .ok (.if_icmp .ge 7, 3) := dk_162 0 7 (dk_at dksX10_lists_2 12 rfl rfl)
theorem dX10_lists_63 : decode cX10_lists 63 = .ok (.iconst 1, 1) := dk_4 (dk_at dksX10_lists_2 15 rfl rfl)
theorem dX10_lists_64 : decode cX10_lists 64 = .ok (.goto 4, 3) := dk_167 0 4 (dk_at dksX10_lists_2 16 rfl rfl)
theorem dX10_lists_67 : decode cX10_lists 67 = .ok (.iconst 0, 1) := dk_3 (dk_at dksX10_lists_2 19 rfl rfl)
theorem dX10_lists_68 : decode cX10_lists 68 = .ok (.iadd, 1) := dk_96 (dk_at dksX10_lists_2 20 rfl rfl)
theorem dX10_lists_69 : decode cX10_lists 69 = .ok (.iastore, 1) := dk_79 (dk_at dksX10_lists_2 21 rfl rfl)
theorem dX10_lists_70 : decode cX10_lists 70 = .ok (.aload_n 0, 1) := dk_42 (dk_at dksX10_lists_2 22 rfl rfl)
theorem dX10_lists_71 : decode cX10_lists 71 = .ok (.getfield 7, 3) := dk_180 0 7 (dk_at dksX10_lists_3 0 rfl rfl)
theorem dX10_lists_74 : decode cX10_lists 74 = .ok (.bipush 96, 2) := dk_16 96 (dk_at dksX10_lists_3 3 rfl rfl)
theorem dX10_lists_76 : decode cX10_lists 76 = .ok (.iaload, 1) := dk_46 (dk_at dksX10_lists_3 5 rfl rfl)
theorem dX10_lists_77 : decode cX10_lists 77 = .ok (.iconst 1, 1) := dk_4 (dk_at dksX10_lists_3 6 rfl rfl)
theorem dX10_lists_78 : decode cX10_lists 78 = .ok (.isub, 1) := dk_100 (dk_at dksX10_lists_3 7 rfl rfl)
theorem dX10_lists_79 : decode cX10_lists 79 = .ok (.istore 5, 2) := dk_54 5 (dk_at dksX10_lists_3 8 rfl rfl)
theorem dX10_lists_81 : decode cX10_lists 81 = .ok (.iload 5, 2) := dk_21 5 (dk_at dksX10_lists_3 10 rfl rfl)
theorem dX10_lists_83 : decode cX10_lists 83 = .ok (.iload 4, 2) := dk_21 4 (dk_at dksX10_lists_3 12 rfl rfl)
theorem dX10_lists_85 : decode cX10_lists 85 = .ok (.if_icmp .le 97, 3) := dk_164 0 97 (dk_at dksX10_lists_3 14 rfl rfl)
theorem dX10_lists_88 : decode cX10_lists 88 = .ok (.aload_n 0, 1) := dk_42 (dk_at dksX10_lists_3 17 rfl rfl)
theorem dX10_lists_89 : decode cX10_lists 89 = .ok (.getfield 7, 3) := dk_180 0 7 (dk_at dksX10_lists_3 18 rfl rfl)
theorem dX10_lists_92 : decode cX10_lists 92 = .ok (.bipush 97, 2) := dk_16 97 (dk_at dksX10_lists_3 21 rfl rfl)
theorem dX10_lists_94 : decode cX10_lists 94 = .ok (.iload 5, 2) := dk_21 5 (dk_at dksX10_lists_4 0 rfl rfl)
theorem dX10_lists_96 : decode cX10_lists 96 = .ok (.iadd, 1) := dk_96 (dk_at dksX10_lists_4 2 rfl rfl)
theorem dX10_lists_97 : decode cX10_lists 97 = .ok (.aload_n 0, 1) := dk_42 (dk_at dksX10_lists_4 3 rfl rfl)
theorem dX10_lists_98 : decode cX10_lists 98 = .ok (.getfield 7, 3) := dk_180 0 7 (dk_at dksX10_lists_4 4 rfl rfl)
theorem dX10_lists_101 : decode cX10_lists 101 = .ok (.bipush 97, 2) := dk_16 97 (dk_at dksX10_lists_4 7 rfl rfl)
theorem dX10_lists_103 : decode cX10_lists 103 = .ok (.iload 5, 2) := dk_21 5 (dk_at dksX10_lists_4 9 rfl rfl)
theorem dX10_lists_105 : decode cX10_lists 105 = .ok (.iadd, 1) := dk_96 (dk_at dksX10_lists_4 11 rfl rfl)
theorem dX10_lists_106 : decode cX10_lists 106 = .ok (.iconst 1, 1) := dk_4 (dk_at dksX10_lists_4 12 rfl rfl)
theorem dX10_lists_107 : decode cX10_lists 107 = .ok (.isub, 1) := dk_100 (dk_at dksX10_lists_4 13 rfl rfl)
theorem dX10_lists_108 : decode cX10_lists 108 = .ok (.iaload, 1) := dk_46 (dk_at dksX10_lists_4 14 rfl rfl)
theorem dX10_lists_109 : decode cX10_lists 109 = .ok (.iastore, 1) := dk_79 (dk_at dksX10_lists_4 15 rfl rfl)
theorem dX10_lists_110 : decode cX10_lists 110 = .ok (.aload_n 0, 1) := dk_42 (dk_at dksX10_lists_4 16 rfl rfl)
theorem dX10_lists_111 : decode cX10_lists 111 = .ok (.getfield 7, 3) := dk_180 0 7 (dk_at dksX10_lists_4 17 rfl rfl)
theorem dX10_lists_114 : decode cX10_lists 114 = .ok (.bipush 102, 2) := dk_16 102 (dk_at dksX10_lists_4 20 rfl rfl)
theorem dX10_lists_116 : decode cX10_lists 116 = .ok (.iload 5, 2) := dk_21 5 (dk_at dksX10_lists_4 22 rfl rfl)
theorem dX10_lists_118 : decode cX10_lists 118 = .ok (.iadd, 1) := dk_96 (dk_at dksX10_lists_5 0 rfl rfl)
theorem dX10_lists_119 : decode cX10_lists 119 = .ok (.aload_n 0, 1) := dk_42 (dk_at dksX10_lists_5 1 rfl rfl)
theorem dX10_lists_120 : decode cX10_lists 120 = .ok (.getfield 7, 3) := dk_180 0 7 (dk_at dksX10_lists_5 2 rfl rfl)
theorem dX10_lists_123 : decode cX10_lists 123 = .ok (.bipush 102, 2) := dk_16 102 (dk_at dksX10_lists_5 5 rfl rfl)
theorem dX10_lists_125 : decode cX10_lists 125 = .ok (.iload 5, 2) := dk_21 5 (dk_at dksX10_lists_5 7 rfl rfl)
theorem dX10_lists_127 : decode cX10_lists 127 = .ok (.iadd, 1) := dk_96 (dk_at dksX10_lists_5 9 rfl rfl)
theorem dX10_lists_128 : decode cX10_lists 128 = .ok (.iconst 1, 1) := dk_4 (dk_at dksX10_lists_5 10 rfl rfl)
theorem dX10_lists_129 : decode cX10_lists 129 = .ok (.isub, 1) := dk_100 (dk_at dksX10_lists_5 11 rfl rfl)
theorem dX10_lists_130 : decode cX10_lists 130 = .ok (.iaload, 1) := dk_46 (dk_at dksX10_lists_5 12 rfl rfl)
theorem dX10_lists_131 : decode cX10_lists 131 = .ok (.iastore, 1) := dk_79 (dk_at dksX10_lists_5 13 rfl rfl)
theorem dX10_lists_132 : decode cX10_lists 132 = .ok (.aload_n 0, 1) := dk_42 (dk_at dksX10_lists_5 14 rfl rfl)
theorem dX10_lists_133 : decode cX10_lists 133 = .ok (.getfield 7, 3) := dk_180 0 7 (dk_at dksX10_lists_5 15 rfl rfl)
theorem dX10_lists_136 : decode cX10_lists 136 = .ok (.bipush 107, 2) := dk_16 107 (dk_at dksX10_lists_5 18 rfl rfl)
theorem dX10_lists_138 : decode cX10_lists 138 = .ok (.iload 5, 2) := dk_21 5 (dk_at dksX10_lists_5 20 rfl rfl)
theorem dX10_lists_140 : decode cX10_lists 140 = .ok (.iadd, 1) := dk_96 (dk_at dksX10_lists_5 22 rfl rfl)
theorem dX10_lists_141 : decode cX10_lists 141 = .ok (.aload_n 0, 1) := dk_42 (dk_at dksX10_lists_5 23 rfl rfl)
theorem dX10_lists_142 : decode cX10_lists 142 = .ok (.getfield 7, 3) := dk_180 0 7 (dk_at dksX10_lists_6 0 rfl rfl)
theorem dX10_lists_145 : decode cX10_lists 145 = .ok (.bipush 107, 2) := dk_16 107 (dk_at dksX10_lists_6 3 rfl rfl)
theorem dX10_lists_147 : decode cX10_lists 147 = .ok (.iload 5, 2) := dk_21 5 (dk_at dksX10_lists_6 5 rfl rfl)
theorem dX10_lists_149 : decode cX10_lists 149 = .ok (.iadd, 1) := dk_96 (dk_at dksX10_lists_6 7 rfl rfl)
theorem dX10_lists_150 : decode cX10_lists 150 = .ok (.iconst 1, 1) := dk_4 (dk_at dksX10_lists_6 8 rfl rfl)
theorem dX10_lists_151 : decode cX10_lists 151 = .ok (.isub, 1) := dk_100 (dk_at dksX10_lists_6 9 rfl rfl)
theorem dX10_lists_152 : decode cX10_lists 152 = .ok (.iaload, 1) := dk_46 (dk_at dksX10_lists_6 10 rfl rfl)
theorem dX10_lists_153 : decode cX10_lists 153 = .ok (.iastore, 1) := dk_79 (dk_at dksX10_lists_6 11 rfl rfl)
theorem dX10_lists_154 : decode cX10_lists 154 = .ok (.aload_n 0, 1) := dk_42 (dk_at dksX10_lists_6 12 rfl rfl)
theorem dX10_lists_155 : decode cX10_lists 155 = .ok (.getfield 13, 3) := dk_180 0 13 (dk_at dksX10_lists_6 13 rfl rfl)
theorem dX10_lists_158 : decode cX10_lists 158 = .ok (.bipush 28, 2) := dk_16 28 (dk_at dksX10_lists_6 16 rfl rfl)
theorem dX10_lists_160 : decode cX10_lists 160 = .ok (.iload 5, 2) := dk_21 5 (dk_at dksX10_lists_6 18 rfl rfl)
theorem dX10_lists_162 : decode cX10_lists 162 = .ok (.iadd, 1) := dk_96 (dk_at dksX10_lists_6 20 rfl rfl)
theorem dX10_lists_163 : decode cX10_lists 163 = .ok (.aload_n 0, 1) := dk_42 (dk_at dksX10_lists_6 21 rfl rfl)
theorem dX10_lists_164 : decode cX10_lists 164 = .ok (.getfield 13, 3) := dk_180 0 13 (dk_at dksX10_lists_7 0 rfl rfl)
theorem dX10_lists_167 : decode cX10_lists 167 = .ok (.bipush 28, 2) := dk_16 28 (dk_at dksX10_lists_7 3 rfl rfl)
theorem dX10_lists_169 : decode cX10_lists 169 = .ok (.iload 5, 2) := dk_21 5 (dk_at dksX10_lists_7 5 rfl rfl)
theorem dX10_lists_171 : decode cX10_lists 171 = .ok (.iadd, 1) := dk_96 (dk_at dksX10_lists_7 7 rfl rfl)
theorem dX10_lists_172 : decode cX10_lists 172 = .ok (.iconst 1, 1) := dk_4 (dk_at dksX10_lists_7 8 rfl rfl)
theorem dX10_lists_173 : decode cX10_lists 173 = .ok (.isub, 1) := dk_100 (dk_at dksX10_lists_7 9 rfl rfl)
theorem dX10_lists_174 : decode cX10_lists 174 = .ok (.faload, 1) := dk_48 (dk_at dksX10_lists_7 10 rfl rfl)
theorem dX10_lists_175 : decode cX10_lists 175 = .ok (.fastore, 1) := dk_81 (dk_at dksX10_lists_7 11 rfl rfl)
theorem dX10_lists_176 : decode cX10_lists 176 = .ok (.iinc 5 (-1), 3) := dk_132 5 255 (dk_at dksX10_lists_7 12 rfl rfl)
theorem dX10_lists_179 : decode cX10_lists 179 = .ok (.goto (-98), 3) := dk_167 255 158 (dk_at dksX10_lists_7 15 rfl rfl)
theorem dX10_lists_182 : decode cX10_lists 182 = .ok (.aload_n 0, 1) := dk_42 (dk_at dksX10_lists_7 18 rfl rfl)
theorem dX10_lists_183 : decode cX10_lists 183 = .ok (.getfield 7, 3) := dk_180 0 7 (dk_at dksX10_lists_7 19 rfl rfl)
theorem dX10_lists_186 : decode cX10_lists 186 = .ok (.bipush 97, 2) := dk_16 97 (dk_at dksX10_lists_7 22 rfl rfl)
theorem dX10_lists_188 : decode cX10_lists 188 = .ok (.iload 4, 2) := dk_21 4 (dk_at dksX10_lists_8 0 rfl rfl)
theorem dX10_lists_190 : decode cX10_lists 190 = .ok (.iadd, 1) := dk_96 (dk_at dksX10_lists_8 2 rfl rfl)
theorem dX10_lists_191 : decode cX10_lists 191 = .ok (.iload_n 1, 1) := dk_27 (dk_at dksX10_lists_8 3 rfl rfl)
theorem dX10_lists_192 : decode cX10_lists 192 = .ok (.iastore, 1) := dk_79 (dk_at dksX10_lists_8 4 rfl rfl)
theorem dX10_lists_193 : decode cX10_lists 193 = .ok (.aload_n 0, 1) := dk_42 (dk_at dksX10_lists_8 5 rfl rfl)
theorem dX10_lists_194 : decode cX10_lists 194 = .ok (.getfield 7, 3) := dk_180 0 7 (dk_at dksX10_lists_8 6 rfl rfl)
theorem dX10_lists_197 : decode cX10_lists 197 = .ok (.bipush 102, 2) := dk_16 102 (dk_at dksX10_lists_8 9 rfl rfl)
theorem dX10_lists_199 : decode cX10_lists 199 = .ok (.iload 4, 2) := dk_21 4 (dk_at dksX10_lists_8 11 rfl rfl)
theorem dX10_lists_201 : decode cX10_lists 201 = .ok (.iadd, 1) := dk_96 (dk_at dksX10_lists_8 13 rfl rfl)
theorem dX10_lists_202 : decode cX10_lists 202 = .ok (.iload_n 2, 1) := dk_28 (dk_at dksX10_lists_8 14 rfl rfl)
theorem dX10_lists_203 : decode cX10_lists 203 = .ok (.iastore, 1) := dk_79 (dk_at dksX10_lists_8 15 rfl rfl)
theorem dX10_lists_204 : decode cX10_lists 204 = .ok (.aload_n 0, 1) := dk_42 (dk_at dksX10_lists_8 16 rfl rfl)
theorem dX10_lists_205 : decode cX10_lists 205 = .ok (.getfield 7, 3) := dk_180 0 7 (dk_at dksX10_lists_8 17 rfl rfl)
theorem dX10_lists_208 : decode cX10_lists 208 = .ok (.bipush 107, 2) := dk_16 107 (dk_at dksX10_lists_8 20 rfl rfl)
theorem dX10_lists_210 : decode cX10_lists 210 = .ok (.iload 4, 2) := dk_21 4 (dk_at dksX10_lists_8 22 rfl rfl)
theorem dX10_lists_212 : decode cX10_lists 212 = .ok (.iadd, 1) := dk_96 (dk_at dksX10_lists_9 0 rfl rfl)
theorem dX10_lists_213 : decode cX10_lists 213 = .ok (.aload_n 0, 1) := dk_42 (dk_at dksX10_lists_9 1 rfl rfl)
theorem dX10_lists_214 : decode cX10_lists 214 = .ok (.getfield 7, 3) := dk_180 0 7 (dk_at dksX10_lists_9 2 rfl rfl)
theorem dX10_lists_217 : decode cX10_lists 217 = .ok (.iconst 0, 1) := dk_3 (dk_at dksX10_lists_9 5 rfl rfl)
theorem dX10_lists_218 : decode cX10_lists 218 = .ok (.iaload, 1) := dk_46 (dk_at dksX10_lists_9 6 rfl rfl)
theorem dX10_lists_219 : decode cX10_lists 219 = .ok (.iastore, 1) := dk_79 (dk_at dksX10_lists_9 7 rfl rfl)
theorem dX10_lists_220 : decode cX10_lists 220 = .ok (.aload_n 0, 1) := dk_42 (dk_at dksX10_lists_9 8 rfl rfl)
theorem dX10_lists_221 : decode cX10_lists 221 = .ok (.getfield 13, 3) := dk_180 0 13 (dk_at dksX10_lists_9 9 rfl rfl)
theorem dX10_lists_224 : decode cX10_lists 224 = .ok (.bipush 28, 2) := dk_16 28 (dk_at dksX10_lists_9 12 rfl rfl)
theorem dX10_lists_226 : decode cX10_lists 226 = .ok (.iload 4, 2) := dk_21 4 (dk_at dksX10_lists_9 14 rfl rfl)
theorem dX10_lists_228 : decode cX10_lists 228 = .ok (.iadd, 1) := dk_96 (dk_at dksX10_lists_9 16 rfl rfl)
theorem dX10_lists_229 : decode cX10_lists 229 = .ok (.fload_n 3, 1) := dk_37 (dk_at dksX10_lists_9 17 rfl rfl)
theorem dX10_lists_230 : decode cX10_lists 230 = .ok (.fastore, 1) := dk_81 (dk_at dksX10_lists_9 18 rfl rfl)
theorem dX10_lists_231 : decode cX10_lists 231 = .ok (.return_, 1) := dk_177 (dk_at dksX10_lists_9 19 rfl rfl)
abbrev cX10_prize : ByteArray := prog_13_method_45_code
def yX10_prize : MethodName := ⟨RX10, "prize", "(II)I"⟩
def dkwX10_prize_4 : List UInt8 := [180, 0, 7, 16, 107, 27, 96, 46, 182, 0, 85, 172, 42, 5, 182, 0, 81, 172]
abbrev dktX10_prize_4 : List UInt8 := dkwX10_prize_4 ++ []
def dkwX10_prize_3 : List UInt8 := [182, 0, 85, 172, 42, 42, 180, 0, 13, 16, 28, 27, 96, 48, 184, 0, 140, 182, 0, 85, 172, 42, 42]
abbrev dktX10_prize_3 : List UInt8 := dkwX10_prize_3 ++ dktX10_prize_4
def dkwX10_prize_2 : List UInt8 := [42, 42, 180, 0, 7, 16, 97, 27, 96, 46, 182, 0, 85, 172, 42, 42, 180, 0, 7, 16, 102, 27, 96, 46]
abbrev dktX10_prize_2 : List UInt8 := dkwX10_prize_2 ++ dktX10_prize_3
def dkwX10_prize_1 : List UInt8 := [170, 0, 0, 0, 0, 0, 0, 91, 0, 0, 0, 0, 0, 0, 0, 3, 0, 0, 0, 32, 0, 0, 0, 46, 0, 0, 0, 60, 0, 0, 0, 77]
abbrev dktX10_prize_1 : List UInt8 := dkwX10_prize_1 ++ dktX10_prize_2
def dkwX10_prize_0 : List UInt8 := [27, 3, 42, 180, 0, 7, 16, 96, 46, 4, 100, 184, 0, 77, 154, 0, 9, 42, 4, 182, 0, 81, 172, 28]
abbrev dktX10_prize_0 : List UInt8 := dkwX10_prize_0 ++ dktX10_prize_1
theorem dksX10_prize_0 : cX10_prize.data.toList.drop 0 = dktX10_prize_0 := by decide +kernel
theorem dksX10_prize_1 : cX10_prize.data.toList.drop 24 = dktX10_prize_1 := dk_seg dksX10_prize_0 24 rfl rfl
theorem dksX10_prize_2 : cX10_prize.data.toList.drop 56 = dktX10_prize_2 := dk_seg dksX10_prize_1 32 rfl rfl
theorem dksX10_prize_3 : cX10_prize.data.toList.drop 80 = dktX10_prize_3 := dk_seg dksX10_prize_2 24 rfl rfl
theorem dksX10_prize_4 : cX10_prize.data.toList.drop 103 = dktX10_prize_4 := dk_seg dksX10_prize_3 23 rfl rfl
theorem dX10_prize_0 : decode cX10_prize 0 = .ok (.iload_n 1, 1) := dk_27 (dk_at dksX10_prize_0 0 rfl rfl)
theorem dX10_prize_1 : decode cX10_prize 1 = .ok (.iconst 0, 1) := dk_3 (dk_at dksX10_prize_0 1 rfl rfl)
theorem dX10_prize_2 : decode cX10_prize 2 = .ok (.aload_n 0, 1) := dk_42 (dk_at dksX10_prize_0 2 rfl rfl)
theorem dX10_prize_3 : decode cX10_prize 3 = .ok (.getfield 7, 3) := dk_180 0 7 (dk_at dksX10_prize_0 3 rfl rfl)
theorem dX10_prize_6 : decode cX10_prize 6 = .ok (.bipush 96, 2) := dk_16 96 (dk_at dksX10_prize_0 6 rfl rfl)
theorem dX10_prize_8 : decode cX10_prize 8 = .ok (.iaload, 1) := dk_46 (dk_at dksX10_prize_0 8 rfl rfl)
theorem dX10_prize_9 : decode cX10_prize 9 = .ok (.iconst 1, 1) := dk_4 (dk_at dksX10_prize_0 9 rfl rfl)
theorem dX10_prize_10 : decode cX10_prize 10 = .ok (.isub, 1) := dk_100 (dk_at dksX10_prize_0 10 rfl rfl)
theorem dX10_prize_11 : decode cX10_prize 11 = .ok (.invokestatic 77, 3) := dk_184 0 77 (dk_at dksX10_prize_0 11 rfl rfl)
theorem dX10_prize_14 : decode cX10_prize 14 = .ok (.ifCond .ne 9, 3) := dk_154 0 9 (dk_at dksX10_prize_0 14 rfl rfl)
theorem dX10_prize_17 : decode cX10_prize 17 = .ok (.aload_n 0, 1) := dk_42 (dk_at dksX10_prize_0 17 rfl rfl)
theorem dX10_prize_18 : decode cX10_prize 18 = .ok (.iconst 1, 1) := dk_4 (dk_at dksX10_prize_0 18 rfl rfl)
theorem dX10_prize_19 : decode cX10_prize 19 = .ok (.invokevirtual 81, 3) := dk_182 0 81 (dk_at dksX10_prize_0 19 rfl rfl)
theorem dX10_prize_22 : decode cX10_prize 22 = .ok (.ireturn, 1) := dk_172 (dk_at dksX10_prize_0 22 rfl rfl)
theorem dX10_prize_23 : decode cX10_prize 23 = .ok (.iload_n 2, 1) := dk_28 (dk_at dksX10_prize_0 23 rfl rfl)
theorem dX10_prize_24 : decode cX10_prize 24 = .ok (.tableswitch 91 0 3 #[32, 46, 60, 77], 32) := by decide +kernel
theorem dX10_prize_56 : decode cX10_prize 56 = .ok (.aload_n 0, 1) := dk_42 (dk_at dksX10_prize_2 0 rfl rfl)
theorem dX10_prize_57 : decode cX10_prize 57 = .ok (.aload_n 0, 1) := dk_42 (dk_at dksX10_prize_2 1 rfl rfl)
theorem dX10_prize_58 : decode cX10_prize 58 = .ok (.getfield 7, 3) := dk_180 0 7 (dk_at dksX10_prize_2 2 rfl rfl)
theorem dX10_prize_61 : decode cX10_prize 61 = .ok (.bipush 97, 2) := dk_16 97 (dk_at dksX10_prize_2 5 rfl rfl)
theorem dX10_prize_63 : decode cX10_prize 63 = .ok (.iload_n 1, 1) := dk_27 (dk_at dksX10_prize_2 7 rfl rfl)
theorem dX10_prize_64 : decode cX10_prize 64 = .ok (.iadd, 1) := dk_96 (dk_at dksX10_prize_2 8 rfl rfl)
theorem dX10_prize_65 : decode cX10_prize 65 = .ok (.iaload, 1) := dk_46 (dk_at dksX10_prize_2 9 rfl rfl)
theorem dX10_prize_66 : decode cX10_prize 66 = .ok (.invokevirtual 85, 3) := dk_182 0 85 (dk_at dksX10_prize_2 10 rfl rfl)
theorem dX10_prize_69 : decode cX10_prize 69 = .ok (.ireturn, 1) := dk_172 (dk_at dksX10_prize_2 13 rfl rfl)
theorem dX10_prize_70 : decode cX10_prize 70 = .ok (.aload_n 0, 1) := dk_42 (dk_at dksX10_prize_2 14 rfl rfl)
theorem dX10_prize_71 : decode cX10_prize 71 = .ok (.aload_n 0, 1) := dk_42 (dk_at dksX10_prize_2 15 rfl rfl)
theorem dX10_prize_72 : decode cX10_prize 72 = .ok (.getfield 7, 3) := dk_180 0 7 (dk_at dksX10_prize_2 16 rfl rfl)
theorem dX10_prize_75 : decode cX10_prize 75 = .ok (.bipush 102, 2) := dk_16 102 (dk_at dksX10_prize_2 19 rfl rfl)
theorem dX10_prize_77 : decode cX10_prize 77 = .ok (.iload_n 1, 1) := dk_27 (dk_at dksX10_prize_2 21 rfl rfl)
theorem dX10_prize_78 : decode cX10_prize 78 = .ok (.iadd, 1) := dk_96 (dk_at dksX10_prize_2 22 rfl rfl)
theorem dX10_prize_79 : decode cX10_prize 79 = .ok (.iaload, 1) := dk_46 (dk_at dksX10_prize_2 23 rfl rfl)
theorem dX10_prize_80 : decode cX10_prize 80 = .ok (.invokevirtual 85, 3) := dk_182 0 85 (dk_at dksX10_prize_3 0 rfl rfl)
theorem dX10_prize_83 : decode cX10_prize 83 = .ok (.ireturn, 1) := dk_172 (dk_at dksX10_prize_3 3 rfl rfl)
theorem dX10_prize_84 : decode cX10_prize 84 = .ok (.aload_n 0, 1) := dk_42 (dk_at dksX10_prize_3 4 rfl rfl)
theorem dX10_prize_85 : decode cX10_prize 85 = .ok (.aload_n 0, 1) := dk_42 (dk_at dksX10_prize_3 5 rfl rfl)
theorem dX10_prize_86 : decode cX10_prize 86 = .ok (.getfield 13, 3) := dk_180 0 13 (dk_at dksX10_prize_3 6 rfl rfl)
theorem dX10_prize_89 : decode cX10_prize 89 = .ok (.bipush 28, 2) := dk_16 28 (dk_at dksX10_prize_3 9 rfl rfl)
theorem dX10_prize_91 : decode cX10_prize 91 = .ok (.iload_n 1, 1) := dk_27 (dk_at dksX10_prize_3 11 rfl rfl)
theorem dX10_prize_92 : decode cX10_prize 92 = .ok (.iadd, 1) := dk_96 (dk_at dksX10_prize_3 12 rfl rfl)
theorem dX10_prize_93 : decode cX10_prize 93 = .ok (.faload, 1) := dk_48 (dk_at dksX10_prize_3 13 rfl rfl)
theorem dX10_prize_94 : decode cX10_prize 94 = .ok (.invokestatic 140, 3) := dk_184 0 140 (dk_at dksX10_prize_3 14 rfl rfl)
theorem dX10_prize_97 : decode cX10_prize 97 = .ok (.invokevirtual 85, 3) := dk_182 0 85 (dk_at dksX10_prize_3 17 rfl rfl)
theorem dX10_prize_100 : decode cX10_prize 100 = .ok (.ireturn, 1) := dk_172 (dk_at dksX10_prize_3 20 rfl rfl)
theorem dX10_prize_101 : decode cX10_prize 101 = .ok (.aload_n 0, 1) := dk_42 (dk_at dksX10_prize_3 21 rfl rfl)
theorem dX10_prize_102 : decode cX10_prize 102 = .ok (.aload_n 0, 1) := dk_42 (dk_at dksX10_prize_3 22 rfl rfl)
theorem dX10_prize_103 : decode cX10_prize 103 = .ok (.getfield 7, 3) := dk_180 0 7 (dk_at dksX10_prize_4 0 rfl rfl)
theorem dX10_prize_106 : decode cX10_prize 106 = .ok (.bipush 107, 2) := dk_16 107 (dk_at dksX10_prize_4 3 rfl rfl)
theorem dX10_prize_108 : decode cX10_prize 108 = .ok (.iload_n 1, 1) := dk_27 (dk_at dksX10_prize_4 5 rfl rfl)
theorem dX10_prize_109 : decode cX10_prize 109 = .ok (.iadd, 1) := dk_96 (dk_at dksX10_prize_4 6 rfl rfl)
theorem dX10_prize_110 : decode cX10_prize 110 = .ok (.iaload, 1) := dk_46 (dk_at dksX10_prize_4 7 rfl rfl)
theorem dX10_prize_111 : decode cX10_prize 111 = .ok (.invokevirtual 85, 3) := dk_182 0 85 (dk_at dksX10_prize_4 8 rfl rfl)
theorem dX10_prize_114 : decode cX10_prize 114 = .ok (.ireturn, 1) := dk_172 (dk_at dksX10_prize_4 11 rfl rfl)
theorem dX10_prize_115 : decode cX10_prize 115 = .ok (.aload_n 0, 1) := dk_42 (dk_at dksX10_prize_4 12 rfl rfl)
theorem dX10_prize_116 : decode cX10_prize 116 = .ok (.iconst 2, 1) := dk_5 (dk_at dksX10_prize_4 13 rfl rfl)
theorem dX10_prize_117 : decode cX10_prize 117 = .ok (.invokevirtual 81, 3) := dk_182 0 81 (dk_at dksX10_prize_4 14 rfl rfl)
theorem dX10_prize_120 : decode cX10_prize 120 = .ok (.ireturn, 1) := dk_172 (dk_at dksX10_prize_4 17 rfl rfl)
abbrev cX10_shed : ByteArray := prog_13_method_47_code
def yX10_shed : MethodName := ⟨RX10, "shed", "(I)I"⟩
def dkwX10_shed_4 : List UInt8 := [182, 0, 85, 182, 0, 94, 172]
abbrev dktX10_shed_4 : List UInt8 := dkwX10_shed_4 ++ []
def dkwX10_shed_3 : List UInt8 := [180, 0, 7, 16, 89, 28, 96, 4, 79, 42, 180, 0, 7, 16, 80, 92, 46, 4, 96, 79, 42, 42, 28]
abbrev dktX10_shed_3 : List UInt8 := dkwX10_shed_3 ++ dktX10_shed_4
def dkwX10_shed_2 : List UInt8 := [27, 182, 0, 122, 5, 182, 0, 100, 172, 42, 182, 0, 88, 42, 180, 0, 7, 16, 81, 28, 96, 27, 79, 42]
abbrev dktX10_shed_2 : List UInt8 := dkwX10_shed_2 ++ dktX10_shed_3
def dkwX10_shed_1 : List UInt8 := [160, 0, 11, 42, 4, 7, 5, 182, 0, 100, 172, 42, 27, 182, 0, 122, 2, 159, 0, 16, 42, 16, 9, 42]
abbrev dktX10_shed_1 : List UInt8 := dkwX10_shed_1 ++ dktX10_shed_2
def dkwX10_shed_0 : List UInt8 := [27, 184, 0, 108, 154, 0, 9, 42, 4, 182, 0, 81, 172, 42, 180, 0, 7, 16, 80, 46, 61, 28, 7]
abbrev dktX10_shed_0 : List UInt8 := dkwX10_shed_0 ++ dktX10_shed_1
theorem dksX10_shed_0 : cX10_shed.data.toList.drop 0 = dktX10_shed_0 := by decide +kernel
theorem dksX10_shed_1 : cX10_shed.data.toList.drop 23 = dktX10_shed_1 := dk_seg dksX10_shed_0 23 rfl rfl
theorem dksX10_shed_2 : cX10_shed.data.toList.drop 47 = dktX10_shed_2 := dk_seg dksX10_shed_1 24 rfl rfl
theorem dksX10_shed_3 : cX10_shed.data.toList.drop 71 = dktX10_shed_3 := dk_seg dksX10_shed_2 24 rfl rfl
theorem dksX10_shed_4 : cX10_shed.data.toList.drop 94 = dktX10_shed_4 := dk_seg dksX10_shed_3 23 rfl rfl
theorem dX10_shed_0 : decode cX10_shed 0 = .ok (.iload_n 1, 1) := dk_27 (dk_at dksX10_shed_0 0 rfl rfl)
theorem dX10_shed_1 : decode cX10_shed 1 = .ok (.invokestatic 108, 3) := dk_184 0 108 (dk_at dksX10_shed_0 1 rfl rfl)
theorem dX10_shed_4 : decode cX10_shed 4 = .ok (.ifCond .ne 9, 3) := dk_154 0 9 (dk_at dksX10_shed_0 4 rfl rfl)
theorem dX10_shed_7 : decode cX10_shed 7 = .ok (.aload_n 0, 1) := dk_42 (dk_at dksX10_shed_0 7 rfl rfl)
theorem dX10_shed_8 : decode cX10_shed 8 = .ok (.iconst 1, 1) := dk_4 (dk_at dksX10_shed_0 8 rfl rfl)
theorem dX10_shed_9 : decode cX10_shed 9 = .ok (.invokevirtual 81, 3) := dk_182 0 81 (dk_at dksX10_shed_0 9 rfl rfl)
theorem dX10_shed_12 : decode cX10_shed 12 = .ok (.ireturn, 1) := dk_172 (dk_at dksX10_shed_0 12 rfl rfl)
theorem dX10_shed_13 : decode cX10_shed 13 = .ok (.aload_n 0, 1) := dk_42 (dk_at dksX10_shed_0 13 rfl rfl)
theorem dX10_shed_14 : decode cX10_shed 14 = .ok (.getfield 7, 3) := dk_180 0 7 (dk_at dksX10_shed_0 14 rfl rfl)
theorem dX10_shed_17 : decode cX10_shed 17 = .ok (.bipush 80, 2) := dk_16 80 (dk_at dksX10_shed_0 17 rfl rfl)
theorem dX10_shed_19 : decode cX10_shed 19 = .ok (.iaload, 1) := dk_46 (dk_at dksX10_shed_0 19 rfl rfl)
theorem dX10_shed_20 : decode cX10_shed 20 = .ok (.istore_n 2, 1) := dk_61 (dk_at dksX10_shed_0 20 rfl rfl)
theorem dX10_shed_21 : decode cX10_shed 21 = .ok (.iload_n 2, 1) := dk_28 (dk_at dksX10_shed_0 21 rfl rfl)
theorem dX10_shed_22 : decode cX10_shed 22 = .ok (.iconst 4, 1) := dk_7 (dk_at dksX10_shed_0 22 rfl rfl)
theorem dX10_shed_23 : decode cX10_shed 23 = .ok (.if_icmp .ne 11, 3) := dk_160 0 11 (dk_at dksX10_shed_1 0 rfl rfl)
theorem dX10_shed_26 : decode cX10_shed 26 = .ok (.aload_n 0, 1) := dk_42 (dk_at dksX10_shed_1 3 rfl rfl)
theorem dX10_shed_27 : decode cX10_shed 27 = .ok (.iconst 1, 1) := dk_4 (dk_at dksX10_shed_1 4 rfl rfl)
theorem dX10_shed_28 : decode cX10_shed 28 = .ok (.iconst 4, 1) := dk_7 (dk_at dksX10_shed_1 5 rfl rfl)
theorem dX10_shed_29 : decode cX10_shed 29 = .ok (.iconst 2, 1) := dk_5 (dk_at dksX10_shed_1 6 rfl rfl)
theorem dX10_shed_30 : decode cX10_shed 30 = .ok (.invokevirtual 100, 3) := dk_182 0 100 (dk_at dksX10_shed_1 7 rfl rfl)
theorem dX10_shed_33 : decode cX10_shed 33 = .ok (.ireturn, 1) := dk_172 (dk_at dksX10_shed_1 10 rfl rfl)
theorem dX10_shed_34 : decode cX10_shed 34 = .ok (.aload_n 0, 1) := dk_42 (dk_at dksX10_shed_1 11 rfl rfl)
theorem dX10_shed_35 : decode cX10_shed 35 = .ok (.iload_n 1, 1) := dk_27 (dk_at dksX10_shed_1 12 rfl rfl)
theorem dX10_shed_36 : decode cX10_shed 36 = .ok (.invokevirtual 122, 3) := dk_182 0 122 (dk_at dksX10_shed_1 13 rfl rfl)
theorem dX10_shed_39 : decode cX10_shed 39 = .ok (.iconst (-1), 1) := dk_2 (dk_at dksX10_shed_1 16 rfl rfl)
theorem dX10_shed_40 : decode cX10_shed 40 = .ok (.if_icmp .eq 16, 3) := dk_159 0 16 (dk_at dksX10_shed_1 17 rfl rfl)
theorem dX10_shed_43 : decode cX10_shed 43 = .ok (.aload_n 0, 1) := dk_42 (dk_at dksX10_shed_1 20 rfl rfl)
theorem dX10_shed_44 : decode cX10_shed 44 = .ok (.bipush 9, 2) := dk_16 9 (dk_at dksX10_shed_1 21 rfl rfl)
theorem dX10_shed_46 : decode cX10_shed 46 = .ok (.aload_n 0, 1) := dk_42 (dk_at dksX10_shed_1 23 rfl rfl)
theorem dX10_shed_47 : decode cX10_shed 47 = .ok (.iload_n 1, 1) := dk_27 (dk_at dksX10_shed_2 0 rfl rfl)
theorem dX10_shed_48 : decode cX10_shed 48 = .ok (.invokevirtual 122, 3) := dk_182 0 122 (dk_at dksX10_shed_2 1 rfl rfl)
theorem dX10_shed_51 : decode cX10_shed 51 = .ok (.iconst 2, 1) := dk_5 (dk_at dksX10_shed_2 4 rfl rfl)
theorem dX10_shed_52 : decode cX10_shed 52 = .ok (.invokevirtual 100, 3) := dk_182 0 100 (dk_at dksX10_shed_2 5 rfl rfl)
theorem dX10_shed_55 : decode cX10_shed 55 = .ok (.ireturn, 1) := dk_172 (dk_at dksX10_shed_2 8 rfl rfl)
theorem dX10_shed_56 : decode cX10_shed 56 = .ok (.aload_n 0, 1) := dk_42 (dk_at dksX10_shed_2 9 rfl rfl)
theorem dX10_shed_57 : decode cX10_shed 57 = .ok (.invokevirtual 88, 3) := dk_182 0 88 (dk_at dksX10_shed_2 10 rfl rfl)
theorem dX10_shed_60 : decode cX10_shed 60 = .ok (.aload_n 0, 1) := dk_42 (dk_at dksX10_shed_2 13 rfl rfl)
theorem dX10_shed_61 : decode cX10_shed 61 = .ok (.getfield 7, 3) := dk_180 0 7 (dk_at dksX10_shed_2 14 rfl rfl)
theorem dX10_shed_64 : decode cX10_shed 64 = .ok (.bipush 81, 2) := dk_16 81 (dk_at dksX10_shed_2 17 rfl rfl)
theorem dX10_shed_66 : decode cX10_shed 66 = .ok (.iload_n 2, 1) := dk_28 (dk_at dksX10_shed_2 19 rfl rfl)
theorem dX10_shed_67 : decode cX10_shed 67 = .ok (.iadd, 1) := dk_96 (dk_at dksX10_shed_2 20 rfl rfl)
theorem dX10_shed_68 : decode cX10_shed 68 = .ok (.iload_n 1, 1) := dk_27 (dk_at dksX10_shed_2 21 rfl rfl)
theorem dX10_shed_69 : decode cX10_shed 69 = .ok (.iastore, 1) := dk_79 (dk_at dksX10_shed_2 22 rfl rfl)
theorem dX10_shed_70 : decode cX10_shed 70 = .ok (.aload_n 0, 1) := dk_42 (dk_at dksX10_shed_2 23 rfl rfl)
theorem dX10_shed_71 : decode cX10_shed 71 = .ok (.getfield 7, 3) := dk_180 0 7 (dk_at dksX10_shed_3 0 rfl rfl)
theorem dX10_shed_74 : decode cX10_shed 74 = .ok (.bipush 89, 2) := dk_16 89 (dk_at dksX10_shed_3 3 rfl rfl)
theorem dX10_shed_76 : decode cX10_shed 76 = .ok (.iload_n 2, 1) := dk_28 (dk_at dksX10_shed_3 5 rfl rfl)
theorem dX10_shed_77 : decode cX10_shed 77 = .ok (.iadd, 1) := dk_96 (dk_at dksX10_shed_3 6 rfl rfl)
theorem dX10_shed_78 : decode cX10_shed 78 = .ok (.iconst 1, 1) := dk_4 (dk_at dksX10_shed_3 7 rfl rfl)
theorem dX10_shed_79 : decode cX10_shed 79 = .ok (.iastore, 1) := dk_79 (dk_at dksX10_shed_3 8 rfl rfl)
theorem dX10_shed_80 : decode cX10_shed 80 = .ok (.aload_n 0, 1) := dk_42 (dk_at dksX10_shed_3 9 rfl rfl)
theorem dX10_shed_81 : decode cX10_shed 81 = .ok (.getfield 7, 3) := dk_180 0 7 (dk_at dksX10_shed_3 10 rfl rfl)
theorem dX10_shed_84 : decode cX10_shed 84 = .ok (.bipush 80, 2) := dk_16 80 (dk_at dksX10_shed_3 13 rfl rfl)
theorem dX10_shed_86 : decode cX10_shed 86 = .ok (.dup2, 1) := dk_92 (dk_at dksX10_shed_3 15 rfl rfl)
theorem dX10_shed_87 : decode cX10_shed 87 = .ok (.iaload, 1) := dk_46 (dk_at dksX10_shed_3 16 rfl rfl)
theorem dX10_shed_88 : decode cX10_shed 88 = .ok (.iconst 1, 1) := dk_4 (dk_at dksX10_shed_3 17 rfl rfl)
theorem dX10_shed_89 : decode cX10_shed 89 = .ok (.iadd, 1) := dk_96 (dk_at dksX10_shed_3 18 rfl rfl)
theorem dX10_shed_90 : decode cX10_shed 90 = .ok (.iastore, 1) := dk_79 (dk_at dksX10_shed_3 19 rfl rfl)
theorem dX10_shed_91 : decode cX10_shed 91 = .ok (.aload_n 0, 1) := dk_42 (dk_at dksX10_shed_3 20 rfl rfl)
theorem dX10_shed_92 : decode cX10_shed 92 = .ok (.aload_n 0, 1) := dk_42 (dk_at dksX10_shed_3 21 rfl rfl)
theorem dX10_shed_93 : decode cX10_shed 93 = .ok (.iload_n 2, 1) := dk_28 (dk_at dksX10_shed_3 22 rfl rfl)
theorem dX10_shed_94 : decode cX10_shed 94 = .ok (.invokevirtual 85, 3) := dk_182 0 85 (dk_at dksX10_shed_4 0 rfl rfl)
theorem dX10_shed_97 : decode cX10_shed 97 = .ok (.invokevirtual 94, 3) := dk_182 0 94 (dk_at dksX10_shed_4 3 rfl rfl)
theorem dX10_shed_100 : decode cX10_shed 100 = .ok (.ireturn, 1) := dk_172 (dk_at dksX10_shed_4 6 rfl rfl)
abbrev cX10_rope : ByteArray := prog_13_method_48_code
def yX10_rope : MethodName := ⟨RX10, "rope", "(I)I"⟩
def dkwX10_rope_3 : List UInt8 := [92, 46, 4, 96, 79, 42, 42, 42, 180, 0, 7, 16, 85, 27, 96, 46, 182, 0, 85, 182, 0, 94, 172]
abbrev dktX10_rope_3 : List UInt8 := dkwX10_rope_3 ++ []
def dkwX10_rope_2 : List UInt8 := [160, 0, 12, 42, 4, 16, 6, 5, 182, 0, 100, 172, 42, 182, 0, 88, 42, 180, 0, 7, 16, 85, 27, 96]
abbrev dktX10_rope_2 : List UInt8 := dkwX10_rope_2 ++ dktX10_rope_3
def dkwX10_rope_1 : List UInt8 := [154, 0, 12, 42, 16, 10, 27, 5, 182, 0, 100, 172, 42, 180, 0, 7, 16, 85, 27, 96, 46, 16, 6]
abbrev dktX10_rope_1 : List UInt8 := dkwX10_rope_1 ++ dktX10_rope_2
def dkwX10_rope_0 : List UInt8 := [42, 27, 182, 0, 169, 154, 0, 9, 42, 4, 182, 0, 81, 172, 42, 180, 0, 7, 16, 89, 27, 96, 46]
abbrev dktX10_rope_0 : List UInt8 := dkwX10_rope_0 ++ dktX10_rope_1
theorem dksX10_rope_0 : cX10_rope.data.toList.drop 0 = dktX10_rope_0 := by decide +kernel
theorem dksX10_rope_1 : cX10_rope.data.toList.drop 23 = dktX10_rope_1 := dk_seg dksX10_rope_0 23 rfl rfl
theorem dksX10_rope_2 : cX10_rope.data.toList.drop 46 = dktX10_rope_2 := dk_seg dksX10_rope_1 23 rfl rfl
theorem dksX10_rope_3 : cX10_rope.data.toList.drop 70 = dktX10_rope_3 := dk_seg dksX10_rope_2 24 rfl rfl
theorem dX10_rope_0 : decode cX10_rope 0 = .ok (.aload_n 0, 1) := dk_42 (dk_at dksX10_rope_0 0 rfl rfl)
theorem dX10_rope_1 : decode cX10_rope 1 = .ok (.iload_n 1, 1) := dk_27 (dk_at dksX10_rope_0 1 rfl rfl)
theorem dX10_rope_2 : decode cX10_rope 2 = .ok (.invokevirtual 169, 3) := dk_182 0 169 (dk_at dksX10_rope_0 2 rfl rfl)
theorem dX10_rope_5 : decode cX10_rope 5 = .ok (.ifCond .ne 9, 3) := dk_154 0 9 (dk_at dksX10_rope_0 5 rfl rfl)
theorem dX10_rope_8 : decode cX10_rope 8 = .ok (.aload_n 0, 1) := dk_42 (dk_at dksX10_rope_0 8 rfl rfl)
theorem dX10_rope_9 : decode cX10_rope 9 = .ok (.iconst 1, 1) := dk_4 (dk_at dksX10_rope_0 9 rfl rfl)
theorem dX10_rope_10 : decode cX10_rope 10 = .ok (.invokevirtual 81, 3) := dk_182 0 81 (dk_at dksX10_rope_0 10 rfl rfl)
theorem dX10_rope_13 : decode cX10_rope 13 = .ok (.ireturn, 1) := dk_172 (dk_at dksX10_rope_0 13 rfl rfl)
theorem dX10_rope_14 : decode cX10_rope 14 = .ok (.aload_n 0, 1) := dk_42 (dk_at dksX10_rope_0 14 rfl rfl)
theorem dX10_rope_15 : decode cX10_rope 15 = .ok (.getfield 7, 3) := dk_180 0 7 (dk_at dksX10_rope_0 15 rfl rfl)
theorem dX10_rope_18 : decode cX10_rope 18 = .ok (.bipush 89, 2) := dk_16 89 (dk_at dksX10_rope_0 18 rfl rfl)
theorem dX10_rope_20 : decode cX10_rope 20 = .ok (.iload_n 1, 1) := dk_27 (dk_at dksX10_rope_0 20 rfl rfl)
theorem dX10_rope_21 : decode cX10_rope 21 = .ok (.iadd, 1) := dk_96 (dk_at dksX10_rope_0 21 rfl rfl)
theorem dX10_rope_22 : decode cX10_rope 22 = .ok (.iaload, 1) := dk_46 (dk_at dksX10_rope_0 22 rfl rfl)
theorem dX10_rope_23 : decode cX10_rope 23 = .ok (.ifCond .ne 12, 3) := dk_154 0 12 (dk_at dksX10_rope_1 0 rfl rfl)
theorem dX10_rope_26 : decode cX10_rope 26 = .ok (.aload_n 0, 1) := dk_42 (dk_at dksX10_rope_1 3 rfl rfl)
theorem dX10_rope_27 : decode cX10_rope 27 = .ok (.bipush 10, 2) := dk_16 10 (dk_at dksX10_rope_1 4 rfl rfl)
theorem dX10_rope_29 : decode cX10_rope 29 = .ok (.iload_n 1, 1) := dk_27 (dk_at dksX10_rope_1 6 rfl rfl)
theorem dX10_rope_30 : decode cX10_rope 30 = .ok (.iconst 2, 1) := dk_5 (dk_at dksX10_rope_1 7 rfl rfl)
theorem dX10_rope_31 : decode cX10_rope 31 = .ok (.invokevirtual 100, 3) := dk_182 0 100 (dk_at dksX10_rope_1 8 rfl rfl)
theorem dX10_rope_34 : decode cX10_rope 34 = .ok (.ireturn, 1) := dk_172 (dk_at dksX10_rope_1 11 rfl rfl)
theorem dX10_rope_35 : decode cX10_rope 35 = .ok (.aload_n 0, 1) := dk_42 (dk_at dksX10_rope_1 12 rfl rfl)
theorem dX10_rope_36 : decode cX10_rope 36 = .ok (.getfield 7, 3) := dk_180 0 7 (dk_at dksX10_rope_1 13 rfl rfl)
theorem dX10_rope_39 : decode cX10_rope 39 = .ok (.bipush 85, 2) := dk_16 85 (dk_at dksX10_rope_1 16 rfl rfl)
theorem dX10_rope_41 : decode cX10_rope 41 = .ok (.iload_n 1, 1) := dk_27 (dk_at dksX10_rope_1 18 rfl rfl)
theorem dX10_rope_42 : decode cX10_rope 42 = .ok (.iadd, 1) := dk_96 (dk_at dksX10_rope_1 19 rfl rfl)
theorem dX10_rope_43 : decode cX10_rope 43 = .ok (.iaload, 1) := dk_46 (dk_at dksX10_rope_1 20 rfl rfl)
theorem dX10_rope_44 : decode cX10_rope 44 = .ok (.bipush 6, 2) := dk_16 6 (dk_at dksX10_rope_1 21 rfl rfl)
theorem dX10_rope_46 : decode cX10_rope 46 = .ok (.if_icmp .ne 12, 3) := dk_160 0 12 (dk_at dksX10_rope_2 0 rfl rfl)
theorem dX10_rope_49 : decode cX10_rope 49 = .ok (.aload_n 0, 1) := dk_42 (dk_at dksX10_rope_2 3 rfl rfl)
theorem dX10_rope_50 : decode cX10_rope 50 = .ok (.iconst 1, 1) := dk_4 (dk_at dksX10_rope_2 4 rfl rfl)
theorem dX10_rope_51 : decode cX10_rope 51 = .ok (.bipush 6, 2) := dk_16 6 (dk_at dksX10_rope_2 5 rfl rfl)
theorem dX10_rope_53 : decode cX10_rope 53 = .ok (.iconst 2, 1) := dk_5 (dk_at dksX10_rope_2 7 rfl rfl)
theorem dX10_rope_54 : decode cX10_rope 54 = .ok (.invokevirtual 100, 3) := dk_182 0 100 (dk_at dksX10_rope_2 8 rfl rfl)
theorem dX10_rope_57 : decode cX10_rope 57 = .ok (.ireturn, 1) := dk_172 (dk_at dksX10_rope_2 11 rfl rfl)
theorem dX10_rope_58 : decode cX10_rope 58 = .ok (.aload_n 0, 1) := dk_42 (dk_at dksX10_rope_2 12 rfl rfl)
theorem dX10_rope_59 : decode cX10_rope 59 = .ok (.invokevirtual 88, 3) := dk_182 0 88 (dk_at dksX10_rope_2 13 rfl rfl)
theorem dX10_rope_62 : decode cX10_rope 62 = .ok (.aload_n 0, 1) := dk_42 (dk_at dksX10_rope_2 16 rfl rfl)
theorem dX10_rope_63 : decode cX10_rope 63 = .ok (.getfield 7, 3) := dk_180 0 7 (dk_at dksX10_rope_2 17 rfl rfl)
theorem dX10_rope_66 : decode cX10_rope 66 = .ok (.bipush 85, 2) := dk_16 85 (dk_at dksX10_rope_2 20 rfl rfl)
theorem dX10_rope_68 : decode cX10_rope 68 = .ok (.iload_n 1, 1) := dk_27 (dk_at dksX10_rope_2 22 rfl rfl)
theorem dX10_rope_69 : decode cX10_rope 69 = .ok (.iadd, 1) := dk_96 (dk_at dksX10_rope_2 23 rfl rfl)
theorem dX10_rope_70 : decode cX10_rope 70 = .ok (.dup2, 1) := dk_92 (dk_at dksX10_rope_3 0 rfl rfl)
theorem dX10_rope_71 : decode cX10_rope 71 = .ok (.iaload, 1) := dk_46 (dk_at dksX10_rope_3 1 rfl rfl)
theorem dX10_rope_72 : decode cX10_rope 72 = .ok (.iconst 1, 1) := dk_4 (dk_at dksX10_rope_3 2 rfl rfl)
theorem dX10_rope_73 : decode cX10_rope 73 = .ok (.iadd, 1) := dk_96 (dk_at dksX10_rope_3 3 rfl rfl)
theorem dX10_rope_74 : decode cX10_rope 74 = .ok (.iastore, 1) := dk_79 (dk_at dksX10_rope_3 4 rfl rfl)
theorem dX10_rope_75 : decode cX10_rope 75 = .ok (.aload_n 0, 1) := dk_42 (dk_at dksX10_rope_3 5 rfl rfl)
theorem dX10_rope_76 : decode cX10_rope 76 = .ok (.aload_n 0, 1) := dk_42 (dk_at dksX10_rope_3 6 rfl rfl)
theorem dX10_rope_77 : decode cX10_rope 77 = .ok (.aload_n 0, 1) := dk_42 (dk_at dksX10_rope_3 7 rfl rfl)
theorem dX10_rope_78 : decode cX10_rope 78 = .ok (.getfield 7, 3) := dk_180 0 7 (dk_at dksX10_rope_3 8 rfl rfl)
theorem dX10_rope_81 : decode cX10_rope 81 = .ok (.bipush 85, 2) := dk_16 85 (dk_at dksX10_rope_3 11 rfl rfl)
theorem dX10_rope_83 : decode cX10_rope 83 = .ok (.iload_n 1, 1) := dk_27 (dk_at dksX10_rope_3 13 rfl rfl)
theorem dX10_rope_84 : decode cX10_rope 84 = .ok (.iadd, 1) := dk_96 (dk_at dksX10_rope_3 14 rfl rfl)
theorem dX10_rope_85 : decode cX10_rope 85 = .ok (.iaload, 1) := dk_46 (dk_at dksX10_rope_3 15 rfl rfl)
theorem dX10_rope_86 : decode cX10_rope 86 = .ok (.invokevirtual 85, 3) := dk_182 0 85 (dk_at dksX10_rope_3 16 rfl rfl)
theorem dX10_rope_89 : decode cX10_rope 89 = .ok (.invokevirtual 94, 3) := dk_182 0 94 (dk_at dksX10_rope_3 19 rfl rfl)
theorem dX10_rope_92 : decode cX10_rope 92 = .ok (.ireturn, 1) := dk_172 (dk_at dksX10_rope_3 22 rfl rfl)
abbrev cX10_isShed : ByteArray := prog_13_method_46_code
def yX10_isShed : MethodName := ⟨RX10, "isShed", "(I)Z"⟩
def dkwX10_isShed_0 : List UInt8 := [27, 3, 42, 180, 0, 7, 16, 80, 46, 4, 100, 184, 0, 77, 172]
abbrev dktX10_isShed_0 : List UInt8 := dkwX10_isShed_0 ++ []
theorem dksX10_isShed_0 : cX10_isShed.data.toList.drop 0 = dktX10_isShed_0 := by decide +kernel
theorem dX10_isShed_0 : decode cX10_isShed 0 = .ok (.iload_n 1, 1) := dk_27 (dk_at dksX10_isShed_0 0 rfl rfl)
theorem dX10_isShed_1 : decode cX10_isShed 1 = .ok (.iconst 0, 1) := dk_3 (dk_at dksX10_isShed_0 1 rfl rfl)
theorem dX10_isShed_2 : decode cX10_isShed 2 = .ok (.aload_n 0, 1) := dk_42 (dk_at dksX10_isShed_0 2 rfl rfl)
theorem dX10_isShed_3 : decode cX10_isShed 3 = .ok (.getfield 7, 3) := dk_180 0 7 (dk_at dksX10_isShed_0 3 rfl rfl)
theorem dX10_isShed_6 : decode cX10_isShed 6 = .ok (.bipush 80, 2) := dk_16 80 (dk_at dksX10_isShed_0 6 rfl rfl)
theorem dX10_isShed_8 : decode cX10_isShed 8 = .ok (.iaload, 1) := dk_46 (dk_at dksX10_isShed_0 8 rfl rfl)
theorem dX10_isShed_9 : decode cX10_isShed 9 = .ok (.iconst 1, 1) := dk_4 (dk_at dksX10_isShed_0 9 rfl rfl)
theorem dX10_isShed_10 : decode cX10_isShed 10 = .ok (.isub, 1) := dk_100 (dk_at dksX10_isShed_0 10 rfl rfl)
theorem dX10_isShed_11 : decode cX10_isShed 11 = .ok (.invokestatic 77, 3) := dk_184 0 77 (dk_at dksX10_isShed_0 11 rfl rfl)
theorem dX10_isShed_14 : decode cX10_isShed 14 = .ok (.ireturn, 1) := dk_172 (dk_at dksX10_isShed_0 14 rfl rfl)
abbrev cX10_shedOf : ByteArray := prog_13_method_51_code
def yX10_shedOf : MethodName := ⟨RX10, "shedOf", "(II)I"⟩
def dkwX10_shedOf_3 : List UInt8 := [182, 0, 85, 172, 42, 5, 182, 0, 81, 172]
abbrev dktX10_shedOf_3 : List UInt8 := dkwX10_shedOf_3 ++ []
def dkwX10_shedOf_2 : List UInt8 := [42, 42, 180, 0, 7, 16, 81, 7, 28, 104, 96, 27, 96, 46, 182, 0, 85, 172, 42, 42, 27, 182, 0, 176]
abbrev dktX10_shedOf_2 : List UInt8 := dkwX10_shedOf_2 ++ dktX10_shedOf_3
def dkwX10_shedOf_1 : List UInt8 := [170, 0, 0, 0, 57, 0, 0, 0, 0, 0, 0, 0, 3, 0, 0, 0, 29, 0, 0, 0, 29, 0, 0, 0, 29, 0, 0, 0, 47]
abbrev dktX10_shedOf_1 : List UInt8 := dkwX10_shedOf_1 ++ dktX10_shedOf_2
def dkwX10_shedOf_0 : List UInt8 := [42, 27, 182, 0, 169, 154, 0, 9, 42, 4, 182, 0, 81, 172, 28]
abbrev dktX10_shedOf_0 : List UInt8 := dkwX10_shedOf_0 ++ dktX10_shedOf_1
theorem dksX10_shedOf_0 : cX10_shedOf.data.toList.drop 0 = dktX10_shedOf_0 := by decide +kernel
theorem dksX10_shedOf_1 : cX10_shedOf.data.toList.drop 15 = dktX10_shedOf_1 := dk_seg dksX10_shedOf_0 15 rfl rfl
theorem dksX10_shedOf_2 : cX10_shedOf.data.toList.drop 44 = dktX10_shedOf_2 := dk_seg dksX10_shedOf_1 29 rfl rfl
theorem dksX10_shedOf_3 : cX10_shedOf.data.toList.drop 68 = dktX10_shedOf_3 := dk_seg dksX10_shedOf_2 24 rfl rfl
theorem dX10_shedOf_0 : decode cX10_shedOf 0 = .ok (.aload_n 0, 1) := dk_42 (dk_at dksX10_shedOf_0 0 rfl rfl)
theorem dX10_shedOf_1 : decode cX10_shedOf 1 = .ok (.iload_n 1, 1) := dk_27 (dk_at dksX10_shedOf_0 1 rfl rfl)
theorem dX10_shedOf_2 : decode cX10_shedOf 2 = .ok (.invokevirtual 169, 3) := dk_182 0 169 (dk_at dksX10_shedOf_0 2 rfl rfl)
theorem dX10_shedOf_5 : decode cX10_shedOf 5 = .ok (.ifCond .ne 9, 3) := dk_154 0 9 (dk_at dksX10_shedOf_0 5 rfl rfl)
theorem dX10_shedOf_8 : decode cX10_shedOf 8 = .ok (.aload_n 0, 1) := dk_42 (dk_at dksX10_shedOf_0 8 rfl rfl)
theorem dX10_shedOf_9 : decode cX10_shedOf 9 = .ok (.iconst 1, 1) := dk_4 (dk_at dksX10_shedOf_0 9 rfl rfl)
theorem dX10_shedOf_10 : decode cX10_shedOf 10 = .ok (.invokevirtual 81, 3) := dk_182 0 81 (dk_at dksX10_shedOf_0 10 rfl rfl)
theorem dX10_shedOf_13 : decode cX10_shedOf 13 = .ok (.ireturn, 1) := dk_172 (dk_at dksX10_shedOf_0 13 rfl rfl)
theorem dX10_shedOf_14 : decode cX10_shedOf 14 = .ok (.iload_n 2, 1) := dk_28 (dk_at dksX10_shedOf_0 14 rfl rfl)
theorem dX10_shedOf_15 : decode cX10_shedOf 15 = .ok (.tableswitch 57 0 3 #[29, 29, 29, 47], 29) := by decide +kernel
theorem dX10_shedOf_44 : decode cX10_shedOf 44 = .ok (.aload_n 0, 1) := dk_42 (dk_at dksX10_shedOf_2 0 rfl rfl)
theorem dX10_shedOf_45 : decode cX10_shedOf 45 = .ok (.aload_n 0, 1) := dk_42 (dk_at dksX10_shedOf_2 1 rfl rfl)
theorem dX10_shedOf_46 : decode cX10_shedOf 46 = .ok (.getfield 7, 3) := dk_180 0 7 (dk_at dksX10_shedOf_2 2 rfl rfl)
theorem dX10_shedOf_49 : decode cX10_shedOf 49 = .ok (.bipush 81, 2) := dk_16 81 (dk_at dksX10_shedOf_2 5 rfl rfl)
theorem dX10_shedOf_51 : decode cX10_shedOf 51 = .ok (.iconst 4, 1) := dk_7 (dk_at dksX10_shedOf_2 7 rfl rfl)
theorem dX10_shedOf_52 : decode cX10_shedOf 52 = .ok (.iload_n 2, 1) := dk_28 (dk_at dksX10_shedOf_2 8 rfl rfl)
theorem dX10_shedOf_53 : decode cX10_shedOf 53 = .ok (.imul, 1) := dk_104 (dk_at dksX10_shedOf_2 9 rfl rfl)
theorem dX10_shedOf_54 : decode cX10_shedOf 54 = .ok (.iadd, 1) := dk_96 (dk_at dksX10_shedOf_2 10 rfl rfl)
theorem dX10_shedOf_55 : decode cX10_shedOf 55 = .ok (.iload_n 1, 1) := dk_27 (dk_at dksX10_shedOf_2 11 rfl rfl)
theorem dX10_shedOf_56 : decode cX10_shedOf 56 = .ok (.iadd, 1) := dk_96 (dk_at dksX10_shedOf_2 12 rfl rfl)
theorem dX10_shedOf_57 : decode cX10_shedOf 57 = .ok (.iaload, 1) := dk_46 (dk_at dksX10_shedOf_2 13 rfl rfl)
theorem dX10_shedOf_58 : decode cX10_shedOf 58 = .ok (.invokevirtual 85, 3) := dk_182 0 85 (dk_at dksX10_shedOf_2 14 rfl rfl)
theorem dX10_shedOf_61 : decode cX10_shedOf 61 = .ok (.ireturn, 1) := dk_172 (dk_at dksX10_shedOf_2 17 rfl rfl)
theorem dX10_shedOf_62 : decode cX10_shedOf 62 = .ok (.aload_n 0, 1) := dk_42 (dk_at dksX10_shedOf_2 18 rfl rfl)
theorem dX10_shedOf_63 : decode cX10_shedOf 63 = .ok (.aload_n 0, 1) := dk_42 (dk_at dksX10_shedOf_2 19 rfl rfl)
theorem dX10_shedOf_64 : decode cX10_shedOf 64 = .ok (.iload_n 1, 1) := dk_27 (dk_at dksX10_shedOf_2 20 rfl rfl)
theorem dX10_shedOf_65 : decode cX10_shedOf 65 = .ok (.invokevirtual 176, 3) := dk_182 0 176 (dk_at dksX10_shedOf_2 21 rfl rfl)
theorem dX10_shedOf_68 : decode cX10_shedOf 68 = .ok (.invokevirtual 85, 3) := dk_182 0 85 (dk_at dksX10_shedOf_3 0 rfl rfl)
theorem dX10_shedOf_71 : decode cX10_shedOf 71 = .ok (.ireturn, 1) := dk_172 (dk_at dksX10_shedOf_3 3 rfl rfl)
theorem dX10_shedOf_72 : decode cX10_shedOf 72 = .ok (.aload_n 0, 1) := dk_42 (dk_at dksX10_shedOf_3 4 rfl rfl)
theorem dX10_shedOf_73 : decode cX10_shedOf 73 = .ok (.iconst 2, 1) := dk_5 (dk_at dksX10_shedOf_3 5 rfl rfl)
theorem dX10_shedOf_74 : decode cX10_shedOf 74 = .ok (.invokevirtual 81, 3) := dk_182 0 81 (dk_at dksX10_shedOf_3 6 rfl rfl)
theorem dX10_shedOf_77 : decode cX10_shedOf 77 = .ok (.ireturn, 1) := dk_172 (dk_at dksX10_shedOf_3 9 rfl rfl)
abbrev cX10_leastWind : ByteArray := prog_13_method_50_code
def yX10_leastWind : MethodName := ⟨RX10, "leastWind", "(I)I"⟩
def dkwX10_leastWind_1 : List UInt8 := [182, 0, 173, 154, 0, 5, 28, 172, 132, 2, 1, 167, 255, 223, 2, 172]
abbrev dktX10_leastWind_1 : List UInt8 := dkwX10_leastWind_1 ++ []
def dkwX10_leastWind_0 : List UInt8 := [3, 61, 28, 16, 12, 163, 0, 33, 42, 180, 0, 7, 16, 89, 27, 96, 46, 4, 160, 0, 20, 42, 27, 28]
abbrev dktX10_leastWind_0 : List UInt8 := dkwX10_leastWind_0 ++ dktX10_leastWind_1
theorem dksX10_leastWind_0 : cX10_leastWind.data.toList.drop 0 = dktX10_leastWind_0 := by decide +kernel
theorem dksX10_leastWind_1 : cX10_leastWind.data.toList.drop 24 = dktX10_leastWind_1 := dk_seg dksX10_leastWind_0 24 rfl rfl
theorem dX10_leastWind_0 : decode cX10_leastWind 0 = .ok (.iconst 0, 1) := dk_3 (dk_at dksX10_leastWind_0 0 rfl rfl)
theorem dX10_leastWind_1 : decode cX10_leastWind 1 = .ok (.istore_n 2, 1) := dk_61 (dk_at dksX10_leastWind_0 1 rfl rfl)
theorem dX10_leastWind_2 : decode cX10_leastWind 2 = .ok (.iload_n 2, 1) := dk_28 (dk_at dksX10_leastWind_0 2 rfl rfl)
theorem dX10_leastWind_3 : decode cX10_leastWind 3 = .ok (.bipush 12, 2) := dk_16 12 (dk_at dksX10_leastWind_0 3 rfl rfl)
theorem dX10_leastWind_5 : decode cX10_leastWind 5 = .ok (.if_icmp .gt 33, 3) := dk_163 0 33 (dk_at dksX10_leastWind_0 5 rfl rfl)
theorem dX10_leastWind_8 : decode cX10_leastWind 8 = .ok (.aload_n 0, 1) := dk_42 (dk_at dksX10_leastWind_0 8 rfl rfl)
theorem dX10_leastWind_9 : decode cX10_leastWind 9 = .ok (.getfield 7, 3) := dk_180 0 7 (dk_at dksX10_leastWind_0 9 rfl rfl)
theorem dX10_leastWind_12 : decode cX10_leastWind 12 = .ok (.bipush 89, 2) := dk_16 89 (dk_at dksX10_leastWind_0 12 rfl rfl)
theorem dX10_leastWind_14 : decode cX10_leastWind 14 = .ok (.iload_n 1, 1) := dk_27 (dk_at dksX10_leastWind_0 14 rfl rfl)
theorem dX10_leastWind_15 : decode cX10_leastWind 15 = .ok (.iadd, 1) := dk_96 (dk_at dksX10_leastWind_0 15 rfl rfl)
theorem dX10_leastWind_16 : decode cX10_leastWind 16 = .ok (.iaload, 1) := dk_46 (dk_at dksX10_leastWind_0 16 rfl rfl)
theorem dX10_leastWind_17 : decode cX10_leastWind 17 = .ok (.iconst 1, 1) := dk_4 (dk_at dksX10_leastWind_0 17 rfl rfl)
theorem dX10_leastWind_18 : decode cX10_leastWind 18 = .ok (.if_icmp .ne 20, 3) := dk_160 0 20 (dk_at dksX10_leastWind_0 18 rfl rfl)
theorem dX10_leastWind_21 : decode cX10_leastWind 21 = .ok (.aload_n 0, 1) := dk_42 (dk_at dksX10_leastWind_0 21 rfl rfl)
theorem dX10_leastWind_22 : decode cX10_leastWind 22 = .ok (.iload_n 1, 1) := dk_27 (dk_at dksX10_leastWind_0 22 rfl rfl)
theorem dX10_leastWind_23 : decode cX10_leastWind 23 = .ok (.iload_n 2, 1) := dk_28 (dk_at dksX10_leastWind_0 23 rfl rfl)
theorem dX10_leastWind_24 : decode cX10_leastWind 24 = .ok (.invokevirtual 173, 3) := dk_182 0 173 (dk_at dksX10_leastWind_1 0 rfl rfl)
theorem dX10_leastWind_27 : decode cX10_leastWind 27 = .ok (.ifCond .ne 5, 3) := dk_154 0 5 (dk_at dksX10_leastWind_1 3 rfl rfl)
theorem dX10_leastWind_30 : decode cX10_leastWind 30 = .ok (.iload_n 2, 1) := dk_28 (dk_at dksX10_leastWind_1 6 rfl rfl)
theorem dX10_leastWind_31 : decode cX10_leastWind 31 = .ok (.ireturn, 1) := dk_172 (dk_at dksX10_leastWind_1 7 rfl rfl)
theorem dX10_leastWind_32 : decode cX10_leastWind 32 = .ok (.iinc 2 1, 3) := dk_132 2 1 (dk_at dksX10_leastWind_1 8 rfl rfl)
theorem dX10_leastWind_35 : decode cX10_leastWind 35 = .ok (.goto (-33), 3) := dk_167 255 223 (dk_at dksX10_leastWind_1 11 rfl rfl)
theorem dX10_leastWind_38 : decode cX10_leastWind 38 = .ok (.iconst (-1), 1) := dk_2 (dk_at dksX10_leastWind_1 14 rfl rfl)
theorem dX10_leastWind_39 : decode cX10_leastWind 39 = .ok (.ireturn, 1) := dk_172 (dk_at dksX10_leastWind_1 15 rfl rfl)
abbrev cX10_butt : ByteArray := prog_13_method_52_code
def yX10_butt : MethodName := ⟨RX10, "butt", "(I)F"⟩
def dkwX10_butt_1 : List UInt8 := [42, 180, 0, 13, 16, 24, 27, 96, 48, 167, 0, 4, 11, 174]
abbrev dktX10_butt_1 : List UInt8 := dkwX10_butt_1 ++ []
def dkwX10_butt_0 : List UInt8 := [42, 42, 27, 182, 0, 169, 153, 0, 7, 3, 167, 0, 4, 4, 181, 0, 53, 42, 180, 0, 53, 154, 0, 15]
abbrev dktX10_butt_0 : List UInt8 := dkwX10_butt_0 ++ dktX10_butt_1
theorem dksX10_butt_0 : cX10_butt.data.toList.drop 0 = dktX10_butt_0 := by decide +kernel
theorem dksX10_butt_1 : cX10_butt.data.toList.drop 24 = dktX10_butt_1 := dk_seg dksX10_butt_0 24 rfl rfl
theorem dX10_butt_0 : decode cX10_butt 0 = .ok (.aload_n 0, 1) := dk_42 (dk_at dksX10_butt_0 0 rfl rfl)
theorem dX10_butt_1 : decode cX10_butt 1 = .ok (.aload_n 0, 1) := dk_42 (dk_at dksX10_butt_0 1 rfl rfl)
theorem dX10_butt_2 : decode cX10_butt 2 = .ok (.iload_n 1, 1) := dk_27 (dk_at dksX10_butt_0 2 rfl rfl)
theorem dX10_butt_3 : decode cX10_butt 3 = .ok (.invokevirtual 169, 3) := dk_182 0 169 (dk_at dksX10_butt_0 3 rfl rfl)
theorem dX10_butt_6 : decode cX10_butt 6 = .ok (.ifCond .eq 7, 3) := dk_153 0 7 (dk_at dksX10_butt_0 6 rfl rfl)
theorem dX10_butt_9 : decode cX10_butt 9 = .ok (.iconst 0, 1) := dk_3 (dk_at dksX10_butt_0 9 rfl rfl)
theorem dX10_butt_10 : decode cX10_butt 10 = .ok (.goto 4, 3) := dk_167 0 4 (dk_at dksX10_butt_0 10 rfl rfl)
theorem dX10_butt_13 : decode cX10_butt 13 = .ok (.iconst 1, 1) := dk_4 (dk_at dksX10_butt_0 13 rfl rfl)
theorem dX10_butt_14 : decode cX10_butt 14 = .ok (.putfield 53, 3) := dk_181 0 53 (dk_at dksX10_butt_0 14 rfl rfl)
theorem dX10_butt_17 : decode cX10_butt 17 = .ok (.aload_n 0, 1) := dk_42 (dk_at dksX10_butt_0 17 rfl rfl)
theorem dX10_butt_18 : decode cX10_butt 18 = .ok (.getfield 53, 3) := dk_180 0 53 (dk_at dksX10_butt_0 18 rfl rfl)
theorem dX10_butt_21 : decode cX10_butt 21 = .ok (.ifCond .ne 15, 3) := dk_154 0 15 (dk_at dksX10_butt_0 21 rfl rfl)
theorem dX10_butt_24 : decode cX10_butt 24 = .ok (.aload_n 0, 1) := dk_42 (dk_at dksX10_butt_1 0 rfl rfl)
theorem dX10_butt_25 : decode cX10_butt 25 = .ok (.getfield 13, 3) := dk_180 0 13 (dk_at dksX10_butt_1 1 rfl rfl)
theorem dX10_butt_28 : decode cX10_butt 28 = .ok (.bipush 24, 2) := dk_16 24 (dk_at dksX10_butt_1 4 rfl rfl)
theorem dX10_butt_30 : decode cX10_butt 30 = .ok (.iload_n 1, 1) := dk_27 (dk_at dksX10_butt_1 6 rfl rfl)
theorem dX10_butt_31 : decode cX10_butt 31 = .ok (.iadd, 1) := dk_96 (dk_at dksX10_butt_1 7 rfl rfl)
theorem dX10_butt_32 : decode cX10_butt 32 = .ok (.faload, 1) := dk_48 (dk_at dksX10_butt_1 8 rfl rfl)
theorem dX10_butt_33 : decode cX10_butt 33 = .ok (.goto 4, 3) := dk_167 0 4 (dk_at dksX10_butt_1 9 rfl rfl)
theorem dX10_butt_36 : decode cX10_butt 36 = .ok (.fconst 0, 1) := dk_11 (dk_at dksX10_butt_1 12 rfl rfl)
theorem dX10_butt_37 : decode cX10_butt 37 = .ok (.freturn, 1) := dk_174 (dk_at dksX10_butt_1 13 rfl rfl)
abbrev cX10_pour : ByteArray := prog_13_method_53_code
def yX10_pour : MethodName := ⟨RX10, "pour", "(III)I"⟩
def dkwX10_pour_6 : List UInt8 := [184, 0, 127, 81, 42, 42, 42, 180, 0, 13, 3, 28, 96, 48, 184, 0, 140, 182, 0, 85, 182, 0, 94, 172]
abbrev dktX10_pour_6 : List UInt8 := dkwX10_pour_6 ++ []
def dkwX10_pour_5 : List UInt8 := [42, 180, 0, 13, 3, 28, 96, 42, 180, 0, 13, 3, 28, 96, 48, 18, 131, 29, 134, 106, 98, 18, 126]
abbrev dktX10_pour_5 : List UInt8 := dkwX10_pour_5 ++ dktX10_pour_6
def dkwX10_pour_4 : List UInt8 := [182, 0, 88, 42, 180, 0, 13, 16, 24, 27, 96, 42, 180, 0, 13, 16, 24, 27, 96, 48, 29, 134, 102, 81]
abbrev dktX10_pour_4 : List UInt8 := dkwX10_pour_4 ++ dktX10_pour_5
def dkwX10_pour_3 : List UInt8 := [156, 0, 21, 42, 16, 11, 42, 180, 0, 13, 16, 24, 27, 96, 48, 139, 6, 182, 0, 100, 172, 42]
abbrev dktX10_pour_3 : List UInt8 := dkwX10_pour_3 ++ dktX10_pour_4
def dkwX10_pour_2 : List UInt8 := [154, 0, 12, 42, 16, 10, 27, 6, 182, 0, 100, 172, 42, 180, 0, 13, 16, 24, 27, 96, 48, 29, 134, 150]
abbrev dktX10_pour_2 : List UInt8 := dkwX10_pour_2 ++ dktX10_pour_3
def dkwX10_pour_1 : List UInt8 := [16, 90, 184, 0, 77, 154, 0, 9, 42, 5, 182, 0, 81, 172, 42, 180, 0, 7, 16, 89, 27, 96, 46]
abbrev dktX10_pour_1 : List UInt8 := dkwX10_pour_1 ++ dktX10_pour_2
def dkwX10_pour_0 : List UInt8 := [42, 27, 182, 0, 169, 153, 0, 10, 28, 184, 0, 108, 154, 0, 9, 42, 4, 182, 0, 81, 172, 29, 4]
abbrev dktX10_pour_0 : List UInt8 := dkwX10_pour_0 ++ dktX10_pour_1
theorem dksX10_pour_0 : cX10_pour.data.toList.drop 0 = dktX10_pour_0 := by decide +kernel
theorem dksX10_pour_1 : cX10_pour.data.toList.drop 23 = dktX10_pour_1 := dk_seg dksX10_pour_0 23 rfl rfl
theorem dksX10_pour_2 : cX10_pour.data.toList.drop 46 = dktX10_pour_2 := dk_seg dksX10_pour_1 23 rfl rfl
theorem dksX10_pour_3 : cX10_pour.data.toList.drop 70 = dktX10_pour_3 := dk_seg dksX10_pour_2 24 rfl rfl
theorem dksX10_pour_4 : cX10_pour.data.toList.drop 92 = dktX10_pour_4 := dk_seg dksX10_pour_3 22 rfl rfl
theorem dksX10_pour_5 : cX10_pour.data.toList.drop 116 = dktX10_pour_5 := dk_seg dksX10_pour_4 24 rfl rfl
theorem dksX10_pour_6 : cX10_pour.data.toList.drop 139 = dktX10_pour_6 := dk_seg dksX10_pour_5 23 rfl rfl
theorem dX10_pour_0 : decode cX10_pour 0 = .ok (.aload_n 0, 1) := dk_42 (dk_at dksX10_pour_0 0 rfl rfl)
theorem dX10_pour_1 : decode cX10_pour 1 = .ok (.iload_n 1, 1) := dk_27 (dk_at dksX10_pour_0 1 rfl rfl)
theorem dX10_pour_2 : decode cX10_pour 2 = .ok (.invokevirtual 169, 3) := dk_182 0 169 (dk_at dksX10_pour_0 2 rfl rfl)
theorem dX10_pour_5 : decode cX10_pour 5 = .ok (.ifCond .eq 10, 3) := dk_153 0 10 (dk_at dksX10_pour_0 5 rfl rfl)
theorem dX10_pour_8 : decode cX10_pour 8 = .ok (.iload_n 2, 1) := dk_28 (dk_at dksX10_pour_0 8 rfl rfl)
theorem dX10_pour_9 : decode cX10_pour 9 = .ok (.invokestatic 108, 3) := dk_184 0 108 (dk_at dksX10_pour_0 9 rfl rfl)
theorem dX10_pour_12 : decode cX10_pour 12 = .ok (.ifCond .ne 9, 3) := dk_154 0 9 (dk_at dksX10_pour_0 12 rfl rfl)
theorem dX10_pour_15 : decode cX10_pour 15 = .ok (.aload_n 0, 1) := dk_42 (dk_at dksX10_pour_0 15 rfl rfl)
theorem dX10_pour_16 : decode cX10_pour 16 = .ok (.iconst 1, 1) := dk_4 (dk_at dksX10_pour_0 16 rfl rfl)
theorem dX10_pour_17 : decode cX10_pour 17 = .ok (.invokevirtual 81, 3) := dk_182 0 81 (dk_at dksX10_pour_0 17 rfl rfl)
theorem dX10_pour_20 : decode cX10_pour 20 = .ok (.ireturn, 1) := dk_172 (dk_at dksX10_pour_0 20 rfl rfl)
theorem dX10_pour_21 : decode cX10_pour 21 = .ok (.iload_n 3, 1) := dk_29 (dk_at dksX10_pour_0 21 rfl rfl)
theorem dX10_pour_22 : decode cX10_pour 22 = .ok (.iconst 1, 1) := dk_4 (dk_at dksX10_pour_0 22 rfl rfl)
theorem dX10_pour_23 : decode cX10_pour 23 = .ok (.bipush 90, 2) := dk_16 90 (dk_at dksX10_pour_1 0 rfl rfl)
theorem dX10_pour_25 : decode cX10_pour 25 = .ok (.invokestatic 77, 3) := dk_184 0 77 (dk_at dksX10_pour_1 2 rfl rfl)
theorem dX10_pour_28 : decode cX10_pour 28 = .ok (.ifCond .ne 9, 3) := dk_154 0 9 (dk_at dksX10_pour_1 5 rfl rfl)
theorem dX10_pour_31 : decode cX10_pour 31 = .ok (.aload_n 0, 1) := dk_42 (dk_at dksX10_pour_1 8 rfl rfl)
theorem dX10_pour_32 : decode cX10_pour 32 = .ok (.iconst 2, 1) := dk_5 (dk_at dksX10_pour_1 9 rfl rfl)
theorem dX10_pour_33 : decode cX10_pour 33 = .ok (.invokevirtual 81, 3) := dk_182 0 81 (dk_at dksX10_pour_1 10 rfl rfl)
theorem dX10_pour_36 : decode cX10_pour 36 = .ok (.ireturn, 1) := dk_172 (dk_at dksX10_pour_1 13 rfl rfl)
theorem dX10_pour_37 : decode cX10_pour 37 = .ok (.aload_n 0, 1) := dk_42 (dk_at dksX10_pour_1 14 rfl rfl)
theorem dX10_pour_38 : decode cX10_pour 38 = .ok (.getfield 7, 3) := dk_180 0 7 (dk_at dksX10_pour_1 15 rfl rfl)
theorem dX10_pour_41 : decode cX10_pour 41 = .ok (.bipush 89, 2) := dk_16 89 (dk_at dksX10_pour_1 18 rfl rfl)
theorem dX10_pour_43 : decode cX10_pour 43 = .ok (.iload_n 1, 1) := dk_27 (dk_at dksX10_pour_1 20 rfl rfl)
theorem dX10_pour_44 : decode cX10_pour 44 = .ok (.iadd, 1) := dk_96 (dk_at dksX10_pour_1 21 rfl rfl)
theorem dX10_pour_45 : decode cX10_pour 45 = .ok (.iaload, 1) := dk_46 (dk_at dksX10_pour_1 22 rfl rfl)
theorem dX10_pour_46 : decode cX10_pour 46 = .ok (.ifCond .ne 12, 3) := dk_154 0 12 (dk_at dksX10_pour_2 0 rfl rfl)
theorem dX10_pour_49 : decode cX10_pour 49 = .ok (.aload_n 0, 1) := dk_42 (dk_at dksX10_pour_2 3 rfl rfl)
theorem dX10_pour_50 : decode cX10_pour 50 = .ok (.bipush 10, 2) := dk_16 10 (dk_at dksX10_pour_2 4 rfl rfl)
theorem dX10_pour_52 : decode cX10_pour 52 = .ok (.iload_n 1, 1) := dk_27 (dk_at dksX10_pour_2 6 rfl rfl)
theorem dX10_pour_53 : decode cX10_pour 53 = .ok (.iconst 3, 1) := dk_6 (dk_at dksX10_pour_2 7 rfl rfl)
theorem dX10_pour_54 : decode cX10_pour 54 = .ok (.invokevirtual 100, 3) := dk_182 0 100 (dk_at dksX10_pour_2 8 rfl rfl)
theorem dX10_pour_57 : decode cX10_pour 57 = .ok (.ireturn, 1) := dk_172 (dk_at dksX10_pour_2 11 rfl rfl)
theorem dX10_pour_58 : decode cX10_pour 58 = .ok (.aload_n 0, 1) := dk_42 (dk_at dksX10_pour_2 12 rfl rfl)
theorem dX10_pour_59 : decode cX10_pour 59 = .ok (.getfield 13, 3) := dk_180 0 13 (dk_at dksX10_pour_2 13 rfl rfl)
theorem dX10_pour_62 : decode cX10_pour 62 = .ok (.bipush 24, 2) := dk_16 24 (dk_at dksX10_pour_2 16 rfl rfl)
theorem dX10_pour_64 : decode cX10_pour 64 = .ok (.iload_n 1, 1) := dk_27 (dk_at dksX10_pour_2 18 rfl rfl)
theorem dX10_pour_65 : decode cX10_pour 65 = .ok (.iadd, 1) := dk_96 (dk_at dksX10_pour_2 19 rfl rfl)
theorem dX10_pour_66 : decode cX10_pour 66 = .ok (.faload, 1) := dk_48 (dk_at dksX10_pour_2 20 rfl rfl)
theorem dX10_pour_67 : decode cX10_pour 67 = .ok (.iload_n 3, 1) := dk_29 (dk_at dksX10_pour_2 21 rfl rfl)
theorem dX10_pour_68 : decode cX10_pour 68 = .ok (.i2f, 1) := dk_134 (dk_at dksX10_pour_2 22 rfl rfl)
theorem dX10_pour_69 : decode cX10_pour 69 = .ok (.fcmp .g, 1) := dk_150 (dk_at dksX10_pour_2 23 rfl rfl)
theorem dX10_pour_70 : decode cX10_pour 70 = .ok (.ifCond .ge 21, 3) := dk_156 0 21 (dk_at dksX10_pour_3 0 rfl rfl)
theorem dX10_pour_73 : decode cX10_pour 73 = .ok (.aload_n 0, 1) := dk_42 (dk_at dksX10_pour_3 3 rfl rfl)
theorem dX10_pour_74 : decode cX10_pour 74 = .ok (.bipush 11, 2) := dk_16 11 (dk_at dksX10_pour_3 4 rfl rfl)
theorem dX10_pour_76 : decode cX10_pour 76 = .ok (.aload_n 0, 1) := dk_42 (dk_at dksX10_pour_3 6 rfl rfl)
theorem dX10_pour_77 : decode cX10_pour 77 = .ok (.getfield 13, 3) := dk_180 0 13 (dk_at dksX10_pour_3 7 rfl rfl)
theorem dX10_pour_80 : decode cX10_pour 80 = .ok (.bipush 24, 2) := dk_16 24 (dk_at dksX10_pour_3 10 rfl rfl)
theorem dX10_pour_82 : decode cX10_pour 82 = .ok (.iload_n 1, 1) := dk_27 (dk_at dksX10_pour_3 12 rfl rfl)
theorem dX10_pour_83 : decode cX10_pour 83 = .ok (.iadd, 1) := dk_96 (dk_at dksX10_pour_3 13 rfl rfl)
theorem dX10_pour_84 : decode cX10_pour 84 = .ok (.faload, 1) := dk_48 (dk_at dksX10_pour_3 14 rfl rfl)
theorem dX10_pour_85 : decode cX10_pour 85 = .ok (.f2i, 1) := dk_139 (dk_at dksX10_pour_3 15 rfl rfl)
theorem dX10_pour_86 : decode cX10_pour 86 = .ok (.iconst 3, 1) := dk_6 (dk_at dksX10_pour_3 16 rfl rfl)
theorem dX10_pour_87 : decode cX10_pour 87 = .ok (.invokevirtual 100, 3) := dk_182 0 100 (dk_at dksX10_pour_3 17 rfl rfl)
theorem dX10_pour_90 : decode cX10_pour 90 = .ok (.ireturn, 1) := dk_172 (dk_at dksX10_pour_3 20 rfl rfl)
theorem dX10_pour_91 : decode cX10_pour 91 = .ok (.aload_n 0, 1) := dk_42 (dk_at dksX10_pour_3 21 rfl rfl)
theorem dX10_pour_92 : decode cX10_pour 92 = .ok (.invokevirtual 88, 3) := dk_182 0 88 (dk_at dksX10_pour_4 0 rfl rfl)
theorem dX10_pour_95 : decode cX10_pour 95 = .ok (.aload_n 0, 1) := dk_42 (dk_at dksX10_pour_4 3 rfl rfl)
theorem dX10_pour_96 : decode cX10_pour 96 = .ok (.getfield 13, 3) := dk_180 0 13 (dk_at dksX10_pour_4 4 rfl rfl)
theorem dX10_pour_99 : decode cX10_pour 99 = .ok (.bipush 24, 2) := dk_16 24 (dk_at dksX10_pour_4 7 rfl rfl)
theorem dX10_pour_101 : decode cX10_pour 101 = .ok (.iload_n 1, 1) := dk_27 (dk_at dksX10_pour_4 9 rfl rfl)
theorem dX10_pour_102 : decode cX10_pour 102 = .ok (.iadd, 1) := dk_96 (dk_at dksX10_pour_4 10 rfl rfl)
theorem dX10_pour_103 : decode cX10_pour 103 = .ok (.aload_n 0, 1) := dk_42 (dk_at dksX10_pour_4 11 rfl rfl)
theorem dX10_pour_104 : decode cX10_pour 104 = .ok (.getfield 13, 3) := dk_180 0 13 (dk_at dksX10_pour_4 12 rfl rfl)
theorem dX10_pour_107 : decode cX10_pour 107 = .ok (.bipush 24, 2) := dk_16 24 (dk_at dksX10_pour_4 15 rfl rfl)
theorem dX10_pour_109 : decode cX10_pour 109 = .ok (.iload_n 1, 1) := dk_27 (dk_at dksX10_pour_4 17 rfl rfl)
theorem dX10_pour_110 : decode cX10_pour 110 = .ok (.iadd, 1) := dk_96 (dk_at dksX10_pour_4 18 rfl rfl)
theorem dX10_pour_111 : decode cX10_pour 111 = .ok (.faload, 1) := dk_48 (dk_at dksX10_pour_4 19 rfl rfl)
theorem dX10_pour_112 : decode cX10_pour 112 = .ok (.iload_n 3, 1) := dk_29 (dk_at dksX10_pour_4 20 rfl rfl)
theorem dX10_pour_113 : decode cX10_pour 113 = .ok (.i2f, 1) := dk_134 (dk_at dksX10_pour_4 21 rfl rfl)
theorem dX10_pour_114 : decode cX10_pour 114 = .ok (.fsub, 1) := dk_102 (dk_at dksX10_pour_4 22 rfl rfl)
theorem dX10_pour_115 : decode cX10_pour 115 = .ok (.fastore, 1) := dk_81 (dk_at dksX10_pour_4 23 rfl rfl)
theorem dX10_pour_116 : decode cX10_pour 116 = .ok (.aload_n 0, 1) := dk_42 (dk_at dksX10_pour_5 0 rfl rfl)
theorem dX10_pour_117 : decode cX10_pour 117 = .ok (.getfield 13, 3) := dk_180 0 13 (dk_at dksX10_pour_5 1 rfl rfl)
theorem dX10_pour_120 : decode cX10_pour 120 = .ok (.iconst 0, 1) := dk_3 (dk_at dksX10_pour_5 4 rfl rfl)
theorem dX10_pour_121 : decode cX10_pour 121 = .ok (.iload_n 2, 1) := dk_28 (dk_at dksX10_pour_5 5 rfl rfl)
theorem dX10_pour_122 : decode cX10_pour 122 = .ok (.iadd, 1) := dk_96 (dk_at dksX10_pour_5 6 rfl rfl)
theorem dX10_pour_123 : decode cX10_pour 123 = .ok (.aload_n 0, 1) := dk_42 (dk_at dksX10_pour_5 7 rfl rfl)
theorem dX10_pour_124 : decode cX10_pour 124 = .ok (.getfield 13, 3) := dk_180 0 13 (dk_at dksX10_pour_5 8 rfl rfl)
theorem dX10_pour_127 : decode cX10_pour 127 = .ok (.iconst 0, 1) := dk_3 (dk_at dksX10_pour_5 11 rfl rfl)
theorem dX10_pour_128 : decode cX10_pour 128 = .ok (.iload_n 2, 1) := dk_28 (dk_at dksX10_pour_5 12 rfl rfl)
theorem dX10_pour_129 : decode cX10_pour 129 = .ok (.iadd, 1) := dk_96 (dk_at dksX10_pour_5 13 rfl rfl)
theorem dX10_pour_130 : decode cX10_pour 130 = .ok (.faload, 1) := dk_48 (dk_at dksX10_pour_5 14 rfl rfl)
theorem dX10_pour_131 : decode cX10_pour 131 = .ok (.ldc 131, 2) := dk_18 131 (dk_at dksX10_pour_5 15 rfl rfl)
theorem dX10_pour_133 : decode cX10_pour 133 = .ok (.iload_n 3, 1) := dk_29 (dk_at dksX10_pour_5 17 rfl rfl)
theorem dX10_pour_134 : decode cX10_pour 134 = .ok (.i2f, 1) := dk_134 (dk_at dksX10_pour_5 18 rfl rfl)
theorem dX10_pour_135 : decode cX10_pour 135 = .ok (.fmul, 1) := dk_106 (dk_at dksX10_pour_5 19 rfl rfl)
theorem dX10_pour_136 : decode cX10_pour 136 = .ok (.fadd, 1) := dk_98 (dk_at dksX10_pour_5 20 rfl rfl)
theorem dX10_pour_137 : decode cX10_pour 137 = .ok (.ldc 126, 2) := dk_18 126 (dk_at dksX10_pour_5 21 rfl rfl)
theorem dX10_pour_139 : decode cX10_pour 139 = .ok (.invokestatic 127, 3) := dk_184 0 127 (dk_at dksX10_pour_6 0 rfl rfl)
theorem dX10_pour_142 : decode cX10_pour 142 = .ok (.fastore, 1) := dk_81 (dk_at dksX10_pour_6 3 rfl rfl)
theorem dX10_pour_143 : decode cX10_pour 143 = .ok (.aload_n 0, 1) := dk_42 (dk_at dksX10_pour_6 4 rfl rfl)
theorem dX10_pour_144 : decode cX10_pour 144 = .ok (.aload_n 0, 1) := dk_42 (dk_at dksX10_pour_6 5 rfl rfl)
theorem dX10_pour_145 : decode cX10_pour 145 = .ok (.aload_n 0, 1) := dk_42 (dk_at dksX10_pour_6 6 rfl rfl)
theorem dX10_pour_146 : decode cX10_pour 146 = .ok (.getfield 13, 3) := dk_180 0 13 (dk_at dksX10_pour_6 7 rfl rfl)
theorem dX10_pour_149 : decode cX10_pour 149 = .ok (.iconst 0, 1) := dk_3 (dk_at dksX10_pour_6 10 rfl rfl)
theorem dX10_pour_150 : decode cX10_pour 150 = .ok (.iload_n 2, 1) := dk_28 (dk_at dksX10_pour_6 11 rfl rfl)
theorem dX10_pour_151 : decode cX10_pour 151 = .ok (.iadd, 1) := dk_96 (dk_at dksX10_pour_6 12 rfl rfl)
theorem dX10_pour_152 : decode cX10_pour 152 = .ok (.faload, 1) := dk_48 (dk_at dksX10_pour_6 13 rfl rfl)
theorem dX10_pour_153 : decode cX10_pour 153 = .ok (.invokestatic 140, 3) := dk_184 0 140 (dk_at dksX10_pour_6 14 rfl rfl)
theorem dX10_pour_156 : decode cX10_pour 156 = .ok (.invokevirtual 85, 3) := dk_182 0 85 (dk_at dksX10_pour_6 17 rfl rfl)
theorem dX10_pour_159 : decode cX10_pour 159 = .ok (.invokevirtual 94, 3) := dk_182 0 94 (dk_at dksX10_pour_6 20 rfl rfl)
theorem dX10_pour_162 : decode cX10_pour 162 = .ok (.ireturn, 1) := dk_172 (dk_at dksX10_pour_6 23 rfl rfl)
abbrev cX10_moles : ByteArray := prog_13_method_54_code
def yX10_moles : MethodName := ⟨RX10, "moles", "(II)I"⟩
def dkwX10_moles_2 : List UInt8 := [96, 28, 79, 42, 42, 29, 182, 0, 85, 182, 0, 94, 172]
abbrev dktX10_moles_2 : List UInt8 := dkwX10_moles_2 ++ []
def dkwX10_moles_1 : List UInt8 := [5, 182, 0, 81, 172, 42, 182, 0, 88, 42, 180, 0, 7, 6, 27, 96, 46, 62, 42, 180, 0, 7, 6, 27]
abbrev dktX10_moles_1 : List UInt8 := dkwX10_moles_1 ++ dktX10_moles_2
def dkwX10_moles_0 : List UInt8 := [27, 184, 0, 108, 154, 0, 9, 42, 4, 182, 0, 81, 172, 28, 3, 16, 9, 184, 0, 77, 154, 0, 9, 42]
abbrev dktX10_moles_0 : List UInt8 := dkwX10_moles_0 ++ dktX10_moles_1
theorem dksX10_moles_0 : cX10_moles.data.toList.drop 0 = dktX10_moles_0 := by decide +kernel
theorem dksX10_moles_1 : cX10_moles.data.toList.drop 24 = dktX10_moles_1 := dk_seg dksX10_moles_0 24 rfl rfl
theorem dksX10_moles_2 : cX10_moles.data.toList.drop 48 = dktX10_moles_2 := dk_seg dksX10_moles_1 24 rfl rfl
theorem dX10_moles_0 : decode cX10_moles 0 = .ok (.iload_n 1, 1) := dk_27 (dk_at dksX10_moles_0 0 rfl rfl)
theorem dX10_moles_1 : decode cX10_moles 1 = .ok (.invokestatic 108, 3) := dk_184 0 108 (dk_at dksX10_moles_0 1 rfl rfl)
theorem dX10_moles_4 : decode cX10_moles 4 = .ok (.ifCond .ne 9, 3) := dk_154 0 9 (dk_at dksX10_moles_0 4 rfl rfl)
theorem dX10_moles_7 : decode cX10_moles 7 = .ok (.aload_n 0, 1) := dk_42 (dk_at dksX10_moles_0 7 rfl rfl)
theorem dX10_moles_8 : decode cX10_moles 8 = .ok (.iconst 1, 1) := dk_4 (dk_at dksX10_moles_0 8 rfl rfl)
theorem dX10_moles_9 : decode cX10_moles 9 = .ok (.invokevirtual 81, 3) := dk_182 0 81 (dk_at dksX10_moles_0 9 rfl rfl)
theorem dX10_moles_12 : decode cX10_moles 12 = .ok (.ireturn, 1) := dk_172 (dk_at dksX10_moles_0 12 rfl rfl)
theorem dX10_moles_13 : decode cX10_moles 13 = .ok (.iload_n 2, 1) := dk_28 (dk_at dksX10_moles_0 13 rfl rfl)
theorem dX10_moles_14 : decode cX10_moles 14 = .ok (.iconst 0, 1) := dk_3 (dk_at dksX10_moles_0 14 rfl rfl)
theorem dX10_moles_15 : decode cX10_moles 15 = .ok (.bipush 9, 2) := dk_16 9 (dk_at dksX10_moles_0 15 rfl rfl)
theorem dX10_moles_17 : decode cX10_moles 17 = .ok (.invokestatic 77, 3) := dk_184 0 77 (dk_at dksX10_moles_0 17 rfl rfl)
theorem dX10_moles_20 : decode cX10_moles 20 = .ok (.ifCond .ne 9, 3) := dk_154 0 9 (dk_at dksX10_moles_0 20 rfl rfl)
theorem dX10_moles_23 : decode cX10_moles 23 = .ok (.aload_n 0, 1) := dk_42 (dk_at dksX10_moles_0 23 rfl rfl)
theorem dX10_moles_24 : decode cX10_moles 24 = .ok (.iconst 2, 1) := dk_5 (dk_at dksX10_moles_1 0 rfl rfl)
theorem dX10_moles_25 : decode cX10_moles 25 = .ok (.invokevirtual 81, 3) := dk_182 0 81 (dk_at dksX10_moles_1 1 rfl rfl)
theorem dX10_moles_28 : decode cX10_moles 28 = .ok (.ireturn, 1) := dk_172 (dk_at dksX10_moles_1 4 rfl rfl)
theorem dX10_moles_29 : decode cX10_moles 29 = .ok (.aload_n 0, 1) := dk_42 (dk_at dksX10_moles_1 5 rfl rfl)
theorem dX10_moles_30 : decode cX10_moles 30 = .ok (.invokevirtual 88, 3) := dk_182 0 88 (dk_at dksX10_moles_1 6 rfl rfl)
theorem dX10_moles_33 : decode cX10_moles 33 = .ok (.aload_n 0, 1) := dk_42 (dk_at dksX10_moles_1 9 rfl rfl)
theorem dX10_moles_34 : decode cX10_moles 34 = .ok (.getfield 7, 3) := dk_180 0 7 (dk_at dksX10_moles_1 10 rfl rfl)
theorem dX10_moles_37 : decode cX10_moles 37 = .ok (.iconst 3, 1) := dk_6 (dk_at dksX10_moles_1 13 rfl rfl)
theorem dX10_moles_38 : decode cX10_moles 38 = .ok (.iload_n 1, 1) := dk_27 (dk_at dksX10_moles_1 14 rfl rfl)
theorem dX10_moles_39 : decode cX10_moles 39 = .ok (.iadd, 1) := dk_96 (dk_at dksX10_moles_1 15 rfl rfl)
theorem dX10_moles_40 : decode cX10_moles 40 = .ok (.iaload, 1) := dk_46 (dk_at dksX10_moles_1 16 rfl rfl)
theorem dX10_moles_41 : decode cX10_moles 41 = .ok (.istore_n 3, 1) := dk_62 (dk_at dksX10_moles_1 17 rfl rfl)
theorem dX10_moles_42 : decode cX10_moles 42 = .ok (.aload_n 0, 1) := dk_42 (dk_at dksX10_moles_1 18 rfl rfl)
theorem dX10_moles_43 : decode cX10_moles 43 = .ok (.getfield 7, 3) := dk_180 0 7 (dk_at dksX10_moles_1 19 rfl rfl)
theorem dX10_moles_46 : decode cX10_moles 46 = .ok (.iconst 3, 1) := dk_6 (dk_at dksX10_moles_1 22 rfl rfl)
theorem dX10_moles_47 : decode cX10_moles 47 = .ok (.iload_n 1, 1) := dk_27 (dk_at dksX10_moles_1 23 rfl rfl)
theorem dX10_moles_48 : decode cX10_moles 48 = .ok (.iadd, 1) := dk_96 (dk_at dksX10_moles_2 0 rfl rfl)
theorem dX10_moles_49 : decode cX10_moles 49 = .ok (.iload_n 2, 1) := dk_28 (dk_at dksX10_moles_2 1 rfl rfl)
theorem dX10_moles_50 : decode cX10_moles 50 = .ok (.iastore, 1) := dk_79 (dk_at dksX10_moles_2 2 rfl rfl)
theorem dX10_moles_51 : decode cX10_moles 51 = .ok (.aload_n 0, 1) := dk_42 (dk_at dksX10_moles_2 3 rfl rfl)
theorem dX10_moles_52 : decode cX10_moles 52 = .ok (.aload_n 0, 1) := dk_42 (dk_at dksX10_moles_2 4 rfl rfl)
theorem dX10_moles_53 : decode cX10_moles 53 = .ok (.iload_n 3, 1) := dk_29 (dk_at dksX10_moles_2 5 rfl rfl)
theorem dX10_moles_54 : decode cX10_moles 54 = .ok (.invokevirtual 85, 3) := dk_182 0 85 (dk_at dksX10_moles_2 6 rfl rfl)
theorem dX10_moles_57 : decode cX10_moles 57 = .ok (.invokevirtual 94, 3) := dk_182 0 94 (dk_at dksX10_moles_2 9 rfl rfl)
theorem dX10_moles_60 : decode cX10_moles 60 = .ok (.ireturn, 1) := dk_172 (dk_at dksX10_moles_2 12 rfl rfl)
abbrev cX10_vote : ByteArray := prog_13_method_57_code
def yX10_vote : MethodName := ⟨RX10, "vote", "(IZ)I"⟩
def dkwX10_vote_0 : List UInt8 := [42, 182, 0, 88, 42, 42, 27, 28, 182, 0, 182, 182, 0, 94, 172]
abbrev dktX10_vote_0 : List UInt8 := dkwX10_vote_0 ++ []
theorem dksX10_vote_0 : cX10_vote.data.toList.drop 0 = dktX10_vote_0 := by decide +kernel
theorem dX10_vote_0 : decode cX10_vote 0 = .ok (.aload_n 0, 1) := dk_42 (dk_at dksX10_vote_0 0 rfl rfl)
theorem dX10_vote_1 : decode cX10_vote 1 = .ok (.invokevirtual 88, 3) := dk_182 0 88 (dk_at dksX10_vote_0 1 rfl rfl)
theorem dX10_vote_4 : decode cX10_vote 4 = .ok (.aload_n 0, 1) := dk_42 (dk_at dksX10_vote_0 4 rfl rfl)
theorem dX10_vote_5 : decode cX10_vote 5 = .ok (.aload_n 0, 1) := dk_42 (dk_at dksX10_vote_0 5 rfl rfl)
theorem dX10_vote_6 : decode cX10_vote 6 = .ok (.iload_n 1, 1) := dk_27 (dk_at dksX10_vote_0 6 rfl rfl)
theorem dX10_vote_7 : decode cX10_vote 7 = .ok (.iload_n 2, 1) := dk_28 (dk_at dksX10_vote_0 7 rfl rfl)
theorem dX10_vote_8 : decode cX10_vote 8 = .ok (.invokevirtual 182, 3) := dk_182 0 182 (dk_at dksX10_vote_0 8 rfl rfl)
theorem dX10_vote_11 : decode cX10_vote 11 = .ok (.invokevirtual 94, 3) := dk_182 0 94 (dk_at dksX10_vote_0 11 rfl rfl)
theorem dX10_vote_14 : decode cX10_vote 14 = .ok (.ireturn, 1) := dk_172 (dk_at dksX10_vote_0 14 rfl rfl)
abbrev cX10_votes : ByteArray := prog_13_method_56_code
def yX10_votes : MethodName := ⟨RX10, "votes", "(IZ)I"⟩
def dkwX10_votes_2 : List UInt8 := [182, 0, 85, 172]
abbrev dktX10_votes_2 : List UInt8 := dkwX10_votes_2 ++ []
def dkwX10_votes_1 : List UInt8 := [153, 0, 7, 4, 167, 0, 4, 2, 79, 42, 42, 16, 58, 42, 180, 0, 7, 16, 51, 46, 182, 0, 179]
abbrev dktX10_votes_1 : List UInt8 := dkwX10_votes_1 ++ dktX10_votes_2
def dkwX10_votes_0 : List UInt8 := [42, 27, 182, 0, 104, 154, 0, 9, 42, 4, 182, 0, 81, 172, 42, 180, 0, 7, 16, 58, 27, 96, 28]
abbrev dktX10_votes_0 : List UInt8 := dkwX10_votes_0 ++ dktX10_votes_1
theorem dksX10_votes_0 : cX10_votes.data.toList.drop 0 = dktX10_votes_0 := by decide +kernel
theorem dksX10_votes_1 : cX10_votes.data.toList.drop 23 = dktX10_votes_1 := dk_seg dksX10_votes_0 23 rfl rfl
theorem dksX10_votes_2 : cX10_votes.data.toList.drop 46 = dktX10_votes_2 := dk_seg dksX10_votes_1 23 rfl rfl
theorem dX10_votes_0 : decode cX10_votes 0 = .ok (.aload_n 0, 1) := dk_42 (dk_at dksX10_votes_0 0 rfl rfl)
theorem dX10_votes_1 : decode cX10_votes 1 = .ok (.iload_n 1, 1) := dk_27 (dk_at dksX10_votes_0 1 rfl rfl)
theorem dX10_votes_2 : decode cX10_votes 2 = .ok (.invokevirtual 104, 3) := dk_182 0 104 (dk_at dksX10_votes_0 2 rfl rfl)
theorem dX10_votes_5 : decode cX10_votes 5 = .ok (.ifCond .ne 9, 3) := dk_154 0 9 (dk_at dksX10_votes_0 5 rfl rfl)
theorem dX10_votes_8 : decode cX10_votes 8 = .ok (.aload_n 0, 1) := dk_42 (dk_at dksX10_votes_0 8 rfl rfl)
theorem dX10_votes_9 : decode cX10_votes 9 = .ok (.iconst 1, 1) := dk_4 (dk_at dksX10_votes_0 9 rfl rfl)
theorem dX10_votes_10 : decode cX10_votes 10 = .ok (.invokevirtual 81, 3) := dk_182 0 81 (dk_at dksX10_votes_0 10 rfl rfl)
theorem dX10_votes_13 : decode cX10_votes 13 = .ok (.ireturn, 1) := dk_172 (dk_at dksX10_votes_0 13 rfl rfl)
theorem dX10_votes_14 : decode cX10_votes 14 = .ok (.aload_n 0, 1) := dk_42 (dk_at dksX10_votes_0 14 rfl rfl)
theorem dX10_votes_15 : decode cX10_votes 15 = .ok (.getfield 7, 3) := dk_180 0 7 (dk_at dksX10_votes_0 15 rfl rfl)
theorem dX10_votes_18 : decode cX10_votes 18 = .ok (.bipush 58, 2) := dk_16 58 (dk_at dksX10_votes_0 18 rfl rfl)
theorem dX10_votes_20 : decode cX10_votes 20 = .ok (.iload_n 1, 1) := dk_27 (dk_at dksX10_votes_0 20 rfl rfl)
theorem dX10_votes_21 : decode cX10_votes 21 = .ok (.iadd, 1) := dk_96 (dk_at dksX10_votes_0 21 rfl rfl)
theorem dX10_votes_22 : decode cX10_votes 22 = .ok (.iload_n 2, 1) := dk_28 (dk_at dksX10_votes_0 22 rfl rfl)
theorem dX10_votes_23 : decode cX10_votes 23 = .ok (.ifCond .eq 7, 3) := dk_153 0 7 (dk_at dksX10_votes_1 0 rfl rfl)
theorem dX10_votes_26 : decode cX10_votes 26 = .ok (.iconst 1, 1) := dk_4 (dk_at dksX10_votes_1 3 rfl rfl)
theorem dX10_votes_27 : decode cX10_votes 27 = .ok (.goto 4, 3) := dk_167 0 4 (dk_at dksX10_votes_1 4 rfl rfl)
theorem dX10_votes_30 : decode cX10_votes 30 = .ok (.iconst (-1), 1) := dk_2 (dk_at dksX10_votes_1 7 rfl rfl)
theorem dX10_votes_31 : decode cX10_votes 31 = .ok (.iastore, 1) := dk_79 (dk_at dksX10_votes_1 8 rfl rfl)
theorem dX10_votes_32 : decode cX10_votes 32 = .ok (.aload_n 0, 1) := dk_42 (dk_at dksX10_votes_1 9 rfl rfl)
theorem dX10_votes_33 : decode cX10_votes 33 = .ok (.aload_n 0, 1) := dk_42 (dk_at dksX10_votes_1 10 rfl rfl)
theorem dX10_votes_34 : decode cX10_votes 34 = .ok (.bipush 58, 2) := dk_16 58 (dk_at dksX10_votes_1 11 rfl rfl)
theorem dX10_votes_36 : decode cX10_votes 36 = .ok (.aload_n 0, 1) := dk_42 (dk_at dksX10_votes_1 13 rfl rfl)
theorem dX10_votes_37 : decode cX10_votes 37 = .ok (.getfield 7, 3) := dk_180 0 7 (dk_at dksX10_votes_1 14 rfl rfl)
theorem dX10_votes_40 : decode cX10_votes 40 = .ok (.bipush 51, 2) := dk_16 51 (dk_at dksX10_votes_1 17 rfl rfl)
theorem dX10_votes_42 : decode cX10_votes 42 = .ok (.iaload, 1) := dk_46 (dk_at dksX10_votes_1 19 rfl rfl)
theorem dX10_votes_43 : decode cX10_votes 43 = .ok (.invokevirtual 179, 3) := dk_182 0 179 (dk_at dksX10_votes_1 20 rfl rfl)
theorem dX10_votes_46 : decode cX10_votes 46 = .ok (.invokevirtual 85, 3) := dk_182 0 85 (dk_at dksX10_votes_2 0 rfl rfl)
theorem dX10_votes_49 : decode cX10_votes 49 = .ok (.ireturn, 1) := dk_172 (dk_at dksX10_votes_2 3 rfl rfl)
abbrev cX10_sum : ByteArray := prog_13_method_55_code
def yX10_sum : MethodName := ⟨RX10, "sum", "(II)I"⟩
def dkwX10_sum_1 : List UInt8 := [132, 4, 1, 167, 255, 235, 29, 172]
abbrev dktX10_sum_1 : List UInt8 := dkwX10_sum_1 ++ []
def dkwX10_sum_0 : List UInt8 := [3, 62, 3, 54, 4, 21, 4, 28, 162, 0, 21, 29, 42, 180, 0, 7, 27, 21, 4, 96, 46, 96, 62]
abbrev dktX10_sum_0 : List UInt8 := dkwX10_sum_0 ++ dktX10_sum_1
theorem dksX10_sum_0 : cX10_sum.data.toList.drop 0 = dktX10_sum_0 := by decide +kernel
theorem dksX10_sum_1 : cX10_sum.data.toList.drop 23 = dktX10_sum_1 := dk_seg dksX10_sum_0 23 rfl rfl
theorem dX10_sum_0 : decode cX10_sum 0 = .ok (.iconst 0, 1) := dk_3 (dk_at dksX10_sum_0 0 rfl rfl)
theorem dX10_sum_1 : decode cX10_sum 1 = .ok (.istore_n 3, 1) := dk_62 (dk_at dksX10_sum_0 1 rfl rfl)
theorem dX10_sum_2 : decode cX10_sum 2 = .ok (.iconst 0, 1) := dk_3 (dk_at dksX10_sum_0 2 rfl rfl)
theorem dX10_sum_3 : decode cX10_sum 3 = .ok (.istore 4, 2) := dk_54 4 (dk_at dksX10_sum_0 3 rfl rfl)
theorem dX10_sum_5 : decode cX10_sum 5 = .ok (.iload 4, 2) := dk_21 4 (dk_at dksX10_sum_0 5 rfl rfl)
theorem dX10_sum_7 : decode cX10_sum 7 = .ok (.iload_n 2, 1) := dk_28 (dk_at dksX10_sum_0 7 rfl rfl)
theorem dX10_sum_8 : decode cX10_sum 8 = .ok (.if_icmp .ge 21, 3) := dk_162 0 21 (dk_at dksX10_sum_0 8 rfl rfl)
theorem dX10_sum_11 : decode cX10_sum 11 = .ok (.iload_n 3, 1) := dk_29 (dk_at dksX10_sum_0 11 rfl rfl)
theorem dX10_sum_12 : decode cX10_sum 12 = .ok (.aload_n 0, 1) := dk_42 (dk_at dksX10_sum_0 12 rfl rfl)
theorem dX10_sum_13 : decode cX10_sum 13 = .ok (.getfield 7, 3) := dk_180 0 7 (dk_at dksX10_sum_0 13 rfl rfl)
theorem dX10_sum_16 : decode cX10_sum 16 = .ok (.iload_n 1, 1) := dk_27 (dk_at dksX10_sum_0 16 rfl rfl)
theorem dX10_sum_17 : decode cX10_sum 17 = .ok (.iload 4, 2) := dk_21 4 (dk_at dksX10_sum_0 17 rfl rfl)
theorem dX10_sum_19 : decode cX10_sum 19 = .ok (.iadd, 1) := dk_96 (dk_at dksX10_sum_0 19 rfl rfl)
theorem dX10_sum_20 : decode cX10_sum 20 = .ok (.iaload, 1) := dk_46 (dk_at dksX10_sum_0 20 rfl rfl)
theorem dX10_sum_21 : decode cX10_sum 21 = .ok (.iadd, 1) := dk_96 (dk_at dksX10_sum_0 21 rfl rfl)
theorem dX10_sum_22 : decode cX10_sum 22 = .ok (.istore_n 3, 1) := dk_62 (dk_at dksX10_sum_0 22 rfl rfl)
theorem dX10_sum_23 : decode cX10_sum 23 = .ok (.iinc 4 1, 3) := dk_132 4 1 (dk_at dksX10_sum_1 0 rfl rfl)
theorem dX10_sum_26 : decode cX10_sum 26 = .ok (.goto (-21), 3) := dk_167 255 235 (dk_at dksX10_sum_1 3 rfl rfl)
theorem dX10_sum_29 : decode cX10_sum 29 = .ok (.iload_n 3, 1) := dk_29 (dk_at dksX10_sum_1 6 rfl rfl)
theorem dX10_sum_30 : decode cX10_sum 30 = .ok (.ireturn, 1) := dk_172 (dk_at dksX10_sum_1 7 rfl rfl)
abbrev cX10_count : ByteArray := prog_13_method_59_code
def yX10_count : MethodName := ⟨RX10, "count", "()I"⟩
def dkwX10_count_0 : List UInt8 := [42, 182, 0, 88, 42, 42, 182, 0, 186, 182, 0, 94, 172]
abbrev dktX10_count_0 : List UInt8 := dkwX10_count_0 ++ []
theorem dksX10_count_0 : cX10_count.data.toList.drop 0 = dktX10_count_0 := by decide +kernel
theorem dX10_count_0 : decode cX10_count 0 = .ok (.aload_n 0, 1) := dk_42 (dk_at dksX10_count_0 0 rfl rfl)
theorem dX10_count_1 : decode cX10_count 1 = .ok (.invokevirtual 88, 3) := dk_182 0 88 (dk_at dksX10_count_0 1 rfl rfl)
theorem dX10_count_4 : decode cX10_count 4 = .ok (.aload_n 0, 1) := dk_42 (dk_at dksX10_count_0 4 rfl rfl)
theorem dX10_count_5 : decode cX10_count 5 = .ok (.aload_n 0, 1) := dk_42 (dk_at dksX10_count_0 5 rfl rfl)
theorem dX10_count_6 : decode cX10_count 6 = .ok (.invokevirtual 186, 3) := dk_182 0 186 (dk_at dksX10_count_0 6 rfl rfl)
theorem dX10_count_9 : decode cX10_count 9 = .ok (.invokevirtual 94, 3) := dk_182 0 94 (dk_at dksX10_count_0 9 rfl rfl)
theorem dX10_count_12 : decode cX10_count 12 = .ok (.ireturn, 1) := dk_172 (dk_at dksX10_count_0 12 rfl rfl)
abbrev cX10_counts : ByteArray := prog_13_method_58_code
def yX10_counts : MethodName := ⟨RX10, "counts", "()I"⟩
def dkwX10_counts_6 : List UInt8 := [96, 79, 42, 28, 182, 0, 85, 172]
abbrev dktX10_counts_6 : List UInt8 := dkwX10_counts_6 ++ []
def dkwX10_counts_5 : List UInt8 := [180, 0, 7, 16, 58, 29, 96, 3, 79, 132, 3, 1, 167, 255, 232, 42, 180, 0, 7, 16, 95, 92, 46, 28]
abbrev dktX10_counts_5 : List UInt8 := dkwX10_counts_5 ++ dktX10_counts_6
def dkwX10_counts_4 : List UInt8 := [21, 4, 96, 61, 132, 3, 1, 167, 255, 182, 3, 62, 29, 42, 180, 0, 7, 16, 51, 46, 162, 0, 19, 42]
abbrev dktX10_counts_4 : List UInt8 := dkwX10_counts_4 ++ dktX10_counts_5
def dkwX10_counts_3 : List UInt8 := [29, 96, 46, 167, 0, 4, 5, 54, 4, 42, 180, 0, 7, 6, 29, 96, 92, 46, 21, 4, 100, 79, 28]
abbrev dktX10_counts_3 : List UInt8 := dkwX10_counts_3 ++ dktX10_counts_4
def dkwX10_counts_2 : List UInt8 := [160, 0, 7, 3, 167, 0, 27, 42, 180, 0, 7, 6, 29, 96, 46, 5, 162, 0, 14, 42, 180, 0, 7, 6]
abbrev dktX10_counts_2 : List UInt8 := dkwX10_counts_2 ++ dktX10_counts_3
def dkwX10_counts_1 : List UInt8 := [3, 62, 29, 16, 12, 162, 0, 74, 27, 153, 0, 70, 42, 180, 0, 7, 16, 15, 29, 96, 46, 2]
abbrev dktX10_counts_1 : List UInt8 := dkwX10_counts_1 ++ dktX10_counts_2
def dkwX10_counts_0 : List UInt8 := [42, 16, 58, 42, 180, 0, 7, 16, 51, 46, 182, 0, 179, 158, 0, 7, 4, 167, 0, 4, 3, 60, 3, 61]
abbrev dktX10_counts_0 : List UInt8 := dkwX10_counts_0 ++ dktX10_counts_1
theorem dksX10_counts_0 : cX10_counts.data.toList.drop 0 = dktX10_counts_0 := by decide +kernel
theorem dksX10_counts_1 : cX10_counts.data.toList.drop 24 = dktX10_counts_1 := dk_seg dksX10_counts_0 24 rfl rfl
theorem dksX10_counts_2 : cX10_counts.data.toList.drop 46 = dktX10_counts_2 := dk_seg dksX10_counts_1 22 rfl rfl
theorem dksX10_counts_3 : cX10_counts.data.toList.drop 70 = dktX10_counts_3 := dk_seg dksX10_counts_2 24 rfl rfl
theorem dksX10_counts_4 : cX10_counts.data.toList.drop 93 = dktX10_counts_4 := dk_seg dksX10_counts_3 23 rfl rfl
theorem dksX10_counts_5 : cX10_counts.data.toList.drop 117 = dktX10_counts_5 := dk_seg dksX10_counts_4 24 rfl rfl
theorem dksX10_counts_6 : cX10_counts.data.toList.drop 141 = dktX10_counts_6 := dk_seg dksX10_counts_5 24 rfl rfl
theorem dX10_counts_0 : decode cX10_counts 0 = .ok (.aload_n 0, 1) := dk_42 (dk_at dksX10_counts_0 0 rfl rfl)
theorem dX10_counts_1 : decode cX10_counts 1 = .ok (.bipush 58, 2) := dk_16 58 (dk_at dksX10_counts_0 1 rfl rfl)
theorem dX10_counts_3 : decode cX10_counts 3 = .ok (.aload_n 0, 1) := dk_42 (dk_at dksX10_counts_0 3 rfl rfl)
theorem dX10_counts_4 : decode cX10_counts 4 = .ok (.getfield 7, 3) := dk_180 0 7 (dk_at dksX10_counts_0 4 rfl rfl)
theorem dX10_counts_7 : decode cX10_counts 7 = .ok (.bipush 51, 2) := dk_16 51 (dk_at dksX10_counts_0 7 rfl rfl)
theorem dX10_counts_9 : decode cX10_counts 9 = .ok (.iaload, 1) := dk_46 (dk_at dksX10_counts_0 9 rfl rfl)
theorem dX10_counts_10 : decode cX10_counts 10 = .ok (.invokevirtual 179, 3) := dk_182 0 179 (dk_at dksX10_counts_0 10 rfl rfl)
theorem dX10_counts_13 : decode cX10_counts 13 = .ok (.ifCond .le 7, 3) := dk_158 0 7 (dk_at dksX10_counts_0 13 rfl rfl)
theorem dX10_counts_16 : decode cX10_counts 16 = .ok (.iconst 1, 1) := dk_4 (dk_at dksX10_counts_0 16 rfl rfl)
theorem dX10_counts_17 : decode cX10_counts 17 = .ok (.goto 4, 3) := dk_167 0 4 (dk_at dksX10_counts_0 17 rfl rfl)
theorem dX10_counts_20 : decode cX10_counts 20 = .ok (.iconst 0, 1) := dk_3 (dk_at dksX10_counts_0 20 rfl rfl)
theorem dX10_counts_21 : decode cX10_counts 21 = .ok (.istore_n 1, 1) := dk_60 (dk_at dksX10_counts_0 21 rfl rfl)
theorem dX10_counts_22 : decode cX10_counts 22 = .ok (.iconst 0, 1) := dk_3 (dk_at dksX10_counts_0 22 rfl rfl)
theorem dX10_counts_23 : decode cX10_counts 23 = .ok (.istore_n 2, 1) := dk_61 (dk_at dksX10_counts_0 23 rfl rfl)
theorem dX10_counts_24 : decode cX10_counts 24 = .ok (.iconst 0, 1) := dk_3 (dk_at dksX10_counts_1 0 rfl rfl)
theorem dX10_counts_25 : decode cX10_counts 25 = .ok (.istore_n 3, 1) := dk_62 (dk_at dksX10_counts_1 1 rfl rfl)
theorem dX10_counts_26 : decode cX10_counts 26 = .ok (.iload_n 3, 1) := dk_29 (dk_at dksX10_counts_1 2 rfl rfl)
theorem dX10_counts_27 : decode cX10_counts 27 = .ok (.bipush 12, 2) := dk_16 12 (dk_at dksX10_counts_1 3 rfl rfl)
theorem dX10_counts_29 : decode cX10_counts 29 = .ok (.if_icmp .ge 74, 3) := dk_162 0 74 (dk_at dksX10_counts_1 5 rfl rfl)
theorem dX10_counts_32 : decode cX10_counts 32 = .ok (.iload_n 1, 1) := dk_27 (dk_at dksX10_counts_1 8 rfl rfl)
theorem dX10_counts_33 : decode cX10_counts 33 = .ok (.ifCond .eq 70, 3) := dk_153 0 70 (dk_at dksX10_counts_1 9 rfl rfl)
theorem dX10_counts_36 : decode cX10_counts 36 = .ok (.aload_n 0, 1) := dk_42 (dk_at dksX10_counts_1 12 rfl rfl)
theorem dX10_counts_37 : decode cX10_counts 37 = .ok (.getfield 7, 3) := dk_180 0 7 (dk_at dksX10_counts_1 13 rfl rfl)
theorem dX10_counts_40 : decode cX10_counts 40 = .ok (.bipush 15, 2) := dk_16 15 (dk_at dksX10_counts_1 16 rfl rfl)
theorem dX10_counts_42 : decode cX10_counts 42 = .ok (.iload_n 3, 1) := dk_29 (dk_at dksX10_counts_1 18 rfl rfl)
theorem dX10_counts_43 : decode cX10_counts 43 = .ok (.iadd, 1) := dk_96 (dk_at dksX10_counts_1 19 rfl rfl)
theorem dX10_counts_44 : decode cX10_counts 44 = .ok (.iaload, 1) := dk_46 (dk_at dksX10_counts_1 20 rfl rfl)
theorem dX10_counts_45 : decode cX10_counts 45 = .ok (.iconst (-1), 1) := dk_2 (dk_at dksX10_counts_1 21 rfl rfl)
theorem dX10_counts_46 : decode cX10_counts 46 = .ok (.if_icmp .ne 7, 3) := dk_160 0 7 (dk_at dksX10_counts_2 0 rfl rfl)
theorem dX10_counts_49 : decode cX10_counts 49 = .ok (.iconst 0, 1) := dk_3 (dk_at dksX10_counts_2 3 rfl rfl)
theorem dX10_counts_50 : decode cX10_counts 50 = .ok (.goto 27, 3) := dk_167 0 27 (dk_at dksX10_counts_2 4 rfl rfl)
theorem dX10_counts_53 : decode cX10_counts 53 = .ok (.aload_n 0, 1) := dk_42 (dk_at dksX10_counts_2 7 rfl rfl)
theorem dX10_counts_54 : decode cX10_counts 54 = .ok (.getfield 7, 3) := dk_180 0 7 (dk_at dksX10_counts_2 8 rfl rfl)
theorem dX10_counts_57 : decode cX10_counts 57 = .ok (.iconst 3, 1) := dk_6 (dk_at dksX10_counts_2 11 rfl rfl)
theorem dX10_counts_58 : decode cX10_counts 58 = .ok (.iload_n 3, 1) := dk_29 (dk_at dksX10_counts_2 12 rfl rfl)
theorem dX10_counts_59 : decode cX10_counts 59 = .ok (.iadd, 1) := dk_96 (dk_at dksX10_counts_2 13 rfl rfl)
theorem dX10_counts_60 : decode cX10_counts 60 = .ok (.iaload, 1) := dk_46 (dk_at dksX10_counts_2 14 rfl rfl)
theorem dX10_counts_61 : decode cX10_counts 61 = .ok (.iconst 2, 1) := dk_5 (dk_at dksX10_counts_2 15 rfl rfl)
theorem dX10_counts_62 : decode cX10_counts 62 = .ok (.if_icmp .ge 14, 3) := dk_162 0 14 (dk_at dksX10_counts_2 16 rfl rfl)
theorem dX10_counts_65 : decode cX10_counts 65 = .ok (.aload_n 0, 1) := dk_42 (dk_at dksX10_counts_2 19 rfl rfl)
theorem dX10_counts_66 : decode cX10_counts 66 = .ok (.getfield 7, 3) := dk_180 0 7 (dk_at dksX10_counts_2 20 rfl rfl)
theorem dX10_counts_69 : decode cX10_counts 69 = .ok (.iconst 3, 1) := dk_6 (dk_at dksX10_counts_2 23 rfl rfl)
theorem dX10_counts_70 : decode cX10_counts 70 = .ok (.iload_n 3, 1) := dk_29 (dk_at dksX10_counts_3 0 rfl rfl)
theorem dX10_counts_71 : decode cX10_counts 71 = .ok (.iadd, 1) := dk_96 (dk_at dksX10_counts_3 1 rfl rfl)
theorem dX10_counts_72 : decode cX10_counts 72 = .ok (.iaload, 1) := dk_46 (dk_at dksX10_counts_3 2 rfl rfl)
theorem dX10_counts_73 : decode cX10_counts 73 = .ok (.goto 4, 3) := dk_167 0 4 (dk_at dksX10_counts_3 3 rfl rfl)
theorem dX10_counts_76 : decode cX10_counts 76 = .ok (.iconst 2, 1) := dk_5 (dk_at dksX10_counts_3 6 rfl rfl)
theorem dX10_counts_77 : decode cX10_counts 77 = .ok (.istore 4, 2) := dk_54 4 (dk_at dksX10_counts_3 7 rfl rfl)
theorem dX10_counts_79 : decode cX10_counts 79 = .ok (.aload_n 0, 1) := dk_42 (dk_at dksX10_counts_3 9 rfl rfl)
theorem dX10_counts_80 : decode cX10_counts 80 = .ok (.getfield 7, 3) := dk_180 0 7 (dk_at dksX10_counts_3 10 rfl rfl)
theorem dX10_counts_83 : decode cX10_counts 83 = .ok (.iconst 3, 1) := dk_6 (dk_at dksX10_counts_3 13 rfl rfl)
theorem dX10_counts_84 : decode cX10_counts 84 = .ok (.iload_n 3, 1) := dk_29 (dk_at dksX10_counts_3 14 rfl rfl)
theorem dX10_counts_85 : decode cX10_counts 85 = .ok (.iadd, 1) := dk_96 (dk_at dksX10_counts_3 15 rfl rfl)
theorem dX10_counts_86 : decode cX10_counts 86 = .ok (.dup2, 1) := dk_92 (dk_at dksX10_counts_3 16 rfl rfl)
theorem dX10_counts_87 : decode cX10_counts 87 = .ok (.iaload, 1) := dk_46 (dk_at dksX10_counts_3 17 rfl rfl)
theorem dX10_counts_88 : decode cX10_counts 88 = .ok (.iload 4, 2) := dk_21 4 (dk_at dksX10_counts_3 18 rfl rfl)
theorem dX10_counts_90 : decode cX10_counts 90 = .ok (.isub, 1) := dk_100 (dk_at dksX10_counts_3 20 rfl rfl)
theorem dX10_counts_91 : decode cX10_counts 91 = .ok (.iastore, 1) := dk_79 (dk_at dksX10_counts_3 21 rfl rfl)
theorem dX10_counts_92 : decode cX10_counts 92 = .ok (.iload_n 2, 1) := dk_28 (dk_at dksX10_counts_3 22 rfl rfl)
theorem dX10_counts_93 : decode cX10_counts 93 = .ok (.iload 4, 2) := dk_21 4 (dk_at dksX10_counts_4 0 rfl rfl)
theorem dX10_counts_95 : decode cX10_counts 95 = .ok (.iadd, 1) := dk_96 (dk_at dksX10_counts_4 2 rfl rfl)
theorem dX10_counts_96 : decode cX10_counts 96 = .ok (.istore_n 2, 1) := dk_61 (dk_at dksX10_counts_4 3 rfl rfl)
theorem dX10_counts_97 : decode cX10_counts 97 = .ok (.iinc 3 1, 3) := dk_132 3 1 (dk_at dksX10_counts_4 4 rfl rfl)
theorem dX10_counts_100 : decode cX10_counts 100 = .ok (.goto (-74), 3) := dk_167 255 182 (dk_at dksX10_counts_4 7 rfl rfl)
theorem dX10_counts_103 : decode cX10_counts 103 = .ok (.iconst 0, 1) := dk_3 (dk_at dksX10_counts_4 10 rfl rfl)
theorem dX10_counts_104 : decode cX10_counts 104 = .ok (.istore_n 3, 1) := dk_62 (dk_at dksX10_counts_4 11 rfl rfl)
theorem dX10_counts_105 : decode cX10_counts 105 = .ok (.iload_n 3, 1) := dk_29 (dk_at dksX10_counts_4 12 rfl rfl)
theorem dX10_counts_106 : decode cX10_counts 106 = .ok (.aload_n 0, 1) := dk_42 (dk_at dksX10_counts_4 13 rfl rfl)
theorem dX10_counts_107 : decode cX10_counts 107 = .ok (.getfield 7, 3) := dk_180 0 7 (dk_at dksX10_counts_4 14 rfl rfl)
theorem dX10_counts_110 : decode cX10_counts 110 = .ok (.bipush 51, 2) := dk_16 51 (dk_at dksX10_counts_4 17 rfl rfl)
theorem dX10_counts_112 : decode cX10_counts 112 = .ok (.iaload, 1) := dk_46 (dk_at dksX10_counts_4 19 rfl rfl)
theorem dX10_counts_113 : decode cX10_counts 113 = .ok (.if_icmp .ge 19, 3) := dk_162 0 19 (dk_at dksX10_counts_4 20 rfl rfl)
theorem dX10_counts_116 : decode cX10_counts 116 = .ok (.aload_n 0, 1) := dk_42 (dk_at dksX10_counts_4 23 rfl rfl)
theorem dX10_counts_117 : decode cX10_counts 117 = .ok (.getfield 7, 3) := dk_180 0 7 (dk_at dksX10_counts_5 0 rfl rfl)
theorem dX10_counts_120 : decode cX10_counts 120 = .ok (.bipush 58, 2) := dk_16 58 (dk_at dksX10_counts_5 3 rfl rfl)
theorem dX10_counts_122 : decode cX10_counts 122 = .ok (.iload_n 3, 1) := dk_29 (dk_at dksX10_counts_5 5 rfl rfl)
theorem dX10_counts_123 : decode cX10_counts 123 = .ok (.iadd, 1) := dk_96 (dk_at dksX10_counts_5 6 rfl rfl)
theorem dX10_counts_124 : decode cX10_counts 124 = .ok (.iconst 0, 1) := dk_3 (dk_at dksX10_counts_5 7 rfl rfl)
theorem dX10_counts_125 : decode cX10_counts 125 = .ok (.iastore, 1) := dk_79 (dk_at dksX10_counts_5 8 rfl rfl)
theorem dX10_counts_126 : decode cX10_counts 126 = .ok (.iinc 3 1, 3) := dk_132 3 1 (dk_at dksX10_counts_5 9 rfl rfl)
theorem dX10_counts_129 : decode cX10_counts 129 = .ok (.goto (-24), 3) := dk_167 255 232 (dk_at dksX10_counts_5 12 rfl rfl)
theorem dX10_counts_132 : decode cX10_counts 132 = .ok (.aload_n 0, 1) := dk_42 (dk_at dksX10_counts_5 15 rfl rfl)
theorem dX10_counts_133 : decode cX10_counts 133 = .ok (.getfield 7, 3) := dk_180 0 7 (dk_at dksX10_counts_5 16 rfl rfl)
theorem dX10_counts_136 : decode cX10_counts 136 = .ok (.bipush 95, 2) := dk_16 95 (dk_at dksX10_counts_5 19 rfl rfl)
theorem dX10_counts_138 : decode cX10_counts 138 = .ok (.dup2, 1) := dk_92 (dk_at dksX10_counts_5 21 rfl rfl)
theorem dX10_counts_139 : decode cX10_counts 139 = .ok (.iaload, 1) := dk_46 (dk_at dksX10_counts_5 22 rfl rfl)
theorem dX10_counts_140 : decode cX10_counts 140 = .ok (.iload_n 2, 1) := dk_28 (dk_at dksX10_counts_5 23 rfl rfl)
theorem dX10_counts_141 : decode cX10_counts 141 = .ok (.iadd, 1) := dk_96 (dk_at dksX10_counts_6 0 rfl rfl)
theorem dX10_counts_142 : decode cX10_counts 142 = .ok (.iastore, 1) := dk_79 (dk_at dksX10_counts_6 1 rfl rfl)
theorem dX10_counts_143 : decode cX10_counts 143 = .ok (.aload_n 0, 1) := dk_42 (dk_at dksX10_counts_6 2 rfl rfl)
theorem dX10_counts_144 : decode cX10_counts 144 = .ok (.iload_n 2, 1) := dk_28 (dk_at dksX10_counts_6 3 rfl rfl)
theorem dX10_counts_145 : decode cX10_counts 145 = .ok (.invokevirtual 85, 3) := dk_182 0 85 (dk_at dksX10_counts_6 4 rfl rfl)
theorem dX10_counts_148 : decode cX10_counts 148 = .ok (.ireturn, 1) := dk_172 (dk_at dksX10_counts_6 7 rfl rfl)
abbrev cX10_sign : ByteArray := prog_13_method_60_code
def yX10_sign : MethodName := ⟨RX10, "sign", "(I)C"⟩
def dkwX10_sign_3 : List UInt8 := [16, 15, 27, 96, 46, 2, 159, 0, 8, 16, 100, 167, 0, 5, 16, 46, 172]
abbrev dktX10_sign_3 : List UInt8 := dkwX10_sign_3 ++ []
def dkwX10_sign_2 : List UInt8 := [167, 0, 5, 16, 66, 172, 42, 27, 182, 0, 122, 2, 159, 0, 8, 16, 83, 167, 0, 23, 42, 180, 0, 7]
abbrev dktX10_sign_2 : List UInt8 := dkwX10_sign_2 ++ dktX10_sign_3
def dkwX10_sign_1 : List UInt8 := [172, 42, 180, 0, 7, 16, 27, 27, 96, 46, 61, 28, 2, 159, 0, 15, 28, 154, 0, 8, 16, 77]
abbrev dktX10_sign_1 : List UInt8 := dkwX10_sign_1 ++ dktX10_sign_2
def dkwX10_sign_0 : List UInt8 := [42, 27, 184, 0, 108, 153, 0, 7, 3, 167, 0, 4, 4, 181, 0, 53, 42, 180, 0, 53, 153, 0, 5, 3]
abbrev dktX10_sign_0 : List UInt8 := dkwX10_sign_0 ++ dktX10_sign_1
theorem dksX10_sign_0 : cX10_sign.data.toList.drop 0 = dktX10_sign_0 := by decide +kernel
theorem dksX10_sign_1 : cX10_sign.data.toList.drop 24 = dktX10_sign_1 := dk_seg dksX10_sign_0 24 rfl rfl
theorem dksX10_sign_2 : cX10_sign.data.toList.drop 46 = dktX10_sign_2 := dk_seg dksX10_sign_1 22 rfl rfl
theorem dksX10_sign_3 : cX10_sign.data.toList.drop 70 = dktX10_sign_3 := dk_seg dksX10_sign_2 24 rfl rfl
theorem dX10_sign_0 : decode cX10_sign 0 = .ok (.aload_n 0, 1) := dk_42 (dk_at dksX10_sign_0 0 rfl rfl)
theorem dX10_sign_1 : decode cX10_sign 1 = .ok (.iload_n 1, 1) := dk_27 (dk_at dksX10_sign_0 1 rfl rfl)
theorem dX10_sign_2 : decode cX10_sign 2 = .ok (.invokestatic 108, 3) := dk_184 0 108 (dk_at dksX10_sign_0 2 rfl rfl)
theorem dX10_sign_5 : decode cX10_sign 5 = .ok (.ifCond .eq 7, 3) := dk_153 0 7 (dk_at dksX10_sign_0 5 rfl rfl)
theorem dX10_sign_8 : decode cX10_sign 8 = .ok (.iconst 0, 1) := dk_3 (dk_at dksX10_sign_0 8 rfl rfl)
theorem dX10_sign_9 : decode cX10_sign 9 = .ok (.goto 4, 3) := dk_167 0 4 (dk_at dksX10_sign_0 9 rfl rfl)
theorem dX10_sign_12 : decode cX10_sign 12 = .ok (.iconst 1, 1) := dk_4 (dk_at dksX10_sign_0 12 rfl rfl)
theorem dX10_sign_13 : decode cX10_sign 13 = .ok (.putfield 53, 3) := dk_181 0 53 (dk_at dksX10_sign_0 13 rfl rfl)
theorem dX10_sign_16 : decode cX10_sign 16 = .ok (.aload_n 0, 1) := dk_42 (dk_at dksX10_sign_0 16 rfl rfl)
theorem dX10_sign_17 : decode cX10_sign 17 = .ok (.getfield 53, 3) := dk_180 0 53 (dk_at dksX10_sign_0 17 rfl rfl)
theorem dX10_sign_20 : decode cX10_sign 20 = .ok (.ifCond .eq 5, 3) := dk_153 0 5 (dk_at dksX10_sign_0 20 rfl rfl)
theorem dX10_sign_23 : decode cX10_sign 23 = .ok (.iconst 0, 1) := dk_3 (dk_at dksX10_sign_0 23 rfl rfl)
theorem dX10_sign_24 : decode cX10_sign 24 = .ok (.ireturn, 1) := dk_172 (dk_at dksX10_sign_1 0 rfl rfl)
theorem dX10_sign_25 : decode cX10_sign 25 = .ok (.aload_n 0, 1) := dk_42 (dk_at dksX10_sign_1 1 rfl rfl)
theorem dX10_sign_26 : decode cX10_sign 26 = .ok (.getfield 7, 3) := dk_180 0 7 (dk_at dksX10_sign_1 2 rfl rfl)
theorem dX10_sign_29 : decode cX10_sign 29 = .ok (.bipush 27, 2) := dk_16 27 (dk_at dksX10_sign_1 5 rfl rfl)
theorem dX10_sign_31 : decode cX10_sign 31 = .ok (.iload_n 1, 1) := dk_27 (dk_at dksX10_sign_1 7 rfl rfl)
theorem dX10_sign_32 : decode cX10_sign 32 = .ok (.iadd, 1) := dk_96 (dk_at dksX10_sign_1 8 rfl rfl)
theorem dX10_sign_33 : decode cX10_sign 33 = .ok (.iaload, 1) := dk_46 (dk_at dksX10_sign_1 9 rfl rfl)
theorem dX10_sign_34 : decode cX10_sign 34 = .ok (.istore_n 2, 1) := dk_61 (dk_at dksX10_sign_1 10 rfl rfl)
theorem dX10_sign_35 : decode cX10_sign 35 = .ok (.iload_n 2, 1) := dk_28 (dk_at dksX10_sign_1 11 rfl rfl)
theorem dX10_sign_36 : decode cX10_sign 36 = .ok (.iconst (-1), 1) := dk_2 (dk_at dksX10_sign_1 12 rfl rfl)
theorem dX10_sign_37 : decode cX10_sign 37 = .ok (.if_icmp .eq 15, 3) := dk_159 0 15 (dk_at dksX10_sign_1 13 rfl rfl)
theorem dX10_sign_40 : decode cX10_sign 40 = .ok (.iload_n 2, 1) := dk_28 (dk_at dksX10_sign_1 16 rfl rfl)
theorem dX10_sign_41 : decode cX10_sign 41 = .ok (.ifCond .ne 8, 3) := dk_154 0 8 (dk_at dksX10_sign_1 17 rfl rfl)
theorem dX10_sign_44 : decode cX10_sign 44 = .ok (.bipush 77, 2) := dk_16 77 (dk_at dksX10_sign_1 20 rfl rfl)
theorem dX10_sign_46 : decode cX10_sign 46 = .ok (.goto 5, 3) := dk_167 0 5 (dk_at dksX10_sign_2 0 rfl rfl)
theorem dX10_sign_49 : decode cX10_sign 49 = .ok (.bipush 66, 2) := dk_16 66 (dk_at dksX10_sign_2 3 rfl rfl)
theorem dX10_sign_51 : decode cX10_sign 51 = .ok (.ireturn, 1) := dk_172 (dk_at dksX10_sign_2 5 rfl rfl)
theorem dX10_sign_52 : decode cX10_sign 52 = .ok (.aload_n 0, 1) := dk_42 (dk_at dksX10_sign_2 6 rfl rfl)
theorem dX10_sign_53 : decode cX10_sign 53 = .ok (.iload_n 1, 1) := dk_27 (dk_at dksX10_sign_2 7 rfl rfl)
theorem dX10_sign_54 : decode cX10_sign 54 = .ok (.invokevirtual 122, 3) := dk_182 0 122 (dk_at dksX10_sign_2 8 rfl rfl)
theorem dX10_sign_57 : decode cX10_sign 57 = .ok (.iconst (-1), 1) := dk_2 (dk_at dksX10_sign_2 11 rfl rfl)
theorem dX10_sign_58 : decode cX10_sign 58 = .ok (.if_icmp .eq 8, 3) := dk_159 0 8 (dk_at dksX10_sign_2 12 rfl rfl)
theorem dX10_sign_61 : decode cX10_sign 61 = .ok (.bipush 83, 2) := dk_16 83 (dk_at dksX10_sign_2 15 rfl rfl)
theorem dX10_sign_63 : decode cX10_sign 63 = .ok (.goto 23, 3) := dk_167 0 23 (dk_at dksX10_sign_2 17 rfl rfl)
theorem dX10_sign_66 : decode cX10_sign 66 = .ok (.aload_n 0, 1) := dk_42 (dk_at dksX10_sign_2 20 rfl rfl)
theorem dX10_sign_67 : decode cX10_sign 67 = .ok (.getfield 7, 3) := dk_180 0 7 (dk_at dksX10_sign_2 21 rfl rfl)
theorem dX10_sign_70 : decode cX10_sign 70 = .ok (.bipush 15, 2) := dk_16 15 (dk_at dksX10_sign_3 0 rfl rfl)
theorem dX10_sign_72 : decode cX10_sign 72 = .ok (.iload_n 1, 1) := dk_27 (dk_at dksX10_sign_3 2 rfl rfl)
theorem dX10_sign_73 : decode cX10_sign 73 = .ok (.iadd, 1) := dk_96 (dk_at dksX10_sign_3 3 rfl rfl)
theorem dX10_sign_74 : decode cX10_sign 74 = .ok (.iaload, 1) := dk_46 (dk_at dksX10_sign_3 4 rfl rfl)
theorem dX10_sign_75 : decode cX10_sign 75 = .ok (.iconst (-1), 1) := dk_2 (dk_at dksX10_sign_3 5 rfl rfl)
theorem dX10_sign_76 : decode cX10_sign 76 = .ok (.if_icmp .eq 8, 3) := dk_159 0 8 (dk_at dksX10_sign_3 6 rfl rfl)
theorem dX10_sign_79 : decode cX10_sign 79 = .ok (.bipush 100, 2) := dk_16 100 (dk_at dksX10_sign_3 9 rfl rfl)
theorem dX10_sign_81 : decode cX10_sign 81 = .ok (.goto 5, 3) := dk_167 0 5 (dk_at dksX10_sign_3 11 rfl rfl)
theorem dX10_sign_84 : decode cX10_sign 84 = .ok (.bipush 46, 2) := dk_16 46 (dk_at dksX10_sign_3 14 rfl rfl)
theorem dX10_sign_86 : decode cX10_sign 86 = .ok (.ireturn, 1) := dk_172 (dk_at dksX10_sign_3 16 rfl rfl)
abbrev cX10_pass : ByteArray := prog_13_method_65_code
def yX10_pass : MethodName := ⟨RX10, "pass", "(I)I"⟩
def dkwX10_pass_0 : List UInt8 := [42, 182, 0, 88, 42, 42, 27, 182, 0, 203, 182, 0, 94, 172]
abbrev dktX10_pass_0 : List UInt8 := dkwX10_pass_0 ++ []
theorem dksX10_pass_0 : cX10_pass.data.toList.drop 0 = dktX10_pass_0 := by decide +kernel
theorem dX10_pass_0 : decode cX10_pass 0 = .ok (.aload_n 0, 1) := dk_42 (dk_at dksX10_pass_0 0 rfl rfl)
theorem dX10_pass_1 : decode cX10_pass 1 = .ok (.invokevirtual 88, 3) := dk_182 0 88 (dk_at dksX10_pass_0 1 rfl rfl)
theorem dX10_pass_4 : decode cX10_pass 4 = .ok (.aload_n 0, 1) := dk_42 (dk_at dksX10_pass_0 4 rfl rfl)
theorem dX10_pass_5 : decode cX10_pass 5 = .ok (.aload_n 0, 1) := dk_42 (dk_at dksX10_pass_0 5 rfl rfl)
theorem dX10_pass_6 : decode cX10_pass 6 = .ok (.iload_n 1, 1) := dk_27 (dk_at dksX10_pass_0 6 rfl rfl)
theorem dX10_pass_7 : decode cX10_pass 7 = .ok (.invokevirtual 203, 3) := dk_182 0 203 (dk_at dksX10_pass_0 7 rfl rfl)
theorem dX10_pass_10 : decode cX10_pass 10 = .ok (.invokevirtual 94, 3) := dk_182 0 94 (dk_at dksX10_pass_0 10 rfl rfl)
theorem dX10_pass_13 : decode cX10_pass 13 = .ok (.ireturn, 1) := dk_172 (dk_at dksX10_pass_0 13 rfl rfl)
abbrev cX10_passes : ByteArray := prog_13_method_64_code
def yX10_passes : MethodName := ⟨RX10, "passes", "(I)I"⟩
def dkwX10_passes_1 : List UInt8 := [162, 0, 16, 28, 42, 182, 0, 149, 96, 61, 132, 3, 1, 167, 255, 241, 42, 28, 182, 0, 85, 172]
abbrev dktX10_passes_1 : List UInt8 := dkwX10_passes_1 ++ []
def dkwX10_passes_0 : List UInt8 := [27, 4, 16, 60, 184, 0, 77, 154, 0, 9, 42, 4, 182, 0, 81, 172, 3, 61, 3, 62, 29, 27]
abbrev dktX10_passes_0 : List UInt8 := dkwX10_passes_0 ++ dktX10_passes_1
theorem dksX10_passes_0 : cX10_passes.data.toList.drop 0 = dktX10_passes_0 := by decide +kernel
theorem dksX10_passes_1 : cX10_passes.data.toList.drop 22 = dktX10_passes_1 := dk_seg dksX10_passes_0 22 rfl rfl
theorem dX10_passes_0 : decode cX10_passes 0 = .ok (.iload_n 1, 1) := dk_27 (dk_at dksX10_passes_0 0 rfl rfl)
theorem dX10_passes_1 : decode cX10_passes 1 = .ok (.iconst 1, 1) := dk_4 (dk_at dksX10_passes_0 1 rfl rfl)
theorem dX10_passes_2 : decode cX10_passes 2 = .ok (.bipush 60, 2) := dk_16 60 (dk_at dksX10_passes_0 2 rfl rfl)
theorem dX10_passes_4 : decode cX10_passes 4 = .ok (.invokestatic 77, 3) := dk_184 0 77 (dk_at dksX10_passes_0 4 rfl rfl)
theorem dX10_passes_7 : decode cX10_passes 7 = .ok (.ifCond .ne 9, 3) := dk_154 0 9 (dk_at dksX10_passes_0 7 rfl rfl)
theorem dX10_passes_10 : decode cX10_passes 10 = .ok (.aload_n 0, 1) := dk_42 (dk_at dksX10_passes_0 10 rfl rfl)
theorem dX10_passes_11 : decode cX10_passes 11 = .ok (.iconst 1, 1) := dk_4 (dk_at dksX10_passes_0 11 rfl rfl)
theorem dX10_passes_12 : decode cX10_passes 12 = .ok (.invokevirtual 81, 3) := dk_182 0 81 (dk_at dksX10_passes_0 12 rfl rfl)
theorem dX10_passes_15 : decode cX10_passes 15 = .ok (.ireturn, 1) := dk_172 (dk_at dksX10_passes_0 15 rfl rfl)
theorem dX10_passes_16 : decode cX10_passes 16 = .ok (.iconst 0, 1) := dk_3 (dk_at dksX10_passes_0 16 rfl rfl)
theorem dX10_passes_17 : decode cX10_passes 17 = .ok (.istore_n 2, 1) := dk_61 (dk_at dksX10_passes_0 17 rfl rfl)
theorem dX10_passes_18 : decode cX10_passes 18 = .ok (.iconst 0, 1) := dk_3 (dk_at dksX10_passes_0 18 rfl rfl)
theorem dX10_passes_19 : decode cX10_passes 19 = .ok (.istore_n 3, 1) := dk_62 (dk_at dksX10_passes_0 19 rfl rfl)
theorem dX10_passes_20 : decode cX10_passes 20 = .ok (.iload_n 3, 1) := dk_29 (dk_at dksX10_passes_0 20 rfl rfl)
theorem dX10_passes_21 : decode cX10_passes 21 = .ok (.iload_n 1, 1) := dk_27 (dk_at dksX10_passes_0 21 rfl rfl)
theorem dX10_passes_22 : decode cX10_passes 22 = .ok (.if_icmp .ge 16, 3) := dk_162 0 16 (dk_at dksX10_passes_1 0 rfl rfl)
theorem dX10_passes_25 : decode cX10_passes 25 = .ok (.iload_n 2, 1) := dk_28 (dk_at dksX10_passes_1 3 rfl rfl)
theorem dX10_passes_26 : decode cX10_passes 26 = .ok (.aload_n 0, 1) := dk_42 (dk_at dksX10_passes_1 4 rfl rfl)
theorem dX10_passes_27 : decode cX10_passes 27 = .ok (.invokevirtual 149, 3) := dk_182 0 149 (dk_at dksX10_passes_1 5 rfl rfl)
theorem dX10_passes_30 : decode cX10_passes 30 = .ok (.iadd, 1) := dk_96 (dk_at dksX10_passes_1 8 rfl rfl)
theorem dX10_passes_31 : decode cX10_passes 31 = .ok (.istore_n 2, 1) := dk_61 (dk_at dksX10_passes_1 9 rfl rfl)
theorem dX10_passes_32 : decode cX10_passes 32 = .ok (.iinc 3 1, 3) := dk_132 3 1 (dk_at dksX10_passes_1 10 rfl rfl)
theorem dX10_passes_35 : decode cX10_passes 35 = .ok (.goto (-15), 3) := dk_167 255 241 (dk_at dksX10_passes_1 13 rfl rfl)
theorem dX10_passes_38 : decode cX10_passes 38 = .ok (.aload_n 0, 1) := dk_42 (dk_at dksX10_passes_1 16 rfl rfl)
theorem dX10_passes_39 : decode cX10_passes 39 = .ok (.iload_n 2, 1) := dk_28 (dk_at dksX10_passes_1 17 rfl rfl)
theorem dX10_passes_40 : decode cX10_passes 40 = .ok (.invokevirtual 85, 3) := dk_182 0 85 (dk_at dksX10_passes_1 18 rfl rfl)
theorem dX10_passes_43 : decode cX10_passes 43 = .ok (.ireturn, 1) := dk_172 (dk_at dksX10_passes_1 21 rfl rfl)
abbrev cX10_append : ByteArray := prog_13_method_66_code
def yX10_append : MethodName := ⟨RX10, "append", "(C)I"⟩
def dkwX10_append_1 : List UInt8 := [85, 42, 89, 180, 0, 206, 4, 96, 181, 0, 206, 42, 42, 180, 0, 206, 182, 0, 85, 172]
abbrev dktX10_append_1 : List UInt8 := dkwX10_append_1 ++ []
def dkwX10_append_0 : List UInt8 := [42, 180, 0, 206, 16, 60, 160, 0, 9, 42, 4, 182, 0, 81, 172, 42, 180, 0, 41, 42, 180, 0, 206, 27]
abbrev dktX10_append_0 : List UInt8 := dkwX10_append_0 ++ dktX10_append_1
theorem dksX10_append_0 : cX10_append.data.toList.drop 0 = dktX10_append_0 := by decide +kernel
theorem dksX10_append_1 : cX10_append.data.toList.drop 24 = dktX10_append_1 := dk_seg dksX10_append_0 24 rfl rfl
theorem dX10_append_0 : decode cX10_append 0 = .ok (.aload_n 0, 1) := dk_42 (dk_at dksX10_append_0 0 rfl rfl)
theorem dX10_append_1 : decode cX10_append 1 = .ok (.getfield 206, 3) := dk_180 0 206 (dk_at dksX10_append_0 1 rfl rfl)
theorem dX10_append_4 : decode cX10_append 4 = .ok (.bipush 60, 2) := dk_16 60 (dk_at dksX10_append_0 4 rfl rfl)
theorem dX10_append_6 : decode cX10_append 6 = .ok (.if_icmp .ne 9, 3) := dk_160 0 9 (dk_at dksX10_append_0 6 rfl rfl)
theorem dX10_append_9 : decode cX10_append 9 = .ok (.aload_n 0, 1) := dk_42 (dk_at dksX10_append_0 9 rfl rfl)
theorem dX10_append_10 : decode cX10_append 10 = .ok (.iconst 1, 1) := dk_4 (dk_at dksX10_append_0 10 rfl rfl)
theorem dX10_append_11 : decode cX10_append 11 = .ok (.invokevirtual 81, 3) := dk_182 0 81 (dk_at dksX10_append_0 11 rfl rfl)
theorem dX10_append_14 : decode cX10_append 14 = .ok (.ireturn, 1) := dk_172 (dk_at dksX10_append_0 14 rfl rfl)
theorem dX10_append_15 : decode cX10_append 15 = .ok (.aload_n 0, 1) := dk_42 (dk_at dksX10_append_0 15 rfl rfl)
theorem dX10_append_16 : decode cX10_append 16 = .ok (.getfield 41, 3) := dk_180 0 41 (dk_at dksX10_append_0 16 rfl rfl)
theorem dX10_append_19 : decode cX10_append 19 = .ok (.aload_n 0, 1) := dk_42 (dk_at dksX10_append_0 19 rfl rfl)
theorem dX10_append_20 : decode cX10_append 20 = .ok (.getfield 206, 3) := dk_180 0 206 (dk_at dksX10_append_0 20 rfl rfl)
theorem dX10_append_23 : decode cX10_append 23 = .ok (.iload_n 1, 1) := dk_27 (dk_at dksX10_append_0 23 rfl rfl)
theorem dX10_append_24 : decode cX10_append 24 = .ok (.castore, 1) := dk_85 (dk_at dksX10_append_1 0 rfl rfl)
theorem dX10_append_25 : decode cX10_append 25 = .ok (.aload_n 0, 1) := dk_42 (dk_at dksX10_append_1 1 rfl rfl)
theorem dX10_append_26 : decode cX10_append 26 = .ok (.dup, 1) := dk_89 (dk_at dksX10_append_1 2 rfl rfl)
theorem dX10_append_27 : decode cX10_append 27 = .ok (.getfield 206, 3) := dk_180 0 206 (dk_at dksX10_append_1 3 rfl rfl)
theorem dX10_append_30 : decode cX10_append 30 = .ok (.iconst 1, 1) := dk_4 (dk_at dksX10_append_1 6 rfl rfl)
theorem dX10_append_31 : decode cX10_append 31 = .ok (.iadd, 1) := dk_96 (dk_at dksX10_append_1 7 rfl rfl)
theorem dX10_append_32 : decode cX10_append 32 = .ok (.putfield 206, 3) := dk_181 0 206 (dk_at dksX10_append_1 8 rfl rfl)
theorem dX10_append_35 : decode cX10_append 35 = .ok (.aload_n 0, 1) := dk_42 (dk_at dksX10_append_1 11 rfl rfl)
theorem dX10_append_36 : decode cX10_append 36 = .ok (.aload_n 0, 1) := dk_42 (dk_at dksX10_append_1 12 rfl rfl)
theorem dX10_append_37 : decode cX10_append 37 = .ok (.getfield 206, 3) := dk_180 0 206 (dk_at dksX10_append_1 13 rfl rfl)
theorem dX10_append_40 : decode cX10_append 40 = .ok (.invokevirtual 85, 3) := dk_182 0 85 (dk_at dksX10_append_1 16 rfl rfl)
theorem dX10_append_43 : decode cX10_append 43 = .ok (.ireturn, 1) := dk_172 (dk_at dksX10_append_1 19 rfl rfl)
abbrev cX10_read : ByteArray := prog_13_method_75_code
def yX10_read : MethodName := ⟨RX10, "read", "()I"⟩
def dkwX10_read_4 : List UInt8 := [182, 0, 85, 182, 0, 94, 172]
abbrev dktX10_read_4 : List UInt8 := dkwX10_read_4 ++ []
def dkwX10_read_3 : List UInt8 := [167, 0, 4, 4, 181, 0, 53, 42, 3, 182, 0, 94, 172, 132, 2, 1, 167, 255, 211, 42, 42, 27]
abbrev dktX10_read_3 : List UInt8 := dkwX10_read_3 ++ dktX10_read_4
def dkwX10_read_2 : List UInt8 := [42, 6, 28, 104, 182, 0, 236, 62, 42, 180, 0, 53, 153, 0, 25, 42, 42, 180, 0, 56, 153, 0, 7, 5]
abbrev dktX10_read_2 : List UInt8 := dkwX10_read_2 ++ dktX10_read_3
def dkwX10_read_1 : List UInt8 := [42, 180, 0, 212, 153, 0, 9, 42, 4, 182, 0, 81, 172, 42, 182, 0, 88, 3, 61, 28, 27, 162, 0, 46]
abbrev dktX10_read_1 : List UInt8 := dkwX10_read_1 ++ dktX10_read_2
def dkwX10_read_0 : List UInt8 := [42, 182, 0, 233, 60, 42, 42, 180, 0, 212, 153, 0, 10, 42, 180, 0, 209, 167, 0, 4, 2, 181, 0, 45]
abbrev dktX10_read_0 : List UInt8 := dkwX10_read_0 ++ dktX10_read_1
theorem dksX10_read_0 : cX10_read.data.toList.drop 0 = dktX10_read_0 := by decide +kernel
theorem dksX10_read_1 : cX10_read.data.toList.drop 24 = dktX10_read_1 := dk_seg dksX10_read_0 24 rfl rfl
theorem dksX10_read_2 : cX10_read.data.toList.drop 48 = dktX10_read_2 := dk_seg dksX10_read_1 24 rfl rfl
theorem dksX10_read_3 : cX10_read.data.toList.drop 72 = dktX10_read_3 := dk_seg dksX10_read_2 24 rfl rfl
theorem dksX10_read_4 : cX10_read.data.toList.drop 94 = dktX10_read_4 := dk_seg dksX10_read_3 22 rfl rfl
theorem dX10_read_0 : decode cX10_read 0 = .ok (.aload_n 0, 1) := dk_42 (dk_at dksX10_read_0 0 rfl rfl)
theorem dX10_read_1 : decode cX10_read 1 = .ok (.invokevirtual 233, 3) := dk_182 0 233 (dk_at dksX10_read_0 1 rfl rfl)
theorem dX10_read_4 : decode cX10_read 4 = .ok (.istore_n 1, 1) := dk_60 (dk_at dksX10_read_0 4 rfl rfl)
theorem dX10_read_5 : decode cX10_read 5 = .ok (.aload_n 0, 1) := dk_42 (dk_at dksX10_read_0 5 rfl rfl)
theorem dX10_read_6 : decode cX10_read 6 = .ok (.aload_n 0, 1) := dk_42 (dk_at dksX10_read_0 6 rfl rfl)
theorem dX10_read_7 : decode cX10_read 7 = .ok (.getfield 212, 3) := dk_180 0 212 (dk_at dksX10_read_0 7 rfl rfl)
theorem dX10_read_10 : decode cX10_read 10 = .ok (.ifCond .eq 10, 3) := dk_153 0 10 (dk_at dksX10_read_0 10 rfl rfl)
theorem dX10_read_13 : decode cX10_read 13 = .ok (.aload_n 0, 1) := dk_42 (dk_at dksX10_read_0 13 rfl rfl)
theorem dX10_read_14 : decode cX10_read 14 = .ok (.getfield 209, 3) := dk_180 0 209 (dk_at dksX10_read_0 14 rfl rfl)
theorem dX10_read_17 : decode cX10_read 17 = .ok (.goto 4, 3) := dk_167 0 4 (dk_at dksX10_read_0 17 rfl rfl)
theorem dX10_read_20 : decode cX10_read 20 = .ok (.iconst (-1), 1) := dk_2 (dk_at dksX10_read_0 20 rfl rfl)
theorem dX10_read_21 : decode cX10_read 21 = .ok (.putfield 45, 3) := dk_181 0 45 (dk_at dksX10_read_0 21 rfl rfl)
theorem dX10_read_24 : decode cX10_read 24 = .ok (.aload_n 0, 1) := dk_42 (dk_at dksX10_read_1 0 rfl rfl)
theorem dX10_read_25 : decode cX10_read 25 = .ok (.getfield 212, 3) := dk_180 0 212 (dk_at dksX10_read_1 1 rfl rfl)
theorem dX10_read_28 : decode cX10_read 28 = .ok (.ifCond .eq 9, 3) := dk_153 0 9 (dk_at dksX10_read_1 4 rfl rfl)
theorem dX10_read_31 : decode cX10_read 31 = .ok (.aload_n 0, 1) := dk_42 (dk_at dksX10_read_1 7 rfl rfl)
theorem dX10_read_32 : decode cX10_read 32 = .ok (.iconst 1, 1) := dk_4 (dk_at dksX10_read_1 8 rfl rfl)
theorem dX10_read_33 : decode cX10_read 33 = .ok (.invokevirtual 81, 3) := dk_182 0 81 (dk_at dksX10_read_1 9 rfl rfl)
theorem dX10_read_36 : decode cX10_read 36 = .ok (.ireturn, 1) := dk_172 (dk_at dksX10_read_1 12 rfl rfl)
theorem dX10_read_37 : decode cX10_read 37 = .ok (.aload_n 0, 1) := dk_42 (dk_at dksX10_read_1 13 rfl rfl)
theorem dX10_read_38 : decode cX10_read 38 = .ok (.invokevirtual 88, 3) := dk_182 0 88 (dk_at dksX10_read_1 14 rfl rfl)
theorem dX10_read_41 : decode cX10_read 41 = .ok (.iconst 0, 1) := dk_3 (dk_at dksX10_read_1 17 rfl rfl)
theorem dX10_read_42 : decode cX10_read 42 = .ok (.istore_n 2, 1) := dk_61 (dk_at dksX10_read_1 18 rfl rfl)
theorem dX10_read_43 : decode cX10_read 43 = .ok (.iload_n 2, 1) := dk_28 (dk_at dksX10_read_1 19 rfl rfl)
theorem dX10_read_44 : decode cX10_read 44 = .ok (.iload_n 1, 1) := dk_27 (dk_at dksX10_read_1 20 rfl rfl)
theorem dX10_read_45 : decode cX10_read 45 = .ok (.if_icmp .ge 46, 3) := dk_162 0 46 (dk_at dksX10_read_1 21 rfl rfl)
theorem dX10_read_48 : decode cX10_read 48 = .ok (.aload_n 0, 1) := dk_42 (dk_at dksX10_read_2 0 rfl rfl)
theorem dX10_read_49 : decode cX10_read 49 = .ok (.iconst 3, 1) := dk_6 (dk_at dksX10_read_2 1 rfl rfl)
theorem dX10_read_50 : decode cX10_read 50 = .ok (.iload_n 2, 1) := dk_28 (dk_at dksX10_read_2 2 rfl rfl)
theorem dX10_read_51 : decode cX10_read 51 = .ok (.imul, 1) := dk_104 (dk_at dksX10_read_2 3 rfl rfl)
theorem dX10_read_52 : decode cX10_read 52 = .ok (.invokevirtual 236, 3) := dk_182 0 236 (dk_at dksX10_read_2 4 rfl rfl)
theorem dX10_read_55 : decode cX10_read 55 = .ok (.istore_n 3, 1) := dk_62 (dk_at dksX10_read_2 7 rfl rfl)
theorem dX10_read_56 : decode cX10_read 56 = .ok (.aload_n 0, 1) := dk_42 (dk_at dksX10_read_2 8 rfl rfl)
theorem dX10_read_57 : decode cX10_read 57 = .ok (.getfield 53, 3) := dk_180 0 53 (dk_at dksX10_read_2 9 rfl rfl)
theorem dX10_read_60 : decode cX10_read 60 = .ok (.ifCond .eq 25, 3) := dk_153 0 25 (dk_at dksX10_read_2 12 rfl rfl)
theorem dX10_read_63 : decode cX10_read 63 = .ok (.aload_n 0, 1) := dk_42 (dk_at dksX10_read_2 15 rfl rfl)
theorem dX10_read_64 : decode cX10_read 64 = .ok (.aload_n 0, 1) := dk_42 (dk_at dksX10_read_2 16 rfl rfl)
theorem dX10_read_65 : decode cX10_read 65 = .ok (.getfield 56, 3) := dk_180 0 56 (dk_at dksX10_read_2 17 rfl rfl)
theorem dX10_read_68 : decode cX10_read 68 = .ok (.ifCond .eq 7, 3) := dk_153 0 7 (dk_at dksX10_read_2 20 rfl rfl)
theorem dX10_read_71 : decode cX10_read 71 = .ok (.iconst 2, 1) := dk_5 (dk_at dksX10_read_2 23 rfl rfl)
theorem dX10_read_72 : decode cX10_read 72 = .ok (.goto 4, 3) := dk_167 0 4 (dk_at dksX10_read_3 0 rfl rfl)
theorem dX10_read_75 : decode cX10_read 75 = .ok (.iconst 1, 1) := dk_4 (dk_at dksX10_read_3 3 rfl rfl)
theorem dX10_read_76 : decode cX10_read 76 = .ok (.putfield 53, 3) := dk_181 0 53 (dk_at dksX10_read_3 4 rfl rfl)
theorem dX10_read_79 : decode cX10_read 79 = .ok (.aload_n 0, 1) := dk_42 (dk_at dksX10_read_3 7 rfl rfl)
theorem dX10_read_80 : decode cX10_read 80 = .ok (.iconst 0, 1) := dk_3 (dk_at dksX10_read_3 8 rfl rfl)
theorem dX10_read_81 : decode cX10_read 81 = .ok (.invokevirtual 94, 3) := dk_182 0 94 (dk_at dksX10_read_3 9 rfl rfl)
theorem dX10_read_84 : decode cX10_read 84 = .ok (.ireturn, 1) := dk_172 (dk_at dksX10_read_3 12 rfl rfl)
theorem dX10_read_85 : decode cX10_read 85 = .ok (.iinc 2 1, 3) := dk_132 2 1 (dk_at dksX10_read_3 13 rfl rfl)
theorem dX10_read_88 : decode cX10_read 88 = .ok (.goto (-45), 3) := dk_167 255 211 (dk_at dksX10_read_3 16 rfl rfl)
theorem dX10_read_91 : decode cX10_read 91 = .ok (.aload_n 0, 1) := dk_42 (dk_at dksX10_read_3 19 rfl rfl)
theorem dX10_read_92 : decode cX10_read 92 = .ok (.aload_n 0, 1) := dk_42 (dk_at dksX10_read_3 20 rfl rfl)
theorem dX10_read_93 : decode cX10_read 93 = .ok (.iload_n 1, 1) := dk_27 (dk_at dksX10_read_3 21 rfl rfl)
theorem dX10_read_94 : decode cX10_read 94 = .ok (.invokevirtual 85, 3) := dk_182 0 85 (dk_at dksX10_read_4 0 rfl rfl)
theorem dX10_read_97 : decode cX10_read 97 = .ok (.invokevirtual 94, 3) := dk_182 0 94 (dk_at dksX10_read_4 3 rfl rfl)
theorem dX10_read_100 : decode cX10_read 100 = .ok (.ireturn, 1) := dk_172 (dk_at dksX10_read_4 6 rfl rfl)
abbrev cX10_readsText : ByteArray := prog_13_method_73_code
def yX10_readsText : MethodName := ⟨RX10, "readsText", "()I"⟩
def dkwX10_readsText_4 : List UInt8 := [167, 0, 4, 3, 181, 0, 212, 42, 3, 181, 0, 206, 27, 172]
abbrev dktX10_readsText_4 : List UInt8 := dkwX10_readsText_4 ++ []
def dkwX10_readsText_3 : List UInt8 := [167, 255, 202, 42, 42, 180, 0, 212, 154, 0, 14, 42, 180, 0, 209, 42, 180, 0, 206, 162, 0, 7, 4]
abbrev dktX10_readsText_3 : List UInt8 := dkwX10_readsText_3 ++ dktX10_readsText_4
def dkwX10_readsText_2 : List UInt8 := [167, 0, 4, 3, 61, 42, 89, 180, 0, 209, 28, 153, 0, 7, 4, 167, 0, 4, 3, 96, 181, 0, 209]
abbrev dktX10_readsText_2 : List UInt8 := dkwX10_readsText_2 ++ dktX10_readsText_3
def dkwX10_readsText_1 : List UInt8 := [182, 0, 230, 132, 1, 1, 42, 180, 0, 212, 154, 0, 16, 42, 182, 0, 215, 16, 59, 160, 0, 7, 4]
abbrev dktX10_readsText_1 : List UInt8 := dkwX10_readsText_1 ++ dktX10_readsText_2
def dkwX10_readsText_0 : List UInt8 := [42, 3, 181, 0, 209, 42, 3, 181, 0, 212, 3, 60, 4, 61, 28, 153, 0, 56, 42, 6, 27, 104]
abbrev dktX10_readsText_0 : List UInt8 := dkwX10_readsText_0 ++ dktX10_readsText_1
theorem dksX10_readsText_0 : cX10_readsText.data.toList.drop 0 = dktX10_readsText_0 := by decide +kernel
theorem dksX10_readsText_1 : cX10_readsText.data.toList.drop 22 = dktX10_readsText_1 := dk_seg dksX10_readsText_0 22 rfl rfl
theorem dksX10_readsText_2 : cX10_readsText.data.toList.drop 45 = dktX10_readsText_2 := dk_seg dksX10_readsText_1 23 rfl rfl
theorem dksX10_readsText_3 : cX10_readsText.data.toList.drop 68 = dktX10_readsText_3 := dk_seg dksX10_readsText_2 23 rfl rfl
theorem dksX10_readsText_4 : cX10_readsText.data.toList.drop 91 = dktX10_readsText_4 := dk_seg dksX10_readsText_3 23 rfl rfl
theorem dX10_readsText_0 : decode cX10_readsText 0 = .ok (.aload_n 0, 1) := dk_42 (dk_at dksX10_readsText_0 0 rfl rfl)
theorem dX10_readsText_1 : decode cX10_readsText 1 = .ok (.iconst 0, 1) := dk_3 (dk_at dksX10_readsText_0 1 rfl rfl)
theorem dX10_readsText_2 : decode cX10_readsText 2 = .ok (.putfield 209, 3) := dk_181 0 209 (dk_at dksX10_readsText_0 2 rfl rfl)
theorem dX10_readsText_5 : decode cX10_readsText 5 = .ok (.aload_n 0, 1) := dk_42 (dk_at dksX10_readsText_0 5 rfl rfl)
theorem dX10_readsText_6 : decode cX10_readsText 6 = .ok (.iconst 0, 1) := dk_3 (dk_at dksX10_readsText_0 6 rfl rfl)
theorem dX10_readsText_7 : decode cX10_readsText 7 = .ok (.putfield 212, 3) := dk_181 0 212 (dk_at dksX10_readsText_0 7 rfl rfl)
theorem dX10_readsText_10 : decode cX10_readsText 10 = .ok (.iconst 0, 1) := dk_3 (dk_at dksX10_readsText_0 10 rfl rfl)
theorem dX10_readsText_11 : decode cX10_readsText 11 = .ok (.istore_n 1, 1) := dk_60 (dk_at dksX10_readsText_0 11 rfl rfl)
theorem dX10_readsText_12 : decode cX10_readsText 12 = .ok (.iconst 1, 1) := dk_4 (dk_at dksX10_readsText_0 12 rfl rfl)
theorem dX10_readsText_13 : decode cX10_readsText 13 = .ok (.istore_n 2, 1) := dk_61 (dk_at dksX10_readsText_0 13 rfl rfl)
theorem dX10_readsText_14 : decode cX10_readsText 14 = .ok (.iload_n 2, 1) := dk_28 (dk_at dksX10_readsText_0 14 rfl rfl)
theorem dX10_readsText_15 : decode cX10_readsText 15 = .ok (.ifCond .eq 56, 3) := dk_153 0 56 (dk_at dksX10_readsText_0 15 rfl rfl)
theorem dX10_readsText_18 : decode cX10_readsText 18 = .ok (.aload_n 0, 1) := dk_42 (dk_at dksX10_readsText_0 18 rfl rfl)
theorem dX10_readsText_19 : decode cX10_readsText 19 = .ok (.iconst 3, 1) := dk_6 (dk_at dksX10_readsText_0 19 rfl rfl)
theorem dX10_readsText_20 : decode cX10_readsText 20 = .ok (.iload_n 1, 1) := dk_27 (dk_at dksX10_readsText_0 20 rfl rfl)
theorem dX10_readsText_21 : decode cX10_readsText 21 = .ok (.imul, 1) := dk_104 (dk_at dksX10_readsText_0 21 rfl rfl)
theorem dX10_readsText_22 : decode cX10_readsText 22 = .ok (.invokevirtual 230, 3) := dk_182 0 230 (dk_at dksX10_readsText_1 0 rfl rfl)
theorem dX10_readsText_25 : decode cX10_readsText 25 = .ok (.iinc 1 1, 3) := dk_132 1 1 (dk_at dksX10_readsText_1 3 rfl rfl)
theorem dX10_readsText_28 : decode cX10_readsText 28 = .ok (.aload_n 0, 1) := dk_42 (dk_at dksX10_readsText_1 6 rfl rfl)
theorem dX10_readsText_29 : decode cX10_readsText 29 = .ok (.getfield 212, 3) := dk_180 0 212 (dk_at dksX10_readsText_1 7 rfl rfl)
theorem dX10_readsText_32 : decode cX10_readsText 32 = .ok (.ifCond .ne 16, 3) := dk_154 0 16 (dk_at dksX10_readsText_1 10 rfl rfl)
theorem dX10_readsText_35 : decode cX10_readsText 35 = .ok (.aload_n 0, 1) := dk_42 (dk_at dksX10_readsText_1 13 rfl rfl)
theorem dX10_readsText_36 : decode cX10_readsText 36 = .ok (.invokevirtual 215, 3) := dk_182 0 215 (dk_at dksX10_readsText_1 14 rfl rfl)
theorem dX10_readsText_39 : decode cX10_readsText 39 = .ok (.bipush 59, 2) := dk_16 59 (dk_at dksX10_readsText_1 17 rfl rfl)
theorem dX10_readsText_41 : decode cX10_readsText 41 = .ok (.if_icmp .ne 7, 3) := dk_160 0 7 (dk_at dksX10_readsText_1 19 rfl rfl)
theorem dX10_readsText_44 : decode cX10_readsText 44 = .ok (.iconst 1, 1) := dk_4 (dk_at dksX10_readsText_1 22 rfl rfl)
theorem dX10_readsText_45 : decode cX10_readsText 45 = .ok (.goto 4, 3) := dk_167 0 4 (dk_at dksX10_readsText_2 0 rfl rfl)
theorem dX10_readsText_48 : decode cX10_readsText 48 = .ok (.iconst 0, 1) := dk_3 (dk_at dksX10_readsText_2 3 rfl rfl)
theorem dX10_readsText_49 : decode cX10_readsText 49 = .ok (.istore_n 2, 1) := dk_61 (dk_at dksX10_readsText_2 4 rfl rfl)
theorem dX10_readsText_50 : decode cX10_readsText 50 = .ok (.aload_n 0, 1) := dk_42 (dk_at dksX10_readsText_2 5 rfl rfl)
theorem dX10_readsText_51 : decode cX10_readsText 51 = .ok (.dup, 1) := dk_89 (dk_at dksX10_readsText_2 6 rfl rfl)
theorem dX10_readsText_52 : decode cX10_readsText 52 = .ok (.getfield 209, 3) := dk_180 0 209 (dk_at dksX10_readsText_2 7 rfl rfl)
theorem dX10_readsText_55 : decode cX10_readsText 55 = .ok (.iload_n 2, 1) := dk_28 (dk_at dksX10_readsText_2 10 rfl rfl)
theorem dX10_readsText_56 : decode cX10_readsText 56 = .ok (.ifCond .eq 7, 3) := dk_153 0 7 (dk_at dksX10_readsText_2 11 rfl rfl)
theorem dX10_readsText_59 : decode cX10_readsText 59 = .ok (.iconst 1, 1) := dk_4 (dk_at dksX10_readsText_2 14 rfl rfl)
theorem dX10_readsText_60 : decode cX10_readsText 60 = .ok (.goto 4, 3) := dk_167 0 4 (dk_at dksX10_readsText_2 15 rfl rfl)
theorem dX10_readsText_63 : decode cX10_readsText 63 = .ok (.iconst 0, 1) := dk_3 (dk_at dksX10_readsText_2 18 rfl rfl)
theorem dX10_readsText_64 : decode cX10_readsText 64 = .ok (.iadd, 1) := dk_96 (dk_at dksX10_readsText_2 19 rfl rfl)
theorem dX10_readsText_65 : decode cX10_readsText 65 = .ok (.putfield 209, 3) := dk_181 0 209 (dk_at dksX10_readsText_2 20 rfl rfl)
theorem dX10_readsText_68 : decode cX10_readsText 68 = .ok (.goto (-54), 3) := dk_167 255 202 (dk_at dksX10_readsText_3 0 rfl rfl)
theorem dX10_readsText_71 : decode cX10_readsText 71 = .ok (.aload_n 0, 1) := dk_42 (dk_at dksX10_readsText_3 3 rfl rfl)
theorem dX10_readsText_72 : decode cX10_readsText 72 = .ok (.aload_n 0, 1) := dk_42 (dk_at dksX10_readsText_3 4 rfl rfl)
theorem dX10_readsText_73 : decode cX10_readsText 73 = .ok (.getfield 212, 3) := dk_180 0 212 (dk_at dksX10_readsText_3 5 rfl rfl)
theorem dX10_readsText_76 : decode cX10_readsText 76 = .ok (.ifCond .ne 14, 3) := dk_154 0 14 (dk_at dksX10_readsText_3 8 rfl rfl)
theorem dX10_readsText_79 : decode cX10_readsText 79 = .ok (.aload_n 0, 1) := dk_42 (dk_at dksX10_readsText_3 11 rfl rfl)
theorem dX10_readsText_80 : decode cX10_readsText 80 = .ok (.getfield 209, 3) := dk_180 0 209 (dk_at dksX10_readsText_3 12 rfl rfl)
theorem dX10_readsText_83 : decode cX10_readsText 83 = .ok (.aload_n 0, 1) := dk_42 (dk_at dksX10_readsText_3 15 rfl rfl)
theorem dX10_readsText_84 : decode cX10_readsText 84 = .ok (.getfield 206, 3) := dk_180 0 206 (dk_at dksX10_readsText_3 16 rfl rfl)
theorem dX10_readsText_87 : decode cX10_readsText 87 = .ok (.if_icmp .ge 7, 3) := dk_162 0 7 (dk_at dksX10_readsText_3 19 rfl rfl)
theorem dX10_readsText_90 : decode cX10_readsText 90 = .ok (.iconst 1, 1) := dk_4 (dk_at dksX10_readsText_3 22 rfl rfl)
theorem dX10_readsText_91 : decode cX10_readsText 91 = .ok (.goto 4, 3) := dk_167 0 4 (dk_at dksX10_readsText_4 0 rfl rfl)
theorem dX10_readsText_94 : decode cX10_readsText 94 = .ok (.iconst 0, 1) := dk_3 (dk_at dksX10_readsText_4 3 rfl rfl)
theorem dX10_readsText_95 : decode cX10_readsText 95 = .ok (.putfield 212, 3) := dk_181 0 212 (dk_at dksX10_readsText_4 4 rfl rfl)
theorem dX10_readsText_98 : decode cX10_readsText 98 = .ok (.aload_n 0, 1) := dk_42 (dk_at dksX10_readsText_4 7 rfl rfl)
theorem dX10_readsText_99 : decode cX10_readsText 99 = .ok (.iconst 0, 1) := dk_3 (dk_at dksX10_readsText_4 8 rfl rfl)
theorem dX10_readsText_100 : decode cX10_readsText 100 = .ok (.putfield 206, 3) := dk_181 0 206 (dk_at dksX10_readsText_4 9 rfl rfl)
theorem dX10_readsText_103 : decode cX10_readsText 103 = .ok (.iload_n 1, 1) := dk_27 (dk_at dksX10_readsText_4 12 rfl rfl)
theorem dX10_readsText_104 : decode cX10_readsText 104 = .ok (.ireturn, 1) := dk_172 (dk_at dksX10_readsText_4 13 rfl rfl)
abbrev cX10_readsOrder : ByteArray := prog_13_method_72_code
def yX10_readsOrder : MethodName := ⟨RX10, "readsOrder", "(I)V"⟩
def dkwX10_readsOrder_7 : List UInt8 := [167, 0, 4, 4, 96, 181, 0, 209, 42, 180, 0, 49, 27, 5, 96, 42, 182, 0, 224, 79, 177]
abbrev dktX10_readsOrder_7 : List UInt8 := dkwX10_readsOrder_7 ++ []
def dkwX10_readsOrder_6 : List UInt8 := [159, 0, 7, 4, 167, 0, 4, 3, 181, 0, 212, 42, 89, 180, 0, 209, 42, 180, 0, 212, 153, 0, 7, 3]
abbrev dktX10_readsOrder_6 : List UInt8 := dkwX10_readsOrder_6 ++ dktX10_readsOrder_7
def dkwX10_readsOrder_5 : List UInt8 := [182, 0, 227, 79, 28, 16, 100, 160, 0, 61, 42, 42, 180, 0, 212, 154, 0, 12, 42, 182, 0, 215, 16, 64]
abbrev dktX10_readsOrder_5 : List UInt8 := dkwX10_readsOrder_5 ++ dktX10_readsOrder_6
def dkwX10_readsOrder_4 : List UInt8 := [27, 4, 96, 42, 182, 0, 218, 79, 28, 16, 118, 160, 0, 15, 42, 180, 0, 49, 27, 5, 96, 42]
abbrev dktX10_readsOrder_4 : List UInt8 := dkwX10_readsOrder_4 ++ dktX10_readsOrder_5
def dkwX10_readsOrder_3 : List UInt8 := [180, 0, 49, 27, 4, 96, 42, 182, 0, 224, 79, 167, 0, 21, 28, 16, 99, 159, 0, 15, 42, 180, 0, 49]
abbrev dktX10_readsOrder_3 : List UInt8 := dkwX10_readsOrder_3 ++ dktX10_readsOrder_4
def dkwX10_readsOrder_2 : List UInt8 := [181, 0, 209, 28, 16, 119, 159, 0, 15, 28, 16, 110, 159, 0, 9, 28, 16, 112, 160, 0, 18, 42]
abbrev dktX10_readsOrder_2 : List UInt8 := dkwX10_readsOrder_2 ++ dktX10_readsOrder_3
def dkwX10_readsOrder_1 : List UInt8 := [3, 181, 0, 212, 42, 89, 180, 0, 209, 42, 180, 0, 212, 153, 0, 7, 3, 167, 0, 4, 4, 96]
abbrev dktX10_readsOrder_1 : List UInt8 := dkwX10_readsOrder_1 ++ dktX10_readsOrder_2
def dkwX10_readsOrder_0 : List UInt8 := [42, 182, 0, 215, 61, 42, 180, 0, 49, 27, 28, 79, 42, 28, 184, 0, 221, 154, 0, 7, 4, 167, 0, 4]
abbrev dktX10_readsOrder_0 : List UInt8 := dkwX10_readsOrder_0 ++ dktX10_readsOrder_1
theorem dksX10_readsOrder_0 : cX10_readsOrder.data.toList.drop 0 = dktX10_readsOrder_0 := by decide +kernel
theorem dksX10_readsOrder_1 : cX10_readsOrder.data.toList.drop 24 = dktX10_readsOrder_1 := dk_seg dksX10_readsOrder_0 24 rfl rfl
theorem dksX10_readsOrder_2 : cX10_readsOrder.data.toList.drop 46 = dktX10_readsOrder_2 := dk_seg dksX10_readsOrder_1 22 rfl rfl
theorem dksX10_readsOrder_3 : cX10_readsOrder.data.toList.drop 68 = dktX10_readsOrder_3 := dk_seg dksX10_readsOrder_2 22 rfl rfl
theorem dksX10_readsOrder_4 : cX10_readsOrder.data.toList.drop 92 = dktX10_readsOrder_4 := dk_seg dksX10_readsOrder_3 24 rfl rfl
theorem dksX10_readsOrder_5 : cX10_readsOrder.data.toList.drop 114 = dktX10_readsOrder_5 := dk_seg dksX10_readsOrder_4 22 rfl rfl
theorem dksX10_readsOrder_6 : cX10_readsOrder.data.toList.drop 138 = dktX10_readsOrder_6 := dk_seg dksX10_readsOrder_5 24 rfl rfl
theorem dksX10_readsOrder_7 : cX10_readsOrder.data.toList.drop 162 = dktX10_readsOrder_7 := dk_seg dksX10_readsOrder_6 24 rfl rfl
theorem dX10_readsOrder_0 : decode cX10_readsOrder 0 = .ok (.aload_n 0, 1) := dk_42 (dk_at dksX10_readsOrder_0 0 rfl rfl)
theorem dX10_readsOrder_1 : decode cX10_readsOrder 1 = .ok (.invokevirtual 215, 3) := dk_182 0 215 (dk_at dksX10_readsOrder_0 1 rfl rfl)
theorem dX10_readsOrder_4 : decode cX10_readsOrder 4 = .ok (.istore_n 2, 1) := dk_61 (dk_at dksX10_readsOrder_0 4 rfl rfl)
theorem dX10_readsOrder_5 : decode cX10_readsOrder 5 = .ok (.aload_n 0, 1) := dk_42 (dk_at dksX10_readsOrder_0 5 rfl rfl)
theorem dX10_readsOrder_6 : decode cX10_readsOrder 6 = .ok (.getfield 49, 3) := dk_180 0 49 (dk_at dksX10_readsOrder_0 6 rfl rfl)
theorem dX10_readsOrder_9 : decode cX10_readsOrder 9 = .ok (.iload_n 1, 1) := dk_27 (dk_at dksX10_readsOrder_0 9 rfl rfl)
theorem dX10_readsOrder_10 : decode cX10_readsOrder 10 = .ok (.iload_n 2, 1) := dk_28 (dk_at dksX10_readsOrder_0 10 rfl rfl)
theorem dX10_readsOrder_11 : decode cX10_readsOrder 11 = .ok (.iastore, 1) := dk_79 (dk_at dksX10_readsOrder_0 11 rfl rfl)
theorem dX10_readsOrder_12 : decode cX10_readsOrder 12 = .ok (.aload_n 0, 1) := dk_42 (dk_at dksX10_readsOrder_0 12 rfl rfl)
theorem dX10_readsOrder_13 : decode cX10_readsOrder 13 = .ok (.iload_n 2, 1) := dk_28 (dk_at dksX10_readsOrder_0 13 rfl rfl)
theorem dX10_readsOrder_14 : decode cX10_readsOrder 14 = .ok (.invokestatic 221, 3) := dk_184 0 221 (dk_at dksX10_readsOrder_0 14 rfl rfl)
theorem dX10_readsOrder_17 : decode cX10_readsOrder 17 = .ok (.ifCond .ne 7, 3) := dk_154 0 7 (dk_at dksX10_readsOrder_0 17 rfl rfl)
theorem dX10_readsOrder_20 : decode cX10_readsOrder 20 = .ok (.iconst 1, 1) := dk_4 (dk_at dksX10_readsOrder_0 20 rfl rfl)
theorem dX10_readsOrder_21 : decode cX10_readsOrder 21 = .ok (.goto 4, 3) := dk_167 0 4 (dk_at dksX10_readsOrder_0 21 rfl rfl)
theorem dX10_readsOrder_24 : decode cX10_readsOrder 24 = .ok (.iconst 0, 1) := dk_3 (dk_at dksX10_readsOrder_1 0 rfl rfl)
theorem dX10_readsOrder_25 : decode cX10_readsOrder 25 = .ok (.putfield 212, 3) := dk_181 0 212 (dk_at dksX10_readsOrder_1 1 rfl rfl)
theorem dX10_readsOrder_28 : decode cX10_readsOrder 28 = .ok (.aload_n 0, 1) := dk_42 (dk_at dksX10_readsOrder_1 4 rfl rfl)
theorem dX10_readsOrder_29 : decode cX10_readsOrder 29 = .ok (.dup, 1) := dk_89 (dk_at dksX10_readsOrder_1 5 rfl rfl)
theorem dX10_readsOrder_30 : decode cX10_readsOrder 30 = .ok (.getfield 209, 3) := dk_180 0 209 (dk_at dksX10_readsOrder_1 6 rfl rfl)
theorem dX10_readsOrder_33 : decode cX10_readsOrder 33 = .ok (.aload_n 0, 1) := dk_42 (dk_at dksX10_readsOrder_1 9 rfl rfl)
theorem dX10_readsOrder_34 : decode cX10_readsOrder 34 = .ok (.getfield 212, 3) := dk_180 0 212 (dk_at dksX10_readsOrder_1 10 rfl rfl)
theorem dX10_readsOrder_37 : decode cX10_readsOrder 37 = .ok (.ifCond .eq 7, 3) := dk_153 0 7 (dk_at dksX10_readsOrder_1 13 rfl rfl)
theorem dX10_readsOrder_40 : decode cX10_readsOrder 40 = .ok (.iconst 0, 1) := dk_3 (dk_at dksX10_readsOrder_1 16 rfl rfl)
theorem dX10_readsOrder_41 : decode cX10_readsOrder 41 = .ok (.goto 4, 3) := dk_167 0 4 (dk_at dksX10_readsOrder_1 17 rfl rfl)
theorem dX10_readsOrder_44 : decode cX10_readsOrder 44 = .ok (.iconst 1, 1) := dk_4 (dk_at dksX10_readsOrder_1 20 rfl rfl)
theorem dX10_readsOrder_45 : decode cX10_readsOrder 45 = .ok (.iadd, 1) := dk_96 (dk_at dksX10_readsOrder_1 21 rfl rfl)
theorem dX10_readsOrder_46 : decode cX10_readsOrder 46 = .ok (.putfield 209, 3) := dk_181 0 209 (dk_at dksX10_readsOrder_2 0 rfl rfl)
theorem dX10_readsOrder_49 : decode cX10_readsOrder 49 = .ok (.iload_n 2, 1) := dk_28 (dk_at dksX10_readsOrder_2 3 rfl rfl)
theorem dX10_readsOrder_50 : decode cX10_readsOrder 50 = .ok (.bipush 119, 2) := dk_16 119 (dk_at dksX10_readsOrder_2 4 rfl rfl)
theorem dX10_readsOrder_52 : decode cX10_readsOrder 52 = .ok (.if_icmp .eq 15, 3) := dk_159 0 15 (dk_at dksX10_readsOrder_2 6 rfl rfl)
theorem dX10_readsOrder_55 : decode cX10_readsOrder 55 = .ok (.iload_n 2, 1) := dk_28 (dk_at dksX10_readsOrder_2 9 rfl rfl)
theorem dX10_readsOrder_56 : decode cX10_readsOrder 56 = .ok (.bipush 110, 2) := dk_16 110 (dk_at dksX10_readsOrder_2 10 rfl rfl)
theorem dX10_readsOrder_58 : decode cX10_readsOrder 58 = .ok (.if_icmp .eq 9, 3) := dk_159 0 9 (dk_at dksX10_readsOrder_2 12 rfl rfl)
theorem dX10_readsOrder_61 : decode cX10_readsOrder 61 = .ok (.iload_n 2, 1) := dk_28 (dk_at dksX10_readsOrder_2 15 rfl rfl)
theorem dX10_readsOrder_62 : decode cX10_readsOrder 62 = .ok (.bipush 112, 2) := dk_16 112 (dk_at dksX10_readsOrder_2 16 rfl rfl)
theorem dX10_readsOrder_64 : decode cX10_readsOrder 64 = .ok (.if_icmp .ne 18, 3) := dk_160 0 18 (dk_at dksX10_readsOrder_2 18 rfl rfl)
theorem dX10_readsOrder_67 : decode cX10_readsOrder 67 = .ok (.aload_n 0, 1) := dk_42 (dk_at dksX10_readsOrder_2 21 rfl rfl)
theorem dX10_readsOrder_68 : decode cX10_readsOrder 68 = .ok (.getfield 49, 3) := dk_180 0 49 (dk_at dksX10_readsOrder_3 0 rfl rfl)
theorem dX10_readsOrder_71 : decode cX10_readsOrder 71 = .ok (.iload_n 1, 1) := dk_27 (dk_at dksX10_readsOrder_3 3 rfl rfl)
theorem dX10_readsOrder_72 : decode cX10_readsOrder 72 = .ok (.iconst 1, 1) := dk_4 (dk_at dksX10_readsOrder_3 4 rfl rfl)
theorem dX10_readsOrder_73 : decode cX10_readsOrder 73 = .ok (.iadd, 1) := dk_96 (dk_at dksX10_readsOrder_3 5 rfl rfl)
theorem dX10_readsOrder_74 : decode cX10_readsOrder 74 = .ok (.aload_n 0, 1) := dk_42 (dk_at dksX10_readsOrder_3 6 rfl rfl)
theorem dX10_readsOrder_75 : decode cX10_readsOrder 75 = .ok (.invokevirtual 224, 3) := dk_182 0 224 (dk_at dksX10_readsOrder_3 7 rfl rfl)
theorem dX10_readsOrder_78 : decode cX10_readsOrder 78 = .ok (.iastore, 1) := dk_79 (dk_at dksX10_readsOrder_3 10 rfl rfl)
theorem dX10_readsOrder_79 : decode cX10_readsOrder 79 = .ok (.goto 21, 3) := dk_167 0 21 (dk_at dksX10_readsOrder_3 11 rfl rfl)
theorem dX10_readsOrder_82 : decode cX10_readsOrder 82 = .ok (.iload_n 2, 1) := dk_28 (dk_at dksX10_readsOrder_3 14 rfl rfl)
theorem dX10_readsOrder_83 : decode cX10_readsOrder 83 = .ok (.bipush 99, 2) := dk_16 99 (dk_at dksX10_readsOrder_3 15 rfl rfl)
theorem dX10_readsOrder_85 : decode cX10_readsOrder 85 = .ok (.if_icmp .eq 15, 3) := dk_159 0 15 (dk_at dksX10_readsOrder_3 17 rfl rfl)
theorem dX10_readsOrder_88 : decode cX10_readsOrder 88 = .ok (.aload_n 0, 1) := dk_42 (dk_at dksX10_readsOrder_3 20 rfl rfl)
theorem dX10_readsOrder_89 : decode cX10_readsOrder 89 = .ok (.getfield 49, 3) := dk_180 0 49 (dk_at dksX10_readsOrder_3 21 rfl rfl)
theorem dX10_readsOrder_92 : decode cX10_readsOrder 92 = .ok (.iload_n 1, 1) := dk_27 (dk_at dksX10_readsOrder_4 0 rfl rfl)
theorem dX10_readsOrder_93 : decode cX10_readsOrder 93 = .ok (.iconst 1, 1) := dk_4 (dk_at dksX10_readsOrder_4 1 rfl rfl)
theorem dX10_readsOrder_94 : decode cX10_readsOrder 94 = .ok (.iadd, 1) := dk_96 (dk_at dksX10_readsOrder_4 2 rfl rfl)
theorem dX10_readsOrder_95 : decode cX10_readsOrder 95 = .ok (.aload_n 0, 1) := dk_42 (dk_at dksX10_readsOrder_4 3 rfl rfl)
theorem dX10_readsOrder_96 : decode cX10_readsOrder 96 = .ok (.invokevirtual 218, 3) := dk_182 0 218 (dk_at dksX10_readsOrder_4 4 rfl rfl)
theorem dX10_readsOrder_99 : decode cX10_readsOrder 99 = .ok (.iastore, 1) := dk_79 (dk_at dksX10_readsOrder_4 7 rfl rfl)
theorem dX10_readsOrder_100 : decode cX10_readsOrder 100 = .ok (.iload_n 2, 1) := dk_28 (dk_at dksX10_readsOrder_4 8 rfl rfl)
theorem dX10_readsOrder_101 : decode cX10_readsOrder 101 = .ok (.bipush 118, 2) := dk_16 118 (dk_at dksX10_readsOrder_4 9 rfl rfl)
theorem dX10_readsOrder_103 : decode cX10_readsOrder 103 = .ok (.if_icmp .ne 15, 3) := dk_160 0 15 (dk_at dksX10_readsOrder_4 11 rfl rfl)
theorem dX10_readsOrder_106 : decode cX10_readsOrder 106 = .ok (.aload_n 0, 1) := dk_42 (dk_at dksX10_readsOrder_4 14 rfl rfl)
theorem dX10_readsOrder_107 : decode cX10_readsOrder 107 = .ok (.getfield 49, 3) := dk_180 0 49 (dk_at dksX10_readsOrder_4 15 rfl rfl)
theorem dX10_readsOrder_110 : decode cX10_readsOrder 110 = .ok (.iload_n 1, 1) := dk_27 (dk_at dksX10_readsOrder_4 18 rfl rfl)
theorem dX10_readsOrder_111 : decode cX10_readsOrder 111 = .ok (.iconst 2, 1) := dk_5 (dk_at dksX10_readsOrder_4 19 rfl rfl)
theorem dX10_readsOrder_112 : decode cX10_readsOrder 112 = .ok (.iadd, 1) := dk_96 (dk_at dksX10_readsOrder_4 20 rfl rfl)
theorem dX10_readsOrder_113 : decode cX10_readsOrder 113 = .ok (.aload_n 0, 1) := dk_42 (dk_at dksX10_readsOrder_4 21 rfl rfl)
theorem dX10_readsOrder_114 : decode cX10_readsOrder 114 = .ok (.invokevirtual 227, 3) := dk_182 0 227 (dk_at dksX10_readsOrder_5 0 rfl rfl)
theorem dX10_readsOrder_117 : decode cX10_readsOrder 117 = .ok (.iastore, 1) := dk_79 (dk_at dksX10_readsOrder_5 3 rfl rfl)
theorem dX10_readsOrder_118 : decode cX10_readsOrder 118 = .ok (.iload_n 2, 1) := dk_28 (dk_at dksX10_readsOrder_5 4 rfl rfl)
theorem dX10_readsOrder_119 : decode cX10_readsOrder 119 = .ok (.bipush 100, 2) := dk_16 100 (dk_at dksX10_readsOrder_5 5 rfl rfl)
theorem dX10_readsOrder_121 : decode cX10_readsOrder 121 = .ok (.if_icmp .ne 61, 3) := dk_160 0 61 (dk_at dksX10_readsOrder_5 7 rfl rfl)
theorem dX10_readsOrder_124 : decode cX10_readsOrder 124 = .ok (.aload_n 0, 1) := dk_42 (dk_at dksX10_readsOrder_5 10 rfl rfl)
theorem dX10_readsOrder_125 : decode cX10_readsOrder 125 = .ok (.aload_n 0, 1) := dk_42 (dk_at dksX10_readsOrder_5 11 rfl rfl)
theorem dX10_readsOrder_126 : decode cX10_readsOrder 126 = .ok (.getfield 212, 3) := dk_180 0 212 (dk_at dksX10_readsOrder_5 12 rfl rfl)
theorem dX10_readsOrder_129 : decode cX10_readsOrder 129 = .ok (.ifCond .ne 12, 3) := dk_154 0 12 (dk_at dksX10_readsOrder_5 15 rfl rfl)
theorem dX10_readsOrder_132 : decode cX10_readsOrder 132 = .ok (.aload_n 0, 1) := dk_42 (dk_at dksX10_readsOrder_5 18 rfl rfl)
theorem dX10_readsOrder_133 : decode cX10_readsOrder 133 = .ok (.invokevirtual 215, 3) := dk_182 0 215 (dk_at dksX10_readsOrder_5 19 rfl rfl)
theorem dX10_readsOrder_136 : decode cX10_readsOrder 136 = .ok (.bipush 64, 2) := dk_16 64 (dk_at dksX10_readsOrder_5 22 rfl rfl)
theorem dX10_readsOrder_138 : decode cX10_readsOrder 138 = .ok (.if_icmp .eq 7, 3) := dk_159 0 7 (dk_at dksX10_readsOrder_6 0 rfl rfl)
theorem dX10_readsOrder_141 : decode cX10_readsOrder 141 = .ok (.iconst 1, 1) := dk_4 (dk_at dksX10_readsOrder_6 3 rfl rfl)
theorem dX10_readsOrder_142 : decode cX10_readsOrder 142 = .ok (.goto 4, 3) := dk_167 0 4 (dk_at dksX10_readsOrder_6 4 rfl rfl)
theorem dX10_readsOrder_145 : decode cX10_readsOrder 145 = .ok (.iconst 0, 1) := dk_3 (dk_at dksX10_readsOrder_6 7 rfl rfl)
theorem dX10_readsOrder_146 : decode cX10_readsOrder 146 = .ok (.putfield 212, 3) := dk_181 0 212 (dk_at dksX10_readsOrder_6 8 rfl rfl)
theorem dX10_readsOrder_149 : decode cX10_readsOrder 149 = .ok (.aload_n 0, 1) := dk_42 (dk_at dksX10_readsOrder_6 11 rfl rfl)
theorem dX10_readsOrder_150 : decode cX10_readsOrder 150 = .ok (.dup, 1) := dk_89 (dk_at dksX10_readsOrder_6 12 rfl rfl)
theorem dX10_readsOrder_151 : decode cX10_readsOrder 151 = .ok (.getfield 209, 3) := dk_180 0 209 (dk_at dksX10_readsOrder_6 13 rfl rfl)
theorem dX10_readsOrder_154 : decode cX10_readsOrder 154 = .ok (.aload_n 0, 1) := dk_42 (dk_at dksX10_readsOrder_6 16 rfl rfl)
theorem dX10_readsOrder_155 : decode cX10_readsOrder 155 = .ok (.getfield 212, 3) := dk_180 0 212 (dk_at dksX10_readsOrder_6 17 rfl rfl)
theorem dX10_readsOrder_158 : decode cX10_readsOrder 158 = .ok (.ifCond .eq 7, 3) := dk_153 0 7 (dk_at dksX10_readsOrder_6 20 rfl rfl)
theorem dX10_readsOrder_161 : decode cX10_readsOrder 161 = .ok (.iconst 0, 1) := dk_3 (dk_at dksX10_readsOrder_6 23 rfl rfl)
theorem dX10_readsOrder_162 : decode cX10_readsOrder 162 = .ok (.goto 4, 3) := dk_167 0 4 (dk_at dksX10_readsOrder_7 0 rfl rfl)
theorem dX10_readsOrder_165 : decode cX10_readsOrder 165 = .ok (.iconst 1, 1) := dk_4 (dk_at dksX10_readsOrder_7 3 rfl rfl)
theorem dX10_readsOrder_166 : decode cX10_readsOrder 166 = .ok (.iadd, 1) := dk_96 (dk_at dksX10_readsOrder_7 4 rfl rfl)
theorem dX10_readsOrder_167 : decode cX10_readsOrder 167 = .ok (.putfield 209, 3) := dk_181 0 209 (dk_at dksX10_readsOrder_7 5 rfl rfl)
theorem dX10_readsOrder_170 : decode cX10_readsOrder 170 = .ok (.aload_n 0, 1) := dk_42 (dk_at dksX10_readsOrder_7 8 rfl rfl)
theorem dX10_readsOrder_171 : decode cX10_readsOrder 171 = .ok (.getfield 49, 3) := dk_180 0 49 (dk_at dksX10_readsOrder_7 9 rfl rfl)
theorem dX10_readsOrder_174 : decode cX10_readsOrder 174 = .ok (.iload_n 1, 1) := dk_27 (dk_at dksX10_readsOrder_7 12 rfl rfl)
theorem dX10_readsOrder_175 : decode cX10_readsOrder 175 = .ok (.iconst 2, 1) := dk_5 (dk_at dksX10_readsOrder_7 13 rfl rfl)
theorem dX10_readsOrder_176 : decode cX10_readsOrder 176 = .ok (.iadd, 1) := dk_96 (dk_at dksX10_readsOrder_7 14 rfl rfl)
theorem dX10_readsOrder_177 : decode cX10_readsOrder 177 = .ok (.aload_n 0, 1) := dk_42 (dk_at dksX10_readsOrder_7 15 rfl rfl)
theorem dX10_readsOrder_178 : decode cX10_readsOrder 178 = .ok (.invokevirtual 224, 3) := dk_182 0 224 (dk_at dksX10_readsOrder_7 16 rfl rfl)
theorem dX10_readsOrder_181 : decode cX10_readsOrder 181 = .ok (.iastore, 1) := dk_79 (dk_at dksX10_readsOrder_7 19 rfl rfl)
theorem dX10_readsOrder_182 : decode cX10_readsOrder 182 = .ok (.return_, 1) := dk_177 (dk_at dksX10_readsOrder_7 20 rfl rfl)
abbrev cX10_here : ByteArray := prog_13_method_67_code
def yX10_here : MethodName := ⟨RX10, "here", "()I"⟩
def dkwX10_here_1 : List UInt8 := [172]
abbrev dktX10_here_1 : List UInt8 := dkwX10_here_1 ++ []
def dkwX10_here_0 : List UInt8 := [42, 180, 0, 209, 42, 180, 0, 206, 162, 0, 15, 42, 180, 0, 41, 42, 180, 0, 209, 52, 167, 0, 4, 2]
abbrev dktX10_here_0 : List UInt8 := dkwX10_here_0 ++ dktX10_here_1
theorem dksX10_here_0 : cX10_here.data.toList.drop 0 = dktX10_here_0 := by decide +kernel
theorem dksX10_here_1 : cX10_here.data.toList.drop 24 = dktX10_here_1 := dk_seg dksX10_here_0 24 rfl rfl
theorem dX10_here_0 : decode cX10_here 0 = .ok (.aload_n 0, 1) := dk_42 (dk_at dksX10_here_0 0 rfl rfl)
theorem dX10_here_1 : decode cX10_here 1 = .ok (.getfield 209, 3) := dk_180 0 209 (dk_at dksX10_here_0 1 rfl rfl)
theorem dX10_here_4 : decode cX10_here 4 = .ok (.aload_n 0, 1) := dk_42 (dk_at dksX10_here_0 4 rfl rfl)
theorem dX10_here_5 : decode cX10_here 5 = .ok (.getfield 206, 3) := dk_180 0 206 (dk_at dksX10_here_0 5 rfl rfl)
theorem dX10_here_8 : decode cX10_here 8 = .ok (.if_icmp .ge 15, 3) := dk_162 0 15 (dk_at dksX10_here_0 8 rfl rfl)
theorem dX10_here_11 : decode cX10_here 11 = .ok (.aload_n 0, 1) := dk_42 (dk_at dksX10_here_0 11 rfl rfl)
theorem dX10_here_12 : decode cX10_here 12 = .ok (.getfield 41, 3) := dk_180 0 41 (dk_at dksX10_here_0 12 rfl rfl)
theorem dX10_here_15 : decode cX10_here 15 = .ok (.aload_n 0, 1) := dk_42 (dk_at dksX10_here_0 15 rfl rfl)
theorem dX10_here_16 : decode cX10_here 16 = .ok (.getfield 209, 3) := dk_180 0 209 (dk_at dksX10_here_0 16 rfl rfl)
theorem dX10_here_19 : decode cX10_here 19 = .ok (.caload, 1) := dk_52 (dk_at dksX10_here_0 19 rfl rfl)
theorem dX10_here_20 : decode cX10_here 20 = .ok (.goto 4, 3) := dk_167 0 4 (dk_at dksX10_here_0 20 rfl rfl)
theorem dX10_here_23 : decode cX10_here 23 = .ok (.iconst (-1), 1) := dk_2 (dk_at dksX10_here_0 23 rfl rfl)
theorem dX10_here_24 : decode cX10_here 24 = .ok (.ireturn, 1) := dk_172 (dk_at dksX10_here_1 0 rfl rfl)
abbrev cX10_isLetter : ByteArray := prog_13_method_71_code
def yX10_isLetter : MethodName := ⟨RX10, "isLetter", "(I)Z"⟩
def dkwX10_isLetter_1 : List UInt8 := [26, 16, 118, 159, 0, 15, 26, 16, 99, 159, 0, 9, 26, 16, 112, 160, 0, 7, 4, 167, 0, 4, 3, 172]
abbrev dktX10_isLetter_1 : List UInt8 := dkwX10_isLetter_1 ++ []
def dkwX10_isLetter_0 : List UInt8 := [26, 16, 100, 159, 0, 39, 26, 16, 114, 159, 0, 33, 26, 16, 119, 159, 0, 27, 26, 16, 110, 159, 0, 21]
abbrev dktX10_isLetter_0 : List UInt8 := dkwX10_isLetter_0 ++ dktX10_isLetter_1
theorem dksX10_isLetter_0 : cX10_isLetter.data.toList.drop 0 = dktX10_isLetter_0 := by decide +kernel
theorem dksX10_isLetter_1 : cX10_isLetter.data.toList.drop 24 = dktX10_isLetter_1 := dk_seg dksX10_isLetter_0 24 rfl rfl
theorem dX10_isLetter_0 : decode cX10_isLetter 0 = .ok (.iload_n 0, 1) := dk_26 (dk_at dksX10_isLetter_0 0 rfl rfl)
theorem dX10_isLetter_1 : decode cX10_isLetter 1 = .ok (.bipush 100, 2) := dk_16 100 (dk_at dksX10_isLetter_0 1 rfl rfl)
theorem dX10_isLetter_3 : decode cX10_isLetter 3 = .ok (.if_icmp .eq 39, 3) := dk_159 0 39 (dk_at dksX10_isLetter_0 3 rfl rfl)
theorem dX10_isLetter_6 : decode cX10_isLetter 6 = .ok (.iload_n 0, 1) := dk_26 (dk_at dksX10_isLetter_0 6 rfl rfl)
theorem dX10_isLetter_7 : decode cX10_isLetter 7 = .ok (.bipush 114, 2) := dk_16 114 (dk_at dksX10_isLetter_0 7 rfl rfl)
theorem dX10_isLetter_9 : decode cX10_isLetter 9 = .ok (.if_icmp .eq 33, 3) := dk_159 0 33 (dk_at dksX10_isLetter_0 9 rfl rfl)
theorem dX10_isLetter_12 : decode cX10_isLetter 12 = .ok (.iload_n 0, 1) := dk_26 (dk_at dksX10_isLetter_0 12 rfl rfl)
theorem dX10_isLetter_13 : decode cX10_isLetter 13 = .ok (.bipush 119, 2) := dk_16 119 (dk_at dksX10_isLetter_0 13 rfl rfl)
theorem dX10_isLetter_15 : decode cX10_isLetter 15 = .ok (.if_icmp .eq 27, 3) := dk_159 0 27 (dk_at dksX10_isLetter_0 15 rfl rfl)
theorem dX10_isLetter_18 : decode cX10_isLetter 18 = .ok (.iload_n 0, 1) := dk_26 (dk_at dksX10_isLetter_0 18 rfl rfl)
theorem dX10_isLetter_19 : decode cX10_isLetter 19 = .ok (.bipush 110, 2) := dk_16 110 (dk_at dksX10_isLetter_0 19 rfl rfl)
theorem dX10_isLetter_21 : decode cX10_isLetter 21 = .ok (.if_icmp .eq 21, 3) := dk_159 0 21 (dk_at dksX10_isLetter_0 21 rfl rfl)
theorem dX10_isLetter_24 : decode cX10_isLetter 24 = .ok (.iload_n 0, 1) := dk_26 (dk_at dksX10_isLetter_1 0 rfl rfl)
theorem dX10_isLetter_25 : decode cX10_isLetter 25 = .ok (.bipush 118, 2) := dk_16 118 (dk_at dksX10_isLetter_1 1 rfl rfl)
theorem dX10_isLetter_27 : decode cX10_isLetter 27 = .ok (.if_icmp .eq 15, 3) := dk_159 0 15 (dk_at dksX10_isLetter_1 3 rfl rfl)
theorem dX10_isLetter_30 : decode cX10_isLetter 30 = .ok (.iload_n 0, 1) := dk_26 (dk_at dksX10_isLetter_1 6 rfl rfl)
theorem dX10_isLetter_31 : decode cX10_isLetter 31 = .ok (.bipush 99, 2) := dk_16 99 (dk_at dksX10_isLetter_1 7 rfl rfl)
theorem dX10_isLetter_33 : decode cX10_isLetter 33 = .ok (.if_icmp .eq 9, 3) := dk_159 0 9 (dk_at dksX10_isLetter_1 9 rfl rfl)
theorem dX10_isLetter_36 : decode cX10_isLetter 36 = .ok (.iload_n 0, 1) := dk_26 (dk_at dksX10_isLetter_1 12 rfl rfl)
theorem dX10_isLetter_37 : decode cX10_isLetter 37 = .ok (.bipush 112, 2) := dk_16 112 (dk_at dksX10_isLetter_1 13 rfl rfl)
theorem dX10_isLetter_39 : decode cX10_isLetter 39 = .ok (.if_icmp .ne 7, 3) := dk_160 0 7 (dk_at dksX10_isLetter_1 15 rfl rfl)
theorem dX10_isLetter_42 : decode cX10_isLetter 42 = .ok (.iconst 1, 1) := dk_4 (dk_at dksX10_isLetter_1 18 rfl rfl)
theorem dX10_isLetter_43 : decode cX10_isLetter 43 = .ok (.goto 4, 3) := dk_167 0 4 (dk_at dksX10_isLetter_1 19 rfl rfl)
theorem dX10_isLetter_46 : decode cX10_isLetter 46 = .ok (.iconst 0, 1) := dk_3 (dk_at dksX10_isLetter_1 22 rfl rfl)
theorem dX10_isLetter_47 : decode cX10_isLetter 47 = .ok (.ireturn, 1) := dk_172 (dk_at dksX10_isLetter_1 23 rfl rfl)
abbrev cX10_number : ByteArray := prog_13_method_69_code
def yX10_number : MethodName := ⟨RX10, "number", "()I"⟩
def dkwX10_number_1 : List UInt8 := [153, 0, 15, 16, 10, 27, 104, 42, 182, 0, 218, 96, 167, 0, 4, 27, 172]
abbrev dktX10_number_1 : List UInt8 := dkwX10_number_1 ++ []
def dkwX10_number_0 : List UInt8 := [42, 182, 0, 218, 60, 42, 180, 0, 212, 154, 0, 29, 42, 182, 0, 215, 16, 48, 16, 57, 184, 0, 77]
abbrev dktX10_number_0 : List UInt8 := dkwX10_number_0 ++ dktX10_number_1
theorem dksX10_number_0 : cX10_number.data.toList.drop 0 = dktX10_number_0 := by decide +kernel
theorem dksX10_number_1 : cX10_number.data.toList.drop 23 = dktX10_number_1 := dk_seg dksX10_number_0 23 rfl rfl
theorem dX10_number_0 : decode cX10_number 0 = .ok (.aload_n 0, 1) := dk_42 (dk_at dksX10_number_0 0 rfl rfl)
theorem dX10_number_1 : decode cX10_number 1 = .ok (.invokevirtual 218, 3) := dk_182 0 218 (dk_at dksX10_number_0 1 rfl rfl)
theorem dX10_number_4 : decode cX10_number 4 = .ok (.istore_n 1, 1) := dk_60 (dk_at dksX10_number_0 4 rfl rfl)
theorem dX10_number_5 : decode cX10_number 5 = .ok (.aload_n 0, 1) := dk_42 (dk_at dksX10_number_0 5 rfl rfl)
theorem dX10_number_6 : decode cX10_number 6 = .ok (.getfield 212, 3) := dk_180 0 212 (dk_at dksX10_number_0 6 rfl rfl)
theorem dX10_number_9 : decode cX10_number 9 = .ok (.ifCond .ne 29, 3) := dk_154 0 29 (dk_at dksX10_number_0 9 rfl rfl)
theorem dX10_number_12 : decode cX10_number 12 = .ok (.aload_n 0, 1) := dk_42 (dk_at dksX10_number_0 12 rfl rfl)
theorem dX10_number_13 : decode cX10_number 13 = .ok (.invokevirtual 215, 3) := dk_182 0 215 (dk_at dksX10_number_0 13 rfl rfl)
theorem dX10_number_16 : decode cX10_number 16 = .ok (.bipush 48, 2) := dk_16 48 (dk_at dksX10_number_0 16 rfl rfl)
theorem dX10_number_18 : decode cX10_number 18 = .ok (.bipush 57, 2) := dk_16 57 (dk_at dksX10_number_0 18 rfl rfl)
theorem dX10_number_20 : decode cX10_number 20 = .ok (.invokestatic 77, 3) := dk_184 0 77 (dk_at dksX10_number_0 20 rfl rfl)
theorem dX10_number_23 : decode cX10_number 23 = .ok (.ifCond .eq 15, 3) := dk_153 0 15 (dk_at dksX10_number_1 0 rfl rfl)
theorem dX10_number_26 : decode cX10_number 26 = .ok (.bipush 10, 2) := dk_16 10 (dk_at dksX10_number_1 3 rfl rfl)
theorem dX10_number_28 : decode cX10_number 28 = .ok (.iload_n 1, 1) := dk_27 (dk_at dksX10_number_1 5 rfl rfl)
theorem dX10_number_29 : decode cX10_number 29 = .ok (.imul, 1) := dk_104 (dk_at dksX10_number_1 6 rfl rfl)
theorem dX10_number_30 : decode cX10_number 30 = .ok (.aload_n 0, 1) := dk_42 (dk_at dksX10_number_1 7 rfl rfl)
theorem dX10_number_31 : decode cX10_number 31 = .ok (.invokevirtual 218, 3) := dk_182 0 218 (dk_at dksX10_number_1 8 rfl rfl)
theorem dX10_number_34 : decode cX10_number 34 = .ok (.iadd, 1) := dk_96 (dk_at dksX10_number_1 11 rfl rfl)
theorem dX10_number_35 : decode cX10_number 35 = .ok (.goto 4, 3) := dk_167 0 4 (dk_at dksX10_number_1 12 rfl rfl)
theorem dX10_number_38 : decode cX10_number 38 = .ok (.iload_n 1, 1) := dk_27 (dk_at dksX10_number_1 15 rfl rfl)
theorem dX10_number_39 : decode cX10_number 39 = .ok (.ireturn, 1) := dk_172 (dk_at dksX10_number_1 16 rfl rfl)
abbrev cX10_digit : ByteArray := prog_13_method_68_code
def yX10_digit : MethodName := ⟨RX10, "digit", "()I"⟩
def dkwX10_digit_3 : List UInt8 := [172]
abbrev dktX10_digit_3 : List UInt8 := dkwX10_digit_3 ++ []
def dkwX10_digit_2 : List UInt8 := [100, 60, 42, 89, 180, 0, 209, 42, 180, 0, 212, 153, 0, 7, 3, 167, 0, 4, 4, 96, 181, 0, 209, 27]
abbrev dktX10_digit_2 : List UInt8 := dkwX10_digit_2 ++ dktX10_digit_3
def dkwX10_digit_1 : List UInt8 := [167, 0, 4, 3, 181, 0, 212, 42, 180, 0, 212, 153, 0, 7, 3, 167, 0, 10, 42, 182, 0, 215, 16, 48]
abbrev dktX10_digit_1 : List UInt8 := dkwX10_digit_1 ++ dktX10_digit_2
def dkwX10_digit_0 : List UInt8 := [42, 42, 180, 0, 212, 154, 0, 17, 42, 182, 0, 215, 16, 48, 16, 57, 184, 0, 77, 154, 0, 7, 4]
abbrev dktX10_digit_0 : List UInt8 := dkwX10_digit_0 ++ dktX10_digit_1
theorem dksX10_digit_0 : cX10_digit.data.toList.drop 0 = dktX10_digit_0 := by decide +kernel
theorem dksX10_digit_1 : cX10_digit.data.toList.drop 23 = dktX10_digit_1 := dk_seg dksX10_digit_0 23 rfl rfl
theorem dksX10_digit_2 : cX10_digit.data.toList.drop 47 = dktX10_digit_2 := dk_seg dksX10_digit_1 24 rfl rfl
theorem dksX10_digit_3 : cX10_digit.data.toList.drop 71 = dktX10_digit_3 := dk_seg dksX10_digit_2 24 rfl rfl
theorem dX10_digit_0 : decode cX10_digit 0 = .ok (.aload_n 0, 1) := dk_42 (dk_at dksX10_digit_0 0 rfl rfl)
theorem dX10_digit_1 : decode cX10_digit 1 = .ok (.aload_n 0, 1) := dk_42 (dk_at dksX10_digit_0 1 rfl rfl)
theorem dX10_digit_2 : decode cX10_digit 2 = .ok (.getfield 212, 3) := dk_180 0 212 (dk_at dksX10_digit_0 2 rfl rfl)
theorem dX10_digit_5 : decode cX10_digit 5 = .ok (.ifCond .ne 17, 3) := dk_154 0 17 (dk_at dksX10_digit_0 5 rfl rfl)
theorem dX10_digit_8 : decode cX10_digit 8 = .ok (.aload_n 0, 1) := dk_42 (dk_at dksX10_digit_0 8 rfl rfl)
theorem dX10_digit_9 : decode cX10_digit 9 = .ok (.invokevirtual 215, 3) := dk_182 0 215 (dk_at dksX10_digit_0 9 rfl rfl)
theorem dX10_digit_12 : decode cX10_digit 12 = .ok (.bipush 48, 2) := dk_16 48 (dk_at dksX10_digit_0 12 rfl rfl)
theorem dX10_digit_14 : decode cX10_digit 14 = .ok (.bipush 57, 2) := dk_16 57 (dk_at dksX10_digit_0 14 rfl rfl)
theorem dX10_digit_16 : decode cX10_digit 16 = .ok (.invokestatic 77, 3) := dk_184 0 77 (dk_at dksX10_digit_0 16 rfl rfl)
theorem dX10_digit_19 : decode cX10_digit 19 = .ok (.ifCond .ne 7, 3) := dk_154 0 7 (dk_at dksX10_digit_0 19 rfl rfl)
theorem dX10_digit_22 : decode cX10_digit 22 = .ok (.iconst 1, 1) := dk_4 (dk_at dksX10_digit_0 22 rfl rfl)
theorem dX10_digit_23 : decode cX10_digit 23 = .ok (.goto 4, 3) := dk_167 0 4 (dk_at dksX10_digit_1 0 rfl rfl)
theorem dX10_digit_26 : decode cX10_digit 26 = .ok (.iconst 0, 1) := dk_3 (dk_at dksX10_digit_1 3 rfl rfl)
theorem dX10_digit_27 : decode cX10_digit 27 = .ok (.putfield 212, 3) := dk_181 0 212 (dk_at dksX10_digit_1 4 rfl rfl)
theorem dX10_digit_30 : decode cX10_digit 30 = .ok (.aload_n 0, 1) := dk_42 (dk_at dksX10_digit_1 7 rfl rfl)
theorem dX10_digit_31 : decode cX10_digit 31 = .ok (.getfield 212, 3) := dk_180 0 212 (dk_at dksX10_digit_1 8 rfl rfl)
theorem dX10_digit_34 : decode cX10_digit 34 = .ok (.ifCond .eq 7, 3) := dk_153 0 7 (dk_at dksX10_digit_1 11 rfl rfl)
theorem dX10_digit_37 : decode cX10_digit 37 = .ok (.iconst 0, 1) := dk_3 (dk_at dksX10_digit_1 14 rfl rfl)
theorem dX10_digit_38 : decode cX10_digit 38 = .ok (.goto 10, 3) := dk_167 0 10 (dk_at dksX10_digit_1 15 rfl rfl)
theorem dX10_digit_41 : decode cX10_digit 41 = .ok (.aload_n 0, 1) := dk_42 (dk_at dksX10_digit_1 18 rfl rfl)
theorem dX10_digit_42 : decode cX10_digit 42 = .ok (.invokevirtual 215, 3) := dk_182 0 215 (dk_at dksX10_digit_1 19 rfl rfl)
theorem dX10_digit_45 : decode cX10_digit 45 = .ok (.bipush 48, 2) := dk_16 48 (dk_at dksX10_digit_1 22 rfl rfl)
theorem dX10_digit_47 : decode cX10_digit 47 = .ok (.isub, 1) := dk_100 (dk_at dksX10_digit_2 0 rfl rfl)
theorem dX10_digit_48 : decode cX10_digit 48 = .ok (.istore_n 1, 1) := dk_60 (dk_at dksX10_digit_2 1 rfl rfl)
theorem dX10_digit_49 : decode cX10_digit 49 = .ok (.aload_n 0, 1) := dk_42 (dk_at dksX10_digit_2 2 rfl rfl)
theorem dX10_digit_50 : decode cX10_digit 50 = .ok (.dup, 1) := dk_89 (dk_at dksX10_digit_2 3 rfl rfl)
theorem dX10_digit_51 : decode cX10_digit 51 = .ok (.getfield 209, 3) := dk_180 0 209 (dk_at dksX10_digit_2 4 rfl rfl)
theorem dX10_digit_54 : decode cX10_digit 54 = .ok (.aload_n 0, 1) := dk_42 (dk_at dksX10_digit_2 7 rfl rfl)
theorem dX10_digit_55 : decode cX10_digit 55 = .ok (.getfield 212, 3) := dk_180 0 212 (dk_at dksX10_digit_2 8 rfl rfl)
theorem dX10_digit_58 : decode cX10_digit 58 = .ok (.ifCond .eq 7, 3) := dk_153 0 7 (dk_at dksX10_digit_2 11 rfl rfl)
theorem dX10_digit_61 : decode cX10_digit 61 = .ok (.iconst 0, 1) := dk_3 (dk_at dksX10_digit_2 14 rfl rfl)
theorem dX10_digit_62 : decode cX10_digit 62 = .ok (.goto 4, 3) := dk_167 0 4 (dk_at dksX10_digit_2 15 rfl rfl)
theorem dX10_digit_65 : decode cX10_digit 65 = .ok (.iconst 1, 1) := dk_4 (dk_at dksX10_digit_2 18 rfl rfl)
theorem dX10_digit_66 : decode cX10_digit 66 = .ok (.iadd, 1) := dk_96 (dk_at dksX10_digit_2 19 rfl rfl)
theorem dX10_digit_67 : decode cX10_digit 67 = .ok (.putfield 209, 3) := dk_181 0 209 (dk_at dksX10_digit_2 20 rfl rfl)
theorem dX10_digit_70 : decode cX10_digit 70 = .ok (.iload_n 1, 1) := dk_27 (dk_at dksX10_digit_2 23 rfl rfl)
theorem dX10_digit_71 : decode cX10_digit 71 = .ok (.ireturn, 1) := dk_172 (dk_at dksX10_digit_3 0 rfl rfl)
abbrev cX10_signRead : ByteArray := prog_13_method_70_code
def yX10_signRead : MethodName := ⟨RX10, "signRead", "()I"⟩
def dkwX10_signRead_3 : List UInt8 := [167, 0, 4, 3, 172]
abbrev dktX10_signRead_3 : List UInt8 := dkwX10_signRead_3 ++ []
def dkwX10_signRead_2 : List UInt8 := [180, 0, 209, 42, 180, 0, 212, 153, 0, 7, 3, 167, 0, 4, 4, 96, 181, 0, 209, 27, 153, 0, 7, 4]
abbrev dktX10_signRead_2 : List UInt8 := dkwX10_signRead_2 ++ dktX10_signRead_3
def dkwX10_signRead_1 : List UInt8 := [154, 0, 16, 42, 182, 0, 215, 16, 45, 159, 0, 7, 4, 167, 0, 4, 3, 181, 0, 212, 42, 89]
abbrev dktX10_signRead_1 : List UInt8 := dkwX10_signRead_1 ++ dktX10_signRead_2
def dkwX10_signRead_0 : List UInt8 := [42, 182, 0, 215, 16, 43, 160, 0, 7, 4, 167, 0, 4, 3, 60, 42, 42, 180, 0, 212, 154, 0, 16, 27]
abbrev dktX10_signRead_0 : List UInt8 := dkwX10_signRead_0 ++ dktX10_signRead_1
theorem dksX10_signRead_0 : cX10_signRead.data.toList.drop 0 = dktX10_signRead_0 := by decide +kernel
theorem dksX10_signRead_1 : cX10_signRead.data.toList.drop 24 = dktX10_signRead_1 := dk_seg dksX10_signRead_0 24 rfl rfl
theorem dksX10_signRead_2 : cX10_signRead.data.toList.drop 46 = dktX10_signRead_2 := dk_seg dksX10_signRead_1 22 rfl rfl
theorem dksX10_signRead_3 : cX10_signRead.data.toList.drop 70 = dktX10_signRead_3 := dk_seg dksX10_signRead_2 24 rfl rfl
theorem dX10_signRead_0 : decode cX10_signRead 0 = .ok (.aload_n 0, 1) := dk_42 (dk_at dksX10_signRead_0 0 rfl rfl)
theorem dX10_signRead_1 : decode cX10_signRead 1 = .ok (.invokevirtual 215, 3) := dk_182 0 215 (dk_at dksX10_signRead_0 1 rfl rfl)
theorem dX10_signRead_4 : decode cX10_signRead 4 = .ok (.bipush 43, 2) := dk_16 43 (dk_at dksX10_signRead_0 4 rfl rfl)
theorem dX10_signRead_6 : decode cX10_signRead 6 = .ok (.if_icmp .ne 7, 3) := dk_160 0 7 (dk_at dksX10_signRead_0 6 rfl rfl)
theorem dX10_signRead_9 : decode cX10_signRead 9 = .ok (.iconst 1, 1) := dk_4 (dk_at dksX10_signRead_0 9 rfl rfl)
theorem dX10_signRead_10 : decode cX10_signRead 10 = .ok (.goto 4, 3) := dk_167 0 4 (dk_at dksX10_signRead_0 10 rfl rfl)
theorem dX10_signRead_13 : decode cX10_signRead 13 = .ok (.iconst 0, 1) := dk_3 (dk_at dksX10_signRead_0 13 rfl rfl)
theorem dX10_signRead_14 : decode cX10_signRead 14 = .ok (.istore_n 1, 1) := dk_60 (dk_at dksX10_signRead_0 14 rfl rfl)
theorem dX10_signRead_15 : decode cX10_signRead 15 = .ok (.aload_n 0, 1) := dk_42 (dk_at dksX10_signRead_0 15 rfl rfl)
theorem dX10_signRead_16 : decode cX10_signRead 16 = .ok (.aload_n 0, 1) := dk_42 (dk_at dksX10_signRead_0 16 rfl rfl)
theorem dX10_signRead_17 : decode cX10_signRead 17 = .ok (.getfield 212, 3) := dk_180 0 212 (dk_at dksX10_signRead_0 17 rfl rfl)
theorem dX10_signRead_20 : decode cX10_signRead 20 = .ok (.ifCond .ne 16, 3) := dk_154 0 16 (dk_at dksX10_signRead_0 20 rfl rfl)
theorem dX10_signRead_23 : decode cX10_signRead 23 = .ok (.iload_n 1, 1) := dk_27 (dk_at dksX10_signRead_0 23 rfl rfl)
theorem dX10_signRead_24 : decode cX10_signRead 24 = .ok (.ifCond .ne 16, 3) := dk_154 0 16 (dk_at dksX10_signRead_1 0 rfl rfl)
theorem dX10_signRead_27 : decode cX10_signRead 27 = .ok (.aload_n 0, 1) := dk_42 (dk_at dksX10_signRead_1 3 rfl rfl)
theorem dX10_signRead_28 : decode cX10_signRead 28 = .ok (.invokevirtual 215, 3) := dk_182 0 215 (dk_at dksX10_signRead_1 4 rfl rfl)
theorem dX10_signRead_31 : decode cX10_signRead 31 = .ok (.bipush 45, 2) := dk_16 45 (dk_at dksX10_signRead_1 7 rfl rfl)
theorem dX10_signRead_33 : decode cX10_signRead 33 = .ok (.if_icmp .eq 7, 3) := dk_159 0 7 (dk_at dksX10_signRead_1 9 rfl rfl)
theorem dX10_signRead_36 : decode cX10_signRead 36 = .ok (.iconst 1, 1) := dk_4 (dk_at dksX10_signRead_1 12 rfl rfl)
theorem dX10_signRead_37 : decode cX10_signRead 37 = .ok (.goto 4, 3) := dk_167 0 4 (dk_at dksX10_signRead_1 13 rfl rfl)
theorem dX10_signRead_40 : decode cX10_signRead 40 = .ok (.iconst 0, 1) := dk_3 (dk_at dksX10_signRead_1 16 rfl rfl)
theorem dX10_signRead_41 : decode cX10_signRead 41 = .ok (.putfield 212, 3) := dk_181 0 212 (dk_at dksX10_signRead_1 17 rfl rfl)
theorem dX10_signRead_44 : decode cX10_signRead 44 = .ok (.aload_n 0, 1) := dk_42 (dk_at dksX10_signRead_1 20 rfl rfl)
theorem dX10_signRead_45 : decode cX10_signRead 45 = .ok (.dup, 1) := dk_89 (dk_at dksX10_signRead_1 21 rfl rfl)
theorem dX10_signRead_46 : decode cX10_signRead 46 = .ok (.getfield 209, 3) := dk_180 0 209 (dk_at dksX10_signRead_2 0 rfl rfl)
theorem dX10_signRead_49 : decode cX10_signRead 49 = .ok (.aload_n 0, 1) := dk_42 (dk_at dksX10_signRead_2 3 rfl rfl)
theorem dX10_signRead_50 : decode cX10_signRead 50 = .ok (.getfield 212, 3) := dk_180 0 212 (dk_at dksX10_signRead_2 4 rfl rfl)
theorem dX10_signRead_53 : decode cX10_signRead 53 = .ok (.ifCond .eq 7, 3) := dk_153 0 7 (dk_at dksX10_signRead_2 7 rfl rfl)
theorem dX10_signRead_56 : decode cX10_signRead 56 = .ok (.iconst 0, 1) := dk_3 (dk_at dksX10_signRead_2 10 rfl rfl)
theorem dX10_signRead_57 : decode cX10_signRead 57 = .ok (.goto 4, 3) := dk_167 0 4 (dk_at dksX10_signRead_2 11 rfl rfl)
theorem dX10_signRead_60 : decode cX10_signRead 60 = .ok (.iconst 1, 1) := dk_4 (dk_at dksX10_signRead_2 14 rfl rfl)
theorem dX10_signRead_61 : decode cX10_signRead 61 = .ok (.iadd, 1) := dk_96 (dk_at dksX10_signRead_2 15 rfl rfl)
theorem dX10_signRead_62 : decode cX10_signRead 62 = .ok (.putfield 209, 3) := dk_181 0 209 (dk_at dksX10_signRead_2 16 rfl rfl)
theorem dX10_signRead_65 : decode cX10_signRead 65 = .ok (.iload_n 1, 1) := dk_27 (dk_at dksX10_signRead_2 19 rfl rfl)
theorem dX10_signRead_66 : decode cX10_signRead 66 = .ok (.ifCond .eq 7, 3) := dk_153 0 7 (dk_at dksX10_signRead_2 20 rfl rfl)
theorem dX10_signRead_69 : decode cX10_signRead 69 = .ok (.iconst 1, 1) := dk_4 (dk_at dksX10_signRead_2 23 rfl rfl)
theorem dX10_signRead_70 : decode cX10_signRead 70 = .ok (.goto 4, 3) := dk_167 0 4 (dk_at dksX10_signRead_3 0 rfl rfl)
theorem dX10_signRead_73 : decode cX10_signRead 73 = .ok (.iconst 0, 1) := dk_3 (dk_at dksX10_signRead_3 3 rfl rfl)
theorem dX10_signRead_74 : decode cX10_signRead 74 = .ok (.ireturn, 1) := dk_172 (dk_at dksX10_signRead_3 4 rfl rfl)
abbrev cX10_does : ByteArray := prog_13_method_74_code
def yX10_does : MethodName := ⟨RX10, "does", "(I)I"⟩
def dkwX10_does_4 : List UInt8 := [4, 167, 0, 4, 3, 182, 0, 182, 172, 42, 182, 0, 186, 172, 42, 28, 182, 0, 203, 172]
abbrev dktX10_does_4 : List UInt8 := dkwX10_does_4 ++ []
def dkwX10_does_3 : List UInt8 := [182, 0, 91, 172, 42, 28, 182, 0, 97, 172, 42, 28, 42, 180, 0, 49, 27, 5, 96, 46, 4, 160, 0, 7]
abbrev dktX10_does_3 : List UInt8 := dkwX10_does_3 ++ dktX10_does_4
def dkwX10_does_2 : List UInt8 := [42, 28, 42, 180, 0, 49, 27, 5, 96, 46, 182, 0, 115, 172, 42, 28, 182, 0, 119, 172, 42, 28]
abbrev dktX10_does_2 : List UInt8 := dkwX10_does_2 ++ dktX10_does_3
def dkwX10_does_1 : List UInt8 := [171, 0, 0, 0, 117, 0, 0, 0, 6, 0, 0, 0, 99, 0, 0, 0, 112, 0, 0, 0, 100, 0, 0, 0, 57, 0, 0, 0, 110, 0, 0, 0, 83, 0, 0, 0, 114, 0, 0, 0, 71, 0, 0, 0, 118, 0, 0, 0, 89, 0, 0, 0, 119, 0, 0, 0, 77]
abbrev dktX10_does_1 : List UInt8 := dkwX10_does_1 ++ dktX10_does_2
def dkwX10_does_0 : List UInt8 := [42, 180, 0, 49, 27, 4, 96, 46, 61, 42, 180, 0, 49, 27, 46]
abbrev dktX10_does_0 : List UInt8 := dkwX10_does_0 ++ dktX10_does_1
theorem dksX10_does_0 : cX10_does.data.toList.drop 0 = dktX10_does_0 := by decide +kernel
theorem dksX10_does_1 : cX10_does.data.toList.drop 15 = dktX10_does_1 := dk_seg dksX10_does_0 15 rfl rfl
theorem dksX10_does_2 : cX10_does.data.toList.drop 72 = dktX10_does_2 := dk_seg dksX10_does_1 57 rfl rfl
theorem dksX10_does_3 : cX10_does.data.toList.drop 94 = dktX10_does_3 := dk_seg dksX10_does_2 22 rfl rfl
theorem dksX10_does_4 : cX10_does.data.toList.drop 118 = dktX10_does_4 := dk_seg dksX10_does_3 24 rfl rfl
theorem dX10_does_0 : decode cX10_does 0 = .ok (.aload_n 0, 1) := dk_42 (dk_at dksX10_does_0 0 rfl rfl)
theorem dX10_does_1 : decode cX10_does 1 = .ok (.getfield 49, 3) := dk_180 0 49 (dk_at dksX10_does_0 1 rfl rfl)
theorem dX10_does_4 : decode cX10_does 4 = .ok (.iload_n 1, 1) := dk_27 (dk_at dksX10_does_0 4 rfl rfl)
theorem dX10_does_5 : decode cX10_does 5 = .ok (.iconst 1, 1) := dk_4 (dk_at dksX10_does_0 5 rfl rfl)
theorem dX10_does_6 : decode cX10_does 6 = .ok (.iadd, 1) := dk_96 (dk_at dksX10_does_0 6 rfl rfl)
theorem dX10_does_7 : decode cX10_does 7 = .ok (.iaload, 1) := dk_46 (dk_at dksX10_does_0 7 rfl rfl)
theorem dX10_does_8 : decode cX10_does 8 = .ok (.istore_n 2, 1) := dk_61 (dk_at dksX10_does_0 8 rfl rfl)
theorem dX10_does_9 : decode cX10_does 9 = .ok (.aload_n 0, 1) := dk_42 (dk_at dksX10_does_0 9 rfl rfl)
theorem dX10_does_10 : decode cX10_does 10 = .ok (.getfield 49, 3) := dk_180 0 49 (dk_at dksX10_does_0 10 rfl rfl)
theorem dX10_does_13 : decode cX10_does 13 = .ok (.iload_n 1, 1) := dk_27 (dk_at dksX10_does_0 13 rfl rfl)
theorem dX10_does_14 : decode cX10_does 14 = .ok (.iaload, 1) := dk_46 (dk_at dksX10_does_0 14 rfl rfl)
theorem dX10_does_15 : decode cX10_does 15 = .ok (.lookupswitch 117 #[(99, 112), (100, 57), (110, 83), (114, 71), (118, 89), (119, 77)], 57) := by decide +kernel
theorem dX10_does_72 : decode cX10_does 72 = .ok (.aload_n 0, 1) := dk_42 (dk_at dksX10_does_2 0 rfl rfl)
theorem dX10_does_73 : decode cX10_does 73 = .ok (.iload_n 2, 1) := dk_28 (dk_at dksX10_does_2 1 rfl rfl)
theorem dX10_does_74 : decode cX10_does 74 = .ok (.aload_n 0, 1) := dk_42 (dk_at dksX10_does_2 2 rfl rfl)
theorem dX10_does_75 : decode cX10_does 75 = .ok (.getfield 49, 3) := dk_180 0 49 (dk_at dksX10_does_2 3 rfl rfl)
theorem dX10_does_78 : decode cX10_does 78 = .ok (.iload_n 1, 1) := dk_27 (dk_at dksX10_does_2 6 rfl rfl)
theorem dX10_does_79 : decode cX10_does 79 = .ok (.iconst 2, 1) := dk_5 (dk_at dksX10_does_2 7 rfl rfl)
theorem dX10_does_80 : decode cX10_does 80 = .ok (.iadd, 1) := dk_96 (dk_at dksX10_does_2 8 rfl rfl)
theorem dX10_does_81 : decode cX10_does 81 = .ok (.iaload, 1) := dk_46 (dk_at dksX10_does_2 9 rfl rfl)
theorem dX10_does_82 : decode cX10_does 82 = .ok (.invokevirtual 115, 3) := dk_182 0 115 (dk_at dksX10_does_2 10 rfl rfl)
theorem dX10_does_85 : decode cX10_does 85 = .ok (.ireturn, 1) := dk_172 (dk_at dksX10_does_2 13 rfl rfl)
theorem dX10_does_86 : decode cX10_does 86 = .ok (.aload_n 0, 1) := dk_42 (dk_at dksX10_does_2 14 rfl rfl)
theorem dX10_does_87 : decode cX10_does 87 = .ok (.iload_n 2, 1) := dk_28 (dk_at dksX10_does_2 15 rfl rfl)
theorem dX10_does_88 : decode cX10_does 88 = .ok (.invokevirtual 119, 3) := dk_182 0 119 (dk_at dksX10_does_2 16 rfl rfl)
theorem dX10_does_91 : decode cX10_does 91 = .ok (.ireturn, 1) := dk_172 (dk_at dksX10_does_2 19 rfl rfl)
theorem dX10_does_92 : decode cX10_does 92 = .ok (.aload_n 0, 1) := dk_42 (dk_at dksX10_does_2 20 rfl rfl)
theorem dX10_does_93 : decode cX10_does 93 = .ok (.iload_n 2, 1) := dk_28 (dk_at dksX10_does_2 21 rfl rfl)
theorem dX10_does_94 : decode cX10_does 94 = .ok (.invokevirtual 91, 3) := dk_182 0 91 (dk_at dksX10_does_3 0 rfl rfl)
theorem dX10_does_97 : decode cX10_does 97 = .ok (.ireturn, 1) := dk_172 (dk_at dksX10_does_3 3 rfl rfl)
theorem dX10_does_98 : decode cX10_does 98 = .ok (.aload_n 0, 1) := dk_42 (dk_at dksX10_does_3 4 rfl rfl)
theorem dX10_does_99 : decode cX10_does 99 = .ok (.iload_n 2, 1) := dk_28 (dk_at dksX10_does_3 5 rfl rfl)
theorem dX10_does_100 : decode cX10_does 100 = .ok (.invokevirtual 97, 3) := dk_182 0 97 (dk_at dksX10_does_3 6 rfl rfl)
theorem dX10_does_103 : decode cX10_does 103 = .ok (.ireturn, 1) := dk_172 (dk_at dksX10_does_3 9 rfl rfl)
theorem dX10_does_104 : decode cX10_does 104 = .ok (.aload_n 0, 1) := dk_42 (dk_at dksX10_does_3 10 rfl rfl)
theorem dX10_does_105 : decode cX10_does 105 = .ok (.iload_n 2, 1) := dk_28 (dk_at dksX10_does_3 11 rfl rfl)
theorem dX10_does_106 : decode cX10_does 106 = .ok (.aload_n 0, 1) := dk_42 (dk_at dksX10_does_3 12 rfl rfl)
theorem dX10_does_107 : decode cX10_does 107 = .ok (.getfield 49, 3) := dk_180 0 49 (dk_at dksX10_does_3 13 rfl rfl)
theorem dX10_does_110 : decode cX10_does 110 = .ok (.iload_n 1, 1) := dk_27 (dk_at dksX10_does_3 16 rfl rfl)
theorem dX10_does_111 : decode cX10_does 111 = .ok (.iconst 2, 1) := dk_5 (dk_at dksX10_does_3 17 rfl rfl)
theorem dX10_does_112 : decode cX10_does 112 = .ok (.iadd, 1) := dk_96 (dk_at dksX10_does_3 18 rfl rfl)
theorem dX10_does_113 : decode cX10_does 113 = .ok (.iaload, 1) := dk_46 (dk_at dksX10_does_3 19 rfl rfl)
theorem dX10_does_114 : decode cX10_does 114 = .ok (.iconst 1, 1) := dk_4 (dk_at dksX10_does_3 20 rfl rfl)
theorem dX10_does_115 : decode cX10_does 115 = .ok (.if_icmp .ne 7, 3) := dk_160 0 7 (dk_at dksX10_does_3 21 rfl rfl)
theorem dX10_does_118 : decode cX10_does 118 = .ok (.iconst 1, 1) := dk_4 (dk_at dksX10_does_4 0 rfl rfl)
theorem dX10_does_119 : decode cX10_does 119 = .ok (.goto 4, 3) := dk_167 0 4 (dk_at dksX10_does_4 1 rfl rfl)
theorem dX10_does_122 : decode cX10_does 122 = .ok (.iconst 0, 1) := dk_3 (dk_at dksX10_does_4 4 rfl rfl)
theorem dX10_does_123 : decode cX10_does 123 = .ok (.invokevirtual 182, 3) := dk_182 0 182 (dk_at dksX10_does_4 5 rfl rfl)
theorem dX10_does_126 : decode cX10_does 126 = .ok (.ireturn, 1) := dk_172 (dk_at dksX10_does_4 8 rfl rfl)
theorem dX10_does_127 : decode cX10_does 127 = .ok (.aload_n 0, 1) := dk_42 (dk_at dksX10_does_4 9 rfl rfl)
theorem dX10_does_128 : decode cX10_does 128 = .ok (.invokevirtual 186, 3) := dk_182 0 186 (dk_at dksX10_does_4 10 rfl rfl)
theorem dX10_does_131 : decode cX10_does 131 = .ok (.ireturn, 1) := dk_172 (dk_at dksX10_does_4 13 rfl rfl)
theorem dX10_does_132 : decode cX10_does 132 = .ok (.aload_n 0, 1) := dk_42 (dk_at dksX10_does_4 14 rfl rfl)
theorem dX10_does_133 : decode cX10_does 133 = .ok (.iload_n 2, 1) := dk_28 (dk_at dksX10_does_4 15 rfl rfl)
theorem dX10_does_134 : decode cX10_does 134 = .ok (.invokevirtual 203, 3) := dk_182 0 203 (dk_at dksX10_does_4 16 rfl rfl)
theorem dX10_does_137 : decode cX10_does 137 = .ok (.ireturn, 1) := dk_172 (dk_at dksX10_does_4 19 rfl rfl)
abbrev cX10_errorPosition : ByteArray := prog_13_method_76_code
def yX10_errorPosition : MethodName := ⟨RX10, "errorPosition", "()I"⟩
def dkwX10_errorPosition_0 : List UInt8 := [42, 42, 180, 0, 45, 182, 0, 85, 172]
abbrev dktX10_errorPosition_0 : List UInt8 := dkwX10_errorPosition_0 ++ []
theorem dksX10_errorPosition_0 : cX10_errorPosition.data.toList.drop 0 = dktX10_errorPosition_0 := by decide +kernel
theorem dX10_errorPosition_0 : decode cX10_errorPosition 0 = .ok (.aload_n 0, 1) := dk_42 (dk_at dksX10_errorPosition_0 0 rfl rfl)
theorem dX10_errorPosition_1 : decode cX10_errorPosition 1 = .ok (.aload_n 0, 1) := dk_42 (dk_at dksX10_errorPosition_0 1 rfl rfl)
theorem dX10_errorPosition_2 : decode cX10_errorPosition 2 = .ok (.getfield 45, 3) := dk_180 0 45 (dk_at dksX10_errorPosition_0 2 rfl rfl)
theorem dX10_errorPosition_5 : decode cX10_errorPosition 5 = .ok (.invokevirtual 85, 3) := dk_182 0 85 (dk_at dksX10_errorPosition_0 5 rfl rfl)
theorem dX10_errorPosition_8 : decode cX10_errorPosition 8 = .ok (.ireturn, 1) := dk_172 (dk_at dksX10_errorPosition_0 8 rfl rfl)
abbrev cX10_refusal : ByteArray := prog_13_method_77_code
def yX10_refusal : MethodName := ⟨RX10, "refusal", "(Z)I"⟩
def dkwX10_refusal_1 : List UInt8 := [167, 0, 7, 42, 180, 0, 60, 182, 0, 85, 172]
abbrev dktX10_refusal_1 : List UInt8 := dkwX10_refusal_1 ++ []
def dkwX10_refusal_0 : List UInt8 := [42, 180, 0, 60, 154, 0, 11, 42, 4, 182, 0, 81, 167, 0, 22, 42, 27, 153, 0, 10, 42, 180, 0, 63]
abbrev dktX10_refusal_0 : List UInt8 := dkwX10_refusal_0 ++ dktX10_refusal_1
theorem dksX10_refusal_0 : cX10_refusal.data.toList.drop 0 = dktX10_refusal_0 := by decide +kernel
theorem dksX10_refusal_1 : cX10_refusal.data.toList.drop 24 = dktX10_refusal_1 := dk_seg dksX10_refusal_0 24 rfl rfl
theorem dX10_refusal_0 : decode cX10_refusal 0 = .ok (.aload_n 0, 1) := dk_42 (dk_at dksX10_refusal_0 0 rfl rfl)
theorem dX10_refusal_1 : decode cX10_refusal 1 = .ok (.getfield 60, 3) := dk_180 0 60 (dk_at dksX10_refusal_0 1 rfl rfl)
theorem dX10_refusal_4 : decode cX10_refusal 4 = .ok (.ifCond .ne 11, 3) := dk_154 0 11 (dk_at dksX10_refusal_0 4 rfl rfl)
theorem dX10_refusal_7 : decode cX10_refusal 7 = .ok (.aload_n 0, 1) := dk_42 (dk_at dksX10_refusal_0 7 rfl rfl)
theorem dX10_refusal_8 : decode cX10_refusal 8 = .ok (.iconst 1, 1) := dk_4 (dk_at dksX10_refusal_0 8 rfl rfl)
theorem dX10_refusal_9 : decode cX10_refusal 9 = .ok (.invokevirtual 81, 3) := dk_182 0 81 (dk_at dksX10_refusal_0 9 rfl rfl)
theorem dX10_refusal_12 : decode cX10_refusal 12 = .ok (.goto 22, 3) := dk_167 0 22 (dk_at dksX10_refusal_0 12 rfl rfl)
theorem dX10_refusal_15 : decode cX10_refusal 15 = .ok (.aload_n 0, 1) := dk_42 (dk_at dksX10_refusal_0 15 rfl rfl)
theorem dX10_refusal_16 : decode cX10_refusal 16 = .ok (.iload_n 1, 1) := dk_27 (dk_at dksX10_refusal_0 16 rfl rfl)
theorem dX10_refusal_17 : decode cX10_refusal 17 = .ok (.ifCond .eq 10, 3) := dk_153 0 10 (dk_at dksX10_refusal_0 17 rfl rfl)
theorem dX10_refusal_20 : decode cX10_refusal 20 = .ok (.aload_n 0, 1) := dk_42 (dk_at dksX10_refusal_0 20 rfl rfl)
theorem dX10_refusal_21 : decode cX10_refusal 21 = .ok (.getfield 63, 3) := dk_180 0 63 (dk_at dksX10_refusal_0 21 rfl rfl)
theorem dX10_refusal_24 : decode cX10_refusal 24 = .ok (.goto 7, 3) := dk_167 0 7 (dk_at dksX10_refusal_1 0 rfl rfl)
theorem dX10_refusal_27 : decode cX10_refusal 27 = .ok (.aload_n 0, 1) := dk_42 (dk_at dksX10_refusal_1 3 rfl rfl)
theorem dX10_refusal_28 : decode cX10_refusal 28 = .ok (.getfield 60, 3) := dk_180 0 60 (dk_at dksX10_refusal_1 4 rfl rfl)
theorem dX10_refusal_31 : decode cX10_refusal 31 = .ok (.invokevirtual 85, 3) := dk_182 0 85 (dk_at dksX10_refusal_1 7 rfl rfl)
theorem dX10_refusal_34 : decode cX10_refusal 34 = .ok (.ireturn, 1) := dk_172 (dk_at dksX10_refusal_1 10 rfl rfl)
abbrev cX10_account : ByteArray := prog_13_method_80_code
def yX10_account : MethodName := ⟨RX10, "account", "(I)I"⟩
def dkwX10_account_8 : List UInt8 := [182, 0, 81, 172]
abbrev dktX10_account_8 : List UInt8 := dkwX10_account_8 ++ []
def dkwX10_account_7 : List UInt8 := [182, 0, 85, 172, 42, 42, 180, 0, 206, 182, 0, 85, 172, 42, 42, 180, 0, 74, 182, 0, 85, 172, 42, 4]
abbrev dktX10_account_7 : List UInt8 := dkwX10_account_7 ++ dktX10_account_8
def dkwX10_account_6 : List UInt8 := [182, 0, 85, 172, 42, 42, 6, 16, 12, 182, 0, 179, 182, 0, 85, 172, 42, 42, 180, 0, 7, 16, 95, 46]
abbrev dktX10_account_6 : List UInt8 := dkwX10_account_6 ++ dktX10_account_7
def dkwX10_account_5 : List UInt8 := [180, 0, 7, 16, 80, 46, 182, 0, 85, 172, 42, 42, 16, 89, 42, 180, 0, 7, 16, 80, 46, 182, 0, 179]
abbrev dktX10_account_5 : List UInt8 := dkwX10_account_5 ++ dktX10_account_6
def dkwX10_account_4 : List UInt8 := [182, 0, 85, 172, 42, 42, 180, 0, 7, 16, 93, 27, 96, 16, 7, 100, 46, 182, 0, 85, 172, 42, 42]
abbrev dktX10_account_4 : List UInt8 := dkwX10_account_4 ++ dktX10_account_5
def dkwX10_account_3 : List UInt8 := [42, 182, 0, 111, 182, 0, 85, 172, 42, 42, 182, 0, 239, 182, 0, 85, 172, 42, 42, 182, 0, 242]
abbrev dktX10_account_3 : List UInt8 := dkwX10_account_3 ++ dktX10_account_4
def dkwX10_account_2 : List UInt8 := [42, 42, 180, 0, 7, 27, 46, 182, 0, 85, 172, 42, 42, 180, 0, 7, 16, 51, 46, 182, 0, 85, 172, 42]
abbrev dktX10_account_2 : List UInt8 := dkwX10_account_2 ++ dktX10_account_3
def dkwX10_account_1 : List UInt8 := [170, 0, 0, 0, 0, 0, 214, 0, 0, 0, 0, 0, 0, 0, 14, 0, 0, 0, 75, 0, 0, 0, 75, 0, 0, 0, 75, 0, 0, 0, 86, 0, 0, 0, 98, 0, 0, 0, 107, 0, 0, 0, 116, 0, 0, 0, 125, 0, 0, 0, 125, 0, 0, 0, 142, 0, 0, 0, 154, 0, 0, 0, 172, 0, 0, 0, 184, 0, 0, 0, 196, 0, 0, 0, 205]
abbrev dktX10_account_1 : List UInt8 := dkwX10_account_1 ++ dktX10_account_2
def dkwX10_account_0 : List UInt8 := [27]
abbrev dktX10_account_0 : List UInt8 := dkwX10_account_0 ++ dktX10_account_1
theorem dksX10_account_0 : cX10_account.data.toList.drop 0 = dktX10_account_0 := by decide +kernel
theorem dksX10_account_1 : cX10_account.data.toList.drop 1 = dktX10_account_1 := dk_seg dksX10_account_0 1 rfl rfl
theorem dksX10_account_2 : cX10_account.data.toList.drop 76 = dktX10_account_2 := dk_seg dksX10_account_1 75 rfl rfl
theorem dksX10_account_3 : cX10_account.data.toList.drop 100 = dktX10_account_3 := dk_seg dksX10_account_2 24 rfl rfl
theorem dksX10_account_4 : cX10_account.data.toList.drop 122 = dktX10_account_4 := dk_seg dksX10_account_3 22 rfl rfl
theorem dksX10_account_5 : cX10_account.data.toList.drop 145 = dktX10_account_5 := dk_seg dksX10_account_4 23 rfl rfl
theorem dksX10_account_6 : cX10_account.data.toList.drop 169 = dktX10_account_6 := dk_seg dksX10_account_5 24 rfl rfl
theorem dksX10_account_7 : cX10_account.data.toList.drop 193 = dktX10_account_7 := dk_seg dksX10_account_6 24 rfl rfl
theorem dksX10_account_8 : cX10_account.data.toList.drop 217 = dktX10_account_8 := dk_seg dksX10_account_7 24 rfl rfl
theorem dX10_account_0 : decode cX10_account 0 = .ok (.iload_n 1, 1) := dk_27 (dk_at dksX10_account_0 0 rfl rfl)
theorem dX10_account_1 : decode cX10_account 1 = .ok (.tableswitch 214 0 14 #[75, 75, 75, 86, 98, 107, 116, 125, 125, 142, 154, 172, 184, 196, 205], 75) := by decide +kernel
theorem dX10_account_76 : decode cX10_account 76 = .ok (.aload_n 0, 1) := dk_42 (dk_at dksX10_account_2 0 rfl rfl)
theorem dX10_account_77 : decode cX10_account 77 = .ok (.aload_n 0, 1) := dk_42 (dk_at dksX10_account_2 1 rfl rfl)
theorem dX10_account_78 : decode cX10_account 78 = .ok (.getfield 7, 3) := dk_180 0 7 (dk_at dksX10_account_2 2 rfl rfl)
theorem dX10_account_81 : decode cX10_account 81 = .ok (.iload_n 1, 1) := dk_27 (dk_at dksX10_account_2 5 rfl rfl)
theorem dX10_account_82 : decode cX10_account 82 = .ok (.iaload, 1) := dk_46 (dk_at dksX10_account_2 6 rfl rfl)
theorem dX10_account_83 : decode cX10_account 83 = .ok (.invokevirtual 85, 3) := dk_182 0 85 (dk_at dksX10_account_2 7 rfl rfl)
theorem dX10_account_86 : decode cX10_account 86 = .ok (.ireturn, 1) := dk_172 (dk_at dksX10_account_2 10 rfl rfl)
theorem dX10_account_87 : decode cX10_account 87 = .ok (.aload_n 0, 1) := dk_42 (dk_at dksX10_account_2 11 rfl rfl)
theorem dX10_account_88 : decode cX10_account 88 = .ok (.aload_n 0, 1) := dk_42 (dk_at dksX10_account_2 12 rfl rfl)
theorem dX10_account_89 : decode cX10_account 89 = .ok (.getfield 7, 3) := dk_180 0 7 (dk_at dksX10_account_2 13 rfl rfl)
theorem dX10_account_92 : decode cX10_account 92 = .ok (.bipush 51, 2) := dk_16 51 (dk_at dksX10_account_2 16 rfl rfl)
theorem dX10_account_94 : decode cX10_account 94 = .ok (.iaload, 1) := dk_46 (dk_at dksX10_account_2 18 rfl rfl)
theorem dX10_account_95 : decode cX10_account 95 = .ok (.invokevirtual 85, 3) := dk_182 0 85 (dk_at dksX10_account_2 19 rfl rfl)
theorem dX10_account_98 : decode cX10_account 98 = .ok (.ireturn, 1) := dk_172 (dk_at dksX10_account_2 22 rfl rfl)
theorem dX10_account_99 : decode cX10_account 99 = .ok (.aload_n 0, 1) := dk_42 (dk_at dksX10_account_2 23 rfl rfl)
theorem dX10_account_100 : decode cX10_account 100 = .ok (.aload_n 0, 1) := dk_42 (dk_at dksX10_account_3 0 rfl rfl)
theorem dX10_account_101 : decode cX10_account 101 = .ok (.invokevirtual 111, 3) := dk_182 0 111 (dk_at dksX10_account_3 1 rfl rfl)
theorem dX10_account_104 : decode cX10_account 104 = .ok (.invokevirtual 85, 3) := dk_182 0 85 (dk_at dksX10_account_3 4 rfl rfl)
theorem dX10_account_107 : decode cX10_account 107 = .ok (.ireturn, 1) := dk_172 (dk_at dksX10_account_3 7 rfl rfl)
theorem dX10_account_108 : decode cX10_account 108 = .ok (.aload_n 0, 1) := dk_42 (dk_at dksX10_account_3 8 rfl rfl)
theorem dX10_account_109 : decode cX10_account 109 = .ok (.aload_n 0, 1) := dk_42 (dk_at dksX10_account_3 9 rfl rfl)
theorem dX10_account_110 : decode cX10_account 110 = .ok (.invokevirtual 239, 3) := dk_182 0 239 (dk_at dksX10_account_3 10 rfl rfl)
theorem dX10_account_113 : decode cX10_account 113 = .ok (.invokevirtual 85, 3) := dk_182 0 85 (dk_at dksX10_account_3 13 rfl rfl)
theorem dX10_account_116 : decode cX10_account 116 = .ok (.ireturn, 1) := dk_172 (dk_at dksX10_account_3 16 rfl rfl)
theorem dX10_account_117 : decode cX10_account 117 = .ok (.aload_n 0, 1) := dk_42 (dk_at dksX10_account_3 17 rfl rfl)
theorem dX10_account_118 : decode cX10_account 118 = .ok (.aload_n 0, 1) := dk_42 (dk_at dksX10_account_3 18 rfl rfl)
theorem dX10_account_119 : decode cX10_account 119 = .ok (.invokevirtual 242, 3) := dk_182 0 242 (dk_at dksX10_account_3 19 rfl rfl)
theorem dX10_account_122 : decode cX10_account 122 = .ok (.invokevirtual 85, 3) := dk_182 0 85 (dk_at dksX10_account_4 0 rfl rfl)
theorem dX10_account_125 : decode cX10_account 125 = .ok (.ireturn, 1) := dk_172 (dk_at dksX10_account_4 3 rfl rfl)
theorem dX10_account_126 : decode cX10_account 126 = .ok (.aload_n 0, 1) := dk_42 (dk_at dksX10_account_4 4 rfl rfl)
theorem dX10_account_127 : decode cX10_account 127 = .ok (.aload_n 0, 1) := dk_42 (dk_at dksX10_account_4 5 rfl rfl)
theorem dX10_account_128 : decode cX10_account 128 = .ok (.getfield 7, 3) := dk_180 0 7 (dk_at dksX10_account_4 6 rfl rfl)
theorem dX10_account_131 : decode cX10_account 131 = .ok (.bipush 93, 2) := dk_16 93 (dk_at dksX10_account_4 9 rfl rfl)
theorem dX10_account_133 : decode cX10_account 133 = .ok (.iload_n 1, 1) := dk_27 (dk_at dksX10_account_4 11 rfl rfl)
theorem dX10_account_134 : decode cX10_account 134 = .ok (.iadd, 1) := dk_96 (dk_at dksX10_account_4 12 rfl rfl)
theorem dX10_account_135 : decode cX10_account 135 = .ok (.bipush 7, 2) := dk_16 7 (dk_at dksX10_account_4 13 rfl rfl)
theorem dX10_account_137 : decode cX10_account 137 = .ok (.isub, 1) := dk_100 (dk_at dksX10_account_4 15 rfl rfl)
theorem dX10_account_138 : decode cX10_account 138 = .ok (.iaload, 1) := dk_46 (dk_at dksX10_account_4 16 rfl rfl)
theorem dX10_account_139 : decode cX10_account 139 = .ok (.invokevirtual 85, 3) := dk_182 0 85 (dk_at dksX10_account_4 17 rfl rfl)
theorem dX10_account_142 : decode cX10_account 142 = .ok (.ireturn, 1) := dk_172 (dk_at dksX10_account_4 20 rfl rfl)
theorem dX10_account_143 : decode cX10_account 143 = .ok (.aload_n 0, 1) := dk_42 (dk_at dksX10_account_4 21 rfl rfl)
theorem dX10_account_144 : decode cX10_account 144 = .ok (.aload_n 0, 1) := dk_42 (dk_at dksX10_account_4 22 rfl rfl)
theorem dX10_account_145 : decode cX10_account 145 = .ok (.getfield 7, 3) := dk_180 0 7 (dk_at dksX10_account_5 0 rfl rfl)
theorem dX10_account_148 : decode cX10_account 148 = .ok (.bipush 80, 2) := dk_16 80 (dk_at dksX10_account_5 3 rfl rfl)
theorem dX10_account_150 : decode cX10_account 150 = .ok (.iaload, 1) := dk_46 (dk_at dksX10_account_5 5 rfl rfl)
theorem dX10_account_151 : decode cX10_account 151 = .ok (.invokevirtual 85, 3) := dk_182 0 85 (dk_at dksX10_account_5 6 rfl rfl)
theorem dX10_account_154 : decode cX10_account 154 = .ok (.ireturn, 1) := dk_172 (dk_at dksX10_account_5 9 rfl rfl)
theorem dX10_account_155 : decode cX10_account 155 = .ok (.aload_n 0, 1) := dk_42 (dk_at dksX10_account_5 10 rfl rfl)
theorem dX10_account_156 : decode cX10_account 156 = .ok (.aload_n 0, 1) := dk_42 (dk_at dksX10_account_5 11 rfl rfl)
theorem dX10_account_157 : decode cX10_account 157 = .ok (.bipush 89, 2) := dk_16 89 (dk_at dksX10_account_5 12 rfl rfl)
theorem dX10_account_159 : decode cX10_account 159 = .ok (.aload_n 0, 1) := dk_42 (dk_at dksX10_account_5 14 rfl rfl)
theorem dX10_account_160 : decode cX10_account 160 = .ok (.getfield 7, 3) := dk_180 0 7 (dk_at dksX10_account_5 15 rfl rfl)
theorem dX10_account_163 : decode cX10_account 163 = .ok (.bipush 80, 2) := dk_16 80 (dk_at dksX10_account_5 18 rfl rfl)
theorem dX10_account_165 : decode cX10_account 165 = .ok (.iaload, 1) := dk_46 (dk_at dksX10_account_5 20 rfl rfl)
theorem dX10_account_166 : decode cX10_account 166 = .ok (.invokevirtual 179, 3) := dk_182 0 179 (dk_at dksX10_account_5 21 rfl rfl)
theorem dX10_account_169 : decode cX10_account 169 = .ok (.invokevirtual 85, 3) := dk_182 0 85 (dk_at dksX10_account_6 0 rfl rfl)
theorem dX10_account_172 : decode cX10_account 172 = .ok (.ireturn, 1) := dk_172 (dk_at dksX10_account_6 3 rfl rfl)
theorem dX10_account_173 : decode cX10_account 173 = .ok (.aload_n 0, 1) := dk_42 (dk_at dksX10_account_6 4 rfl rfl)
theorem dX10_account_174 : decode cX10_account 174 = .ok (.aload_n 0, 1) := dk_42 (dk_at dksX10_account_6 5 rfl rfl)
theorem dX10_account_175 : decode cX10_account 175 = .ok (.iconst 3, 1) := dk_6 (dk_at dksX10_account_6 6 rfl rfl)
theorem dX10_account_176 : decode cX10_account 176 = .ok (.bipush 12, 2) := dk_16 12 (dk_at dksX10_account_6 7 rfl rfl)
theorem dX10_account_178 : decode cX10_account 178 = .ok (.invokevirtual 179, 3) := dk_182 0 179 (dk_at dksX10_account_6 9 rfl rfl)
theorem dX10_account_181 : decode cX10_account 181 = .ok (.invokevirtual 85, 3) := dk_182 0 85 (dk_at dksX10_account_6 12 rfl rfl)
theorem dX10_account_184 : decode cX10_account 184 = .ok (.ireturn, 1) := dk_172 (dk_at dksX10_account_6 15 rfl rfl)
theorem dX10_account_185 : decode cX10_account 185 = .ok (.aload_n 0, 1) := dk_42 (dk_at dksX10_account_6 16 rfl rfl)
theorem dX10_account_186 : decode cX10_account 186 = .ok (.aload_n 0, 1) := dk_42 (dk_at dksX10_account_6 17 rfl rfl)
theorem dX10_account_187 : decode cX10_account 187 = .ok (.getfield 7, 3) := dk_180 0 7 (dk_at dksX10_account_6 18 rfl rfl)
theorem dX10_account_190 : decode cX10_account 190 = .ok (.bipush 95, 2) := dk_16 95 (dk_at dksX10_account_6 21 rfl rfl)
theorem dX10_account_192 : decode cX10_account 192 = .ok (.iaload, 1) := dk_46 (dk_at dksX10_account_6 23 rfl rfl)
theorem dX10_account_193 : decode cX10_account 193 = .ok (.invokevirtual 85, 3) := dk_182 0 85 (dk_at dksX10_account_7 0 rfl rfl)
theorem dX10_account_196 : decode cX10_account 196 = .ok (.ireturn, 1) := dk_172 (dk_at dksX10_account_7 3 rfl rfl)
theorem dX10_account_197 : decode cX10_account 197 = .ok (.aload_n 0, 1) := dk_42 (dk_at dksX10_account_7 4 rfl rfl)
theorem dX10_account_198 : decode cX10_account 198 = .ok (.aload_n 0, 1) := dk_42 (dk_at dksX10_account_7 5 rfl rfl)
theorem dX10_account_199 : decode cX10_account 199 = .ok (.getfield 206, 3) := dk_180 0 206 (dk_at dksX10_account_7 6 rfl rfl)
theorem dX10_account_202 : decode cX10_account 202 = .ok (.invokevirtual 85, 3) := dk_182 0 85 (dk_at dksX10_account_7 9 rfl rfl)
theorem dX10_account_205 : decode cX10_account 205 = .ok (.ireturn, 1) := dk_172 (dk_at dksX10_account_7 12 rfl rfl)
theorem dX10_account_206 : decode cX10_account 206 = .ok (.aload_n 0, 1) := dk_42 (dk_at dksX10_account_7 13 rfl rfl)
theorem dX10_account_207 : decode cX10_account 207 = .ok (.aload_n 0, 1) := dk_42 (dk_at dksX10_account_7 14 rfl rfl)
theorem dX10_account_208 : decode cX10_account 208 = .ok (.getfield 74, 3) := dk_180 0 74 (dk_at dksX10_account_7 15 rfl rfl)
theorem dX10_account_211 : decode cX10_account 211 = .ok (.invokevirtual 85, 3) := dk_182 0 85 (dk_at dksX10_account_7 18 rfl rfl)
theorem dX10_account_214 : decode cX10_account 214 = .ok (.ireturn, 1) := dk_172 (dk_at dksX10_account_7 21 rfl rfl)
theorem dX10_account_215 : decode cX10_account 215 = .ok (.aload_n 0, 1) := dk_42 (dk_at dksX10_account_7 22 rfl rfl)
theorem dX10_account_216 : decode cX10_account 216 = .ok (.iconst 1, 1) := dk_4 (dk_at dksX10_account_7 23 rfl rfl)
theorem dX10_account_217 : decode cX10_account 217 = .ok (.invokevirtual 81, 3) := dk_182 0 81 (dk_at dksX10_account_8 0 rfl rfl)
theorem dX10_account_220 : decode cX10_account 220 = .ok (.ireturn, 1) := dk_172 (dk_at dksX10_account_8 3 rfl rfl)
abbrev cX10_crops : ByteArray := prog_13_method_78_code
def yX10_crops : MethodName := ⟨RX10, "crops", "()I"⟩
def dkwX10_crops_1 : List UInt8 := [3, 167, 0, 4, 4, 96, 60, 132, 2, 1, 167, 255, 226, 27, 172]
abbrev dktX10_crops_1 : List UInt8 := dkwX10_crops_1 ++ []
def dkwX10_crops_0 : List UInt8 := [3, 60, 3, 61, 28, 16, 12, 162, 0, 30, 27, 42, 180, 0, 7, 16, 27, 28, 96, 46, 2, 160, 0, 7]
abbrev dktX10_crops_0 : List UInt8 := dkwX10_crops_0 ++ dktX10_crops_1
theorem dksX10_crops_0 : cX10_crops.data.toList.drop 0 = dktX10_crops_0 := by decide +kernel
theorem dksX10_crops_1 : cX10_crops.data.toList.drop 24 = dktX10_crops_1 := dk_seg dksX10_crops_0 24 rfl rfl
theorem dX10_crops_0 : decode cX10_crops 0 = .ok (.iconst 0, 1) := dk_3 (dk_at dksX10_crops_0 0 rfl rfl)
theorem dX10_crops_1 : decode cX10_crops 1 = .ok (.istore_n 1, 1) := dk_60 (dk_at dksX10_crops_0 1 rfl rfl)
theorem dX10_crops_2 : decode cX10_crops 2 = .ok (.iconst 0, 1) := dk_3 (dk_at dksX10_crops_0 2 rfl rfl)
theorem dX10_crops_3 : decode cX10_crops 3 = .ok (.istore_n 2, 1) := dk_61 (dk_at dksX10_crops_0 3 rfl rfl)
theorem dX10_crops_4 : decode cX10_crops 4 = .ok (.iload_n 2, 1) := dk_28 (dk_at dksX10_crops_0 4 rfl rfl)
theorem dX10_crops_5 : decode cX10_crops 5 = .ok (.bipush 12, 2) := dk_16 12 (dk_at dksX10_crops_0 5 rfl rfl)
theorem dX10_crops_7 : decode cX10_crops 7 = .ok (.if_icmp .ge 30, 3) := dk_162 0 30 (dk_at dksX10_crops_0 7 rfl rfl)
theorem dX10_crops_10 : decode cX10_crops 10 = .ok (.iload_n 1, 1) := dk_27 (dk_at dksX10_crops_0 10 rfl rfl)
theorem dX10_crops_11 : decode cX10_crops 11 = .ok (.aload_n 0, 1) := dk_42 (dk_at dksX10_crops_0 11 rfl rfl)
theorem dX10_crops_12 : decode cX10_crops 12 = .ok (.getfield 7, 3) := dk_180 0 7 (dk_at dksX10_crops_0 12 rfl rfl)
theorem dX10_crops_15 : decode cX10_crops 15 = .ok (.bipush 27, 2) := dk_16 27 (dk_at dksX10_crops_0 15 rfl rfl)
theorem dX10_crops_17 : decode cX10_crops 17 = .ok (.iload_n 2, 1) := dk_28 (dk_at dksX10_crops_0 17 rfl rfl)
theorem dX10_crops_18 : decode cX10_crops 18 = .ok (.iadd, 1) := dk_96 (dk_at dksX10_crops_0 18 rfl rfl)
theorem dX10_crops_19 : decode cX10_crops 19 = .ok (.iaload, 1) := dk_46 (dk_at dksX10_crops_0 19 rfl rfl)
theorem dX10_crops_20 : decode cX10_crops 20 = .ok (.iconst (-1), 1) := dk_2 (dk_at dksX10_crops_0 20 rfl rfl)
theorem dX10_crops_21 : decode cX10_crops 21 = .ok (.if_icmp .ne 7, 3) := dk_160 0 7 (dk_at dksX10_crops_0 21 rfl rfl)
theorem dX10_crops_24 : decode cX10_crops 24 = .ok (.iconst 0, 1) := dk_3 (dk_at dksX10_crops_1 0 rfl rfl)
theorem dX10_crops_25 : decode cX10_crops 25 = .ok (.goto 4, 3) := dk_167 0 4 (dk_at dksX10_crops_1 1 rfl rfl)
theorem dX10_crops_28 : decode cX10_crops 28 = .ok (.iconst 1, 1) := dk_4 (dk_at dksX10_crops_1 4 rfl rfl)
theorem dX10_crops_29 : decode cX10_crops 29 = .ok (.iadd, 1) := dk_96 (dk_at dksX10_crops_1 5 rfl rfl)
theorem dX10_crops_30 : decode cX10_crops 30 = .ok (.istore_n 1, 1) := dk_60 (dk_at dksX10_crops_1 6 rfl rfl)
theorem dX10_crops_31 : decode cX10_crops 31 = .ok (.iinc 2 1, 3) := dk_132 2 1 (dk_at dksX10_crops_1 7 rfl rfl)
theorem dX10_crops_34 : decode cX10_crops 34 = .ok (.goto (-30), 3) := dk_167 255 226 (dk_at dksX10_crops_1 10 rfl rfl)
theorem dX10_crops_37 : decode cX10_crops 37 = .ok (.iload_n 1, 1) := dk_27 (dk_at dksX10_crops_1 13 rfl rfl)
theorem dX10_crops_38 : decode cX10_crops 38 = .ok (.ireturn, 1) := dk_172 (dk_at dksX10_crops_1 14 rfl rfl)
abbrev cX10_onBenches : ByteArray := prog_13_method_79_code
def yX10_onBenches : MethodName := ⟨RX10, "onBenches", "()I"⟩
def dkwX10_onBenches_1 : List UInt8 := [167, 0, 4, 3, 96, 60, 132, 2, 1, 167, 255, 227, 27, 172]
abbrev dktX10_onBenches_1 : List UInt8 := dkwX10_onBenches_1 ++ []
def dkwX10_onBenches_0 : List UInt8 := [3, 60, 3, 61, 28, 16, 10, 162, 0, 29, 27, 42, 180, 0, 7, 16, 70, 28, 96, 46, 158, 0, 7, 4]
abbrev dktX10_onBenches_0 : List UInt8 := dkwX10_onBenches_0 ++ dktX10_onBenches_1
theorem dksX10_onBenches_0 : cX10_onBenches.data.toList.drop 0 = dktX10_onBenches_0 := by decide +kernel
theorem dksX10_onBenches_1 : cX10_onBenches.data.toList.drop 24 = dktX10_onBenches_1 := dk_seg dksX10_onBenches_0 24 rfl rfl
theorem dX10_onBenches_0 : decode cX10_onBenches 0 = .ok (.iconst 0, 1) := dk_3 (dk_at dksX10_onBenches_0 0 rfl rfl)
theorem dX10_onBenches_1 : decode cX10_onBenches 1 = .ok (.istore_n 1, 1) := dk_60 (dk_at dksX10_onBenches_0 1 rfl rfl)
theorem dX10_onBenches_2 : decode cX10_onBenches 2 = .ok (.iconst 0, 1) := dk_3 (dk_at dksX10_onBenches_0 2 rfl rfl)
theorem dX10_onBenches_3 : decode cX10_onBenches 3 = .ok (.istore_n 2, 1) := dk_61 (dk_at dksX10_onBenches_0 3 rfl rfl)
theorem dX10_onBenches_4 : decode cX10_onBenches 4 = .ok (.iload_n 2, 1) := dk_28 (dk_at dksX10_onBenches_0 4 rfl rfl)
theorem dX10_onBenches_5 : decode cX10_onBenches 5 = .ok (.bipush 10, 2) := dk_16 10 (dk_at dksX10_onBenches_0 5 rfl rfl)
theorem dX10_onBenches_7 : decode cX10_onBenches 7 = .ok (.if_icmp .ge 29, 3) := dk_162 0 29 (dk_at dksX10_onBenches_0 7 rfl rfl)
theorem dX10_onBenches_10 : decode cX10_onBenches 10 = .ok (.iload_n 1, 1) := dk_27 (dk_at dksX10_onBenches_0 10 rfl rfl)
theorem dX10_onBenches_11 : decode cX10_onBenches 11 = .ok (.aload_n 0, 1) := dk_42 (dk_at dksX10_onBenches_0 11 rfl rfl)
theorem dX10_onBenches_12 : decode cX10_onBenches 12 = .ok (.getfield 7, 3) := dk_180 0 7 (dk_at dksX10_onBenches_0 12 rfl rfl)
theorem dX10_onBenches_15 : decode cX10_onBenches 15 = .ok (.bipush 70, 2) := dk_16 70 (dk_at dksX10_onBenches_0 15 rfl rfl)
theorem dX10_onBenches_17 : decode cX10_onBenches 17 = .ok (.iload_n 2, 1) := dk_28 (dk_at dksX10_onBenches_0 17 rfl rfl)
theorem dX10_onBenches_18 : decode cX10_onBenches 18 = .ok (.iadd, 1) := dk_96 (dk_at dksX10_onBenches_0 18 rfl rfl)
theorem dX10_onBenches_19 : decode cX10_onBenches 19 = .ok (.iaload, 1) := dk_46 (dk_at dksX10_onBenches_0 19 rfl rfl)
theorem dX10_onBenches_20 : decode cX10_onBenches 20 = .ok (.ifCond .le 7, 3) := dk_158 0 7 (dk_at dksX10_onBenches_0 20 rfl rfl)
theorem dX10_onBenches_23 : decode cX10_onBenches 23 = .ok (.iconst 1, 1) := dk_4 (dk_at dksX10_onBenches_0 23 rfl rfl)
theorem dX10_onBenches_24 : decode cX10_onBenches 24 = .ok (.goto 4, 3) := dk_167 0 4 (dk_at dksX10_onBenches_1 0 rfl rfl)
theorem dX10_onBenches_27 : decode cX10_onBenches 27 = .ok (.iconst 0, 1) := dk_3 (dk_at dksX10_onBenches_1 3 rfl rfl)
theorem dX10_onBenches_28 : decode cX10_onBenches 28 = .ok (.iadd, 1) := dk_96 (dk_at dksX10_onBenches_1 4 rfl rfl)
theorem dX10_onBenches_29 : decode cX10_onBenches 29 = .ok (.istore_n 1, 1) := dk_60 (dk_at dksX10_onBenches_1 5 rfl rfl)
theorem dX10_onBenches_30 : decode cX10_onBenches 30 = .ok (.iinc 2 1, 3) := dk_132 2 1 (dk_at dksX10_onBenches_1 6 rfl rfl)
theorem dX10_onBenches_33 : decode cX10_onBenches 33 = .ok (.goto (-29), 3) := dk_167 255 227 (dk_at dksX10_onBenches_1 9 rfl rfl)
theorem dX10_onBenches_36 : decode cX10_onBenches 36 = .ok (.iload_n 1, 1) := dk_27 (dk_at dksX10_onBenches_1 12 rfl rfl)
theorem dX10_onBenches_37 : decode cX10_onBenches 37 = .ok (.ireturn, 1) := dk_172 (dk_at dksX10_onBenches_1 13 rfl rfl)
abbrev cX10_isWell : ByteArray := prog_13_method_81_code
def yX10_isWell : MethodName := ⟨RX10, "isWell", "()Z"⟩
def dkwX10_isWell_7 : List UInt8 := [167, 255, 133, 27, 172]
abbrev dktX10_isWell_7 : List UInt8 := dkwX10_isWell_7 ++ []
def dkwX10_isWell_6 : List UInt8 := [96, 46, 2, 160, 0, 7, 3, 167, 0, 4, 4, 160, 0, 7, 4, 167, 0, 4, 3, 60, 132, 2, 1]
abbrev dktX10_isWell_6 : List UInt8 := dkwX10_isWell_6 ++ dktX10_isWell_7
def dkwX10_isWell_5 : List UInt8 := [167, 0, 4, 3, 96, 62, 132, 4, 1, 167, 255, 219, 27, 153, 0, 29, 29, 42, 180, 0, 7, 16, 15, 28]
abbrev dktX10_isWell_5 : List UInt8 := dkwX10_isWell_5 ++ dktX10_isWell_6
def dkwX10_isWell_4 : List UInt8 := [16, 51, 46, 162, 0, 31, 29, 42, 180, 0, 7, 16, 52, 21, 4, 96, 46, 28, 160, 0, 7, 4]
abbrev dktX10_isWell_4 : List UInt8 := dkwX10_isWell_4 ++ dktX10_isWell_5
def dkwX10_isWell_3 : List UInt8 := [48, 18, 126, 150, 157, 0, 7, 4, 167, 0, 4, 3, 60, 3, 62, 3, 54, 4, 21, 4, 42, 180, 0, 7]
abbrev dktX10_isWell_3 : List UInt8 := dkwX10_isWell_3 ++ dktX10_isWell_4
def dkwX10_isWell_2 : List UInt8 := [27, 153, 0, 34, 42, 180, 0, 13, 3, 28, 96, 48, 11, 149, 155, 0, 21, 42, 180, 0, 13, 3, 28, 96]
abbrev dktX10_isWell_2 : List UInt8 := dkwX10_isWell_2 ++ dktX10_isWell_3
def dkwX10_isWell_1 : List UInt8 := [180, 0, 7, 16, 94, 46, 96, 160, 0, 7, 4, 167, 0, 4, 3, 60, 3, 61, 28, 16, 12, 162, 0, 123]
abbrev dktX10_isWell_1 : List UInt8 := dkwX10_isWell_1 ++ dktX10_isWell_2
def dkwX10_isWell_0 : List UInt8 := [42, 3, 181, 0, 53, 42, 180, 0, 7, 16, 93, 46, 42, 182, 0, 242, 42, 182, 0, 239, 96, 42]
abbrev dktX10_isWell_0 : List UInt8 := dkwX10_isWell_0 ++ dktX10_isWell_1
theorem dksX10_isWell_0 : cX10_isWell.data.toList.drop 0 = dktX10_isWell_0 := by decide +kernel
theorem dksX10_isWell_1 : cX10_isWell.data.toList.drop 22 = dktX10_isWell_1 := dk_seg dksX10_isWell_0 22 rfl rfl
theorem dksX10_isWell_2 : cX10_isWell.data.toList.drop 46 = dktX10_isWell_2 := dk_seg dksX10_isWell_1 24 rfl rfl
theorem dksX10_isWell_3 : cX10_isWell.data.toList.drop 70 = dktX10_isWell_3 := dk_seg dksX10_isWell_2 24 rfl rfl
theorem dksX10_isWell_4 : cX10_isWell.data.toList.drop 94 = dktX10_isWell_4 := dk_seg dksX10_isWell_3 24 rfl rfl
theorem dksX10_isWell_5 : cX10_isWell.data.toList.drop 116 = dktX10_isWell_5 := dk_seg dksX10_isWell_4 22 rfl rfl
theorem dksX10_isWell_6 : cX10_isWell.data.toList.drop 140 = dktX10_isWell_6 := dk_seg dksX10_isWell_5 24 rfl rfl
theorem dksX10_isWell_7 : cX10_isWell.data.toList.drop 163 = dktX10_isWell_7 := dk_seg dksX10_isWell_6 23 rfl rfl
theorem dX10_isWell_0 : decode cX10_isWell 0 = .ok (.aload_n 0, 1) := dk_42 (dk_at dksX10_isWell_0 0 rfl rfl)
theorem dX10_isWell_1 : decode cX10_isWell 1 = .ok (.iconst 0, 1) := dk_3 (dk_at dksX10_isWell_0 1 rfl rfl)
theorem dX10_isWell_2 : decode cX10_isWell 2 = .ok (.putfield 53, 3) := dk_181 0 53 (dk_at dksX10_isWell_0 2 rfl rfl)
theorem dX10_isWell_5 : decode cX10_isWell 5 = .ok (.aload_n 0, 1) := dk_42 (dk_at dksX10_isWell_0 5 rfl rfl)
theorem dX10_isWell_6 : decode cX10_isWell 6 = .ok (.getfield 7, 3) := dk_180 0 7 (dk_at dksX10_isWell_0 6 rfl rfl)
theorem dX10_isWell_9 : decode cX10_isWell 9 = .ok (.bipush 93, 2) := dk_16 93 (dk_at dksX10_isWell_0 9 rfl rfl)
theorem dX10_isWell_11 : decode cX10_isWell 11 = .ok (.iaload, 1) := dk_46 (dk_at dksX10_isWell_0 11 rfl rfl)
theorem dX10_isWell_12 : decode cX10_isWell 12 = .ok (.aload_n 0, 1) := dk_42 (dk_at dksX10_isWell_0 12 rfl rfl)
theorem dX10_isWell_13 : decode cX10_isWell 13 = .ok (.invokevirtual 242, 3) := dk_182 0 242 (dk_at dksX10_isWell_0 13 rfl rfl)
theorem dX10_isWell_16 : decode cX10_isWell 16 = .ok (.aload_n 0, 1) := dk_42 (dk_at dksX10_isWell_0 16 rfl rfl)
theorem dX10_isWell_17 : decode cX10_isWell 17 = .ok (.invokevirtual 239, 3) := dk_182 0 239 (dk_at dksX10_isWell_0 17 rfl rfl)
theorem dX10_isWell_20 : decode cX10_isWell 20 = .ok (.iadd, 1) := dk_96 (dk_at dksX10_isWell_0 20 rfl rfl)
theorem dX10_isWell_21 : decode cX10_isWell 21 = .ok (.aload_n 0, 1) := dk_42 (dk_at dksX10_isWell_0 21 rfl rfl)
theorem dX10_isWell_22 : decode cX10_isWell 22 = .ok (.getfield 7, 3) := dk_180 0 7 (dk_at dksX10_isWell_1 0 rfl rfl)
theorem dX10_isWell_25 : decode cX10_isWell 25 = .ok (.bipush 94, 2) := dk_16 94 (dk_at dksX10_isWell_1 3 rfl rfl)
theorem dX10_isWell_27 : decode cX10_isWell 27 = .ok (.iaload, 1) := dk_46 (dk_at dksX10_isWell_1 5 rfl rfl)
theorem dX10_isWell_28 : decode cX10_isWell 28 = .ok (.iadd, 1) := dk_96 (dk_at dksX10_isWell_1 6 rfl rfl)
theorem dX10_isWell_29 : decode cX10_isWell 29 = .ok (.if_icmp .ne 7, 3) := dk_160 0 7 (dk_at dksX10_isWell_1 7 rfl rfl)
theorem dX10_isWell_32 : decode cX10_isWell 32 = .ok (.iconst 1, 1) := dk_4 (dk_at dksX10_isWell_1 10 rfl rfl)
theorem dX10_isWell_33 : decode cX10_isWell 33 = .ok (.goto 4, 3) := dk_167 0 4 (dk_at dksX10_isWell_1 11 rfl rfl)
theorem dX10_isWell_36 : decode cX10_isWell 36 = .ok (.iconst 0, 1) := dk_3 (dk_at dksX10_isWell_1 14 rfl rfl)
theorem dX10_isWell_37 : decode cX10_isWell 37 = .ok (.istore_n 1, 1) := dk_60 (dk_at dksX10_isWell_1 15 rfl rfl)
theorem dX10_isWell_38 : decode cX10_isWell 38 = .ok (.iconst 0, 1) := dk_3 (dk_at dksX10_isWell_1 16 rfl rfl)
theorem dX10_isWell_39 : decode cX10_isWell 39 = .ok (.istore_n 2, 1) := dk_61 (dk_at dksX10_isWell_1 17 rfl rfl)
theorem dX10_isWell_40 : decode cX10_isWell 40 = .ok (.iload_n 2, 1) := dk_28 (dk_at dksX10_isWell_1 18 rfl rfl)
theorem dX10_isWell_41 : decode cX10_isWell 41 = .ok (.bipush 12, 2) := dk_16 12 (dk_at dksX10_isWell_1 19 rfl rfl)
theorem dX10_isWell_43 : decode cX10_isWell 43 = .ok (.if_icmp .ge 123, 3) := dk_162 0 123 (dk_at dksX10_isWell_1 21 rfl rfl)
theorem dX10_isWell_46 : decode cX10_isWell 46 = .ok (.iload_n 1, 1) := dk_27 (dk_at dksX10_isWell_2 0 rfl rfl)
theorem dX10_isWell_47 : decode cX10_isWell 47 = .ok (.ifCond .eq 34, 3) := dk_153 0 34 (dk_at dksX10_isWell_2 1 rfl rfl)
theorem dX10_isWell_50 : decode cX10_isWell 50 = .ok (.aload_n 0, 1) := dk_42 (dk_at dksX10_isWell_2 4 rfl rfl)
theorem dX10_isWell_51 : decode cX10_isWell 51 = .ok (.getfield 13, 3) := dk_180 0 13 (dk_at dksX10_isWell_2 5 rfl rfl)
theorem dX10_isWell_54 : decode cX10_isWell 54 = .ok (.iconst 0, 1) := dk_3 (dk_at dksX10_isWell_2 8 rfl rfl)
theorem dX10_isWell_55 : decode cX10_isWell 55 = .ok (.iload_n 2, 1) := dk_28 (dk_at dksX10_isWell_2 9 rfl rfl)
theorem dX10_isWell_56 : decode cX10_isWell 56 = .ok (.iadd, 1) := dk_96 (dk_at dksX10_isWell_2 10 rfl rfl)
theorem dX10_isWell_57 : decode cX10_isWell 57 = .ok (.faload, 1) := dk_48 (dk_at dksX10_isWell_2 11 rfl rfl)
theorem dX10_isWell_58 : decode cX10_isWell 58 = .ok (.fconst 0, 1) := dk_11 (dk_at dksX10_isWell_2 12 rfl rfl)
theorem dX10_isWell_59 : decode cX10_isWell 59 = .ok (.fcmp .l, 1) := dk_149 (dk_at dksX10_isWell_2 13 rfl rfl)
theorem dX10_isWell_60 : decode cX10_isWell 60 = .ok (.ifCond .lt 21, 3) := dk_155 0 21 (dk_at dksX10_isWell_2 14 rfl rfl)
theorem dX10_isWell_63 : decode cX10_isWell 63 = .ok (.aload_n 0, 1) := dk_42 (dk_at dksX10_isWell_2 17 rfl rfl)
theorem dX10_isWell_64 : decode cX10_isWell 64 = .ok (.getfield 13, 3) := dk_180 0 13 (dk_at dksX10_isWell_2 18 rfl rfl)
theorem dX10_isWell_67 : decode cX10_isWell 67 = .ok (.iconst 0, 1) := dk_3 (dk_at dksX10_isWell_2 21 rfl rfl)
theorem dX10_isWell_68 : decode cX10_isWell 68 = .ok (.iload_n 2, 1) := dk_28 (dk_at dksX10_isWell_2 22 rfl rfl)
theorem dX10_isWell_69 : decode cX10_isWell 69 = .ok (.iadd, 1) := dk_96 (dk_at dksX10_isWell_2 23 rfl rfl)
theorem dX10_isWell_70 : decode cX10_isWell 70 = .ok (.faload, 1) := dk_48 (dk_at dksX10_isWell_3 0 rfl rfl)
theorem dX10_isWell_71 : decode cX10_isWell 71 = .ok (.ldc 126, 2) := dk_18 126 (dk_at dksX10_isWell_3 1 rfl rfl)
theorem dX10_isWell_73 : decode cX10_isWell 73 = .ok (.fcmp .g, 1) := dk_150 (dk_at dksX10_isWell_3 3 rfl rfl)
theorem dX10_isWell_74 : decode cX10_isWell 74 = .ok (.ifCond .gt 7, 3) := dk_157 0 7 (dk_at dksX10_isWell_3 4 rfl rfl)
theorem dX10_isWell_77 : decode cX10_isWell 77 = .ok (.iconst 1, 1) := dk_4 (dk_at dksX10_isWell_3 7 rfl rfl)
theorem dX10_isWell_78 : decode cX10_isWell 78 = .ok (.goto 4, 3) := dk_167 0 4 (dk_at dksX10_isWell_3 8 rfl rfl)
theorem dX10_isWell_81 : decode cX10_isWell 81 = .ok (.iconst 0, 1) := dk_3 (dk_at dksX10_isWell_3 11 rfl rfl)
theorem dX10_isWell_82 : decode cX10_isWell 82 = .ok (.istore_n 1, 1) := dk_60 (dk_at dksX10_isWell_3 12 rfl rfl)
theorem dX10_isWell_83 : decode cX10_isWell 83 = .ok (.iconst 0, 1) := dk_3 (dk_at dksX10_isWell_3 13 rfl rfl)
theorem dX10_isWell_84 : decode cX10_isWell 84 = .ok (.istore_n 3, 1) := dk_62 (dk_at dksX10_isWell_3 14 rfl rfl)
theorem dX10_isWell_85 : decode cX10_isWell 85 = .ok (.iconst 0, 1) := dk_3 (dk_at dksX10_isWell_3 15 rfl rfl)
theorem dX10_isWell_86 : decode cX10_isWell 86 = .ok (.istore 4, 2) := dk_54 4 (dk_at dksX10_isWell_3 16 rfl rfl)
theorem dX10_isWell_88 : decode cX10_isWell 88 = .ok (.iload 4, 2) := dk_21 4 (dk_at dksX10_isWell_3 18 rfl rfl)
theorem dX10_isWell_90 : decode cX10_isWell 90 = .ok (.aload_n 0, 1) := dk_42 (dk_at dksX10_isWell_3 20 rfl rfl)
theorem dX10_isWell_91 : decode cX10_isWell 91 = .ok (.getfield 7, 3) := dk_180 0 7 (dk_at dksX10_isWell_3 21 rfl rfl)
theorem dX10_isWell_94 : decode cX10_isWell 94 = .ok (.bipush 51, 2) := dk_16 51 (dk_at dksX10_isWell_4 0 rfl rfl)
theorem dX10_isWell_96 : decode cX10_isWell 96 = .ok (.iaload, 1) := dk_46 (dk_at dksX10_isWell_4 2 rfl rfl)
theorem dX10_isWell_97 : decode cX10_isWell 97 = .ok (.if_icmp .ge 31, 3) := dk_162 0 31 (dk_at dksX10_isWell_4 3 rfl rfl)
theorem dX10_isWell_100 : decode cX10_isWell 100 = .ok (.iload_n 3, 1) := dk_29 (dk_at dksX10_isWell_4 6 rfl rfl)
theorem dX10_isWell_101 : decode cX10_isWell 101 = .ok (.aload_n 0, 1) := dk_42 (dk_at dksX10_isWell_4 7 rfl rfl)
theorem dX10_isWell_102 : decode cX10_isWell 102 = .ok (.getfield 7, 3) := dk_180 0 7 (dk_at dksX10_isWell_4 8 rfl rfl)
theorem dX10_isWell_105 : decode cX10_isWell 105 = .ok (.bipush 52, 2) := dk_16 52 (dk_at dksX10_isWell_4 11 rfl rfl)
theorem dX10_isWell_107 : decode cX10_isWell 107 = .ok (.iload 4, 2) := dk_21 4 (dk_at dksX10_isWell_4 13 rfl rfl)
theorem dX10_isWell_109 : decode cX10_isWell 109 = .ok (.iadd, 1) := dk_96 (dk_at dksX10_isWell_4 15 rfl rfl)
theorem dX10_isWell_110 : decode cX10_isWell 110 = .ok (.iaload, 1) := dk_46 (dk_at dksX10_isWell_4 16 rfl rfl)
theorem dX10_isWell_111 : decode cX10_isWell 111 = .ok (.iload_n 2, 1) := dk_28 (dk_at dksX10_isWell_4 17 rfl rfl)
theorem dX10_isWell_112 : decode cX10_isWell 112 = .ok (.if_icmp .ne 7, 3) := dk_160 0 7 (dk_at dksX10_isWell_4 18 rfl rfl)
theorem dX10_isWell_115 : decode cX10_isWell 115 = .ok (.iconst 1, 1) := dk_4 (dk_at dksX10_isWell_4 21 rfl rfl)
theorem dX10_isWell_116 : decode cX10_isWell 116 = .ok (.goto 4, 3) := dk_167 0 4 (dk_at dksX10_isWell_5 0 rfl rfl)
theorem dX10_isWell_119 : decode cX10_isWell 119 = .ok (.iconst 0, 1) := dk_3 (dk_at dksX10_isWell_5 3 rfl rfl)
theorem dX10_isWell_120 : decode cX10_isWell 120 = .ok (.iadd, 1) := dk_96 (dk_at dksX10_isWell_5 4 rfl rfl)
theorem dX10_isWell_121 : decode cX10_isWell 121 = .ok (.istore_n 3, 1) := dk_62 (dk_at dksX10_isWell_5 5 rfl rfl)
theorem dX10_isWell_122 : decode cX10_isWell 122 = .ok (.iinc 4 1, 3) := dk_132 4 1 (dk_at dksX10_isWell_5 6 rfl rfl)
theorem dX10_isWell_125 : decode cX10_isWell 125 = .ok (.goto (-37), 3) := dk_167 255 219 (dk_at dksX10_isWell_5 9 rfl rfl)
theorem dX10_isWell_128 : decode cX10_isWell 128 = .ok (.iload_n 1, 1) := dk_27 (dk_at dksX10_isWell_5 12 rfl rfl)
theorem dX10_isWell_129 : decode cX10_isWell 129 = .ok (.ifCond .eq 29, 3) := dk_153 0 29 (dk_at dksX10_isWell_5 13 rfl rfl)
theorem dX10_isWell_132 : decode cX10_isWell 132 = .ok (.iload_n 3, 1) := dk_29 (dk_at dksX10_isWell_5 16 rfl rfl)
theorem dX10_isWell_133 : decode cX10_isWell 133 = .ok (.aload_n 0, 1) := dk_42 (dk_at dksX10_isWell_5 17 rfl rfl)
theorem dX10_isWell_134 : decode cX10_isWell 134 = .ok (.getfield 7, 3) := dk_180 0 7 (dk_at dksX10_isWell_5 18 rfl rfl)
theorem dX10_isWell_137 : decode cX10_isWell 137 = .ok (.bipush 15, 2) := dk_16 15 (dk_at dksX10_isWell_5 21 rfl rfl)
theorem dX10_isWell_139 : decode cX10_isWell 139 = .ok (.iload_n 2, 1) := dk_28 (dk_at dksX10_isWell_5 23 rfl rfl)
theorem dX10_isWell_140 : decode cX10_isWell 140 = .ok (.iadd, 1) := dk_96 (dk_at dksX10_isWell_6 0 rfl rfl)
theorem dX10_isWell_141 : decode cX10_isWell 141 = .ok (.iaload, 1) := dk_46 (dk_at dksX10_isWell_6 1 rfl rfl)
theorem dX10_isWell_142 : decode cX10_isWell 142 = .ok (.iconst (-1), 1) := dk_2 (dk_at dksX10_isWell_6 2 rfl rfl)
theorem dX10_isWell_143 : decode cX10_isWell 143 = .ok (.if_icmp .ne 7, 3) := dk_160 0 7 (dk_at dksX10_isWell_6 3 rfl rfl)
theorem dX10_isWell_146 : decode cX10_isWell 146 = .ok (.iconst 0, 1) := dk_3 (dk_at dksX10_isWell_6 6 rfl rfl)
theorem dX10_isWell_147 : decode cX10_isWell 147 = .ok (.goto 4, 3) := dk_167 0 4 (dk_at dksX10_isWell_6 7 rfl rfl)
theorem dX10_isWell_150 : decode cX10_isWell 150 = .ok (.iconst 1, 1) := dk_4 (dk_at dksX10_isWell_6 10 rfl rfl)
theorem dX10_isWell_151 : decode cX10_isWell 151 = .ok (.if_icmp .ne 7, 3) := dk_160 0 7 (dk_at dksX10_isWell_6 11 rfl rfl)
theorem dX10_isWell_154 : decode cX10_isWell 154 = .ok (.iconst 1, 1) := dk_4 (dk_at dksX10_isWell_6 14 rfl rfl)
theorem dX10_isWell_155 : decode cX10_isWell 155 = .ok (.goto 4, 3) := dk_167 0 4 (dk_at dksX10_isWell_6 15 rfl rfl)
theorem dX10_isWell_158 : decode cX10_isWell 158 = .ok (.iconst 0, 1) := dk_3 (dk_at dksX10_isWell_6 18 rfl rfl)
theorem dX10_isWell_159 : decode cX10_isWell 159 = .ok (.istore_n 1, 1) := dk_60 (dk_at dksX10_isWell_6 19 rfl rfl)
theorem dX10_isWell_160 : decode cX10_isWell 160 = .ok (.iinc 2 1, 3) := dk_132 2 1 (dk_at dksX10_isWell_6 20 rfl rfl)
theorem dX10_isWell_163 : decode cX10_isWell 163 = .ok (.goto (-123), 3) := dk_167 255 133 (dk_at dksX10_isWell_7 0 rfl rfl)
theorem dX10_isWell_166 : decode cX10_isWell 166 = .ok (.iload_n 1, 1) := dk_27 (dk_at dksX10_isWell_7 3 rfl rfl)
theorem dX10_isWell_167 : decode cX10_isWell 167 = .ok (.ireturn, 1) := dk_172 (dk_at dksX10_isWell_7 4 rfl rfl)
abbrev cX10_meanBits : ByteArray := prog_13_method_82_code
def yX10_meanBits : MethodName := ⟨RX10, "meanBits", "()J"⟩
def dkwX10_meanBits_1 : List UInt8 := [141, 99, 72, 132, 3, 1, 167, 255, 235, 39, 20, 0, 245, 111, 184, 0, 247, 173]
abbrev dktX10_meanBits_1 : List UInt8 := dkwX10_meanBits_1 ++ []
def dkwX10_meanBits_0 : List UInt8 := [42, 3, 181, 0, 53, 14, 72, 3, 62, 29, 16, 12, 162, 0, 21, 39, 42, 180, 0, 13, 3, 29, 96, 48]
abbrev dktX10_meanBits_0 : List UInt8 := dkwX10_meanBits_0 ++ dktX10_meanBits_1
theorem dksX10_meanBits_0 : cX10_meanBits.data.toList.drop 0 = dktX10_meanBits_0 := by decide +kernel
theorem dksX10_meanBits_1 : cX10_meanBits.data.toList.drop 24 = dktX10_meanBits_1 := dk_seg dksX10_meanBits_0 24 rfl rfl
theorem dX10_meanBits_0 : decode cX10_meanBits 0 = .ok (.aload_n 0, 1) := dk_42 (dk_at dksX10_meanBits_0 0 rfl rfl)
theorem dX10_meanBits_1 : decode cX10_meanBits 1 = .ok (.iconst 0, 1) := dk_3 (dk_at dksX10_meanBits_0 1 rfl rfl)
theorem dX10_meanBits_2 : decode cX10_meanBits 2 = .ok (.putfield 53, 3) := dk_181 0 53 (dk_at dksX10_meanBits_0 2 rfl rfl)
theorem dX10_meanBits_5 : decode cX10_meanBits 5 = .ok (.dconst 0, 1) := dk_14 (dk_at dksX10_meanBits_0 5 rfl rfl)
theorem dX10_meanBits_6 : decode cX10_meanBits 6 = .ok (.dstore_n 1, 1) := dk_72 (dk_at dksX10_meanBits_0 6 rfl rfl)
theorem dX10_meanBits_7 : decode cX10_meanBits 7 = .ok (.iconst 0, 1) := dk_3 (dk_at dksX10_meanBits_0 7 rfl rfl)
theorem dX10_meanBits_8 : decode cX10_meanBits 8 = .ok (.istore_n 3, 1) := dk_62 (dk_at dksX10_meanBits_0 8 rfl rfl)
theorem dX10_meanBits_9 : decode cX10_meanBits 9 = .ok (.iload_n 3, 1) := dk_29 (dk_at dksX10_meanBits_0 9 rfl rfl)
theorem dX10_meanBits_10 : decode cX10_meanBits 10 = .ok (.bipush 12, 2) := dk_16 12 (dk_at dksX10_meanBits_0 10 rfl rfl)
theorem dX10_meanBits_12 : decode cX10_meanBits 12 = .ok (.if_icmp .ge 21, 3) := dk_162 0 21 (dk_at dksX10_meanBits_0 12 rfl rfl)
theorem dX10_meanBits_15 : decode cX10_meanBits 15 = .ok (.dload_n 1, 1) := dk_39 (dk_at dksX10_meanBits_0 15 rfl rfl)
theorem dX10_meanBits_16 : decode cX10_meanBits 16 = .ok (.aload_n 0, 1) := dk_42 (dk_at dksX10_meanBits_0 16 rfl rfl)
theorem dX10_meanBits_17 : decode cX10_meanBits 17 = .ok (.getfield 13, 3) := dk_180 0 13 (dk_at dksX10_meanBits_0 17 rfl rfl)
theorem dX10_meanBits_20 : decode cX10_meanBits 20 = .ok (.iconst 0, 1) := dk_3 (dk_at dksX10_meanBits_0 20 rfl rfl)
theorem dX10_meanBits_21 : decode cX10_meanBits 21 = .ok (.iload_n 3, 1) := dk_29 (dk_at dksX10_meanBits_0 21 rfl rfl)
theorem dX10_meanBits_22 : decode cX10_meanBits 22 = .ok (.iadd, 1) := dk_96 (dk_at dksX10_meanBits_0 22 rfl rfl)
theorem dX10_meanBits_23 : decode cX10_meanBits 23 = .ok (.faload, 1) := dk_48 (dk_at dksX10_meanBits_0 23 rfl rfl)
theorem dX10_meanBits_24 : decode cX10_meanBits 24 = .ok (.f2d, 1) := dk_141 (dk_at dksX10_meanBits_1 0 rfl rfl)
theorem dX10_meanBits_25 : decode cX10_meanBits 25 = .ok (.dadd, 1) := dk_99 (dk_at dksX10_meanBits_1 1 rfl rfl)
theorem dX10_meanBits_26 : decode cX10_meanBits 26 = .ok (.dstore_n 1, 1) := dk_72 (dk_at dksX10_meanBits_1 2 rfl rfl)
theorem dX10_meanBits_27 : decode cX10_meanBits 27 = .ok (.iinc 3 1, 3) := dk_132 3 1 (dk_at dksX10_meanBits_1 3 rfl rfl)
theorem dX10_meanBits_30 : decode cX10_meanBits 30 = .ok (.goto (-21), 3) := dk_167 255 235 (dk_at dksX10_meanBits_1 6 rfl rfl)
theorem dX10_meanBits_33 : decode cX10_meanBits 33 = .ok (.dload_n 1, 1) := dk_39 (dk_at dksX10_meanBits_1 9 rfl rfl)
theorem dX10_meanBits_34 : decode cX10_meanBits 34 = .ok (.ldc2_w 245, 3) := dk_20 0 245 (dk_at dksX10_meanBits_1 10 rfl rfl)
theorem dX10_meanBits_37 : decode cX10_meanBits 37 = .ok (.ddiv, 1) := dk_111 (dk_at dksX10_meanBits_1 13 rfl rfl)
theorem dX10_meanBits_38 : decode cX10_meanBits 38 = .ok (.invokestatic 247, 3) := dk_184 0 247 (dk_at dksX10_meanBits_1 14 rfl rfl)
theorem dX10_meanBits_41 : decode cX10_meanBits 41 = .ok (.lreturn, 1) := dk_173 (dk_at dksX10_meanBits_1 17 rfl rfl)
abbrev cX10_dug : ByteArray := prog_13_method_83_code
def yX10_dug : MethodName := ⟨RX10, "dug", "()F"⟩
def dkwX10_dug_0 : List UInt8 := [42, 3, 181, 0, 53, 42, 182, 0, 111, 134, 18, 253, 110, 174]
abbrev dktX10_dug_0 : List UInt8 := dkwX10_dug_0 ++ []
theorem dksX10_dug_0 : cX10_dug.data.toList.drop 0 = dktX10_dug_0 := by decide +kernel
theorem dX10_dug_0 : decode cX10_dug 0 = .ok (.aload_n 0, 1) := dk_42 (dk_at dksX10_dug_0 0 rfl rfl)
theorem dX10_dug_1 : decode cX10_dug 1 = .ok (.iconst 0, 1) := dk_3 (dk_at dksX10_dug_0 1 rfl rfl)
theorem dX10_dug_2 : decode cX10_dug 2 = .ok (.putfield 53, 3) := dk_181 0 53 (dk_at dksX10_dug_0 2 rfl rfl)
theorem dX10_dug_5 : decode cX10_dug 5 = .ok (.aload_n 0, 1) := dk_42 (dk_at dksX10_dug_0 5 rfl rfl)
theorem dX10_dug_6 : decode cX10_dug 6 = .ok (.invokevirtual 111, 3) := dk_182 0 111 (dk_at dksX10_dug_0 6 rfl rfl)
theorem dX10_dug_9 : decode cX10_dug 9 = .ok (.i2f, 1) := dk_134 (dk_at dksX10_dug_0 9 rfl rfl)
theorem dX10_dug_10 : decode cX10_dug 10 = .ok (.ldc 253, 2) := dk_18 253 (dk_at dksX10_dug_0 10 rfl rfl)
theorem dX10_dug_12 : decode cX10_dug 12 = .ok (.fdiv, 1) := dk_110 (dk_at dksX10_dug_0 12 rfl rfl)
theorem dX10_dug_13 : decode cX10_dug 13 = .ok (.freturn, 1) := dk_174 (dk_at dksX10_dug_0 13 rfl rfl)
abbrev cX10_undo : ByteArray := prog_13_method_84_code
def yX10_undo : MethodName := ⟨RX10, "undo", "()I"⟩
def dkwX10_undo_2 : List UInt8 := [180, 0, 74, 16, 33, 104, 42, 180, 0, 13, 3, 184, 0, 70, 42, 42, 180, 0, 74, 182, 0, 85, 172]
abbrev dktX10_undo_2 : List UInt8 := dkwX10_undo_2 ++ []
def dkwX10_undo_1 : List UInt8 := [180, 0, 23, 42, 180, 0, 74, 16, 112, 104, 42, 180, 0, 7, 3, 184, 0, 66, 42, 180, 0, 26, 42]
abbrev dktX10_undo_1 : List UInt8 := dkwX10_undo_1 ++ dktX10_undo_2
def dkwX10_undo_0 : List UInt8 := [42, 180, 0, 74, 154, 0, 9, 42, 4, 182, 0, 81, 172, 42, 89, 180, 0, 74, 4, 100, 181, 0, 74, 42]
abbrev dktX10_undo_0 : List UInt8 := dkwX10_undo_0 ++ dktX10_undo_1
theorem dksX10_undo_0 : cX10_undo.data.toList.drop 0 = dktX10_undo_0 := by decide +kernel
theorem dksX10_undo_1 : cX10_undo.data.toList.drop 24 = dktX10_undo_1 := dk_seg dksX10_undo_0 24 rfl rfl
theorem dksX10_undo_2 : cX10_undo.data.toList.drop 47 = dktX10_undo_2 := dk_seg dksX10_undo_1 23 rfl rfl
theorem dX10_undo_0 : decode cX10_undo 0 = .ok (.aload_n 0, 1) := dk_42 (dk_at dksX10_undo_0 0 rfl rfl)
theorem dX10_undo_1 : decode cX10_undo 1 = .ok (.getfield 74, 3) := dk_180 0 74 (dk_at dksX10_undo_0 1 rfl rfl)
theorem dX10_undo_4 : decode cX10_undo 4 = .ok (.ifCond .ne 9, 3) := dk_154 0 9 (dk_at dksX10_undo_0 4 rfl rfl)
theorem dX10_undo_7 : decode cX10_undo 7 = .ok (.aload_n 0, 1) := dk_42 (dk_at dksX10_undo_0 7 rfl rfl)
theorem dX10_undo_8 : decode cX10_undo 8 = .ok (.iconst 1, 1) := dk_4 (dk_at dksX10_undo_0 8 rfl rfl)
theorem dX10_undo_9 : decode cX10_undo 9 = .ok (.invokevirtual 81, 3) := dk_182 0 81 (dk_at dksX10_undo_0 9 rfl rfl)
theorem dX10_undo_12 : decode cX10_undo 12 = .ok (.ireturn, 1) := dk_172 (dk_at dksX10_undo_0 12 rfl rfl)
theorem dX10_undo_13 : decode cX10_undo 13 = .ok (.aload_n 0, 1) := dk_42 (dk_at dksX10_undo_0 13 rfl rfl)
theorem dX10_undo_14 : decode cX10_undo 14 = .ok (.dup, 1) := dk_89 (dk_at dksX10_undo_0 14 rfl rfl)
theorem dX10_undo_15 : decode cX10_undo 15 = .ok (.getfield 74, 3) := dk_180 0 74 (dk_at dksX10_undo_0 15 rfl rfl)
theorem dX10_undo_18 : decode cX10_undo 18 = .ok (.iconst 1, 1) := dk_4 (dk_at dksX10_undo_0 18 rfl rfl)
theorem dX10_undo_19 : decode cX10_undo 19 = .ok (.isub, 1) := dk_100 (dk_at dksX10_undo_0 19 rfl rfl)
theorem dX10_undo_20 : decode cX10_undo 20 = .ok (.putfield 74, 3) := dk_181 0 74 (dk_at dksX10_undo_0 20 rfl rfl)
theorem dX10_undo_23 : decode cX10_undo 23 = .ok (.aload_n 0, 1) := dk_42 (dk_at dksX10_undo_0 23 rfl rfl)
theorem dX10_undo_24 : decode cX10_undo 24 = .ok (.getfield 23, 3) := dk_180 0 23 (dk_at dksX10_undo_1 0 rfl rfl)
theorem dX10_undo_27 : decode cX10_undo 27 = .ok (.aload_n 0, 1) := dk_42 (dk_at dksX10_undo_1 3 rfl rfl)
theorem dX10_undo_28 : decode cX10_undo 28 = .ok (.getfield 74, 3) := dk_180 0 74 (dk_at dksX10_undo_1 4 rfl rfl)
theorem dX10_undo_31 : decode cX10_undo 31 = .ok (.bipush 112, 2) := dk_16 112 (dk_at dksX10_undo_1 7 rfl rfl)
theorem dX10_undo_33 : decode cX10_undo 33 = .ok (.imul, 1) := dk_104 (dk_at dksX10_undo_1 9 rfl rfl)
theorem dX10_undo_34 : decode cX10_undo 34 = .ok (.aload_n 0, 1) := dk_42 (dk_at dksX10_undo_1 10 rfl rfl)
theorem dX10_undo_35 : decode cX10_undo 35 = .ok (.getfield 7, 3) := dk_180 0 7 (dk_at dksX10_undo_1 11 rfl rfl)
theorem dX10_undo_38 : decode cX10_undo 38 = .ok (.iconst 0, 1) := dk_3 (dk_at dksX10_undo_1 14 rfl rfl)
theorem dX10_undo_39 : decode cX10_undo 39 = .ok (.invokestatic 66, 3) := dk_184 0 66 (dk_at dksX10_undo_1 15 rfl rfl)
theorem dX10_undo_42 : decode cX10_undo 42 = .ok (.aload_n 0, 1) := dk_42 (dk_at dksX10_undo_1 18 rfl rfl)
theorem dX10_undo_43 : decode cX10_undo 43 = .ok (.getfield 26, 3) := dk_180 0 26 (dk_at dksX10_undo_1 19 rfl rfl)
theorem dX10_undo_46 : decode cX10_undo 46 = .ok (.aload_n 0, 1) := dk_42 (dk_at dksX10_undo_1 22 rfl rfl)
theorem dX10_undo_47 : decode cX10_undo 47 = .ok (.getfield 74, 3) := dk_180 0 74 (dk_at dksX10_undo_2 0 rfl rfl)
theorem dX10_undo_50 : decode cX10_undo 50 = .ok (.bipush 33, 2) := dk_16 33 (dk_at dksX10_undo_2 3 rfl rfl)
theorem dX10_undo_52 : decode cX10_undo 52 = .ok (.imul, 1) := dk_104 (dk_at dksX10_undo_2 5 rfl rfl)
theorem dX10_undo_53 : decode cX10_undo 53 = .ok (.aload_n 0, 1) := dk_42 (dk_at dksX10_undo_2 6 rfl rfl)
theorem dX10_undo_54 : decode cX10_undo 54 = .ok (.getfield 13, 3) := dk_180 0 13 (dk_at dksX10_undo_2 7 rfl rfl)
theorem dX10_undo_57 : decode cX10_undo 57 = .ok (.iconst 0, 1) := dk_3 (dk_at dksX10_undo_2 10 rfl rfl)
theorem dX10_undo_58 : decode cX10_undo 58 = .ok (.invokestatic 70, 3) := dk_184 0 70 (dk_at dksX10_undo_2 11 rfl rfl)
theorem dX10_undo_61 : decode cX10_undo 61 = .ok (.aload_n 0, 1) := dk_42 (dk_at dksX10_undo_2 14 rfl rfl)
theorem dX10_undo_62 : decode cX10_undo 62 = .ok (.aload_n 0, 1) := dk_42 (dk_at dksX10_undo_2 15 rfl rfl)
theorem dX10_undo_63 : decode cX10_undo 63 = .ok (.getfield 74, 3) := dk_180 0 74 (dk_at dksX10_undo_2 16 rfl rfl)
theorem dX10_undo_66 : decode cX10_undo 66 = .ok (.invokevirtual 85, 3) := dk_182 0 85 (dk_at dksX10_undo_2 19 rfl rfl)
theorem dX10_undo_69 : decode cX10_undo 69 = .ok (.ireturn, 1) := dk_172 (dk_at dksX10_undo_2 22 rfl rfl)
abbrev cX10_save : ByteArray := prog_13_method_85_code
def yX10_save : MethodName := ⟨RX10, "save", "()I"⟩
def dkwX10_save_1 : List UInt8 := [184, 0, 70, 42, 4, 181, 0, 254, 42, 42, 180, 0, 7, 16, 51, 46, 182, 0, 85, 172]
abbrev dktX10_save_1 : List UInt8 := dkwX10_save_1 ++ []
def dkwX10_save_0 : List UInt8 := [42, 180, 0, 7, 3, 42, 180, 0, 29, 3, 184, 0, 66, 42, 180, 0, 13, 3, 42, 180, 0, 32, 3]
abbrev dktX10_save_0 : List UInt8 := dkwX10_save_0 ++ dktX10_save_1
theorem dksX10_save_0 : cX10_save.data.toList.drop 0 = dktX10_save_0 := by decide +kernel
theorem dksX10_save_1 : cX10_save.data.toList.drop 23 = dktX10_save_1 := dk_seg dksX10_save_0 23 rfl rfl
theorem dX10_save_0 : decode cX10_save 0 = .ok (.aload_n 0, 1) := dk_42 (dk_at dksX10_save_0 0 rfl rfl)
theorem dX10_save_1 : decode cX10_save 1 = .ok (.getfield 7, 3) := dk_180 0 7 (dk_at dksX10_save_0 1 rfl rfl)
theorem dX10_save_4 : decode cX10_save 4 = .ok (.iconst 0, 1) := dk_3 (dk_at dksX10_save_0 4 rfl rfl)
theorem dX10_save_5 : decode cX10_save 5 = .ok (.aload_n 0, 1) := dk_42 (dk_at dksX10_save_0 5 rfl rfl)
theorem dX10_save_6 : decode cX10_save 6 = .ok (.getfield 29, 3) := dk_180 0 29 (dk_at dksX10_save_0 6 rfl rfl)
theorem dX10_save_9 : decode cX10_save 9 = .ok (.iconst 0, 1) := dk_3 (dk_at dksX10_save_0 9 rfl rfl)
theorem dX10_save_10 : decode cX10_save 10 = .ok (.invokestatic 66, 3) := dk_184 0 66 (dk_at dksX10_save_0 10 rfl rfl)
theorem dX10_save_13 : decode cX10_save 13 = .ok (.aload_n 0, 1) := dk_42 (dk_at dksX10_save_0 13 rfl rfl)
theorem dX10_save_14 : decode cX10_save 14 = .ok (.getfield 13, 3) := dk_180 0 13 (dk_at dksX10_save_0 14 rfl rfl)
theorem dX10_save_17 : decode cX10_save 17 = .ok (.iconst 0, 1) := dk_3 (dk_at dksX10_save_0 17 rfl rfl)
theorem dX10_save_18 : decode cX10_save 18 = .ok (.aload_n 0, 1) := dk_42 (dk_at dksX10_save_0 18 rfl rfl)
theorem dX10_save_19 : decode cX10_save 19 = .ok (.getfield 32, 3) := dk_180 0 32 (dk_at dksX10_save_0 19 rfl rfl)
theorem dX10_save_22 : decode cX10_save 22 = .ok (.iconst 0, 1) := dk_3 (dk_at dksX10_save_0 22 rfl rfl)
theorem dX10_save_23 : decode cX10_save 23 = .ok (.invokestatic 70, 3) := dk_184 0 70 (dk_at dksX10_save_1 0 rfl rfl)
theorem dX10_save_26 : decode cX10_save 26 = .ok (.aload_n 0, 1) := dk_42 (dk_at dksX10_save_1 3 rfl rfl)
theorem dX10_save_27 : decode cX10_save 27 = .ok (.iconst 1, 1) := dk_4 (dk_at dksX10_save_1 4 rfl rfl)
theorem dX10_save_28 : decode cX10_save 28 = .ok (.putfield 254, 3) := dk_181 0 254 (dk_at dksX10_save_1 5 rfl rfl)
theorem dX10_save_31 : decode cX10_save 31 = .ok (.aload_n 0, 1) := dk_42 (dk_at dksX10_save_1 8 rfl rfl)
theorem dX10_save_32 : decode cX10_save 32 = .ok (.aload_n 0, 1) := dk_42 (dk_at dksX10_save_1 9 rfl rfl)
theorem dX10_save_33 : decode cX10_save 33 = .ok (.getfield 7, 3) := dk_180 0 7 (dk_at dksX10_save_1 10 rfl rfl)
theorem dX10_save_36 : decode cX10_save 36 = .ok (.bipush 51, 2) := dk_16 51 (dk_at dksX10_save_1 13 rfl rfl)
theorem dX10_save_38 : decode cX10_save 38 = .ok (.iaload, 1) := dk_46 (dk_at dksX10_save_1 15 rfl rfl)
theorem dX10_save_39 : decode cX10_save 39 = .ok (.invokevirtual 85, 3) := dk_182 0 85 (dk_at dksX10_save_1 16 rfl rfl)
theorem dX10_save_42 : decode cX10_save 42 = .ok (.ireturn, 1) := dk_172 (dk_at dksX10_save_1 19 rfl rfl)
abbrev cX10_restore : ByteArray := prog_13_method_86_code
def yX10_restore : MethodName := ⟨RX10, "restore", "()I"⟩
def dkwX10_restore_2 : List UInt8 := [180, 0, 7, 16, 51, 46, 182, 0, 85, 172]
abbrev dktX10_restore_2 : List UInt8 := dkwX10_restore_2 ++ []
def dkwX10_restore_1 : List UInt8 := [184, 0, 66, 42, 180, 0, 32, 3, 42, 180, 0, 13, 3, 184, 0, 70, 42, 3, 181, 0, 74, 42, 42]
abbrev dktX10_restore_1 : List UInt8 := dkwX10_restore_1 ++ dktX10_restore_2
def dkwX10_restore_0 : List UInt8 := [42, 180, 0, 254, 154, 0, 9, 42, 4, 182, 0, 81, 172, 42, 180, 0, 29, 3, 42, 180, 0, 7, 3]
abbrev dktX10_restore_0 : List UInt8 := dkwX10_restore_0 ++ dktX10_restore_1
theorem dksX10_restore_0 : cX10_restore.data.toList.drop 0 = dktX10_restore_0 := by decide +kernel
theorem dksX10_restore_1 : cX10_restore.data.toList.drop 23 = dktX10_restore_1 := dk_seg dksX10_restore_0 23 rfl rfl
theorem dksX10_restore_2 : cX10_restore.data.toList.drop 46 = dktX10_restore_2 := dk_seg dksX10_restore_1 23 rfl rfl
theorem dX10_restore_0 : decode cX10_restore 0 = .ok (.aload_n 0, 1) := dk_42 (dk_at dksX10_restore_0 0 rfl rfl)
theorem dX10_restore_1 : decode cX10_restore 1 = .ok (.getfield 254, 3) := dk_180 0 254 (dk_at dksX10_restore_0 1 rfl rfl)
theorem dX10_restore_4 : decode cX10_restore 4 = .ok (.ifCond .ne 9, 3) := dk_154 0 9 (dk_at dksX10_restore_0 4 rfl rfl)
theorem dX10_restore_7 : decode cX10_restore 7 = .ok (.aload_n 0, 1) := dk_42 (dk_at dksX10_restore_0 7 rfl rfl)
theorem dX10_restore_8 : decode cX10_restore 8 = .ok (.iconst 1, 1) := dk_4 (dk_at dksX10_restore_0 8 rfl rfl)
theorem dX10_restore_9 : decode cX10_restore 9 = .ok (.invokevirtual 81, 3) := dk_182 0 81 (dk_at dksX10_restore_0 9 rfl rfl)
theorem dX10_restore_12 : decode cX10_restore 12 = .ok (.ireturn, 1) := dk_172 (dk_at dksX10_restore_0 12 rfl rfl)
theorem dX10_restore_13 : decode cX10_restore 13 = .ok (.aload_n 0, 1) := dk_42 (dk_at dksX10_restore_0 13 rfl rfl)
theorem dX10_restore_14 : decode cX10_restore 14 = .ok (.getfield 29, 3) := dk_180 0 29 (dk_at dksX10_restore_0 14 rfl rfl)
theorem dX10_restore_17 : decode cX10_restore 17 = .ok (.iconst 0, 1) := dk_3 (dk_at dksX10_restore_0 17 rfl rfl)
theorem dX10_restore_18 : decode cX10_restore 18 = .ok (.aload_n 0, 1) := dk_42 (dk_at dksX10_restore_0 18 rfl rfl)
theorem dX10_restore_19 : decode cX10_restore 19 = .ok (.getfield 7, 3) := dk_180 0 7 (dk_at dksX10_restore_0 19 rfl rfl)
theorem dX10_restore_22 : decode cX10_restore 22 = .ok (.iconst 0, 1) := dk_3 (dk_at dksX10_restore_0 22 rfl rfl)
theorem dX10_restore_23 : decode cX10_restore 23 = .ok (.invokestatic 66, 3) := dk_184 0 66 (dk_at dksX10_restore_1 0 rfl rfl)
theorem dX10_restore_26 : decode cX10_restore 26 = .ok (.aload_n 0, 1) := dk_42 (dk_at dksX10_restore_1 3 rfl rfl)
theorem dX10_restore_27 : decode cX10_restore 27 = .ok (.getfield 32, 3) := dk_180 0 32 (dk_at dksX10_restore_1 4 rfl rfl)
theorem dX10_restore_30 : decode cX10_restore 30 = .ok (.iconst 0, 1) := dk_3 (dk_at dksX10_restore_1 7 rfl rfl)
theorem dX10_restore_31 : decode cX10_restore 31 = .ok (.aload_n 0, 1) := dk_42 (dk_at dksX10_restore_1 8 rfl rfl)
theorem dX10_restore_32 : decode cX10_restore 32 = .ok (.getfield 13, 3) := dk_180 0 13 (dk_at dksX10_restore_1 9 rfl rfl)
theorem dX10_restore_35 : decode cX10_restore 35 = .ok (.iconst 0, 1) := dk_3 (dk_at dksX10_restore_1 12 rfl rfl)
theorem dX10_restore_36 : decode cX10_restore 36 = .ok (.invokestatic 70, 3) := dk_184 0 70 (dk_at dksX10_restore_1 13 rfl rfl)
theorem dX10_restore_39 : decode cX10_restore 39 = .ok (.aload_n 0, 1) := dk_42 (dk_at dksX10_restore_1 16 rfl rfl)
theorem dX10_restore_40 : decode cX10_restore 40 = .ok (.iconst 0, 1) := dk_3 (dk_at dksX10_restore_1 17 rfl rfl)
theorem dX10_restore_41 : decode cX10_restore 41 = .ok (.putfield 74, 3) := dk_181 0 74 (dk_at dksX10_restore_1 18 rfl rfl)
theorem dX10_restore_44 : decode cX10_restore 44 = .ok (.aload_n 0, 1) := dk_42 (dk_at dksX10_restore_1 21 rfl rfl)
theorem dX10_restore_45 : decode cX10_restore 45 = .ok (.aload_n 0, 1) := dk_42 (dk_at dksX10_restore_1 22 rfl rfl)
theorem dX10_restore_46 : decode cX10_restore 46 = .ok (.getfield 7, 3) := dk_180 0 7 (dk_at dksX10_restore_2 0 rfl rfl)
theorem dX10_restore_49 : decode cX10_restore 49 = .ok (.bipush 51, 2) := dk_16 51 (dk_at dksX10_restore_2 3 rfl rfl)
theorem dX10_restore_51 : decode cX10_restore 51 = .ok (.iaload, 1) := dk_46 (dk_at dksX10_restore_2 5 rfl rfl)
theorem dX10_restore_52 : decode cX10_restore 52 = .ok (.invokevirtual 85, 3) := dk_182 0 85 (dk_at dksX10_restore_2 6 rfl rfl)
theorem dX10_restore_55 : decode cX10_restore 55 = .ok (.ireturn, 1) := dk_172 (dk_at dksX10_restore_2 9 rfl rfl)
theorem q80 : (Jvm.Cond.initialized "CliffPlotsModel") ∈ lw_all := lw_g (lw_at lw_m1 23 rfl) rfl
theorem q494 : (Jvm.Cond.selects "CliffPlotsModel" ({ cls := "java/lang/Object", name := "getClass", desc := "()Ljava/lang/Class;" } : Jvm.MethodName) ({ cls := "java/lang/Object", name := "getClass", desc := "()Ljava/lang/Class;" } : Jvm.MethodName)) ∈ lw_all := lw_g (lw_at lw_m2 197 rfl) rfl
theorem q1668 : (Jvm.Cond.instantiable "CliffPlotsModel" (22 : Nat)) ∈ lw_all := lw_g (lw_at lw_m7 171 rfl) rfl
theorem q1670 : (Jvm.Cond.instanceMethod ({ cls := "CliffPlotsModel", name := "<init>", desc := "()V" } : Jvm.MethodName)) ∈ lw_all := lw_g (lw_at lw_m7 173 rfl) rfl
theorem q1671 : (Jvm.Cond.code ({ cls := "CliffPlotsModel", name := "<init>", desc := "()V" } : Jvm.MethodName) prog_13_method_1_code (2 : Nat) (Option.none : Option Jvm.ClassFile.FieldType)) ∈ lw_all := lw_g (lw_at lw_m7 174 rfl) rfl
theorem q1672 : (Jvm.Cond.methodLink "CliffPlotsModel" (1 : Nat) ({ cls := "java/lang/Object", name := "<init>", desc := "()V" } : Jvm.MethodName)) ∈ lw_all := lw_g (lw_at lw_m7 175 rfl) rfl
theorem q1673 : (Jvm.Cond.constantFloat "CliffPlotsModel" (52 : Nat) (1106247680 : UInt32)) ∈ lw_all := lw_g (lw_at lw_m7 176 rfl) rfl
theorem q1674 : (Jvm.Cond.fieldLink "CliffPlotsModel" (7 : Nat) "CliffPlotsModel" "g" "[I") ∈ lw_all := lw_g (lw_at lw_m7 177 rfl) rfl
theorem q1675 : (Jvm.Cond.fieldLink "CliffPlotsModel" (13 : Nat) "CliffPlotsModel" "f" "[F") ∈ lw_all := lw_g (lw_at lw_m7 178 rfl) rfl
theorem q1676 : (Jvm.Cond.fieldLink "CliffPlotsModel" (17 : Nat) "CliffPlotsModel" "before" "[I") ∈ lw_all := lw_g (lw_at lw_m7 179 rfl) rfl
theorem q1677 : (Jvm.Cond.fieldLink "CliffPlotsModel" (20 : Nat) "CliffPlotsModel" "floatsBefore" "[F") ∈ lw_all := lw_g (lw_at lw_m7 180 rfl) rfl
theorem q1678 : (Jvm.Cond.fieldLink "CliffPlotsModel" (23 : Nat) "CliffPlotsModel" "history" "[I") ∈ lw_all := lw_g (lw_at lw_m7 181 rfl) rfl
theorem q1679 : (Jvm.Cond.fieldLink "CliffPlotsModel" (26 : Nat) "CliffPlotsModel" "floatHistory" "[F") ∈ lw_all := lw_g (lw_at lw_m7 182 rfl) rfl
theorem q1680 : (Jvm.Cond.fieldLink "CliffPlotsModel" (74 : Nat) "CliffPlotsModel" "changes" "I") ∈ lw_all := lw_g (lw_at lw_m7 183 rfl) rfl
theorem q1681 : (Jvm.Cond.fieldLink "CliffPlotsModel" (29 : Nat) "CliffPlotsModel" "saved" "[I") ∈ lw_all := lw_g (lw_at lw_m7 184 rfl) rfl
theorem q1682 : (Jvm.Cond.fieldLink "CliffPlotsModel" (32 : Nat) "CliffPlotsModel" "floatsSaved" "[F") ∈ lw_all := lw_g (lw_at lw_m7 185 rfl) rfl
theorem q1683 : (Jvm.Cond.fieldLink "CliffPlotsModel" (254 : Nat) "CliffPlotsModel" "hasSaved" "Z") ∈ lw_all := lw_g (lw_at lw_m7 186 rfl) rfl
theorem q1684 : (Jvm.Cond.fieldLink "CliffPlotsModel" (35 : Nat) "CliffPlotsModel" "aside" "[I") ∈ lw_all := lw_g (lw_at lw_m7 187 rfl) rfl
theorem q1685 : (Jvm.Cond.fieldLink "CliffPlotsModel" (38 : Nat) "CliffPlotsModel" "floatsAside" "[F") ∈ lw_all := lw_g (lw_at lw_m7 188 rfl) rfl
theorem q1686 : (Jvm.Cond.fieldLink "CliffPlotsModel" (41 : Nat) "CliffPlotsModel" "input" "[C") ∈ lw_all := lw_g (lw_at lw_m7 189 rfl) rfl
theorem q1687 : (Jvm.Cond.fieldLink "CliffPlotsModel" (206 : Nat) "CliffPlotsModel" "typed" "I") ∈ lw_all := lw_g (lw_at lw_m7 190 rfl) rfl
theorem q1688 : (Jvm.Cond.fieldLink "CliffPlotsModel" (45 : Nat) "CliffPlotsModel" "errorAt" "I") ∈ lw_all := lw_g (lw_at lw_m7 191 rfl) rfl
theorem q1689 : (Jvm.Cond.fieldLink "CliffPlotsModel" (60 : Nat) "CliffPlotsModel" "reason" "I") ∈ lw_all := lw_g (lw_at lw_m7 192 rfl) rfl
theorem q1690 : (Jvm.Cond.fieldLink "CliffPlotsModel" (63 : Nat) "CliffPlotsModel" "detail" "I") ∈ lw_all := lw_g (lw_at lw_m7 193 rfl) rfl
theorem q1691 : (Jvm.Cond.fieldLink "CliffPlotsModel" (56 : Nat) "CliffPlotsModel" "isRefusal" "Z") ∈ lw_all := lw_g (lw_at lw_m7 194 rfl) rfl
theorem q1692 : (Jvm.Cond.fieldLink "CliffPlotsModel" (53 : Nat) "CliffPlotsModel" "thrown" "I") ∈ lw_all := lw_g (lw_at lw_m7 195 rfl) rfl
theorem q1693 : (Jvm.Cond.fieldLink "CliffPlotsModel" (209 : Nat) "CliffPlotsModel" "place" "I") ∈ lw_all := lw_g (lw_at lw_m7 196 rfl) rfl
theorem q1694 : (Jvm.Cond.fieldLink "CliffPlotsModel" (212 : Nat) "CliffPlotsModel" "isWrong" "Z") ∈ lw_all := lw_g (lw_at lw_m7 197 rfl) rfl
theorem q1695 : (Jvm.Cond.fieldLink "CliffPlotsModel" (49 : Nat) "CliffPlotsModel" "told" "[I") ∈ lw_all := lw_g (lw_at lw_m7 198 rfl) rfl
theorem q1696 : (Jvm.Cond.laysFinal "CliffPlotsModel" "CliffPlotsModel" "g" "[I") ∈ lw_all := lw_g (lw_at lw_m7 199 rfl) rfl
theorem q1697 : (Jvm.Cond.soleField "CliffPlotsModel" "g") ∈ lw_all := lw_g (lw_at lw_m7 200 rfl) rfl
theorem q1698 : (Jvm.Cond.laysFinal "CliffPlotsModel" "CliffPlotsModel" "f" "[F") ∈ lw_all := lw_g (lw_at lw_m7 201 rfl) rfl
theorem q1699 : (Jvm.Cond.soleField "CliffPlotsModel" "f") ∈ lw_all := lw_g (lw_at lw_m7 202 rfl) rfl
theorem q1700 : (Jvm.Cond.laysFinal "CliffPlotsModel" "CliffPlotsModel" "before" "[I") ∈ lw_all := lw_g (lw_at lw_m7 203 rfl) rfl
theorem q1701 : (Jvm.Cond.soleField "CliffPlotsModel" "before") ∈ lw_all := lw_g (lw_at lw_m7 204 rfl) rfl
theorem q1702 : (Jvm.Cond.laysFinal "CliffPlotsModel" "CliffPlotsModel" "floatsBefore" "[F") ∈ lw_all := lw_g (lw_at lw_m7 205 rfl) rfl
theorem q1703 : (Jvm.Cond.soleField "CliffPlotsModel" "floatsBefore") ∈ lw_all := lw_g (lw_at lw_m7 206 rfl) rfl
theorem q1704 : (Jvm.Cond.laysFinal "CliffPlotsModel" "CliffPlotsModel" "history" "[I") ∈ lw_all := lw_g (lw_at lw_m7 207 rfl) rfl
theorem q1705 : (Jvm.Cond.soleField "CliffPlotsModel" "history") ∈ lw_all := lw_g (lw_at lw_m7 208 rfl) rfl
theorem q1706 : (Jvm.Cond.laysFinal "CliffPlotsModel" "CliffPlotsModel" "floatHistory" "[F") ∈ lw_all := lw_g (lw_at lw_m7 209 rfl) rfl
theorem q1707 : (Jvm.Cond.soleField "CliffPlotsModel" "floatHistory") ∈ lw_all := lw_g (lw_at lw_m7 210 rfl) rfl
theorem q1708 : (Jvm.Cond.lays "CliffPlotsModel" "CliffPlotsModel" "changes" "I") ∈ lw_all := lw_g (lw_at lw_m7 211 rfl) rfl
theorem q1709 : (Jvm.Cond.soleField "CliffPlotsModel" "changes") ∈ lw_all := lw_g (lw_at lw_m7 212 rfl) rfl
theorem q1710 : (Jvm.Cond.laysFinal "CliffPlotsModel" "CliffPlotsModel" "saved" "[I") ∈ lw_all := lw_g (lw_at lw_m7 213 rfl) rfl
theorem q1711 : (Jvm.Cond.soleField "CliffPlotsModel" "saved") ∈ lw_all := lw_g (lw_at lw_m7 214 rfl) rfl
theorem q1712 : (Jvm.Cond.laysFinal "CliffPlotsModel" "CliffPlotsModel" "floatsSaved" "[F") ∈ lw_all := lw_g (lw_at lw_m7 215 rfl) rfl
theorem q1713 : (Jvm.Cond.soleField "CliffPlotsModel" "floatsSaved") ∈ lw_all := lw_g (lw_at lw_m7 216 rfl) rfl
theorem q1714 : (Jvm.Cond.lays "CliffPlotsModel" "CliffPlotsModel" "hasSaved" "Z") ∈ lw_all := lw_g (lw_at lw_m7 217 rfl) rfl
theorem q1715 : (Jvm.Cond.soleField "CliffPlotsModel" "hasSaved") ∈ lw_all := lw_g (lw_at lw_m7 218 rfl) rfl
theorem q1716 : (Jvm.Cond.laysFinal "CliffPlotsModel" "CliffPlotsModel" "aside" "[I") ∈ lw_all := lw_g (lw_at lw_m7 219 rfl) rfl
theorem q1717 : (Jvm.Cond.soleField "CliffPlotsModel" "aside") ∈ lw_all := lw_g (lw_at lw_m7 220 rfl) rfl
theorem q1718 : (Jvm.Cond.laysFinal "CliffPlotsModel" "CliffPlotsModel" "floatsAside" "[F") ∈ lw_all := lw_g (lw_at lw_m7 221 rfl) rfl
theorem q1719 : (Jvm.Cond.soleField "CliffPlotsModel" "floatsAside") ∈ lw_all := lw_g (lw_at lw_m7 222 rfl) rfl
theorem q1720 : (Jvm.Cond.laysFinal "CliffPlotsModel" "CliffPlotsModel" "input" "[C") ∈ lw_all := lw_g (lw_at lw_m7 223 rfl) rfl
theorem q1721 : (Jvm.Cond.soleField "CliffPlotsModel" "input") ∈ lw_all := lw_g (lw_at lw_m7 224 rfl) rfl
theorem q1722 : (Jvm.Cond.lays "CliffPlotsModel" "CliffPlotsModel" "typed" "I") ∈ lw_all := lw_g (lw_at lw_m7 225 rfl) rfl
theorem q1723 : (Jvm.Cond.soleField "CliffPlotsModel" "typed") ∈ lw_all := lw_g (lw_at lw_m7 226 rfl) rfl
theorem q1724 : (Jvm.Cond.lays "CliffPlotsModel" "CliffPlotsModel" "errorAt" "I") ∈ lw_all := lw_g (lw_at lw_m7 227 rfl) rfl
theorem q1725 : (Jvm.Cond.soleField "CliffPlotsModel" "errorAt") ∈ lw_all := lw_g (lw_at lw_m7 228 rfl) rfl
theorem q1726 : (Jvm.Cond.lays "CliffPlotsModel" "CliffPlotsModel" "reason" "I") ∈ lw_all := lw_g (lw_at lw_m7 229 rfl) rfl
theorem q1727 : (Jvm.Cond.soleField "CliffPlotsModel" "reason") ∈ lw_all := lw_g (lw_at lw_m7 230 rfl) rfl
theorem q1728 : (Jvm.Cond.lays "CliffPlotsModel" "CliffPlotsModel" "detail" "I") ∈ lw_all := lw_g (lw_at lw_m7 231 rfl) rfl
theorem q1729 : (Jvm.Cond.soleField "CliffPlotsModel" "detail") ∈ lw_all := lw_g (lw_at lw_m7 232 rfl) rfl
theorem q1730 : (Jvm.Cond.lays "CliffPlotsModel" "CliffPlotsModel" "isRefusal" "Z") ∈ lw_all := lw_g (lw_at lw_m7 233 rfl) rfl
theorem q1731 : (Jvm.Cond.soleField "CliffPlotsModel" "isRefusal") ∈ lw_all := lw_g (lw_at lw_m7 234 rfl) rfl
theorem q1732 : (Jvm.Cond.lays "CliffPlotsModel" "CliffPlotsModel" "thrown" "I") ∈ lw_all := lw_g (lw_at lw_m7 235 rfl) rfl
theorem q1733 : (Jvm.Cond.soleField "CliffPlotsModel" "thrown") ∈ lw_all := lw_g (lw_at lw_m7 236 rfl) rfl
theorem q1734 : (Jvm.Cond.lays "CliffPlotsModel" "CliffPlotsModel" "place" "I") ∈ lw_all := lw_g (lw_at lw_m7 237 rfl) rfl
theorem q1735 : (Jvm.Cond.soleField "CliffPlotsModel" "place") ∈ lw_all := lw_g (lw_at lw_m7 238 rfl) rfl
theorem q1736 : (Jvm.Cond.lays "CliffPlotsModel" "CliffPlotsModel" "isWrong" "Z") ∈ lw_all := lw_g (lw_at lw_m7 239 rfl) rfl
theorem q1737 : (Jvm.Cond.soleField "CliffPlotsModel" "isWrong") ∈ lw_all := lw_g (lw_at lw_m8 0 rfl) rfl
theorem q1738 : (Jvm.Cond.laysFinal "CliffPlotsModel" "CliffPlotsModel" "told" "[I") ∈ lw_all := lw_g (lw_at lw_m8 1 rfl) rfl
theorem q1739 : (Jvm.Cond.soleField "CliffPlotsModel" "told") ∈ lw_all := lw_g (lw_at lw_m8 2 rfl) rfl
theorem q1740 : (Jvm.Cond.superclass "CliffPlotsModel" "java/lang/Object") ∈ lw_all := lw_g (lw_at lw_m8 3 rfl) rfl
theorem q1742 : (Jvm.Cond.instanceMethod ({ cls := "CliffPlotsModel", name := "thrown", desc := "()I" } : Jvm.MethodName)) ∈ lw_all := lw_g (lw_at lw_m8 5 rfl) rfl
theorem q1743 : (Jvm.Cond.selects "CliffPlotsModel" ({ cls := "CliffPlotsModel", name := "thrown", desc := "()I" } : Jvm.MethodName) ({ cls := "CliffPlotsModel", name := "thrown", desc := "()I" } : Jvm.MethodName)) ∈ lw_all := lw_g (lw_at lw_m8 6 rfl) rfl
theorem q1744 : (Jvm.Cond.code ({ cls := "CliffPlotsModel", name := "thrown", desc := "()I" } : Jvm.MethodName) prog_13_method_2_code (1 : Nat) (Option.some Jvm.ClassFile.FieldType.int)) ∈ lw_all := lw_g (lw_at lw_m8 7 rfl) rfl
theorem q1746 : (Jvm.Cond.instanceMethod ({ cls := "CliffPlotsModel", name := "wind", desc := "(I)I" } : Jvm.MethodName)) ∈ lw_all := lw_g (lw_at lw_m8 9 rfl) rfl
theorem q1747 : (Jvm.Cond.selects "CliffPlotsModel" ({ cls := "CliffPlotsModel", name := "wind", desc := "(I)I" } : Jvm.MethodName) ({ cls := "CliffPlotsModel", name := "wind", desc := "(I)I" } : Jvm.MethodName)) ∈ lw_all := lw_g (lw_at lw_m8 10 rfl) rfl
theorem q1748 : (Jvm.Cond.code ({ cls := "CliffPlotsModel", name := "wind", desc := "(I)I" } : Jvm.MethodName) prog_13_method_16_code (2 : Nat) (Option.some Jvm.ClassFile.FieldType.int)) ∈ lw_all := lw_g (lw_at lw_m8 11 rfl) rfl
theorem q1749 : (Jvm.Cond.methodLink "CliffPlotsModel" (88 : Nat) ({ cls := "CliffPlotsModel", name := "looksBack", desc := "()V" } : Jvm.MethodName)) ∈ lw_all := lw_g (lw_at lw_m8 12 rfl) rfl
theorem q1750 : (Jvm.Cond.privateMethod ({ cls := "CliffPlotsModel", name := "looksBack", desc := "()V" } : Jvm.MethodName)) ∈ lw_tbl := lw_at lw_m8 13 rfl
theorem q1751 : (Jvm.Cond.instanceMethod ({ cls := "CliffPlotsModel", name := "looksBack", desc := "()V" } : Jvm.MethodName)) ∈ lw_all := lw_g (lw_at lw_m8 14 rfl) rfl
theorem q1752 : (Jvm.Cond.code ({ cls := "CliffPlotsModel", name := "looksBack", desc := "()V" } : Jvm.MethodName) prog_13_method_9_code (1 : Nat) (Option.none : Option Jvm.ClassFile.FieldType)) ∈ lw_all := lw_g (lw_at lw_m8 15 rfl) rfl
theorem q1753 : (Jvm.Cond.methodLink "CliffPlotsModel" (66 : Nat) ({ cls := "CliffPlotsModel", name := "copy", desc := "([II[II)V" } : Jvm.MethodName)) ∈ lw_all := lw_g (lw_at lw_m8 16 rfl) rfl
theorem q1754 : (Jvm.Cond.static ({ cls := "CliffPlotsModel", name := "copy", desc := "([II[II)V" } : Jvm.MethodName)) ∈ lw_all := lw_g (lw_at lw_m8 17 rfl) rfl
theorem q1755 : (Jvm.Cond.code ({ cls := "CliffPlotsModel", name := "copy", desc := "([II[II)V" } : Jvm.MethodName) prog_13_method_7_code (5 : Nat) (Option.none : Option Jvm.ClassFile.FieldType)) ∈ lw_all := lw_g (lw_at lw_m8 18 rfl) rfl
theorem q1756 : (Jvm.Cond.methodLink "CliffPlotsModel" (70 : Nat) ({ cls := "CliffPlotsModel", name := "copyFloats", desc := "([FI[FI)V" } : Jvm.MethodName)) ∈ lw_all := lw_g (lw_at lw_m8 19 rfl) rfl
theorem q1757 : (Jvm.Cond.static ({ cls := "CliffPlotsModel", name := "copyFloats", desc := "([FI[FI)V" } : Jvm.MethodName)) ∈ lw_all := lw_g (lw_at lw_m8 20 rfl) rfl
theorem q1758 : (Jvm.Cond.code ({ cls := "CliffPlotsModel", name := "copyFloats", desc := "([FI[FI)V" } : Jvm.MethodName) prog_13_method_8_code (5 : Nat) (Option.none : Option Jvm.ClassFile.FieldType)) ∈ lw_all := lw_g (lw_at lw_m8 21 rfl) rfl
theorem q1759 : (Jvm.Cond.methodLink "CliffPlotsModel" (91 : Nat) ({ cls := "CliffPlotsModel", name := "blows", desc := "(I)I" } : Jvm.MethodName)) ∈ lw_all := lw_g (lw_at lw_m8 22 rfl) rfl
theorem q1760 : (Jvm.Cond.privateMethod ({ cls := "CliffPlotsModel", name := "blows", desc := "(I)I" } : Jvm.MethodName)) ∈ lw_tbl := lw_at lw_m8 23 rfl
theorem q1761 : (Jvm.Cond.instanceMethod ({ cls := "CliffPlotsModel", name := "blows", desc := "(I)I" } : Jvm.MethodName)) ∈ lw_all := lw_g (lw_at lw_m8 24 rfl) rfl
theorem q1762 : (Jvm.Cond.code ({ cls := "CliffPlotsModel", name := "blows", desc := "(I)I" } : Jvm.MethodName) prog_13_method_15_code (3 : Nat) (Option.some Jvm.ClassFile.FieldType.int)) ∈ lw_all := lw_g (lw_at lw_m8 25 rfl) rfl
theorem q1763 : (Jvm.Cond.methodLink "CliffPlotsModel" (77 : Nat) ({ cls := "CliffPlotsModel", name := "in", desc := "(III)Z" } : Jvm.MethodName)) ∈ lw_all := lw_g (lw_at lw_m8 26 rfl) rfl
theorem q1764 : (Jvm.Cond.static ({ cls := "CliffPlotsModel", name := "in", desc := "(III)Z" } : Jvm.MethodName)) ∈ lw_all := lw_g (lw_at lw_m8 27 rfl) rfl
theorem q1765 : (Jvm.Cond.code ({ cls := "CliffPlotsModel", name := "in", desc := "(III)Z" } : Jvm.MethodName) prog_13_method_3_code (3 : Nat) (Option.some Jvm.ClassFile.FieldType.boolean)) ∈ lw_all := lw_g (lw_at lw_m8 28 rfl) rfl
theorem q1766 : (Jvm.Cond.methodLink "CliffPlotsModel" (81 : Nat) ({ cls := "CliffPlotsModel", name := "fails", desc := "(I)I" } : Jvm.MethodName)) ∈ lw_all := lw_g (lw_at lw_m8 29 rfl) rfl
theorem q1767 : (Jvm.Cond.privateMethod ({ cls := "CliffPlotsModel", name := "fails", desc := "(I)I" } : Jvm.MethodName)) ∈ lw_tbl := lw_at lw_m8 30 rfl
theorem q1768 : (Jvm.Cond.instanceMethod ({ cls := "CliffPlotsModel", name := "fails", desc := "(I)I" } : Jvm.MethodName)) ∈ lw_all := lw_g (lw_at lw_m8 31 rfl) rfl
theorem q1769 : (Jvm.Cond.code ({ cls := "CliffPlotsModel", name := "fails", desc := "(I)I" } : Jvm.MethodName) prog_13_method_5_code (2 : Nat) (Option.some Jvm.ClassFile.FieldType.int)) ∈ lw_all := lw_g (lw_at lw_m8 32 rfl) rfl
theorem q1770 : (Jvm.Cond.methodLink "CliffPlotsModel" (85 : Nat) ({ cls := "CliffPlotsModel", name := "done", desc := "(I)I" } : Jvm.MethodName)) ∈ lw_all := lw_g (lw_at lw_m8 33 rfl) rfl
theorem q1771 : (Jvm.Cond.privateMethod ({ cls := "CliffPlotsModel", name := "done", desc := "(I)I" } : Jvm.MethodName)) ∈ lw_tbl := lw_at lw_m8 34 rfl
theorem q1772 : (Jvm.Cond.instanceMethod ({ cls := "CliffPlotsModel", name := "done", desc := "(I)I" } : Jvm.MethodName)) ∈ lw_all := lw_g (lw_at lw_m8 35 rfl) rfl
theorem q1773 : (Jvm.Cond.code ({ cls := "CliffPlotsModel", name := "done", desc := "(I)I" } : Jvm.MethodName) prog_13_method_4_code (2 : Nat) (Option.some Jvm.ClassFile.FieldType.int)) ∈ lw_all := lw_g (lw_at lw_m8 36 rfl) rfl
theorem q1774 : (Jvm.Cond.methodLink "CliffPlotsModel" (94 : Nat) ({ cls := "CliffPlotsModel", name := "kept", desc := "(I)I" } : Jvm.MethodName)) ∈ lw_all := lw_g (lw_at lw_m8 37 rfl) rfl
theorem q1775 : (Jvm.Cond.privateMethod ({ cls := "CliffPlotsModel", name := "kept", desc := "(I)I" } : Jvm.MethodName)) ∈ lw_tbl := lw_at lw_m8 38 rfl
theorem q1776 : (Jvm.Cond.instanceMethod ({ cls := "CliffPlotsModel", name := "kept", desc := "(I)I" } : Jvm.MethodName)) ∈ lw_all := lw_g (lw_at lw_m8 39 rfl) rfl
theorem q1777 : (Jvm.Cond.code ({ cls := "CliffPlotsModel", name := "kept", desc := "(I)I" } : Jvm.MethodName) prog_13_method_10_code (3 : Nat) (Option.some Jvm.ClassFile.FieldType.int)) ∈ lw_all := lw_g (lw_at lw_m8 40 rfl) rfl
theorem q1779 : (Jvm.Cond.instanceMethod ({ cls := "CliffPlotsModel", name := "rain", desc := "(I)I" } : Jvm.MethodName)) ∈ lw_all := lw_g (lw_at lw_m8 42 rfl) rfl
theorem q1780 : (Jvm.Cond.selects "CliffPlotsModel" ({ cls := "CliffPlotsModel", name := "rain", desc := "(I)I" } : Jvm.MethodName) ({ cls := "CliffPlotsModel", name := "rain", desc := "(I)I" } : Jvm.MethodName)) ∈ lw_all := lw_g (lw_at lw_m8 43 rfl) rfl
theorem q1781 : (Jvm.Cond.code ({ cls := "CliffPlotsModel", name := "rain", desc := "(I)I" } : Jvm.MethodName) prog_13_method_18_code (2 : Nat) (Option.some Jvm.ClassFile.FieldType.int)) ∈ lw_all := lw_g (lw_at lw_m8 44 rfl) rfl
theorem q1782 : (Jvm.Cond.methodLink "CliffPlotsModel" (97 : Nat) ({ cls := "CliffPlotsModel", name := "rains", desc := "(I)I" } : Jvm.MethodName)) ∈ lw_all := lw_g (lw_at lw_m8 45 rfl) rfl
theorem q1783 : (Jvm.Cond.privateMethod ({ cls := "CliffPlotsModel", name := "rains", desc := "(I)I" } : Jvm.MethodName)) ∈ lw_tbl := lw_at lw_m8 46 rfl
theorem q1784 : (Jvm.Cond.instanceMethod ({ cls := "CliffPlotsModel", name := "rains", desc := "(I)I" } : Jvm.MethodName)) ∈ lw_all := lw_g (lw_at lw_m8 47 rfl) rfl
theorem q1785 : (Jvm.Cond.code ({ cls := "CliffPlotsModel", name := "rains", desc := "(I)I" } : Jvm.MethodName) prog_13_method_17_code (3 : Nat) (Option.some Jvm.ClassFile.FieldType.int)) ∈ lw_all := lw_g (lw_at lw_m8 48 rfl) rfl
theorem q1787 : (Jvm.Cond.instanceMethod ({ cls := "CliffPlotsModel", name := "member", desc := "()I" } : Jvm.MethodName)) ∈ lw_all := lw_g (lw_at lw_m8 50 rfl) rfl
theorem q1788 : (Jvm.Cond.selects "CliffPlotsModel" ({ cls := "CliffPlotsModel", name := "member", desc := "()I" } : Jvm.MethodName) ({ cls := "CliffPlotsModel", name := "member", desc := "()I" } : Jvm.MethodName)) ∈ lw_all := lw_g (lw_at lw_m8 51 rfl) rfl
theorem q1789 : (Jvm.Cond.code ({ cls := "CliffPlotsModel", name := "member", desc := "()I" } : Jvm.MethodName) prog_13_method_21_code (2 : Nat) (Option.some Jvm.ClassFile.FieldType.int)) ∈ lw_all := lw_g (lw_at lw_m8 52 rfl) rfl
theorem q1790 : (Jvm.Cond.methodLink "CliffPlotsModel" (100 : Nat) ({ cls := "CliffPlotsModel", name := "refused", desc := "(III)I" } : Jvm.MethodName)) ∈ lw_all := lw_g (lw_at lw_m8 53 rfl) rfl
theorem q1791 : (Jvm.Cond.privateMethod ({ cls := "CliffPlotsModel", name := "refused", desc := "(III)I" } : Jvm.MethodName)) ∈ lw_tbl := lw_at lw_m8 54 rfl
theorem q1792 : (Jvm.Cond.instanceMethod ({ cls := "CliffPlotsModel", name := "refused", desc := "(III)I" } : Jvm.MethodName)) ∈ lw_all := lw_g (lw_at lw_m8 55 rfl) rfl
theorem q1793 : (Jvm.Cond.code ({ cls := "CliffPlotsModel", name := "refused", desc := "(III)I" } : Jvm.MethodName) prog_13_method_6_code (4 : Nat) (Option.some Jvm.ClassFile.FieldType.int)) ∈ lw_all := lw_g (lw_at lw_m8 56 rfl) rfl
theorem q1795 : (Jvm.Cond.instanceMethod ({ cls := "CliffPlotsModel", name := "dig", desc := "(II)I" } : Jvm.MethodName)) ∈ lw_all := lw_g (lw_at lw_m8 58 rfl) rfl
theorem q1796 : (Jvm.Cond.selects "CliffPlotsModel" ({ cls := "CliffPlotsModel", name := "dig", desc := "(II)I" } : Jvm.MethodName) ({ cls := "CliffPlotsModel", name := "dig", desc := "(II)I" } : Jvm.MethodName)) ∈ lw_all := lw_g (lw_at lw_m8 59 rfl) rfl
theorem q1797 : (Jvm.Cond.code ({ cls := "CliffPlotsModel", name := "dig", desc := "(II)I" } : Jvm.MethodName) prog_13_method_24_code (3 : Nat) (Option.some Jvm.ClassFile.FieldType.int)) ∈ lw_all := lw_g (lw_at lw_m8 60 rfl) rfl
theorem q1798 : (Jvm.Cond.methodLink "CliffPlotsModel" (115 : Nat) ({ cls := "CliffPlotsModel", name := "digs", desc := "(II)I" } : Jvm.MethodName)) ∈ lw_all := lw_g (lw_at lw_m8 61 rfl) rfl
theorem q1799 : (Jvm.Cond.privateMethod ({ cls := "CliffPlotsModel", name := "digs", desc := "(II)I" } : Jvm.MethodName)) ∈ lw_tbl := lw_at lw_m8 62 rfl
theorem q1800 : (Jvm.Cond.instanceMethod ({ cls := "CliffPlotsModel", name := "digs", desc := "(II)I" } : Jvm.MethodName)) ∈ lw_all := lw_g (lw_at lw_m8 63 rfl) rfl
theorem q1801 : (Jvm.Cond.code ({ cls := "CliffPlotsModel", name := "digs", desc := "(II)I" } : Jvm.MethodName) prog_13_method_23_code (3 : Nat) (Option.some Jvm.ClassFile.FieldType.int)) ∈ lw_all := lw_g (lw_at lw_m8 64 rfl) rfl
theorem q1802 : (Jvm.Cond.methodLink "CliffPlotsModel" (104 : Nat) ({ cls := "CliffPlotsModel", name := "isMember", desc := "(I)Z" } : Jvm.MethodName)) ∈ lw_all := lw_g (lw_at lw_m8 65 rfl) rfl
theorem q1803 : (Jvm.Cond.privateMethod ({ cls := "CliffPlotsModel", name := "isMember", desc := "(I)Z" } : Jvm.MethodName)) ∈ lw_tbl := lw_at lw_m8 66 rfl
theorem q1804 : (Jvm.Cond.instanceMethod ({ cls := "CliffPlotsModel", name := "isMember", desc := "(I)Z" } : Jvm.MethodName)) ∈ lw_all := lw_g (lw_at lw_m8 67 rfl) rfl
theorem q1805 : (Jvm.Cond.code ({ cls := "CliffPlotsModel", name := "isMember", desc := "(I)Z" } : Jvm.MethodName) prog_13_method_19_code (2 : Nat) (Option.some Jvm.ClassFile.FieldType.boolean)) ∈ lw_all := lw_g (lw_at lw_m8 68 rfl) rfl
theorem q1806 : (Jvm.Cond.methodLink "CliffPlotsModel" (108 : Nat) ({ cls := "CliffPlotsModel", name := "isPlot", desc := "(I)Z" } : Jvm.MethodName)) ∈ lw_all := lw_g (lw_at lw_m8 69 rfl) rfl
theorem q1807 : (Jvm.Cond.static ({ cls := "CliffPlotsModel", name := "isPlot", desc := "(I)Z" } : Jvm.MethodName)) ∈ lw_all := lw_g (lw_at lw_m8 70 rfl) rfl
theorem q1808 : (Jvm.Cond.code ({ cls := "CliffPlotsModel", name := "isPlot", desc := "(I)Z" } : Jvm.MethodName) prog_13_method_20_code (1 : Nat) (Option.some Jvm.ClassFile.FieldType.boolean)) ∈ lw_all := lw_g (lw_at lw_m8 71 rfl) rfl
theorem q1809 : (Jvm.Cond.methodLink "CliffPlotsModel" (111 : Nat) ({ cls := "CliffPlotsModel", name := "plotsDug", desc := "()I" } : Jvm.MethodName)) ∈ lw_all := lw_g (lw_at lw_m8 72 rfl) rfl
theorem q1810 : (Jvm.Cond.privateMethod ({ cls := "CliffPlotsModel", name := "plotsDug", desc := "()I" } : Jvm.MethodName)) ∈ lw_tbl := lw_at lw_m8 73 rfl
theorem q1811 : (Jvm.Cond.instanceMethod ({ cls := "CliffPlotsModel", name := "plotsDug", desc := "()I" } : Jvm.MethodName)) ∈ lw_all := lw_g (lw_at lw_m8 74 rfl) rfl
theorem q1812 : (Jvm.Cond.code ({ cls := "CliffPlotsModel", name := "plotsDug", desc := "()I" } : Jvm.MethodName) prog_13_method_22_code (3 : Nat) (Option.some Jvm.ClassFile.FieldType.int)) ∈ lw_all := lw_g (lw_at lw_m8 75 rfl) rfl
theorem q1814 : (Jvm.Cond.instanceMethod ({ cls := "CliffPlotsModel", name := "rest", desc := "(I)I" } : Jvm.MethodName)) ∈ lw_all := lw_g (lw_at lw_m8 77 rfl) rfl
theorem q1815 : (Jvm.Cond.selects "CliffPlotsModel" ({ cls := "CliffPlotsModel", name := "rest", desc := "(I)I" } : Jvm.MethodName) ({ cls := "CliffPlotsModel", name := "rest", desc := "(I)I" } : Jvm.MethodName)) ∈ lw_all := lw_g (lw_at lw_m8 78 rfl) rfl
theorem q1816 : (Jvm.Cond.code ({ cls := "CliffPlotsModel", name := "rest", desc := "(I)I" } : Jvm.MethodName) prog_13_method_26_code (2 : Nat) (Option.some Jvm.ClassFile.FieldType.int)) ∈ lw_all := lw_g (lw_at lw_m8 79 rfl) rfl
theorem q1817 : (Jvm.Cond.methodLink "CliffPlotsModel" (119 : Nat) ({ cls := "CliffPlotsModel", name := "rests", desc := "(I)I" } : Jvm.MethodName)) ∈ lw_all := lw_g (lw_at lw_m8 80 rfl) rfl
theorem q1818 : (Jvm.Cond.privateMethod ({ cls := "CliffPlotsModel", name := "rests", desc := "(I)I" } : Jvm.MethodName)) ∈ lw_tbl := lw_at lw_m8 81 rfl
theorem q1819 : (Jvm.Cond.instanceMethod ({ cls := "CliffPlotsModel", name := "rests", desc := "(I)I" } : Jvm.MethodName)) ∈ lw_all := lw_g (lw_at lw_m8 82 rfl) rfl
theorem q1820 : (Jvm.Cond.code ({ cls := "CliffPlotsModel", name := "rests", desc := "(I)I" } : Jvm.MethodName) prog_13_method_25_code (3 : Nat) (Option.some Jvm.ClassFile.FieldType.int)) ∈ lw_all := lw_g (lw_at lw_m8 83 rfl) rfl
theorem q1822 : (Jvm.Cond.instanceMethod ({ cls := "CliffPlotsModel", name := "memberOf", desc := "(II)I" } : Jvm.MethodName)) ∈ lw_all := lw_g (lw_at lw_m8 85 rfl) rfl
theorem q1823 : (Jvm.Cond.selects "CliffPlotsModel" ({ cls := "CliffPlotsModel", name := "memberOf", desc := "(II)I" } : Jvm.MethodName) ({ cls := "CliffPlotsModel", name := "memberOf", desc := "(II)I" } : Jvm.MethodName)) ∈ lw_all := lw_g (lw_at lw_m8 86 rfl) rfl
theorem q1824 : (Jvm.Cond.code ({ cls := "CliffPlotsModel", name := "memberOf", desc := "(II)I" } : Jvm.MethodName) prog_13_method_27_code (3 : Nat) (Option.some Jvm.ClassFile.FieldType.int)) ∈ lw_all := lw_g (lw_at lw_m8 87 rfl) rfl
theorem q1826 : (Jvm.Cond.instanceMethod ({ cls := "CliffPlotsModel", name := "plotOf", desc := "(II)I" } : Jvm.MethodName)) ∈ lw_all := lw_g (lw_at lw_m8 89 rfl) rfl
theorem q1827 : (Jvm.Cond.selects "CliffPlotsModel" ({ cls := "CliffPlotsModel", name := "plotOf", desc := "(II)I" } : Jvm.MethodName) ({ cls := "CliffPlotsModel", name := "plotOf", desc := "(II)I" } : Jvm.MethodName)) ∈ lw_all := lw_g (lw_at lw_m8 90 rfl) rfl
theorem q1828 : (Jvm.Cond.code ({ cls := "CliffPlotsModel", name := "plotOf", desc := "(II)I" } : Jvm.MethodName) prog_13_method_29_code (3 : Nat) (Option.some Jvm.ClassFile.FieldType.int)) ∈ lw_all := lw_g (lw_at lw_m8 91 rfl) rfl
theorem q1829 : (Jvm.Cond.methodLink "CliffPlotsModel" (122 : Nat) ({ cls := "CliffPlotsModel", name := "shedOn", desc := "(I)I" } : Jvm.MethodName)) ∈ lw_all := lw_g (lw_at lw_m8 92 rfl) rfl
theorem q1830 : (Jvm.Cond.privateMethod ({ cls := "CliffPlotsModel", name := "shedOn", desc := "(I)I" } : Jvm.MethodName)) ∈ lw_tbl := lw_at lw_m8 93 rfl
theorem q1831 : (Jvm.Cond.instanceMethod ({ cls := "CliffPlotsModel", name := "shedOn", desc := "(I)I" } : Jvm.MethodName)) ∈ lw_all := lw_g (lw_at lw_m8 94 rfl) rfl
theorem q1832 : (Jvm.Cond.code ({ cls := "CliffPlotsModel", name := "shedOn", desc := "(I)I" } : Jvm.MethodName) prog_13_method_28_code (3 : Nat) (Option.some Jvm.ClassFile.FieldType.int)) ∈ lw_all := lw_g (lw_at lw_m8 95 rfl) rfl
theorem q1834 : (Jvm.Cond.instanceMethod ({ cls := "CliffPlotsModel", name := "water", desc := "(I)F" } : Jvm.MethodName)) ∈ lw_all := lw_g (lw_at lw_m8 97 rfl) rfl
theorem q1835 : (Jvm.Cond.selects "CliffPlotsModel" ({ cls := "CliffPlotsModel", name := "water", desc := "(I)F" } : Jvm.MethodName) ({ cls := "CliffPlotsModel", name := "water", desc := "(I)F" } : Jvm.MethodName)) ∈ lw_all := lw_g (lw_at lw_m8 98 rfl) rfl
theorem q1836 : (Jvm.Cond.code ({ cls := "CliffPlotsModel", name := "water", desc := "(I)F" } : Jvm.MethodName) prog_13_method_30_code (2 : Nat) (Option.some Jvm.ClassFile.FieldType.float)) ∈ lw_all := lw_g (lw_at lw_m8 99 rfl) rfl
theorem q1838 : (Jvm.Cond.instanceMethod ({ cls := "CliffPlotsModel", name := "waterIn", desc := "(II)I" } : Jvm.MethodName)) ∈ lw_all := lw_g (lw_at lw_m8 101 rfl) rfl
theorem q1839 : (Jvm.Cond.selects "CliffPlotsModel" ({ cls := "CliffPlotsModel", name := "waterIn", desc := "(II)I" } : Jvm.MethodName) ({ cls := "CliffPlotsModel", name := "waterIn", desc := "(II)I" } : Jvm.MethodName)) ∈ lw_all := lw_g (lw_at lw_m8 102 rfl) rfl
theorem q1840 : (Jvm.Cond.code ({ cls := "CliffPlotsModel", name := "waterIn", desc := "(II)I" } : Jvm.MethodName) prog_13_method_32_code (5 : Nat) (Option.some Jvm.ClassFile.FieldType.int)) ∈ lw_all := lw_g (lw_at lw_m8 103 rfl) rfl
theorem q1841 : (Jvm.Cond.methodLink "CliffPlotsModel" (137 : Nat) ({ cls := "CliffPlotsModel", name := "wetter", desc := "(F)F" } : Jvm.MethodName)) ∈ lw_all := lw_g (lw_at lw_m8 104 rfl) rfl
theorem q1842 : (Jvm.Cond.privateMethod ({ cls := "CliffPlotsModel", name := "wetter", desc := "(F)F" } : Jvm.MethodName)) ∈ lw_tbl := lw_at lw_m8 105 rfl
theorem q1843 : (Jvm.Cond.instanceMethod ({ cls := "CliffPlotsModel", name := "wetter", desc := "(F)F" } : Jvm.MethodName)) ∈ lw_all := lw_g (lw_at lw_m8 106 rfl) rfl
theorem q1844 : (Jvm.Cond.code ({ cls := "CliffPlotsModel", name := "wetter", desc := "(F)F" } : Jvm.MethodName) prog_13_method_31_code (3 : Nat) (Option.some Jvm.ClassFile.FieldType.float)) ∈ lw_all := lw_g (lw_at lw_m8 107 rfl) rfl
theorem q1845 : (Jvm.Cond.constantFloat "CliffPlotsModel" (125 : Nat) (1061997773 : UInt32)) ∈ lw_all := lw_g (lw_at lw_m8 108 rfl) rfl
theorem q1846 : (Jvm.Cond.constantFloat "CliffPlotsModel" (126 : Nat) (1120403456 : UInt32)) ∈ lw_all := lw_g (lw_at lw_m8 109 rfl) rfl
theorem q1847 : (Jvm.Cond.methodLink "CliffPlotsModel" (127 : Nat) ({ cls := "CliffPlotsModel", name := "most", desc := "(FF)F" } : Jvm.MethodName)) ∈ lw_all := lw_g (lw_at lw_m8 110 rfl) rfl
theorem q1848 : (Jvm.Cond.static ({ cls := "CliffPlotsModel", name := "most", desc := "(FF)F" } : Jvm.MethodName)) ∈ lw_all := lw_g (lw_at lw_m8 111 rfl) rfl
theorem q1849 : (Jvm.Cond.code ({ cls := "CliffPlotsModel", name := "most", desc := "(FF)F" } : Jvm.MethodName) prog_13_method_13_code (2 : Nat) (Option.some Jvm.ClassFile.FieldType.float)) ∈ lw_all := lw_g (lw_at lw_m8 112 rfl) rfl
theorem q1850 : (Jvm.Cond.constantFloat "CliffPlotsModel" (131 : Nat) (1056964608 : UInt32)) ∈ lw_all := lw_g (lw_at lw_m8 113 rfl) rfl
theorem q1851 : (Jvm.Cond.constantFloat "CliffPlotsModel" (132 : Nat) (1048576000 : UInt32)) ∈ lw_all := lw_g (lw_at lw_m8 114 rfl) rfl
theorem q1852 : (Jvm.Cond.methodLink "CliffPlotsModel" (133 : Nat) ({ cls := "CliffPlotsModel", name := "least", desc := "(F)F" } : Jvm.MethodName)) ∈ lw_all := lw_g (lw_at lw_m8 115 rfl) rfl
theorem q1853 : (Jvm.Cond.static ({ cls := "CliffPlotsModel", name := "least", desc := "(F)F" } : Jvm.MethodName)) ∈ lw_all := lw_g (lw_at lw_m8 116 rfl) rfl
theorem q1854 : (Jvm.Cond.code ({ cls := "CliffPlotsModel", name := "least", desc := "(F)F" } : Jvm.MethodName) prog_13_method_14_code (1 : Nat) (Option.some Jvm.ClassFile.FieldType.float)) ∈ lw_all := lw_g (lw_at lw_m8 117 rfl) rfl
theorem q1855 : (Jvm.Cond.methodLink "CliffPlotsModel" (140 : Nat) ({ cls := "java/lang/Float", name := "floatToIntBits", desc := "(F)I" } : Jvm.MethodName)) ∈ lw_all := lw_g (lw_at lw_m8 118 rfl) rfl
theorem q1857 : (Jvm.Cond.instanceMethod ({ cls := "CliffPlotsModel", name := "waterAgain", desc := "(II)I" } : Jvm.MethodName)) ∈ lw_all := lw_g (lw_at lw_m8 120 rfl) rfl
theorem q1858 : (Jvm.Cond.selects "CliffPlotsModel" ({ cls := "CliffPlotsModel", name := "waterAgain", desc := "(II)I" } : Jvm.MethodName) ({ cls := "CliffPlotsModel", name := "waterAgain", desc := "(II)I" } : Jvm.MethodName)) ∈ lw_all := lw_g (lw_at lw_m8 121 rfl) rfl
theorem q1859 : (Jvm.Cond.code ({ cls := "CliffPlotsModel", name := "waterAgain", desc := "(II)I" } : Jvm.MethodName) prog_13_method_33_code (4 : Nat) (Option.some Jvm.ClassFile.FieldType.int)) ∈ lw_all := lw_g (lw_at lw_m8 122 rfl) rfl
theorem q1860 : (Jvm.Cond.methodLink "CliffPlotsModel" (146 : Nat) ({ cls := "CliffPlotsModel", name := "laysAside", desc := "()V" } : Jvm.MethodName)) ∈ lw_all := lw_g (lw_at lw_m8 123 rfl) rfl
theorem q1861 : (Jvm.Cond.privateMethod ({ cls := "CliffPlotsModel", name := "laysAside", desc := "()V" } : Jvm.MethodName)) ∈ lw_tbl := lw_at lw_m8 124 rfl
theorem q1862 : (Jvm.Cond.instanceMethod ({ cls := "CliffPlotsModel", name := "laysAside", desc := "()V" } : Jvm.MethodName)) ∈ lw_all := lw_g (lw_at lw_m8 125 rfl) rfl
theorem q1863 : (Jvm.Cond.code ({ cls := "CliffPlotsModel", name := "laysAside", desc := "()V" } : Jvm.MethodName) prog_13_method_11_code (1 : Nat) (Option.none : Option Jvm.ClassFile.FieldType)) ∈ lw_all := lw_g (lw_at lw_m8 126 rfl) rfl
theorem q1864 : (Jvm.Cond.methodLink "CliffPlotsModel" (149 : Nat) ({ cls := "CliffPlotsModel", name := "goesDay", desc := "()I" } : Jvm.MethodName)) ∈ lw_all := lw_g (lw_at lw_m8 127 rfl) rfl
theorem q1865 : (Jvm.Cond.privateMethod ({ cls := "CliffPlotsModel", name := "goesDay", desc := "()I" } : Jvm.MethodName)) ∈ lw_tbl := lw_at lw_m8 128 rfl
theorem q1866 : (Jvm.Cond.instanceMethod ({ cls := "CliffPlotsModel", name := "goesDay", desc := "()I" } : Jvm.MethodName)) ∈ lw_all := lw_g (lw_at lw_m8 129 rfl) rfl
theorem q1867 : (Jvm.Cond.code ({ cls := "CliffPlotsModel", name := "goesDay", desc := "()I" } : Jvm.MethodName) prog_13_method_63_code (5 : Nat) (Option.some Jvm.ClassFile.FieldType.int)) ∈ lw_all := lw_g (lw_at lw_m8 130 rfl) rfl
theorem q1868 : (Jvm.Cond.methodLink "CliffPlotsModel" (194 : Nat) ({ cls := "CliffPlotsModel", name := "grows", desc := "(I)V" } : Jvm.MethodName)) ∈ lw_all := lw_g (lw_at lw_m8 131 rfl) rfl
theorem q1869 : (Jvm.Cond.privateMethod ({ cls := "CliffPlotsModel", name := "grows", desc := "(I)V" } : Jvm.MethodName)) ∈ lw_tbl := lw_at lw_m8 132 rfl
theorem q1870 : (Jvm.Cond.instanceMethod ({ cls := "CliffPlotsModel", name := "grows", desc := "(I)V" } : Jvm.MethodName)) ∈ lw_all := lw_g (lw_at lw_m8 133 rfl) rfl
theorem q1871 : (Jvm.Cond.code ({ cls := "CliffPlotsModel", name := "grows", desc := "(I)V" } : Jvm.MethodName) prog_13_method_61_code (5 : Nat) (Option.none : Option Jvm.ClassFile.FieldType)) ∈ lw_all := lw_g (lw_at lw_m8 134 rfl) rfl
theorem q1872 : (Jvm.Cond.constantFloat "CliffPlotsModel" (189 : Nat) (1039516303 : UInt32)) ∈ lw_all := lw_g (lw_at lw_m8 135 rfl) rfl
theorem q1873 : (Jvm.Cond.constantFloat "CliffPlotsModel" (190 : Nat) (1031127695 : UInt32)) ∈ lw_all := lw_g (lw_at lw_m8 136 rfl) rfl
theorem q1874 : (Jvm.Cond.constantFloat "CliffPlotsModel" (191 : Nat) (1103626240 : UInt32)) ∈ lw_all := lw_g (lw_at lw_m8 137 rfl) rfl
theorem q1875 : (Jvm.Cond.constantFloat "CliffPlotsModel" (192 : Nat) (1017370378 : UInt32)) ∈ lw_all := lw_g (lw_at lw_m8 138 rfl) rfl
theorem q1876 : (Jvm.Cond.constantFloat "CliffPlotsModel" (193 : Nat) (1112014848 : UInt32)) ∈ lw_all := lw_g (lw_at lw_m8 139 rfl) rfl
theorem q1877 : (Jvm.Cond.methodLink "CliffPlotsModel" (173 : Nat) ({ cls := "CliffPlotsModel", name := "holds", desc := "(II)Z" } : Jvm.MethodName)) ∈ lw_all := lw_g (lw_at lw_m8 140 rfl) rfl
theorem q1878 : (Jvm.Cond.privateMethod ({ cls := "CliffPlotsModel", name := "holds", desc := "(II)Z" } : Jvm.MethodName)) ∈ lw_tbl := lw_at lw_m8 141 rfl
theorem q1879 : (Jvm.Cond.instanceMethod ({ cls := "CliffPlotsModel", name := "holds", desc := "(II)Z" } : Jvm.MethodName)) ∈ lw_all := lw_g (lw_at lw_m8 142 rfl) rfl
theorem q1880 : (Jvm.Cond.code ({ cls := "CliffPlotsModel", name := "holds", desc := "(II)Z" } : Jvm.MethodName) prog_13_method_49_code (3 : Nat) (Option.some Jvm.ClassFile.FieldType.boolean)) ∈ lw_all := lw_g (lw_at lw_m8 143 rfl) rfl
theorem q1881 : (Jvm.Cond.constantFloat "CliffPlotsModel" (172 : Nat) (1071644672 : UInt32)) ∈ lw_all := lw_g (lw_at lw_m8 144 rfl) rfl
theorem q1882 : (Jvm.Cond.constantFloat "CliffPlotsModel" (198 : Nat) (1075838976 : UInt32)) ∈ lw_all := lw_g (lw_at lw_m8 145 rfl) rfl
theorem q1883 : (Jvm.Cond.constantFloat "CliffPlotsModel" (199 : Nat) (1119092736 : UInt32)) ∈ lw_all := lw_g (lw_at lw_m8 146 rfl) rfl
theorem q1884 : (Jvm.Cond.methodLink "CliffPlotsModel" (200 : Nat) ({ cls := "CliffPlotsModel", name := "movesMoles", desc := "()V" } : Jvm.MethodName)) ∈ lw_all := lw_g (lw_at lw_m8 147 rfl) rfl
theorem q1885 : (Jvm.Cond.privateMethod ({ cls := "CliffPlotsModel", name := "movesMoles", desc := "()V" } : Jvm.MethodName)) ∈ lw_tbl := lw_at lw_m8 148 rfl
theorem q1886 : (Jvm.Cond.instanceMethod ({ cls := "CliffPlotsModel", name := "movesMoles", desc := "()V" } : Jvm.MethodName)) ∈ lw_all := lw_g (lw_at lw_m8 149 rfl) rfl
theorem q1887 : (Jvm.Cond.code ({ cls := "CliffPlotsModel", name := "movesMoles", desc := "()V" } : Jvm.MethodName) prog_13_method_62_code (3 : Nat) (Option.none : Option Jvm.ClassFile.FieldType)) ∈ lw_all := lw_g (lw_at lw_m8 150 rfl) rfl
theorem q1888 : (Jvm.Cond.methodLink "CliffPlotsModel" (152 : Nat) ({ cls := "CliffPlotsModel", name := "laysBack", desc := "()V" } : Jvm.MethodName)) ∈ lw_all := lw_g (lw_at lw_m8 151 rfl) rfl
theorem q1889 : (Jvm.Cond.privateMethod ({ cls := "CliffPlotsModel", name := "laysBack", desc := "()V" } : Jvm.MethodName)) ∈ lw_tbl := lw_at lw_m8 152 rfl
theorem q1890 : (Jvm.Cond.instanceMethod ({ cls := "CliffPlotsModel", name := "laysBack", desc := "()V" } : Jvm.MethodName)) ∈ lw_all := lw_g (lw_at lw_m8 153 rfl) rfl
theorem q1891 : (Jvm.Cond.code ({ cls := "CliffPlotsModel", name := "laysBack", desc := "()V" } : Jvm.MethodName) prog_13_method_12_code (1 : Nat) (Option.none : Option Jvm.ClassFile.FieldType)) ∈ lw_all := lw_g (lw_at lw_m8 154 rfl) rfl
theorem q1893 : (Jvm.Cond.instanceMethod ({ cls := "CliffPlotsModel", name := "seedling", desc := "(II)I" } : Jvm.MethodName)) ∈ lw_all := lw_g (lw_at lw_m8 156 rfl) rfl
theorem q1894 : (Jvm.Cond.selects "CliffPlotsModel" ({ cls := "CliffPlotsModel", name := "seedling", desc := "(II)I" } : Jvm.MethodName) ({ cls := "CliffPlotsModel", name := "seedling", desc := "(II)I" } : Jvm.MethodName)) ∈ lw_all := lw_g (lw_at lw_m8 157 rfl) rfl
theorem q1895 : (Jvm.Cond.code ({ cls := "CliffPlotsModel", name := "seedling", desc := "(II)I" } : Jvm.MethodName) prog_13_method_37_code (4 : Nat) (Option.some Jvm.ClassFile.FieldType.int)) ∈ lw_all := lw_g (lw_at lw_m8 158 rfl) rfl
theorem q1896 : (Jvm.Cond.methodLink "CliffPlotsModel" (155 : Nat) ({ cls := "CliffPlotsModel", name := "isBench", desc := "(I)Z" } : Jvm.MethodName)) ∈ lw_all := lw_g (lw_at lw_m8 159 rfl) rfl
theorem q1897 : (Jvm.Cond.static ({ cls := "CliffPlotsModel", name := "isBench", desc := "(I)Z" } : Jvm.MethodName)) ∈ lw_all := lw_g (lw_at lw_m8 160 rfl) rfl
theorem q1898 : (Jvm.Cond.code ({ cls := "CliffPlotsModel", name := "isBench", desc := "(I)Z" } : Jvm.MethodName) prog_13_method_34_code (1 : Nat) (Option.some Jvm.ClassFile.FieldType.boolean)) ∈ lw_all := lw_g (lw_at lw_m8 161 rfl) rfl
theorem q1899 : (Jvm.Cond.methodLink "CliffPlotsModel" (158 : Nat) ({ cls := "CliffPlotsModel", name := "freePlace", desc := "(I)I" } : Jvm.MethodName)) ∈ lw_all := lw_g (lw_at lw_m8 162 rfl) rfl
theorem q1900 : (Jvm.Cond.privateMethod ({ cls := "CliffPlotsModel", name := "freePlace", desc := "(I)I" } : Jvm.MethodName)) ∈ lw_tbl := lw_at lw_m8 163 rfl
theorem q1901 : (Jvm.Cond.instanceMethod ({ cls := "CliffPlotsModel", name := "freePlace", desc := "(I)I" } : Jvm.MethodName)) ∈ lw_all := lw_g (lw_at lw_m8 164 rfl) rfl
theorem q1902 : (Jvm.Cond.code ({ cls := "CliffPlotsModel", name := "freePlace", desc := "(I)I" } : Jvm.MethodName) prog_13_method_36_code (3 : Nat) (Option.some Jvm.ClassFile.FieldType.int)) ∈ lw_all := lw_g (lw_at lw_m8 165 rfl) rfl
theorem q1904 : (Jvm.Cond.instanceMethod ({ cls := "CliffPlotsModel", name := "waits", desc := "(II)I" } : Jvm.MethodName)) ∈ lw_all := lw_g (lw_at lw_m8 167 rfl) rfl
theorem q1905 : (Jvm.Cond.selects "CliffPlotsModel" ({ cls := "CliffPlotsModel", name := "waits", desc := "(II)I" } : Jvm.MethodName) ({ cls := "CliffPlotsModel", name := "waits", desc := "(II)I" } : Jvm.MethodName)) ∈ lw_all := lw_g (lw_at lw_m8 168 rfl) rfl
theorem q1906 : (Jvm.Cond.code ({ cls := "CliffPlotsModel", name := "waits", desc := "(II)I" } : Jvm.MethodName) prog_13_method_38_code (4 : Nat) (Option.some Jvm.ClassFile.FieldType.int)) ∈ lw_all := lw_g (lw_at lw_m8 169 rfl) rfl
theorem q1907 : (Jvm.Cond.methodLink "CliffPlotsModel" (161 : Nat) ({ cls := "CliffPlotsModel", name := "isPlace", desc := "(II)Z" } : Jvm.MethodName)) ∈ lw_all := lw_g (lw_at lw_m8 170 rfl) rfl
theorem q1908 : (Jvm.Cond.static ({ cls := "CliffPlotsModel", name := "isPlace", desc := "(II)Z" } : Jvm.MethodName)) ∈ lw_all := lw_g (lw_at lw_m8 171 rfl) rfl
theorem q1909 : (Jvm.Cond.code ({ cls := "CliffPlotsModel", name := "isPlace", desc := "(II)Z" } : Jvm.MethodName) prog_13_method_35_code (2 : Nat) (Option.some Jvm.ClassFile.FieldType.boolean)) ∈ lw_all := lw_g (lw_at lw_m8 172 rfl) rfl
theorem q1911 : (Jvm.Cond.instanceMethod ({ cls := "CliffPlotsModel", name := "plant", desc := "(III)I" } : Jvm.MethodName)) ∈ lw_all := lw_g (lw_at lw_m8 174 rfl) rfl
theorem q1912 : (Jvm.Cond.selects "CliffPlotsModel" ({ cls := "CliffPlotsModel", name := "plant", desc := "(III)I" } : Jvm.MethodName) ({ cls := "CliffPlotsModel", name := "plant", desc := "(III)I" } : Jvm.MethodName)) ∈ lw_all := lw_g (lw_at lw_m8 175 rfl) rfl
theorem q1913 : (Jvm.Cond.code ({ cls := "CliffPlotsModel", name := "plant", desc := "(III)I" } : Jvm.MethodName) prog_13_method_39_code (5 : Nat) (Option.some Jvm.ClassFile.FieldType.int)) ∈ lw_all := lw_g (lw_at lw_m8 176 rfl) rfl
theorem q1915 : (Jvm.Cond.instanceMethod ({ cls := "CliffPlotsModel", name := "weight", desc := "(I)I" } : Jvm.MethodName)) ∈ lw_all := lw_g (lw_at lw_m8 178 rfl) rfl
theorem q1916 : (Jvm.Cond.selects "CliffPlotsModel" ({ cls := "CliffPlotsModel", name := "weight", desc := "(I)I" } : Jvm.MethodName) ({ cls := "CliffPlotsModel", name := "weight", desc := "(I)I" } : Jvm.MethodName)) ∈ lw_all := lw_g (lw_at lw_m8 179 rfl) rfl
theorem q1917 : (Jvm.Cond.code ({ cls := "CliffPlotsModel", name := "weight", desc := "(I)I" } : Jvm.MethodName) prog_13_method_40_code (2 : Nat) (Option.some Jvm.ClassFile.FieldType.int)) ∈ lw_all := lw_g (lw_at lw_m8 180 rfl) rfl
theorem q1919 : (Jvm.Cond.instanceMethod ({ cls := "CliffPlotsModel", name := "weightIn", desc := "(II)I" } : Jvm.MethodName)) ∈ lw_all := lw_g (lw_at lw_m8 182 rfl) rfl
theorem q1920 : (Jvm.Cond.selects "CliffPlotsModel" ({ cls := "CliffPlotsModel", name := "weightIn", desc := "(II)I" } : Jvm.MethodName) ({ cls := "CliffPlotsModel", name := "weightIn", desc := "(II)I" } : Jvm.MethodName)) ∈ lw_all := lw_g (lw_at lw_m8 183 rfl) rfl
theorem q1921 : (Jvm.Cond.code ({ cls := "CliffPlotsModel", name := "weightIn", desc := "(II)I" } : Jvm.MethodName) prog_13_method_41_code (4 : Nat) (Option.some Jvm.ClassFile.FieldType.int)) ∈ lw_all := lw_g (lw_at lw_m8 184 rfl) rfl
theorem q1923 : (Jvm.Cond.instanceMethod ({ cls := "CliffPlotsModel", name := "heaviest", desc := "(I)I" } : Jvm.MethodName)) ∈ lw_all := lw_g (lw_at lw_m8 186 rfl) rfl
theorem q1924 : (Jvm.Cond.selects "CliffPlotsModel" ({ cls := "CliffPlotsModel", name := "heaviest", desc := "(I)I" } : Jvm.MethodName) ({ cls := "CliffPlotsModel", name := "heaviest", desc := "(I)I" } : Jvm.MethodName)) ∈ lw_all := lw_g (lw_at lw_m8 187 rfl) rfl
theorem q1925 : (Jvm.Cond.code ({ cls := "CliffPlotsModel", name := "heaviest", desc := "(I)I" } : Jvm.MethodName) prog_13_method_42_code (5 : Nat) (Option.some Jvm.ClassFile.FieldType.int)) ∈ lw_all := lw_g (lw_at lw_m8 188 rfl) rfl
theorem q1927 : (Jvm.Cond.instanceMethod ({ cls := "CliffPlotsModel", name := "harvest", desc := "(I)I" } : Jvm.MethodName)) ∈ lw_all := lw_g (lw_at lw_m8 190 rfl) rfl
theorem q1928 : (Jvm.Cond.selects "CliffPlotsModel" ({ cls := "CliffPlotsModel", name := "harvest", desc := "(I)I" } : Jvm.MethodName) ({ cls := "CliffPlotsModel", name := "harvest", desc := "(I)I" } : Jvm.MethodName)) ∈ lw_all := lw_g (lw_at lw_m8 191 rfl) rfl
theorem q1929 : (Jvm.Cond.code ({ cls := "CliffPlotsModel", name := "harvest", desc := "(I)I" } : Jvm.MethodName) prog_13_method_44_code (4 : Nat) (Option.some Jvm.ClassFile.FieldType.int)) ∈ lw_all := lw_g (lw_at lw_m8 192 rfl) rfl
theorem q1930 : (Jvm.Cond.methodLink "CliffPlotsModel" (165 : Nat) ({ cls := "CliffPlotsModel", name := "lists", desc := "(IIF)V" } : Jvm.MethodName)) ∈ lw_all := lw_g (lw_at lw_m8 193 rfl) rfl
theorem q1931 : (Jvm.Cond.privateMethod ({ cls := "CliffPlotsModel", name := "lists", desc := "(IIF)V" } : Jvm.MethodName)) ∈ lw_tbl := lw_at lw_m8 194 rfl
theorem q1932 : (Jvm.Cond.instanceMethod ({ cls := "CliffPlotsModel", name := "lists", desc := "(IIF)V" } : Jvm.MethodName)) ∈ lw_all := lw_g (lw_at lw_m8 195 rfl) rfl
theorem q1933 : (Jvm.Cond.code ({ cls := "CliffPlotsModel", name := "lists", desc := "(IIF)V" } : Jvm.MethodName) prog_13_method_43_code (6 : Nat) (Option.none : Option Jvm.ClassFile.FieldType)) ∈ lw_all := lw_g (lw_at lw_m8 196 rfl) rfl
theorem q1935 : (Jvm.Cond.instanceMethod ({ cls := "CliffPlotsModel", name := "prize", desc := "(II)I" } : Jvm.MethodName)) ∈ lw_all := lw_g (lw_at lw_m8 198 rfl) rfl
theorem q1936 : (Jvm.Cond.selects "CliffPlotsModel" ({ cls := "CliffPlotsModel", name := "prize", desc := "(II)I" } : Jvm.MethodName) ({ cls := "CliffPlotsModel", name := "prize", desc := "(II)I" } : Jvm.MethodName)) ∈ lw_all := lw_g (lw_at lw_m8 199 rfl) rfl
theorem q1937 : (Jvm.Cond.code ({ cls := "CliffPlotsModel", name := "prize", desc := "(II)I" } : Jvm.MethodName) prog_13_method_45_code (3 : Nat) (Option.some Jvm.ClassFile.FieldType.int)) ∈ lw_all := lw_g (lw_at lw_m8 200 rfl) rfl
theorem q1939 : (Jvm.Cond.instanceMethod ({ cls := "CliffPlotsModel", name := "shed", desc := "(I)I" } : Jvm.MethodName)) ∈ lw_all := lw_g (lw_at lw_m8 202 rfl) rfl
theorem q1940 : (Jvm.Cond.selects "CliffPlotsModel" ({ cls := "CliffPlotsModel", name := "shed", desc := "(I)I" } : Jvm.MethodName) ({ cls := "CliffPlotsModel", name := "shed", desc := "(I)I" } : Jvm.MethodName)) ∈ lw_all := lw_g (lw_at lw_m8 203 rfl) rfl
theorem q1941 : (Jvm.Cond.code ({ cls := "CliffPlotsModel", name := "shed", desc := "(I)I" } : Jvm.MethodName) prog_13_method_47_code (3 : Nat) (Option.some Jvm.ClassFile.FieldType.int)) ∈ lw_all := lw_g (lw_at lw_m8 204 rfl) rfl
theorem q1943 : (Jvm.Cond.instanceMethod ({ cls := "CliffPlotsModel", name := "rope", desc := "(I)I" } : Jvm.MethodName)) ∈ lw_all := lw_g (lw_at lw_m8 206 rfl) rfl
theorem q1944 : (Jvm.Cond.selects "CliffPlotsModel" ({ cls := "CliffPlotsModel", name := "rope", desc := "(I)I" } : Jvm.MethodName) ({ cls := "CliffPlotsModel", name := "rope", desc := "(I)I" } : Jvm.MethodName)) ∈ lw_all := lw_g (lw_at lw_m8 207 rfl) rfl
theorem q1945 : (Jvm.Cond.code ({ cls := "CliffPlotsModel", name := "rope", desc := "(I)I" } : Jvm.MethodName) prog_13_method_48_code (2 : Nat) (Option.some Jvm.ClassFile.FieldType.int)) ∈ lw_all := lw_g (lw_at lw_m8 208 rfl) rfl
theorem q1946 : (Jvm.Cond.methodLink "CliffPlotsModel" (169 : Nat) ({ cls := "CliffPlotsModel", name := "isShed", desc := "(I)Z" } : Jvm.MethodName)) ∈ lw_all := lw_g (lw_at lw_m8 209 rfl) rfl
theorem q1947 : (Jvm.Cond.privateMethod ({ cls := "CliffPlotsModel", name := "isShed", desc := "(I)Z" } : Jvm.MethodName)) ∈ lw_tbl := lw_at lw_m8 210 rfl
theorem q1948 : (Jvm.Cond.instanceMethod ({ cls := "CliffPlotsModel", name := "isShed", desc := "(I)Z" } : Jvm.MethodName)) ∈ lw_all := lw_g (lw_at lw_m8 211 rfl) rfl
theorem q1949 : (Jvm.Cond.code ({ cls := "CliffPlotsModel", name := "isShed", desc := "(I)Z" } : Jvm.MethodName) prog_13_method_46_code (2 : Nat) (Option.some Jvm.ClassFile.FieldType.boolean)) ∈ lw_all := lw_g (lw_at lw_m8 212 rfl) rfl
theorem q1951 : (Jvm.Cond.instanceMethod ({ cls := "CliffPlotsModel", name := "shedOf", desc := "(II)I" } : Jvm.MethodName)) ∈ lw_all := lw_g (lw_at lw_m8 214 rfl) rfl
theorem q1952 : (Jvm.Cond.selects "CliffPlotsModel" ({ cls := "CliffPlotsModel", name := "shedOf", desc := "(II)I" } : Jvm.MethodName) ({ cls := "CliffPlotsModel", name := "shedOf", desc := "(II)I" } : Jvm.MethodName)) ∈ lw_all := lw_g (lw_at lw_m8 215 rfl) rfl
theorem q1953 : (Jvm.Cond.code ({ cls := "CliffPlotsModel", name := "shedOf", desc := "(II)I" } : Jvm.MethodName) prog_13_method_51_code (3 : Nat) (Option.some Jvm.ClassFile.FieldType.int)) ∈ lw_all := lw_g (lw_at lw_m8 216 rfl) rfl
theorem q1954 : (Jvm.Cond.methodLink "CliffPlotsModel" (176 : Nat) ({ cls := "CliffPlotsModel", name := "leastWind", desc := "(I)I" } : Jvm.MethodName)) ∈ lw_all := lw_g (lw_at lw_m8 217 rfl) rfl
theorem q1955 : (Jvm.Cond.privateMethod ({ cls := "CliffPlotsModel", name := "leastWind", desc := "(I)I" } : Jvm.MethodName)) ∈ lw_tbl := lw_at lw_m8 218 rfl
theorem q1956 : (Jvm.Cond.instanceMethod ({ cls := "CliffPlotsModel", name := "leastWind", desc := "(I)I" } : Jvm.MethodName)) ∈ lw_all := lw_g (lw_at lw_m8 219 rfl) rfl
theorem q1957 : (Jvm.Cond.code ({ cls := "CliffPlotsModel", name := "leastWind", desc := "(I)I" } : Jvm.MethodName) prog_13_method_50_code (3 : Nat) (Option.some Jvm.ClassFile.FieldType.int)) ∈ lw_all := lw_g (lw_at lw_m8 220 rfl) rfl
theorem q1959 : (Jvm.Cond.instanceMethod ({ cls := "CliffPlotsModel", name := "butt", desc := "(I)F" } : Jvm.MethodName)) ∈ lw_all := lw_g (lw_at lw_m8 222 rfl) rfl
theorem q1960 : (Jvm.Cond.selects "CliffPlotsModel" ({ cls := "CliffPlotsModel", name := "butt", desc := "(I)F" } : Jvm.MethodName) ({ cls := "CliffPlotsModel", name := "butt", desc := "(I)F" } : Jvm.MethodName)) ∈ lw_all := lw_g (lw_at lw_m8 223 rfl) rfl
theorem q1961 : (Jvm.Cond.code ({ cls := "CliffPlotsModel", name := "butt", desc := "(I)F" } : Jvm.MethodName) prog_13_method_52_code (2 : Nat) (Option.some Jvm.ClassFile.FieldType.float)) ∈ lw_all := lw_g (lw_at lw_m8 224 rfl) rfl
theorem q1963 : (Jvm.Cond.instanceMethod ({ cls := "CliffPlotsModel", name := "pour", desc := "(III)I" } : Jvm.MethodName)) ∈ lw_all := lw_g (lw_at lw_m8 226 rfl) rfl
theorem q1964 : (Jvm.Cond.selects "CliffPlotsModel" ({ cls := "CliffPlotsModel", name := "pour", desc := "(III)I" } : Jvm.MethodName) ({ cls := "CliffPlotsModel", name := "pour", desc := "(III)I" } : Jvm.MethodName)) ∈ lw_all := lw_g (lw_at lw_m8 227 rfl) rfl
theorem q1965 : (Jvm.Cond.code ({ cls := "CliffPlotsModel", name := "pour", desc := "(III)I" } : Jvm.MethodName) prog_13_method_53_code (4 : Nat) (Option.some Jvm.ClassFile.FieldType.int)) ∈ lw_all := lw_g (lw_at lw_m8 228 rfl) rfl
theorem q1967 : (Jvm.Cond.instanceMethod ({ cls := "CliffPlotsModel", name := "moles", desc := "(II)I" } : Jvm.MethodName)) ∈ lw_all := lw_g (lw_at lw_m8 230 rfl) rfl
theorem q1968 : (Jvm.Cond.selects "CliffPlotsModel" ({ cls := "CliffPlotsModel", name := "moles", desc := "(II)I" } : Jvm.MethodName) ({ cls := "CliffPlotsModel", name := "moles", desc := "(II)I" } : Jvm.MethodName)) ∈ lw_all := lw_g (lw_at lw_m8 231 rfl) rfl
theorem q1969 : (Jvm.Cond.code ({ cls := "CliffPlotsModel", name := "moles", desc := "(II)I" } : Jvm.MethodName) prog_13_method_54_code (4 : Nat) (Option.some Jvm.ClassFile.FieldType.int)) ∈ lw_all := lw_g (lw_at lw_m8 232 rfl) rfl
theorem q1971 : (Jvm.Cond.instanceMethod ({ cls := "CliffPlotsModel", name := "vote", desc := "(IZ)I" } : Jvm.MethodName)) ∈ lw_all := lw_g (lw_at lw_m8 234 rfl) rfl
theorem q1972 : (Jvm.Cond.selects "CliffPlotsModel" ({ cls := "CliffPlotsModel", name := "vote", desc := "(IZ)I" } : Jvm.MethodName) ({ cls := "CliffPlotsModel", name := "vote", desc := "(IZ)I" } : Jvm.MethodName)) ∈ lw_all := lw_g (lw_at lw_m8 235 rfl) rfl
theorem q1973 : (Jvm.Cond.code ({ cls := "CliffPlotsModel", name := "vote", desc := "(IZ)I" } : Jvm.MethodName) prog_13_method_57_code (3 : Nat) (Option.some Jvm.ClassFile.FieldType.int)) ∈ lw_all := lw_g (lw_at lw_m8 236 rfl) rfl
theorem q1974 : (Jvm.Cond.methodLink "CliffPlotsModel" (182 : Nat) ({ cls := "CliffPlotsModel", name := "votes", desc := "(IZ)I" } : Jvm.MethodName)) ∈ lw_all := lw_g (lw_at lw_m8 237 rfl) rfl
theorem q1975 : (Jvm.Cond.privateMethod ({ cls := "CliffPlotsModel", name := "votes", desc := "(IZ)I" } : Jvm.MethodName)) ∈ lw_tbl := lw_at lw_m8 238 rfl
theorem q1976 : (Jvm.Cond.instanceMethod ({ cls := "CliffPlotsModel", name := "votes", desc := "(IZ)I" } : Jvm.MethodName)) ∈ lw_all := lw_g (lw_at lw_m8 239 rfl) rfl
theorem q1977 : (Jvm.Cond.code ({ cls := "CliffPlotsModel", name := "votes", desc := "(IZ)I" } : Jvm.MethodName) prog_13_method_56_code (3 : Nat) (Option.some Jvm.ClassFile.FieldType.int)) ∈ lw_all := lw_g (lw_at lw_m9 0 rfl) rfl
theorem q1978 : (Jvm.Cond.methodLink "CliffPlotsModel" (179 : Nat) ({ cls := "CliffPlotsModel", name := "sum", desc := "(II)I" } : Jvm.MethodName)) ∈ lw_all := lw_g (lw_at lw_m9 1 rfl) rfl
theorem q1979 : (Jvm.Cond.privateMethod ({ cls := "CliffPlotsModel", name := "sum", desc := "(II)I" } : Jvm.MethodName)) ∈ lw_tbl := lw_at lw_m9 2 rfl
theorem q1980 : (Jvm.Cond.instanceMethod ({ cls := "CliffPlotsModel", name := "sum", desc := "(II)I" } : Jvm.MethodName)) ∈ lw_all := lw_g (lw_at lw_m9 3 rfl) rfl
theorem q1981 : (Jvm.Cond.code ({ cls := "CliffPlotsModel", name := "sum", desc := "(II)I" } : Jvm.MethodName) prog_13_method_55_code (5 : Nat) (Option.some Jvm.ClassFile.FieldType.int)) ∈ lw_all := lw_g (lw_at lw_m9 4 rfl) rfl
theorem q1983 : (Jvm.Cond.instanceMethod ({ cls := "CliffPlotsModel", name := "count", desc := "()I" } : Jvm.MethodName)) ∈ lw_all := lw_g (lw_at lw_m9 6 rfl) rfl
theorem q1984 : (Jvm.Cond.selects "CliffPlotsModel" ({ cls := "CliffPlotsModel", name := "count", desc := "()I" } : Jvm.MethodName) ({ cls := "CliffPlotsModel", name := "count", desc := "()I" } : Jvm.MethodName)) ∈ lw_all := lw_g (lw_at lw_m9 7 rfl) rfl
theorem q1985 : (Jvm.Cond.code ({ cls := "CliffPlotsModel", name := "count", desc := "()I" } : Jvm.MethodName) prog_13_method_59_code (1 : Nat) (Option.some Jvm.ClassFile.FieldType.int)) ∈ lw_all := lw_g (lw_at lw_m9 8 rfl) rfl
theorem q1986 : (Jvm.Cond.methodLink "CliffPlotsModel" (186 : Nat) ({ cls := "CliffPlotsModel", name := "counts", desc := "()I" } : Jvm.MethodName)) ∈ lw_all := lw_g (lw_at lw_m9 9 rfl) rfl
theorem q1987 : (Jvm.Cond.privateMethod ({ cls := "CliffPlotsModel", name := "counts", desc := "()I" } : Jvm.MethodName)) ∈ lw_tbl := lw_at lw_m9 10 rfl
theorem q1988 : (Jvm.Cond.instanceMethod ({ cls := "CliffPlotsModel", name := "counts", desc := "()I" } : Jvm.MethodName)) ∈ lw_all := lw_g (lw_at lw_m9 11 rfl) rfl
theorem q1989 : (Jvm.Cond.code ({ cls := "CliffPlotsModel", name := "counts", desc := "()I" } : Jvm.MethodName) prog_13_method_58_code (5 : Nat) (Option.some Jvm.ClassFile.FieldType.int)) ∈ lw_all := lw_g (lw_at lw_m9 12 rfl) rfl
theorem q1991 : (Jvm.Cond.instanceMethod ({ cls := "CliffPlotsModel", name := "sign", desc := "(I)C" } : Jvm.MethodName)) ∈ lw_all := lw_g (lw_at lw_m9 14 rfl) rfl
theorem q1992 : (Jvm.Cond.selects "CliffPlotsModel" ({ cls := "CliffPlotsModel", name := "sign", desc := "(I)C" } : Jvm.MethodName) ({ cls := "CliffPlotsModel", name := "sign", desc := "(I)C" } : Jvm.MethodName)) ∈ lw_all := lw_g (lw_at lw_m9 15 rfl) rfl
theorem q1993 : (Jvm.Cond.code ({ cls := "CliffPlotsModel", name := "sign", desc := "(I)C" } : Jvm.MethodName) prog_13_method_60_code (3 : Nat) (Option.some Jvm.ClassFile.FieldType.char)) ∈ lw_all := lw_g (lw_at lw_m9 16 rfl) rfl
theorem q1995 : (Jvm.Cond.instanceMethod ({ cls := "CliffPlotsModel", name := "pass", desc := "(I)I" } : Jvm.MethodName)) ∈ lw_all := lw_g (lw_at lw_m9 18 rfl) rfl
theorem q1996 : (Jvm.Cond.selects "CliffPlotsModel" ({ cls := "CliffPlotsModel", name := "pass", desc := "(I)I" } : Jvm.MethodName) ({ cls := "CliffPlotsModel", name := "pass", desc := "(I)I" } : Jvm.MethodName)) ∈ lw_all := lw_g (lw_at lw_m9 19 rfl) rfl
theorem q1997 : (Jvm.Cond.code ({ cls := "CliffPlotsModel", name := "pass", desc := "(I)I" } : Jvm.MethodName) prog_13_method_65_code (2 : Nat) (Option.some Jvm.ClassFile.FieldType.int)) ∈ lw_all := lw_g (lw_at lw_m9 20 rfl) rfl
theorem q1998 : (Jvm.Cond.methodLink "CliffPlotsModel" (203 : Nat) ({ cls := "CliffPlotsModel", name := "passes", desc := "(I)I" } : Jvm.MethodName)) ∈ lw_all := lw_g (lw_at lw_m9 21 rfl) rfl
theorem q1999 : (Jvm.Cond.privateMethod ({ cls := "CliffPlotsModel", name := "passes", desc := "(I)I" } : Jvm.MethodName)) ∈ lw_tbl := lw_at lw_m9 22 rfl
theorem q2000 : (Jvm.Cond.instanceMethod ({ cls := "CliffPlotsModel", name := "passes", desc := "(I)I" } : Jvm.MethodName)) ∈ lw_all := lw_g (lw_at lw_m9 23 rfl) rfl
theorem q2001 : (Jvm.Cond.code ({ cls := "CliffPlotsModel", name := "passes", desc := "(I)I" } : Jvm.MethodName) prog_13_method_64_code (4 : Nat) (Option.some Jvm.ClassFile.FieldType.int)) ∈ lw_all := lw_g (lw_at lw_m9 24 rfl) rfl
theorem q2003 : (Jvm.Cond.instanceMethod ({ cls := "CliffPlotsModel", name := "append", desc := "(C)I" } : Jvm.MethodName)) ∈ lw_all := lw_g (lw_at lw_m9 26 rfl) rfl
theorem q2004 : (Jvm.Cond.selects "CliffPlotsModel" ({ cls := "CliffPlotsModel", name := "append", desc := "(C)I" } : Jvm.MethodName) ({ cls := "CliffPlotsModel", name := "append", desc := "(C)I" } : Jvm.MethodName)) ∈ lw_all := lw_g (lw_at lw_m9 27 rfl) rfl
theorem q2005 : (Jvm.Cond.code ({ cls := "CliffPlotsModel", name := "append", desc := "(C)I" } : Jvm.MethodName) prog_13_method_66_code (2 : Nat) (Option.some Jvm.ClassFile.FieldType.int)) ∈ lw_all := lw_g (lw_at lw_m9 28 rfl) rfl
theorem q2007 : (Jvm.Cond.instanceMethod ({ cls := "CliffPlotsModel", name := "read", desc := "()I" } : Jvm.MethodName)) ∈ lw_all := lw_g (lw_at lw_m9 30 rfl) rfl
theorem q2008 : (Jvm.Cond.selects "CliffPlotsModel" ({ cls := "CliffPlotsModel", name := "read", desc := "()I" } : Jvm.MethodName) ({ cls := "CliffPlotsModel", name := "read", desc := "()I" } : Jvm.MethodName)) ∈ lw_all := lw_g (lw_at lw_m9 31 rfl) rfl
theorem q2009 : (Jvm.Cond.code ({ cls := "CliffPlotsModel", name := "read", desc := "()I" } : Jvm.MethodName) prog_13_method_75_code (4 : Nat) (Option.some Jvm.ClassFile.FieldType.int)) ∈ lw_all := lw_g (lw_at lw_m9 32 rfl) rfl
theorem q2010 : (Jvm.Cond.methodLink "CliffPlotsModel" (233 : Nat) ({ cls := "CliffPlotsModel", name := "readsText", desc := "()I" } : Jvm.MethodName)) ∈ lw_all := lw_g (lw_at lw_m9 33 rfl) rfl
theorem q2011 : (Jvm.Cond.privateMethod ({ cls := "CliffPlotsModel", name := "readsText", desc := "()I" } : Jvm.MethodName)) ∈ lw_tbl := lw_at lw_m9 34 rfl
theorem q2012 : (Jvm.Cond.instanceMethod ({ cls := "CliffPlotsModel", name := "readsText", desc := "()I" } : Jvm.MethodName)) ∈ lw_all := lw_g (lw_at lw_m9 35 rfl) rfl
theorem q2013 : (Jvm.Cond.code ({ cls := "CliffPlotsModel", name := "readsText", desc := "()I" } : Jvm.MethodName) prog_13_method_73_code (3 : Nat) (Option.some Jvm.ClassFile.FieldType.int)) ∈ lw_all := lw_g (lw_at lw_m9 36 rfl) rfl
theorem q2014 : (Jvm.Cond.methodLink "CliffPlotsModel" (230 : Nat) ({ cls := "CliffPlotsModel", name := "readsOrder", desc := "(I)V" } : Jvm.MethodName)) ∈ lw_all := lw_g (lw_at lw_m9 37 rfl) rfl
theorem q2015 : (Jvm.Cond.privateMethod ({ cls := "CliffPlotsModel", name := "readsOrder", desc := "(I)V" } : Jvm.MethodName)) ∈ lw_tbl := lw_at lw_m9 38 rfl
theorem q2016 : (Jvm.Cond.instanceMethod ({ cls := "CliffPlotsModel", name := "readsOrder", desc := "(I)V" } : Jvm.MethodName)) ∈ lw_all := lw_g (lw_at lw_m9 39 rfl) rfl
theorem q2017 : (Jvm.Cond.code ({ cls := "CliffPlotsModel", name := "readsOrder", desc := "(I)V" } : Jvm.MethodName) prog_13_method_72_code (3 : Nat) (Option.none : Option Jvm.ClassFile.FieldType)) ∈ lw_all := lw_g (lw_at lw_m9 40 rfl) rfl
theorem q2018 : (Jvm.Cond.methodLink "CliffPlotsModel" (215 : Nat) ({ cls := "CliffPlotsModel", name := "here", desc := "()I" } : Jvm.MethodName)) ∈ lw_all := lw_g (lw_at lw_m9 41 rfl) rfl
theorem q2019 : (Jvm.Cond.privateMethod ({ cls := "CliffPlotsModel", name := "here", desc := "()I" } : Jvm.MethodName)) ∈ lw_tbl := lw_at lw_m9 42 rfl
theorem q2020 : (Jvm.Cond.instanceMethod ({ cls := "CliffPlotsModel", name := "here", desc := "()I" } : Jvm.MethodName)) ∈ lw_all := lw_g (lw_at lw_m9 43 rfl) rfl
theorem q2021 : (Jvm.Cond.code ({ cls := "CliffPlotsModel", name := "here", desc := "()I" } : Jvm.MethodName) prog_13_method_67_code (1 : Nat) (Option.some Jvm.ClassFile.FieldType.int)) ∈ lw_all := lw_g (lw_at lw_m9 44 rfl) rfl
theorem q2022 : (Jvm.Cond.methodLink "CliffPlotsModel" (221 : Nat) ({ cls := "CliffPlotsModel", name := "isLetter", desc := "(I)Z" } : Jvm.MethodName)) ∈ lw_all := lw_g (lw_at lw_m9 45 rfl) rfl
theorem q2023 : (Jvm.Cond.static ({ cls := "CliffPlotsModel", name := "isLetter", desc := "(I)Z" } : Jvm.MethodName)) ∈ lw_all := lw_g (lw_at lw_m9 46 rfl) rfl
theorem q2024 : (Jvm.Cond.code ({ cls := "CliffPlotsModel", name := "isLetter", desc := "(I)Z" } : Jvm.MethodName) prog_13_method_71_code (1 : Nat) (Option.some Jvm.ClassFile.FieldType.boolean)) ∈ lw_all := lw_g (lw_at lw_m9 47 rfl) rfl
theorem q2025 : (Jvm.Cond.methodLink "CliffPlotsModel" (224 : Nat) ({ cls := "CliffPlotsModel", name := "number", desc := "()I" } : Jvm.MethodName)) ∈ lw_all := lw_g (lw_at lw_m9 48 rfl) rfl
theorem q2026 : (Jvm.Cond.privateMethod ({ cls := "CliffPlotsModel", name := "number", desc := "()I" } : Jvm.MethodName)) ∈ lw_tbl := lw_at lw_m9 49 rfl
theorem q2027 : (Jvm.Cond.instanceMethod ({ cls := "CliffPlotsModel", name := "number", desc := "()I" } : Jvm.MethodName)) ∈ lw_all := lw_g (lw_at lw_m9 50 rfl) rfl
theorem q2028 : (Jvm.Cond.code ({ cls := "CliffPlotsModel", name := "number", desc := "()I" } : Jvm.MethodName) prog_13_method_69_code (2 : Nat) (Option.some Jvm.ClassFile.FieldType.int)) ∈ lw_all := lw_g (lw_at lw_m9 51 rfl) rfl
theorem q2029 : (Jvm.Cond.methodLink "CliffPlotsModel" (218 : Nat) ({ cls := "CliffPlotsModel", name := "digit", desc := "()I" } : Jvm.MethodName)) ∈ lw_all := lw_g (lw_at lw_m9 52 rfl) rfl
theorem q2030 : (Jvm.Cond.privateMethod ({ cls := "CliffPlotsModel", name := "digit", desc := "()I" } : Jvm.MethodName)) ∈ lw_tbl := lw_at lw_m9 53 rfl
theorem q2031 : (Jvm.Cond.instanceMethod ({ cls := "CliffPlotsModel", name := "digit", desc := "()I" } : Jvm.MethodName)) ∈ lw_all := lw_g (lw_at lw_m9 54 rfl) rfl
theorem q2032 : (Jvm.Cond.code ({ cls := "CliffPlotsModel", name := "digit", desc := "()I" } : Jvm.MethodName) prog_13_method_68_code (2 : Nat) (Option.some Jvm.ClassFile.FieldType.int)) ∈ lw_all := lw_g (lw_at lw_m9 55 rfl) rfl
theorem q2033 : (Jvm.Cond.methodLink "CliffPlotsModel" (227 : Nat) ({ cls := "CliffPlotsModel", name := "signRead", desc := "()I" } : Jvm.MethodName)) ∈ lw_all := lw_g (lw_at lw_m9 56 rfl) rfl
theorem q2034 : (Jvm.Cond.privateMethod ({ cls := "CliffPlotsModel", name := "signRead", desc := "()I" } : Jvm.MethodName)) ∈ lw_tbl := lw_at lw_m9 57 rfl
theorem q2035 : (Jvm.Cond.instanceMethod ({ cls := "CliffPlotsModel", name := "signRead", desc := "()I" } : Jvm.MethodName)) ∈ lw_all := lw_g (lw_at lw_m9 58 rfl) rfl
theorem q2036 : (Jvm.Cond.code ({ cls := "CliffPlotsModel", name := "signRead", desc := "()I" } : Jvm.MethodName) prog_13_method_70_code (2 : Nat) (Option.some Jvm.ClassFile.FieldType.int)) ∈ lw_all := lw_g (lw_at lw_m9 59 rfl) rfl
theorem q2037 : (Jvm.Cond.methodLink "CliffPlotsModel" (236 : Nat) ({ cls := "CliffPlotsModel", name := "does", desc := "(I)I" } : Jvm.MethodName)) ∈ lw_all := lw_g (lw_at lw_m9 60 rfl) rfl
theorem q2038 : (Jvm.Cond.privateMethod ({ cls := "CliffPlotsModel", name := "does", desc := "(I)I" } : Jvm.MethodName)) ∈ lw_tbl := lw_at lw_m9 61 rfl
theorem q2039 : (Jvm.Cond.instanceMethod ({ cls := "CliffPlotsModel", name := "does", desc := "(I)I" } : Jvm.MethodName)) ∈ lw_all := lw_g (lw_at lw_m9 62 rfl) rfl
theorem q2040 : (Jvm.Cond.code ({ cls := "CliffPlotsModel", name := "does", desc := "(I)I" } : Jvm.MethodName) prog_13_method_74_code (3 : Nat) (Option.some Jvm.ClassFile.FieldType.int)) ∈ lw_all := lw_g (lw_at lw_m9 63 rfl) rfl
theorem q2042 : (Jvm.Cond.instanceMethod ({ cls := "CliffPlotsModel", name := "errorPosition", desc := "()I" } : Jvm.MethodName)) ∈ lw_all := lw_g (lw_at lw_m9 65 rfl) rfl
theorem q2043 : (Jvm.Cond.selects "CliffPlotsModel" ({ cls := "CliffPlotsModel", name := "errorPosition", desc := "()I" } : Jvm.MethodName) ({ cls := "CliffPlotsModel", name := "errorPosition", desc := "()I" } : Jvm.MethodName)) ∈ lw_all := lw_g (lw_at lw_m9 66 rfl) rfl
theorem q2044 : (Jvm.Cond.code ({ cls := "CliffPlotsModel", name := "errorPosition", desc := "()I" } : Jvm.MethodName) prog_13_method_76_code (1 : Nat) (Option.some Jvm.ClassFile.FieldType.int)) ∈ lw_all := lw_g (lw_at lw_m9 67 rfl) rfl
theorem q2046 : (Jvm.Cond.instanceMethod ({ cls := "CliffPlotsModel", name := "refusal", desc := "(Z)I" } : Jvm.MethodName)) ∈ lw_all := lw_g (lw_at lw_m9 69 rfl) rfl
theorem q2047 : (Jvm.Cond.selects "CliffPlotsModel" ({ cls := "CliffPlotsModel", name := "refusal", desc := "(Z)I" } : Jvm.MethodName) ({ cls := "CliffPlotsModel", name := "refusal", desc := "(Z)I" } : Jvm.MethodName)) ∈ lw_all := lw_g (lw_at lw_m9 70 rfl) rfl
theorem q2048 : (Jvm.Cond.code ({ cls := "CliffPlotsModel", name := "refusal", desc := "(Z)I" } : Jvm.MethodName) prog_13_method_77_code (2 : Nat) (Option.some Jvm.ClassFile.FieldType.int)) ∈ lw_all := lw_g (lw_at lw_m9 71 rfl) rfl
theorem q2050 : (Jvm.Cond.instanceMethod ({ cls := "CliffPlotsModel", name := "account", desc := "(I)I" } : Jvm.MethodName)) ∈ lw_all := lw_g (lw_at lw_m9 73 rfl) rfl
theorem q2051 : (Jvm.Cond.selects "CliffPlotsModel" ({ cls := "CliffPlotsModel", name := "account", desc := "(I)I" } : Jvm.MethodName) ({ cls := "CliffPlotsModel", name := "account", desc := "(I)I" } : Jvm.MethodName)) ∈ lw_all := lw_g (lw_at lw_m9 74 rfl) rfl
theorem q2052 : (Jvm.Cond.code ({ cls := "CliffPlotsModel", name := "account", desc := "(I)I" } : Jvm.MethodName) prog_13_method_80_code (2 : Nat) (Option.some Jvm.ClassFile.FieldType.int)) ∈ lw_all := lw_g (lw_at lw_m9 75 rfl) rfl
theorem q2053 : (Jvm.Cond.methodLink "CliffPlotsModel" (239 : Nat) ({ cls := "CliffPlotsModel", name := "crops", desc := "()I" } : Jvm.MethodName)) ∈ lw_all := lw_g (lw_at lw_m9 76 rfl) rfl
theorem q2054 : (Jvm.Cond.privateMethod ({ cls := "CliffPlotsModel", name := "crops", desc := "()I" } : Jvm.MethodName)) ∈ lw_tbl := lw_at lw_m9 77 rfl
theorem q2055 : (Jvm.Cond.instanceMethod ({ cls := "CliffPlotsModel", name := "crops", desc := "()I" } : Jvm.MethodName)) ∈ lw_all := lw_g (lw_at lw_m9 78 rfl) rfl
theorem q2056 : (Jvm.Cond.code ({ cls := "CliffPlotsModel", name := "crops", desc := "()I" } : Jvm.MethodName) prog_13_method_78_code (3 : Nat) (Option.some Jvm.ClassFile.FieldType.int)) ∈ lw_all := lw_g (lw_at lw_m9 79 rfl) rfl
theorem q2057 : (Jvm.Cond.methodLink "CliffPlotsModel" (242 : Nat) ({ cls := "CliffPlotsModel", name := "onBenches", desc := "()I" } : Jvm.MethodName)) ∈ lw_all := lw_g (lw_at lw_m9 80 rfl) rfl
theorem q2058 : (Jvm.Cond.privateMethod ({ cls := "CliffPlotsModel", name := "onBenches", desc := "()I" } : Jvm.MethodName)) ∈ lw_tbl := lw_at lw_m9 81 rfl
theorem q2059 : (Jvm.Cond.instanceMethod ({ cls := "CliffPlotsModel", name := "onBenches", desc := "()I" } : Jvm.MethodName)) ∈ lw_all := lw_g (lw_at lw_m9 82 rfl) rfl
theorem q2060 : (Jvm.Cond.code ({ cls := "CliffPlotsModel", name := "onBenches", desc := "()I" } : Jvm.MethodName) prog_13_method_79_code (3 : Nat) (Option.some Jvm.ClassFile.FieldType.int)) ∈ lw_all := lw_g (lw_at lw_m9 83 rfl) rfl
theorem q2062 : (Jvm.Cond.instanceMethod ({ cls := "CliffPlotsModel", name := "isWell", desc := "()Z" } : Jvm.MethodName)) ∈ lw_all := lw_g (lw_at lw_m9 85 rfl) rfl
theorem q2063 : (Jvm.Cond.selects "CliffPlotsModel" ({ cls := "CliffPlotsModel", name := "isWell", desc := "()Z" } : Jvm.MethodName) ({ cls := "CliffPlotsModel", name := "isWell", desc := "()Z" } : Jvm.MethodName)) ∈ lw_all := lw_g (lw_at lw_m9 86 rfl) rfl
theorem q2064 : (Jvm.Cond.code ({ cls := "CliffPlotsModel", name := "isWell", desc := "()Z" } : Jvm.MethodName) prog_13_method_81_code (5 : Nat) (Option.some Jvm.ClassFile.FieldType.boolean)) ∈ lw_all := lw_g (lw_at lw_m9 87 rfl) rfl
theorem q2066 : (Jvm.Cond.instanceMethod ({ cls := "CliffPlotsModel", name := "meanBits", desc := "()J" } : Jvm.MethodName)) ∈ lw_all := lw_g (lw_at lw_m9 89 rfl) rfl
theorem q2067 : (Jvm.Cond.selects "CliffPlotsModel" ({ cls := "CliffPlotsModel", name := "meanBits", desc := "()J" } : Jvm.MethodName) ({ cls := "CliffPlotsModel", name := "meanBits", desc := "()J" } : Jvm.MethodName)) ∈ lw_all := lw_g (lw_at lw_m9 90 rfl) rfl
theorem q2068 : (Jvm.Cond.code ({ cls := "CliffPlotsModel", name := "meanBits", desc := "()J" } : Jvm.MethodName) prog_13_method_82_code (4 : Nat) (Option.some Jvm.ClassFile.FieldType.long)) ∈ lw_all := lw_g (lw_at lw_m9 91 rfl) rfl
theorem q2069 : (Jvm.Cond.constantDouble "CliffPlotsModel" (245 : Nat) (4622945017495814144 : UInt64)) ∈ lw_all := lw_g (lw_at lw_m9 92 rfl) rfl
theorem q2070 : (Jvm.Cond.methodLink "CliffPlotsModel" (247 : Nat) ({ cls := "java/lang/Double", name := "doubleToLongBits", desc := "(D)J" } : Jvm.MethodName)) ∈ lw_all := lw_g (lw_at lw_m9 93 rfl) rfl
theorem q2072 : (Jvm.Cond.instanceMethod ({ cls := "CliffPlotsModel", name := "dug", desc := "()F" } : Jvm.MethodName)) ∈ lw_all := lw_g (lw_at lw_m9 95 rfl) rfl
theorem q2073 : (Jvm.Cond.selects "CliffPlotsModel" ({ cls := "CliffPlotsModel", name := "dug", desc := "()F" } : Jvm.MethodName) ({ cls := "CliffPlotsModel", name := "dug", desc := "()F" } : Jvm.MethodName)) ∈ lw_all := lw_g (lw_at lw_m9 96 rfl) rfl
theorem q2074 : (Jvm.Cond.code ({ cls := "CliffPlotsModel", name := "dug", desc := "()F" } : Jvm.MethodName) prog_13_method_83_code (1 : Nat) (Option.some Jvm.ClassFile.FieldType.float)) ∈ lw_all := lw_g (lw_at lw_m9 97 rfl) rfl
theorem q2075 : (Jvm.Cond.constantFloat "CliffPlotsModel" (253 : Nat) (1094713344 : UInt32)) ∈ lw_all := lw_g (lw_at lw_m9 98 rfl) rfl
theorem q2077 : (Jvm.Cond.instanceMethod ({ cls := "CliffPlotsModel", name := "undo", desc := "()I" } : Jvm.MethodName)) ∈ lw_all := lw_g (lw_at lw_m9 100 rfl) rfl
theorem q2078 : (Jvm.Cond.selects "CliffPlotsModel" ({ cls := "CliffPlotsModel", name := "undo", desc := "()I" } : Jvm.MethodName) ({ cls := "CliffPlotsModel", name := "undo", desc := "()I" } : Jvm.MethodName)) ∈ lw_all := lw_g (lw_at lw_m9 101 rfl) rfl
theorem q2079 : (Jvm.Cond.code ({ cls := "CliffPlotsModel", name := "undo", desc := "()I" } : Jvm.MethodName) prog_13_method_84_code (1 : Nat) (Option.some Jvm.ClassFile.FieldType.int)) ∈ lw_all := lw_g (lw_at lw_m9 102 rfl) rfl
theorem q2081 : (Jvm.Cond.instanceMethod ({ cls := "CliffPlotsModel", name := "save", desc := "()I" } : Jvm.MethodName)) ∈ lw_all := lw_g (lw_at lw_m9 104 rfl) rfl
theorem q2082 : (Jvm.Cond.selects "CliffPlotsModel" ({ cls := "CliffPlotsModel", name := "save", desc := "()I" } : Jvm.MethodName) ({ cls := "CliffPlotsModel", name := "save", desc := "()I" } : Jvm.MethodName)) ∈ lw_all := lw_g (lw_at lw_m9 105 rfl) rfl
theorem q2083 : (Jvm.Cond.code ({ cls := "CliffPlotsModel", name := "save", desc := "()I" } : Jvm.MethodName) prog_13_method_85_code (1 : Nat) (Option.some Jvm.ClassFile.FieldType.int)) ∈ lw_all := lw_g (lw_at lw_m9 106 rfl) rfl
theorem q2085 : (Jvm.Cond.instanceMethod ({ cls := "CliffPlotsModel", name := "restore", desc := "()I" } : Jvm.MethodName)) ∈ lw_all := lw_g (lw_at lw_m9 108 rfl) rfl
theorem q2086 : (Jvm.Cond.selects "CliffPlotsModel" ({ cls := "CliffPlotsModel", name := "restore", desc := "()I" } : Jvm.MethodName) ({ cls := "CliffPlotsModel", name := "restore", desc := "()I" } : Jvm.MethodName)) ∈ lw_all := lw_g (lw_at lw_m9 109 rfl) rfl
theorem q2087 : (Jvm.Cond.code ({ cls := "CliffPlotsModel", name := "restore", desc := "()I" } : Jvm.MethodName) prog_13_method_86_code (1 : Nat) (Option.some Jvm.ClassFile.FieldType.int)) ∈ lw_all := lw_g (lw_at lw_m9 110 rfl) rfl
theorem q2119 : (Jvm.Cond.castable "CliffPlotsModel" "java/lang/Object") ∈ lw_tbl := lw_at lw_m9 142 rfl
theorem in_X10 : ∀ w ∈ wsX100, w ∈ lw_all := lw_in wsX100 [1696, 1698, 1700, 1702, 1704, 1706, 1708, 1710, 1712, 1714, 1716, 1718, 1720, 1722, 1724, 1726, 1728, 1730, 1732, 1734, 1736, 1738] (by decide +kernel) (by decide +kernel)
