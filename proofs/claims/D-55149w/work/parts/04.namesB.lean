/-! CliffPlots$Cliff -/
set_option maxRecDepth 100000
def RX2 : String := "CliffPlots$Cliff"
def TX2 : u_T := fun k => match k with
  | 0 => ("CliffPlots$Cliff", "water", "[F", true)
  | 1 => ("CliffPlots$Cliff", "moles", "[I", true)
  | 2 => ("CliffPlots$Cliff", "dugBy", "[I", true)
  | 3 => ("CliffPlots$Cliff", "crops", "[LCliffPlots$Plant;", true)
  | 4 => ("CliffPlots$Cliff", "spareMarrows", "[LCliffPlots$Plant;", true)
  | 5 => ("CliffPlots$Cliff", "spareBeans", "[LCliffPlots$Plant;", true)
  | 6 => ("CliffPlots$Cliff", "marrows", "[LCliffPlots$Plant;", true)
  | 7 => ("CliffPlots$Cliff", "beans", "[LCliffPlots$Plant;", true)
  | 8 => ("CliffPlots$Cliff", "members", "[LCliffPlots$Member;", true)
  | 9 => ("CliffPlots$Cliff", "sheds", "[LCliffPlots$Shed;", true)
  | 10 => ("CliffPlots$Cliff", "prizes", "[LCliffPlots$Prize;", true)
  | 11 => ("CliffPlots$Cliff", "memberMany", "I", false)
  | 12 => ("CliffPlots$Cliff", "shedMany", "I", false)
  | 13 => ("CliffPlots$Cliff", "prizeMany", "I", false)
  | 14 => ("CliffPlots$Cliff", "wind", "I", false)
  | 15 => ("CliffPlots$Cliff", "rain", "I", false)
  | 16 => ("CliffPlots$Cliff", "day", "I", false)
  | 17 => ("CliffPlots$Cliff", "seedlings", "I", false)
  | 18 => ("CliffPlots$Cliff", "harvests", "I", false)
  | _ => ("CliffPlots$Cliff", "trapped", "I", false)
def tyX2 : Nat → FieldType := fun k => match k with
  | 0 => .array .float
  | 1 => .array .int
  | 2 => .array .int
  | 3 => .array (.object "CliffPlots$Plant")
  | 4 => .array (.object "CliffPlots$Plant")
  | 5 => .array (.object "CliffPlots$Plant")
  | 6 => .array (.object "CliffPlots$Plant")
  | 7 => .array (.object "CliffPlots$Plant")
  | 8 => .array (.object "CliffPlots$Member")
  | 9 => .array (.object "CliffPlots$Shed")
  | 10 => .array (.object "CliffPlots$Prize")
  | 11 => .int
  | 12 => .int
  | 13 => .int
  | 14 => .int
  | 15 => .int
  | 16 => .int
  | 17 => .int
  | 18 => .int
  | _ => .int
abbrev wsX20 : List Cond := u_ws RX2 TX2 20
set_option maxRecDepth 100000 in
theorem nmX2 : ∀ a, a < 20 → ∀ b, b < 20 → a ≠ b → (TX2 a).2.1 ≠ (TX2 b).2.1 := by decide +kernel
set_option maxRecDepth 100000 in
theorem tyX2_ok : ∀ k, k < 20 → parseFieldDescriptor (TX2 k).2.2.1 = some (tyX2 k) := by decide +kernel
abbrev cX2_init : ByteArray := prog_3_method_1_code
def yX2_init : MethodName := ⟨RX2, "<init>", "()V"⟩
def dkwX2_init_11 : List UInt8 := [177]
abbrev dktX2_init_11 : List UInt8 := dkwX2_init_11 ++ []
def dkwX2_init_10 : List UInt8 := [27, 8, 163, 0, 22, 42, 180, 0, 58, 27, 187, 0, 56, 89, 183, 0, 74, 83, 132, 1, 1, 167, 255, 235]
abbrev dktX2_init_10 : List UInt8 := dkwX2_init_10 ++ dktX2_init_11
def dkwX2_init_9 : List UInt8 := [162, 0, 22, 42, 180, 0, 52, 27, 187, 0, 50, 89, 183, 0, 73, 83, 132, 1, 1, 167, 255, 235, 3, 60]
abbrev dktX2_init_9 : List UInt8 := dkwX2_init_9 ++ dktX2_init_10
def dkwX2_init_8 : List UInt8 := [180, 0, 46, 27, 187, 0, 44, 89, 183, 0, 72, 83, 132, 1, 1, 167, 255, 234, 3, 60, 27, 7]
abbrev dktX2_init_8 : List UInt8 := dkwX2_init_8 ++ dktX2_init_9
def dkwX2_init_7 : List UInt8 := [187, 0, 39, 89, 183, 0, 71, 83, 132, 1, 1, 167, 255, 221, 3, 60, 27, 16, 6, 162, 0, 22, 42]
abbrev dktX2_init_7 : List UInt8 := dkwX2_init_7 ++ dktX2_init_8
def dkwX2_init_6 : List UInt8 := [16, 18, 162, 0, 35, 42, 180, 0, 28, 27, 187, 0, 34, 89, 183, 0, 70, 83, 42, 180, 0, 31, 27]
abbrev dktX2_init_6 : List UInt8 := dkwX2_init_6 ++ dktX2_init_7
def dkwX2_init_5 : List UInt8 := [180, 0, 9, 27, 18, 69, 81, 42, 180, 0, 19, 27, 2, 79, 132, 1, 1, 167, 255, 232, 3, 60, 27]
abbrev dktX2_init_5 : List UInt8 := dkwX2_init_5 ++ dktX2_init_6
def dkwX2_init_4 : List UInt8 := [181, 0, 58, 42, 7, 181, 0, 62, 42, 5, 181, 0, 66, 3, 60, 27, 16, 12, 162, 0, 24, 42]
abbrev dktX2_init_4 : List UInt8 := dkwX2_init_4 ++ dktX2_init_5
def dkwX2_init_3 : List UInt8 := [42, 16, 6, 189, 0, 44, 181, 0, 46, 42, 7, 189, 0, 50, 181, 0, 52, 42, 16, 6, 189, 0, 56]
abbrev dktX2_init_3 : List UInt8 := dkwX2_init_3 ++ dktX2_init_4
def dkwX2_init_2 : List UInt8 := [16, 18, 189, 0, 22, 181, 0, 31, 42, 8, 189, 0, 34, 181, 0, 36, 42, 8, 189, 0, 39, 181, 0, 41]
abbrev dktX2_init_2 : List UInt8 := dkwX2_init_2 ++ dktX2_init_3
def dkwX2_init_1 : List UInt8 := [188, 10, 181, 0, 19, 42, 16, 12, 189, 0, 22, 181, 0, 24, 42, 16, 18, 189, 0, 22, 181, 0, 28, 42]
abbrev dktX2_init_1 : List UInt8 := dkwX2_init_1 ++ dktX2_init_2
def dkwX2_init_0 : List UInt8 := [42, 183, 0, 3, 42, 16, 12, 188, 6, 181, 0, 9, 42, 16, 12, 188, 10, 181, 0, 15, 42, 16, 12]
abbrev dktX2_init_0 : List UInt8 := dkwX2_init_0 ++ dktX2_init_1
theorem dksX2_init_0 : cX2_init.data.toList.drop 0 = dktX2_init_0 := by decide +kernel
theorem dksX2_init_1 : cX2_init.data.toList.drop 23 = dktX2_init_1 := dk_seg dksX2_init_0 23 rfl rfl
theorem dksX2_init_2 : cX2_init.data.toList.drop 47 = dktX2_init_2 := dk_seg dksX2_init_1 24 rfl rfl
theorem dksX2_init_3 : cX2_init.data.toList.drop 71 = dktX2_init_3 := dk_seg dksX2_init_2 24 rfl rfl
theorem dksX2_init_4 : cX2_init.data.toList.drop 94 = dktX2_init_4 := dk_seg dksX2_init_3 23 rfl rfl
theorem dksX2_init_5 : cX2_init.data.toList.drop 116 = dktX2_init_5 := dk_seg dksX2_init_4 22 rfl rfl
theorem dksX2_init_6 : cX2_init.data.toList.drop 139 = dktX2_init_6 := dk_seg dksX2_init_5 23 rfl rfl
theorem dksX2_init_7 : cX2_init.data.toList.drop 162 = dktX2_init_7 := dk_seg dksX2_init_6 23 rfl rfl
theorem dksX2_init_8 : cX2_init.data.toList.drop 185 = dktX2_init_8 := dk_seg dksX2_init_7 23 rfl rfl
theorem dksX2_init_9 : cX2_init.data.toList.drop 207 = dktX2_init_9 := dk_seg dksX2_init_8 22 rfl rfl
theorem dksX2_init_10 : cX2_init.data.toList.drop 231 = dktX2_init_10 := dk_seg dksX2_init_9 24 rfl rfl
theorem dksX2_init_11 : cX2_init.data.toList.drop 255 = dktX2_init_11 := dk_seg dksX2_init_10 24 rfl rfl
theorem dX2_init_0 : decode cX2_init 0 = .ok (.aload_n 0, 1) := dk_42 (dk_at dksX2_init_0 0 rfl rfl)
theorem dX2_init_1 : decode cX2_init 1 = .ok (.invokespecial 3, 3) := dk_183 0 3 (dk_at dksX2_init_0 1 rfl rfl)
theorem dX2_init_4 : decode cX2_init 4 = .ok (.aload_n 0, 1) := dk_42 (dk_at dksX2_init_0 4 rfl rfl)
theorem dX2_init_5 : decode cX2_init 5 = .ok (.bipush 12, 2) := dk_16 12 (dk_at dksX2_init_0 5 rfl rfl)
theorem dX2_init_7 : decode cX2_init 7 = .ok (.newarray .float, 2) := dk_188_6 (dk_at dksX2_init_0 7 rfl rfl)
theorem dX2_init_9 : decode cX2_init 9 = .ok (.putfield 9, 3) := dk_181 0 9 (dk_at dksX2_init_0 9 rfl rfl)
theorem dX2_init_12 : decode cX2_init 12 = .ok (.aload_n 0, 1) := dk_42 (dk_at dksX2_init_0 12 rfl rfl)
theorem dX2_init_13 : decode cX2_init 13 = .ok (.bipush 12, 2) := dk_16 12 (dk_at dksX2_init_0 13 rfl rfl)
theorem dX2_init_15 : decode cX2_init 15 = .ok (.newarray .int, 2) := dk_188_10 (dk_at dksX2_init_0 15 rfl rfl)
theorem dX2_init_17 : decode cX2_init 17 = .ok (.putfield 15, 3) := dk_181 0 15 (dk_at dksX2_init_0 17 rfl rfl)
theorem dX2_init_20 : decode cX2_init 20 = .ok (.aload_n 0, 1) := dk_42 (dk_at dksX2_init_0 20 rfl rfl)
theorem dX2_init_21 : decode cX2_init 21 = .ok (.bipush 12, 2) := dk_16 12 (dk_at dksX2_init_0 21 rfl rfl)
theorem dX2_init_23 : decode cX2_init 23 = .ok (.newarray .int, 2) := dk_188_10 (dk_at dksX2_init_1 0 rfl rfl)
theorem dX2_init_25 : decode cX2_init 25 = .ok (.putfield 19, 3) := dk_181 0 19 (dk_at dksX2_init_1 2 rfl rfl)
theorem dX2_init_28 : decode cX2_init 28 = .ok (.aload_n 0, 1) := dk_42 (dk_at dksX2_init_1 5 rfl rfl)
theorem dX2_init_29 : decode cX2_init 29 = .ok (.bipush 12, 2) := dk_16 12 (dk_at dksX2_init_1 6 rfl rfl)
theorem dX2_init_31 : decode cX2_init 31 = .ok (.anewarray 22, 3) := dk_189 0 22 (dk_at dksX2_init_1 8 rfl rfl)
theorem dX2_init_34 : decode cX2_init 34 = .ok (.putfield 24, 3) := dk_181 0 24 (dk_at dksX2_init_1 11 rfl rfl)
theorem dX2_init_37 : decode cX2_init 37 = .ok (.aload_n 0, 1) := dk_42 (dk_at dksX2_init_1 14 rfl rfl)
theorem dX2_init_38 : decode cX2_init 38 = .ok (.bipush 18, 2) := dk_16 18 (dk_at dksX2_init_1 15 rfl rfl)
theorem dX2_init_40 : decode cX2_init 40 = .ok (.anewarray 22, 3) := dk_189 0 22 (dk_at dksX2_init_1 17 rfl rfl)
theorem dX2_init_43 : decode cX2_init 43 = .ok (.putfield 28, 3) := dk_181 0 28 (dk_at dksX2_init_1 20 rfl rfl)
theorem dX2_init_46 : decode cX2_init 46 = .ok (.aload_n 0, 1) := dk_42 (dk_at dksX2_init_1 23 rfl rfl)
theorem dX2_init_47 : decode cX2_init 47 = .ok (.bipush 18, 2) := dk_16 18 (dk_at dksX2_init_2 0 rfl rfl)
theorem dX2_init_49 : decode cX2_init 49 = .ok (.anewarray 22, 3) := dk_189 0 22 (dk_at dksX2_init_2 2 rfl rfl)
theorem dX2_init_52 : decode cX2_init 52 = .ok (.putfield 31, 3) := dk_181 0 31 (dk_at dksX2_init_2 5 rfl rfl)
theorem dX2_init_55 : decode cX2_init 55 = .ok (.aload_n 0, 1) := dk_42 (dk_at dksX2_init_2 8 rfl rfl)
theorem dX2_init_56 : decode cX2_init 56 = .ok (.iconst 5, 1) := dk_8 (dk_at dksX2_init_2 9 rfl rfl)
theorem dX2_init_57 : decode cX2_init 57 = .ok (.anewarray 34, 3) := dk_189 0 34 (dk_at dksX2_init_2 10 rfl rfl)
theorem dX2_init_60 : decode cX2_init 60 = .ok (.putfield 36, 3) := dk_181 0 36 (dk_at dksX2_init_2 13 rfl rfl)
theorem dX2_init_63 : decode cX2_init 63 = .ok (.aload_n 0, 1) := dk_42 (dk_at dksX2_init_2 16 rfl rfl)
theorem dX2_init_64 : decode cX2_init 64 = .ok (.iconst 5, 1) := dk_8 (dk_at dksX2_init_2 17 rfl rfl)
theorem dX2_init_65 : decode cX2_init 65 = .ok (.anewarray 39, 3) := dk_189 0 39 (dk_at dksX2_init_2 18 rfl rfl)
theorem dX2_init_68 : decode cX2_init 68 = .ok (.putfield 41, 3) := dk_181 0 41 (dk_at dksX2_init_2 21 rfl rfl)
theorem dX2_init_71 : decode cX2_init 71 = .ok (.aload_n 0, 1) := dk_42 (dk_at dksX2_init_3 0 rfl rfl)
theorem dX2_init_72 : decode cX2_init 72 = .ok (.bipush 6, 2) := dk_16 6 (dk_at dksX2_init_3 1 rfl rfl)
theorem dX2_init_74 : decode cX2_init 74 = .ok (.anewarray 44, 3) := dk_189 0 44 (dk_at dksX2_init_3 3 rfl rfl)
theorem dX2_init_77 : decode cX2_init 77 = .ok (.putfield 46, 3) := dk_181 0 46 (dk_at dksX2_init_3 6 rfl rfl)
theorem dX2_init_80 : decode cX2_init 80 = .ok (.aload_n 0, 1) := dk_42 (dk_at dksX2_init_3 9 rfl rfl)
theorem dX2_init_81 : decode cX2_init 81 = .ok (.iconst 4, 1) := dk_7 (dk_at dksX2_init_3 10 rfl rfl)
theorem dX2_init_82 : decode cX2_init 82 = .ok (.anewarray 50, 3) := dk_189 0 50 (dk_at dksX2_init_3 11 rfl rfl)
theorem dX2_init_85 : decode cX2_init 85 = .ok (.putfield 52, 3) := dk_181 0 52 (dk_at dksX2_init_3 14 rfl rfl)
theorem dX2_init_88 : decode cX2_init 88 = .ok (.aload_n 0, 1) := dk_42 (dk_at dksX2_init_3 17 rfl rfl)
theorem dX2_init_89 : decode cX2_init 89 = .ok (.bipush 6, 2) := dk_16 6 (dk_at dksX2_init_3 18 rfl rfl)
theorem dX2_init_91 : decode cX2_init 91 = .ok (.anewarray 56, 3) := dk_189 0 56 (dk_at dksX2_init_3 20 rfl rfl)
theorem dX2_init_94 : decode cX2_init 94 = .ok (.putfield 58, 3) := dk_181 0 58 (dk_at dksX2_init_4 0 rfl rfl)
theorem dX2_init_97 : decode cX2_init 97 = .ok (.aload_n 0, 1) := dk_42 (dk_at dksX2_init_4 3 rfl rfl)
theorem dX2_init_98 : decode cX2_init 98 = .ok (.iconst 4, 1) := dk_7 (dk_at dksX2_init_4 4 rfl rfl)
theorem dX2_init_99 : decode cX2_init 99 = .ok (.putfield 62, 3) := dk_181 0 62 (dk_at dksX2_init_4 5 rfl rfl)
theorem dX2_init_102 : decode cX2_init 102 = .ok (.aload_n 0, 1) := dk_42 (dk_at dksX2_init_4 8 rfl rfl)
theorem dX2_init_103 : decode cX2_init 103 = .ok (.iconst 2, 1) := dk_5 (dk_at dksX2_init_4 9 rfl rfl)
theorem dX2_init_104 : decode cX2_init 104 = .ok (.putfield 66, 3) := dk_181 0 66 (dk_at dksX2_init_4 10 rfl rfl)
theorem dX2_init_107 : decode cX2_init 107 = .ok (.iconst 0, 1) := dk_3 (dk_at dksX2_init_4 13 rfl rfl)
theorem dX2_init_108 : decode cX2_init 108 = .ok (.istore_n 1, 1) := dk_60 (dk_at dksX2_init_4 14 rfl rfl)
theorem dX2_init_109 : decode cX2_init 109 = .ok (.iload_n 1, 1) := dk_27 (dk_at dksX2_init_4 15 rfl rfl)
theorem dX2_init_110 : decode cX2_init 110 = .ok (.bipush 12, 2) := dk_16 12 (dk_at dksX2_init_4 16 rfl rfl)
theorem dX2_init_112 : decode cX2_init 112 = .ok (.if_icmp .ge 24, 3) := dk_162 0 24 (dk_at dksX2_init_4 18 rfl rfl)
theorem dX2_init_115 : decode cX2_init 115 = .ok (.aload_n 0, 1) := dk_42 (dk_at dksX2_init_4 21 rfl rfl)
theorem dX2_init_116 : decode cX2_init 116 = .ok (.getfield 9, 3) := dk_180 0 9 (dk_at dksX2_init_5 0 rfl rfl)
theorem dX2_init_119 : decode cX2_init 119 = .ok (.iload_n 1, 1) := dk_27 (dk_at dksX2_init_5 3 rfl rfl)
theorem dX2_init_120 : decode cX2_init 120 = .ok (.ldc 69, 2) := dk_18 69 (dk_at dksX2_init_5 4 rfl rfl)
theorem dX2_init_122 : decode cX2_init 122 = .ok (.fastore, 1) := dk_81 (dk_at dksX2_init_5 6 rfl rfl)
theorem dX2_init_123 : decode cX2_init 123 = .ok (.aload_n 0, 1) := dk_42 (dk_at dksX2_init_5 7 rfl rfl)
theorem dX2_init_124 : decode cX2_init 124 = .ok (.getfield 19, 3) := dk_180 0 19 (dk_at dksX2_init_5 8 rfl rfl)
theorem dX2_init_127 : decode cX2_init 127 = .ok (.iload_n 1, 1) := dk_27 (dk_at dksX2_init_5 11 rfl rfl)
theorem dX2_init_128 : decode cX2_init 128 = .ok (.iconst (-1), 1) := dk_2 (dk_at dksX2_init_5 12 rfl rfl)
theorem dX2_init_129 : decode cX2_init 129 = .ok (.iastore, 1) := dk_79 (dk_at dksX2_init_5 13 rfl rfl)
theorem dX2_init_130 : decode cX2_init 130 = .ok (.iinc 1 1, 3) := dk_132 1 1 (dk_at dksX2_init_5 14 rfl rfl)
theorem dX2_init_133 : decode cX2_init 133 = .ok (.goto (-24), 3) := dk_167 255 232 (dk_at dksX2_init_5 17 rfl rfl)
theorem dX2_init_136 : decode cX2_init 136 = .ok (.iconst 0, 1) := dk_3 (dk_at dksX2_init_5 20 rfl rfl)
theorem dX2_init_137 : decode cX2_init 137 = .ok (.istore_n 1, 1) := dk_60 (dk_at dksX2_init_5 21 rfl rfl)
theorem dX2_init_138 : decode cX2_init 138 = .ok (.iload_n 1, 1) := dk_27 (dk_at dksX2_init_5 22 rfl rfl)
theorem dX2_init_139 : decode cX2_init 139 = .ok (.bipush 18, 2) := dk_16 18 (dk_at dksX2_init_6 0 rfl rfl)
theorem dX2_init_141 : decode cX2_init 141 = .ok (.if_icmp .ge 35, 3) := dk_162 0 35 (dk_at dksX2_init_6 2 rfl rfl)
theorem dX2_init_144 : decode cX2_init 144 = .ok (.aload_n 0, 1) := dk_42 (dk_at dksX2_init_6 5 rfl rfl)
theorem dX2_init_145 : decode cX2_init 145 = .ok (.getfield 28, 3) := dk_180 0 28 (dk_at dksX2_init_6 6 rfl rfl)
theorem dX2_init_148 : decode cX2_init 148 = .ok (.iload_n 1, 1) := dk_27 (dk_at dksX2_init_6 9 rfl rfl)
theorem dX2_init_149 : decode cX2_init 149 = .ok (.new 34, 3) := dk_187 0 34 (dk_at dksX2_init_6 10 rfl rfl)
theorem dX2_init_152 : decode cX2_init 152 = .ok (.dup, 1) := dk_89 (dk_at dksX2_init_6 13 rfl rfl)
theorem dX2_init_153 : decode cX2_init 153 = .ok (.invokespecial 70, 3) := dk_183 0 70 (dk_at dksX2_init_6 14 rfl rfl)
theorem dX2_init_156 : decode cX2_init 156 = .ok (.aastore, 1) := dk_83 (dk_at dksX2_init_6 17 rfl rfl)
theorem dX2_init_157 : decode cX2_init 157 = .ok (.aload_n 0, 1) := dk_42 (dk_at dksX2_init_6 18 rfl rfl)
theorem dX2_init_158 : decode cX2_init 158 = .ok (.getfield 31, 3) := dk_180 0 31 (dk_at dksX2_init_6 19 rfl rfl)
theorem dX2_init_161 : decode cX2_init 161 = .ok (.iload_n 1, 1) := dk_27 (dk_at dksX2_init_6 22 rfl rfl)
theorem dX2_init_162 : decode cX2_init 162 = .ok (.new 39, 3) := dk_187 0 39 (dk_at dksX2_init_7 0 rfl rfl)
theorem dX2_init_165 : decode cX2_init 165 = .ok (.dup, 1) := dk_89 (dk_at dksX2_init_7 3 rfl rfl)
theorem dX2_init_166 : decode cX2_init 166 = .ok (.invokespecial 71, 3) := dk_183 0 71 (dk_at dksX2_init_7 4 rfl rfl)
theorem dX2_init_169 : decode cX2_init 169 = .ok (.aastore, 1) := dk_83 (dk_at dksX2_init_7 7 rfl rfl)
theorem dX2_init_170 : decode cX2_init 170 = .ok (.iinc 1 1, 3) := dk_132 1 1 (dk_at dksX2_init_7 8 rfl rfl)
theorem dX2_init_173 : decode cX2_init 173 = .ok (.goto (-35), 3) := dk_167 255 221 (dk_at dksX2_init_7 11 rfl rfl)
theorem dX2_init_176 : decode cX2_init 176 = .ok (.iconst 0, 1) := dk_3 (dk_at dksX2_init_7 14 rfl rfl)
theorem dX2_init_177 : decode cX2_init 177 = .ok (.istore_n 1, 1) := dk_60 (dk_at dksX2_init_7 15 rfl rfl)
theorem dX2_init_178 : decode cX2_init 178 = .ok (.iload_n 1, 1) := dk_27 (dk_at dksX2_init_7 16 rfl rfl)
theorem dX2_init_179 : decode cX2_init 179 = .ok (.bipush 6, 2) := dk_16 6 (dk_at dksX2_init_7 17 rfl rfl)
theorem dX2_init_181 : decode cX2_init 181 = .ok (.if_icmp .ge 22, 3) := dk_162 0 22 (dk_at dksX2_init_7 19 rfl rfl)
theorem dX2_init_184 : decode cX2_init 184 = .ok (.aload_n 0, 1) := dk_42 (dk_at dksX2_init_7 22 rfl rfl)
theorem dX2_init_185 : decode cX2_init 185 = .ok (.getfield 46, 3) := dk_180 0 46 (dk_at dksX2_init_8 0 rfl rfl)
theorem dX2_init_188 : decode cX2_init 188 = .ok (.iload_n 1, 1) := dk_27 (dk_at dksX2_init_8 3 rfl rfl)
theorem dX2_init_189 : decode cX2_init 189 = .ok (.new 44, 3) := dk_187 0 44 (dk_at dksX2_init_8 4 rfl rfl)
theorem dX2_init_192 : decode cX2_init 192 = .ok (.dup, 1) := dk_89 (dk_at dksX2_init_8 7 rfl rfl)
theorem dX2_init_193 : decode cX2_init 193 = .ok (.invokespecial 72, 3) := dk_183 0 72 (dk_at dksX2_init_8 8 rfl rfl)
theorem dX2_init_196 : decode cX2_init 196 = .ok (.aastore, 1) := dk_83 (dk_at dksX2_init_8 11 rfl rfl)
theorem dX2_init_197 : decode cX2_init 197 = .ok (.iinc 1 1, 3) := dk_132 1 1 (dk_at dksX2_init_8 12 rfl rfl)
theorem dX2_init_200 : decode cX2_init 200 = .ok (.goto (-22), 3) := dk_167 255 234 (dk_at dksX2_init_8 15 rfl rfl)
theorem dX2_init_203 : decode cX2_init 203 = .ok (.iconst 0, 1) := dk_3 (dk_at dksX2_init_8 18 rfl rfl)
theorem dX2_init_204 : decode cX2_init 204 = .ok (.istore_n 1, 1) := dk_60 (dk_at dksX2_init_8 19 rfl rfl)
theorem dX2_init_205 : decode cX2_init 205 = .ok (.iload_n 1, 1) := dk_27 (dk_at dksX2_init_8 20 rfl rfl)
theorem dX2_init_206 : decode cX2_init 206 = .ok (.iconst 4, 1) := dk_7 (dk_at dksX2_init_8 21 rfl rfl)
theorem dX2_init_207 : decode cX2_init 207 = .ok (.if_icmp .ge 22, 3) := dk_162 0 22 (dk_at dksX2_init_9 0 rfl rfl)
theorem dX2_init_210 : decode cX2_init 210 = .ok (.aload_n 0, 1) := dk_42 (dk_at dksX2_init_9 3 rfl rfl)
theorem dX2_init_211 : decode cX2_init 211 = .ok (.getfield 52, 3) := dk_180 0 52 (dk_at dksX2_init_9 4 rfl rfl)
theorem dX2_init_214 : decode cX2_init 214 = .ok (.iload_n 1, 1) := dk_27 (dk_at dksX2_init_9 7 rfl rfl)
theorem dX2_init_215 : decode cX2_init 215 = .ok (.new 50, 3) := dk_187 0 50 (dk_at dksX2_init_9 8 rfl rfl)
theorem dX2_init_218 : decode cX2_init 218 = .ok (.dup, 1) := dk_89 (dk_at dksX2_init_9 11 rfl rfl)
theorem dX2_init_219 : decode cX2_init 219 = .ok (.invokespecial 73, 3) := dk_183 0 73 (dk_at dksX2_init_9 12 rfl rfl)
theorem dX2_init_222 : decode cX2_init 222 = .ok (.aastore, 1) := dk_83 (dk_at dksX2_init_9 15 rfl rfl)
theorem dX2_init_223 : decode cX2_init 223 = .ok (.iinc 1 1, 3) := dk_132 1 1 (dk_at dksX2_init_9 16 rfl rfl)
theorem dX2_init_226 : decode cX2_init 226 = .ok (.goto (-21), 3) := dk_167 255 235 (dk_at dksX2_init_9 19 rfl rfl)
theorem dX2_init_229 : decode cX2_init 229 = .ok (.iconst 0, 1) := dk_3 (dk_at dksX2_init_9 22 rfl rfl)
theorem dX2_init_230 : decode cX2_init 230 = .ok (.istore_n 1, 1) := dk_60 (dk_at dksX2_init_9 23 rfl rfl)
theorem dX2_init_231 : decode cX2_init 231 = .ok (.iload_n 1, 1) := dk_27 (dk_at dksX2_init_10 0 rfl rfl)
theorem dX2_init_232 : decode cX2_init 232 = .ok (.iconst 5, 1) := dk_8 (dk_at dksX2_init_10 1 rfl rfl)
theorem dX2_init_233 : decode cX2_init 233 = .ok (.if_icmp .gt 22, 3) := dk_163 0 22 (dk_at dksX2_init_10 2 rfl rfl)
theorem dX2_init_236 : decode cX2_init 236 = .ok (.aload_n 0, 1) := dk_42 (dk_at dksX2_init_10 5 rfl rfl)
theorem dX2_init_237 : decode cX2_init 237 = .ok (.getfield 58, 3) := dk_180 0 58 (dk_at dksX2_init_10 6 rfl rfl)
theorem dX2_init_240 : decode cX2_init 240 = .ok (.iload_n 1, 1) := dk_27 (dk_at dksX2_init_10 9 rfl rfl)
theorem dX2_init_241 : decode cX2_init 241 = .ok (.new 56, 3) := dk_187 0 56 (dk_at dksX2_init_10 10 rfl rfl)
theorem dX2_init_244 : decode cX2_init 244 = .ok (.dup, 1) := dk_89 (dk_at dksX2_init_10 13 rfl rfl)
theorem dX2_init_245 : decode cX2_init 245 = .ok (.invokespecial 74, 3) := dk_183 0 74 (dk_at dksX2_init_10 14 rfl rfl)
theorem dX2_init_248 : decode cX2_init 248 = .ok (.aastore, 1) := dk_83 (dk_at dksX2_init_10 17 rfl rfl)
theorem dX2_init_249 : decode cX2_init 249 = .ok (.iinc 1 1, 3) := dk_132 1 1 (dk_at dksX2_init_10 18 rfl rfl)
theorem dX2_init_252 : decode cX2_init 252 = .ok (.goto (-21), 3) := dk_167 255 235 (dk_at dksX2_init_10 21 rfl rfl)
theorem dX2_init_255 : decode cX2_init 255 = .ok (.return_, 1) := dk_177 (dk_at dksX2_init_11 0 rfl rfl)
abbrev cX2_take : ByteArray := prog_3_method_2_code
def yX2_take : MethodName := ⟨RX2, "take", "(LCliffPlots$Cliff;)V"⟩
def dkwX2_take_9 : List UInt8 := [177]
abbrev dktX2_take_9 : List UInt8 := dkwX2_take_9 ++ []
def dkwX2_take_8 : List UInt8 := [42, 43, 180, 0, 107, 181, 0, 107, 42, 43, 180, 0, 110, 181, 0, 110, 42, 43, 180, 0, 113, 181, 0, 113]
abbrev dktX2_take_8 : List UInt8 := dkwX2_take_8 ++ dktX2_take_9
def dkwX2_take_7 : List UInt8 := [42, 43, 180, 0, 62, 181, 0, 62, 42, 43, 180, 0, 66, 181, 0, 66, 42, 43, 180, 0, 104, 181, 0, 104]
abbrev dktX2_take_7 : List UInt8 := dkwX2_take_7 ++ dktX2_take_8
def dkwX2_take_6 : List UInt8 := [42, 43, 180, 0, 85, 181, 0, 85, 42, 43, 180, 0, 92, 181, 0, 92, 42, 43, 180, 0, 98, 181, 0, 98]
abbrev dktX2_take_6 : List UInt8 := dkwX2_take_6 ++ dktX2_take_7
def dkwX2_take_5 : List UInt8 := [162, 0, 24, 42, 180, 0, 58, 28, 50, 43, 180, 0, 58, 28, 50, 182, 0, 101, 132, 2, 1, 167, 255, 230]
abbrev dktX2_take_5 : List UInt8 := dkwX2_take_5 ++ dktX2_take_6
def dkwX2_take_4 : List UInt8 := [28, 50, 43, 180, 0, 52, 28, 50, 182, 0, 95, 132, 2, 1, 167, 255, 230, 3, 61, 28, 43, 180, 0, 98]
abbrev dktX2_take_4 : List UInt8 := dkwX2_take_4 ++ dktX2_take_5
def dkwX2_take_3 : List UInt8 := [50, 182, 0, 88, 132, 2, 1, 167, 255, 230, 3, 61, 28, 43, 180, 0, 92, 162, 0, 24, 42, 180, 0, 52]
abbrev dktX2_take_3 : List UInt8 := dkwX2_take_3 ++ dktX2_take_4
def dkwX2_take_2 : List UInt8 := [182, 0, 81, 3, 61, 28, 43, 180, 0, 85, 162, 0, 24, 42, 180, 0, 46, 28, 50, 43, 180, 0, 46, 28]
abbrev dktX2_take_2 : List UInt8 := dkwX2_take_2 ++ dktX2_take_3
def dkwX2_take_1 : List UInt8 := [3, 16, 12, 184, 0, 75, 43, 180, 0, 19, 3, 42, 180, 0, 19, 3, 16, 12, 184, 0, 75, 42, 43]
abbrev dktX2_take_1 : List UInt8 := dkwX2_take_1 ++ dktX2_take_2
def dkwX2_take_0 : List UInt8 := [43, 180, 0, 9, 3, 42, 180, 0, 9, 3, 16, 12, 184, 0, 75, 43, 180, 0, 15, 3, 42, 180, 0, 15]
abbrev dktX2_take_0 : List UInt8 := dkwX2_take_0 ++ dktX2_take_1
theorem dksX2_take_0 : cX2_take.data.toList.drop 0 = dktX2_take_0 := by decide +kernel
theorem dksX2_take_1 : cX2_take.data.toList.drop 24 = dktX2_take_1 := dk_seg dksX2_take_0 24 rfl rfl
theorem dksX2_take_2 : cX2_take.data.toList.drop 47 = dktX2_take_2 := dk_seg dksX2_take_1 23 rfl rfl
theorem dksX2_take_3 : cX2_take.data.toList.drop 71 = dktX2_take_3 := dk_seg dksX2_take_2 24 rfl rfl
theorem dksX2_take_4 : cX2_take.data.toList.drop 95 = dktX2_take_4 := dk_seg dksX2_take_3 24 rfl rfl
theorem dksX2_take_5 : cX2_take.data.toList.drop 119 = dktX2_take_5 := dk_seg dksX2_take_4 24 rfl rfl
theorem dksX2_take_6 : cX2_take.data.toList.drop 143 = dktX2_take_6 := dk_seg dksX2_take_5 24 rfl rfl
theorem dksX2_take_7 : cX2_take.data.toList.drop 167 = dktX2_take_7 := dk_seg dksX2_take_6 24 rfl rfl
theorem dksX2_take_8 : cX2_take.data.toList.drop 191 = dktX2_take_8 := dk_seg dksX2_take_7 24 rfl rfl
theorem dksX2_take_9 : cX2_take.data.toList.drop 215 = dktX2_take_9 := dk_seg dksX2_take_8 24 rfl rfl
theorem dX2_take_0 : decode cX2_take 0 = .ok (.aload_n 1, 1) := dk_43 (dk_at dksX2_take_0 0 rfl rfl)
theorem dX2_take_1 : decode cX2_take 1 = .ok (.getfield 9, 3) := dk_180 0 9 (dk_at dksX2_take_0 1 rfl rfl)
theorem dX2_take_4 : decode cX2_take 4 = .ok (.iconst 0, 1) := dk_3 (dk_at dksX2_take_0 4 rfl rfl)
theorem dX2_take_5 : decode cX2_take 5 = .ok (.aload_n 0, 1) := dk_42 (dk_at dksX2_take_0 5 rfl rfl)
theorem dX2_take_6 : decode cX2_take 6 = .ok (.getfield 9, 3) := dk_180 0 9 (dk_at dksX2_take_0 6 rfl rfl)
theorem dX2_take_9 : decode cX2_take 9 = .ok (.iconst 0, 1) := dk_3 (dk_at dksX2_take_0 9 rfl rfl)
theorem dX2_take_10 : decode cX2_take 10 = .ok (.bipush 12, 2) := dk_16 12 (dk_at dksX2_take_0 10 rfl rfl)
theorem dX2_take_12 : decode cX2_take 12 = .ok (.invokestatic 75, 3) := dk_184 0 75 (dk_at dksX2_take_0 12 rfl rfl)
theorem dX2_take_15 : decode cX2_take 15 = .ok (.aload_n 1, 1) := dk_43 (dk_at dksX2_take_0 15 rfl rfl)
theorem dX2_take_16 : decode cX2_take 16 = .ok (.getfield 15, 3) := dk_180 0 15 (dk_at dksX2_take_0 16 rfl rfl)
theorem dX2_take_19 : decode cX2_take 19 = .ok (.iconst 0, 1) := dk_3 (dk_at dksX2_take_0 19 rfl rfl)
theorem dX2_take_20 : decode cX2_take 20 = .ok (.aload_n 0, 1) := dk_42 (dk_at dksX2_take_0 20 rfl rfl)
theorem dX2_take_21 : decode cX2_take 21 = .ok (.getfield 15, 3) := dk_180 0 15 (dk_at dksX2_take_0 21 rfl rfl)
theorem dX2_take_24 : decode cX2_take 24 = .ok (.iconst 0, 1) := dk_3 (dk_at dksX2_take_1 0 rfl rfl)
theorem dX2_take_25 : decode cX2_take 25 = .ok (.bipush 12, 2) := dk_16 12 (dk_at dksX2_take_1 1 rfl rfl)
theorem dX2_take_27 : decode cX2_take 27 = .ok (.invokestatic 75, 3) := dk_184 0 75 (dk_at dksX2_take_1 3 rfl rfl)
theorem dX2_take_30 : decode cX2_take 30 = .ok (.aload_n 1, 1) := dk_43 (dk_at dksX2_take_1 6 rfl rfl)
theorem dX2_take_31 : decode cX2_take 31 = .ok (.getfield 19, 3) := dk_180 0 19 (dk_at dksX2_take_1 7 rfl rfl)
theorem dX2_take_34 : decode cX2_take 34 = .ok (.iconst 0, 1) := dk_3 (dk_at dksX2_take_1 10 rfl rfl)
theorem dX2_take_35 : decode cX2_take 35 = .ok (.aload_n 0, 1) := dk_42 (dk_at dksX2_take_1 11 rfl rfl)
theorem dX2_take_36 : decode cX2_take 36 = .ok (.getfield 19, 3) := dk_180 0 19 (dk_at dksX2_take_1 12 rfl rfl)
theorem dX2_take_39 : decode cX2_take 39 = .ok (.iconst 0, 1) := dk_3 (dk_at dksX2_take_1 15 rfl rfl)
theorem dX2_take_40 : decode cX2_take 40 = .ok (.bipush 12, 2) := dk_16 12 (dk_at dksX2_take_1 16 rfl rfl)
theorem dX2_take_42 : decode cX2_take 42 = .ok (.invokestatic 75, 3) := dk_184 0 75 (dk_at dksX2_take_1 18 rfl rfl)
theorem dX2_take_45 : decode cX2_take 45 = .ok (.aload_n 0, 1) := dk_42 (dk_at dksX2_take_1 21 rfl rfl)
theorem dX2_take_46 : decode cX2_take 46 = .ok (.aload_n 1, 1) := dk_43 (dk_at dksX2_take_1 22 rfl rfl)
theorem dX2_take_47 : decode cX2_take 47 = .ok (.invokevirtual 81, 3) := dk_182 0 81 (dk_at dksX2_take_2 0 rfl rfl)
theorem dX2_take_50 : decode cX2_take 50 = .ok (.iconst 0, 1) := dk_3 (dk_at dksX2_take_2 3 rfl rfl)
theorem dX2_take_51 : decode cX2_take 51 = .ok (.istore_n 2, 1) := dk_61 (dk_at dksX2_take_2 4 rfl rfl)
theorem dX2_take_52 : decode cX2_take 52 = .ok (.iload_n 2, 1) := dk_28 (dk_at dksX2_take_2 5 rfl rfl)
theorem dX2_take_53 : decode cX2_take 53 = .ok (.aload_n 1, 1) := dk_43 (dk_at dksX2_take_2 6 rfl rfl)
theorem dX2_take_54 : decode cX2_take 54 = .ok (.getfield 85, 3) := dk_180 0 85 (dk_at dksX2_take_2 7 rfl rfl)
theorem dX2_take_57 : decode cX2_take 57 = .ok (.if_icmp .ge 24, 3) := dk_162 0 24 (dk_at dksX2_take_2 10 rfl rfl)
theorem dX2_take_60 : decode cX2_take 60 = .ok (.aload_n 0, 1) := dk_42 (dk_at dksX2_take_2 13 rfl rfl)
theorem dX2_take_61 : decode cX2_take 61 = .ok (.getfield 46, 3) := dk_180 0 46 (dk_at dksX2_take_2 14 rfl rfl)
theorem dX2_take_64 : decode cX2_take 64 = .ok (.iload_n 2, 1) := dk_28 (dk_at dksX2_take_2 17 rfl rfl)
theorem dX2_take_65 : decode cX2_take 65 = .ok (.aaload, 1) := dk_50 (dk_at dksX2_take_2 18 rfl rfl)
theorem dX2_take_66 : decode cX2_take 66 = .ok (.aload_n 1, 1) := dk_43 (dk_at dksX2_take_2 19 rfl rfl)
theorem dX2_take_67 : decode cX2_take 67 = .ok (.getfield 46, 3) := dk_180 0 46 (dk_at dksX2_take_2 20 rfl rfl)
theorem dX2_take_70 : decode cX2_take 70 = .ok (.iload_n 2, 1) := dk_28 (dk_at dksX2_take_2 23 rfl rfl)
theorem dX2_take_71 : decode cX2_take 71 = .ok (.aaload, 1) := dk_50 (dk_at dksX2_take_3 0 rfl rfl)
theorem dX2_take_72 : decode cX2_take 72 = .ok (.invokevirtual 88, 3) := dk_182 0 88 (dk_at dksX2_take_3 1 rfl rfl)
theorem dX2_take_75 : decode cX2_take 75 = .ok (.iinc 2 1, 3) := dk_132 2 1 (dk_at dksX2_take_3 4 rfl rfl)
theorem dX2_take_78 : decode cX2_take 78 = .ok (.goto (-26), 3) := dk_167 255 230 (dk_at dksX2_take_3 7 rfl rfl)
theorem dX2_take_81 : decode cX2_take 81 = .ok (.iconst 0, 1) := dk_3 (dk_at dksX2_take_3 10 rfl rfl)
theorem dX2_take_82 : decode cX2_take 82 = .ok (.istore_n 2, 1) := dk_61 (dk_at dksX2_take_3 11 rfl rfl)
theorem dX2_take_83 : decode cX2_take 83 = .ok (.iload_n 2, 1) := dk_28 (dk_at dksX2_take_3 12 rfl rfl)
theorem dX2_take_84 : decode cX2_take 84 = .ok (.aload_n 1, 1) := dk_43 (dk_at dksX2_take_3 13 rfl rfl)
theorem dX2_take_85 : decode cX2_take 85 = .ok (.getfield 92, 3) := dk_180 0 92 (dk_at dksX2_take_3 14 rfl rfl)
theorem dX2_take_88 : decode cX2_take 88 = .ok (.if_icmp .ge 24, 3) := dk_162 0 24 (dk_at dksX2_take_3 17 rfl rfl)
theorem dX2_take_91 : decode cX2_take 91 = .ok (.aload_n 0, 1) := dk_42 (dk_at dksX2_take_3 20 rfl rfl)
theorem dX2_take_92 : decode cX2_take 92 = .ok (.getfield 52, 3) := dk_180 0 52 (dk_at dksX2_take_3 21 rfl rfl)
theorem dX2_take_95 : decode cX2_take 95 = .ok (.iload_n 2, 1) := dk_28 (dk_at dksX2_take_4 0 rfl rfl)
theorem dX2_take_96 : decode cX2_take 96 = .ok (.aaload, 1) := dk_50 (dk_at dksX2_take_4 1 rfl rfl)
theorem dX2_take_97 : decode cX2_take 97 = .ok (.aload_n 1, 1) := dk_43 (dk_at dksX2_take_4 2 rfl rfl)
theorem dX2_take_98 : decode cX2_take 98 = .ok (.getfield 52, 3) := dk_180 0 52 (dk_at dksX2_take_4 3 rfl rfl)
theorem dX2_take_101 : decode cX2_take 101 = .ok (.iload_n 2, 1) := dk_28 (dk_at dksX2_take_4 6 rfl rfl)
theorem dX2_take_102 : decode cX2_take 102 = .ok (.aaload, 1) := dk_50 (dk_at dksX2_take_4 7 rfl rfl)
theorem dX2_take_103 : decode cX2_take 103 = .ok (.invokevirtual 95, 3) := dk_182 0 95 (dk_at dksX2_take_4 8 rfl rfl)
theorem dX2_take_106 : decode cX2_take 106 = .ok (.iinc 2 1, 3) := dk_132 2 1 (dk_at dksX2_take_4 11 rfl rfl)
theorem dX2_take_109 : decode cX2_take 109 = .ok (.goto (-26), 3) := dk_167 255 230 (dk_at dksX2_take_4 14 rfl rfl)
theorem dX2_take_112 : decode cX2_take 112 = .ok (.iconst 0, 1) := dk_3 (dk_at dksX2_take_4 17 rfl rfl)
theorem dX2_take_113 : decode cX2_take 113 = .ok (.istore_n 2, 1) := dk_61 (dk_at dksX2_take_4 18 rfl rfl)
theorem dX2_take_114 : decode cX2_take 114 = .ok (.iload_n 2, 1) := dk_28 (dk_at dksX2_take_4 19 rfl rfl)
theorem dX2_take_115 : decode cX2_take 115 = .ok (.aload_n 1, 1) := dk_43 (dk_at dksX2_take_4 20 rfl rfl)
theorem dX2_take_116 : decode cX2_take 116 = .ok (.getfield 98, 3) := dk_180 0 98 (dk_at dksX2_take_4 21 rfl rfl)
theorem dX2_take_119 : decode cX2_take 119 = .ok (.if_icmp .ge 24, 3) := dk_162 0 24 (dk_at dksX2_take_5 0 rfl rfl)
theorem dX2_take_122 : decode cX2_take 122 = .ok (.aload_n 0, 1) := dk_42 (dk_at dksX2_take_5 3 rfl rfl)
theorem dX2_take_123 : decode cX2_take 123 = .ok (.getfield 58, 3) := dk_180 0 58 (dk_at dksX2_take_5 4 rfl rfl)
theorem dX2_take_126 : decode cX2_take 126 = .ok (.iload_n 2, 1) := dk_28 (dk_at dksX2_take_5 7 rfl rfl)
theorem dX2_take_127 : decode cX2_take 127 = .ok (.aaload, 1) := dk_50 (dk_at dksX2_take_5 8 rfl rfl)
theorem dX2_take_128 : decode cX2_take 128 = .ok (.aload_n 1, 1) := dk_43 (dk_at dksX2_take_5 9 rfl rfl)
theorem dX2_take_129 : decode cX2_take 129 = .ok (.getfield 58, 3) := dk_180 0 58 (dk_at dksX2_take_5 10 rfl rfl)
theorem dX2_take_132 : decode cX2_take 132 = .ok (.iload_n 2, 1) := dk_28 (dk_at dksX2_take_5 13 rfl rfl)
theorem dX2_take_133 : decode cX2_take 133 = .ok (.aaload, 1) := dk_50 (dk_at dksX2_take_5 14 rfl rfl)
theorem dX2_take_134 : decode cX2_take 134 = .ok (.invokevirtual 101, 3) := dk_182 0 101 (dk_at dksX2_take_5 15 rfl rfl)
theorem dX2_take_137 : decode cX2_take 137 = .ok (.iinc 2 1, 3) := dk_132 2 1 (dk_at dksX2_take_5 18 rfl rfl)
theorem dX2_take_140 : decode cX2_take 140 = .ok (.goto (-26), 3) := dk_167 255 230 (dk_at dksX2_take_5 21 rfl rfl)
theorem dX2_take_143 : decode cX2_take 143 = .ok (.aload_n 0, 1) := dk_42 (dk_at dksX2_take_6 0 rfl rfl)
theorem dX2_take_144 : decode cX2_take 144 = .ok (.aload_n 1, 1) := dk_43 (dk_at dksX2_take_6 1 rfl rfl)
theorem dX2_take_145 : decode cX2_take 145 = .ok (.getfield 85, 3) := dk_180 0 85 (dk_at dksX2_take_6 2 rfl rfl)
theorem dX2_take_148 : decode cX2_take 148 = .ok (.putfield 85, 3) := dk_181 0 85 (dk_at dksX2_take_6 5 rfl rfl)
theorem dX2_take_151 : decode cX2_take 151 = .ok (.aload_n 0, 1) := dk_42 (dk_at dksX2_take_6 8 rfl rfl)
theorem dX2_take_152 : decode cX2_take 152 = .ok (.aload_n 1, 1) := dk_43 (dk_at dksX2_take_6 9 rfl rfl)
theorem dX2_take_153 : decode cX2_take 153 = .ok (.getfield 92, 3) := dk_180 0 92 (dk_at dksX2_take_6 10 rfl rfl)
theorem dX2_take_156 : decode cX2_take 156 = .ok (.putfield 92, 3) := dk_181 0 92 (dk_at dksX2_take_6 13 rfl rfl)
theorem dX2_take_159 : decode cX2_take 159 = .ok (.aload_n 0, 1) := dk_42 (dk_at dksX2_take_6 16 rfl rfl)
theorem dX2_take_160 : decode cX2_take 160 = .ok (.aload_n 1, 1) := dk_43 (dk_at dksX2_take_6 17 rfl rfl)
theorem dX2_take_161 : decode cX2_take 161 = .ok (.getfield 98, 3) := dk_180 0 98 (dk_at dksX2_take_6 18 rfl rfl)
theorem dX2_take_164 : decode cX2_take 164 = .ok (.putfield 98, 3) := dk_181 0 98 (dk_at dksX2_take_6 21 rfl rfl)
theorem dX2_take_167 : decode cX2_take 167 = .ok (.aload_n 0, 1) := dk_42 (dk_at dksX2_take_7 0 rfl rfl)
theorem dX2_take_168 : decode cX2_take 168 = .ok (.aload_n 1, 1) := dk_43 (dk_at dksX2_take_7 1 rfl rfl)
theorem dX2_take_169 : decode cX2_take 169 = .ok (.getfield 62, 3) := dk_180 0 62 (dk_at dksX2_take_7 2 rfl rfl)
theorem dX2_take_172 : decode cX2_take 172 = .ok (.putfield 62, 3) := dk_181 0 62 (dk_at dksX2_take_7 5 rfl rfl)
theorem dX2_take_175 : decode cX2_take 175 = .ok (.aload_n 0, 1) := dk_42 (dk_at dksX2_take_7 8 rfl rfl)
theorem dX2_take_176 : decode cX2_take 176 = .ok (.aload_n 1, 1) := dk_43 (dk_at dksX2_take_7 9 rfl rfl)
theorem dX2_take_177 : decode cX2_take 177 = .ok (.getfield 66, 3) := dk_180 0 66 (dk_at dksX2_take_7 10 rfl rfl)
theorem dX2_take_180 : decode cX2_take 180 = .ok (.putfield 66, 3) := dk_181 0 66 (dk_at dksX2_take_7 13 rfl rfl)
theorem dX2_take_183 : decode cX2_take 183 = .ok (.aload_n 0, 1) := dk_42 (dk_at dksX2_take_7 16 rfl rfl)
theorem dX2_take_184 : decode cX2_take 184 = .ok (.aload_n 1, 1) := dk_43 (dk_at dksX2_take_7 17 rfl rfl)
theorem dX2_take_185 : decode cX2_take 185 = .ok (.getfield 104, 3) := dk_180 0 104 (dk_at dksX2_take_7 18 rfl rfl)
theorem dX2_take_188 : decode cX2_take 188 = .ok (.putfield 104, 3) := dk_181 0 104 (dk_at dksX2_take_7 21 rfl rfl)
theorem dX2_take_191 : decode cX2_take 191 = .ok (.aload_n 0, 1) := dk_42 (dk_at dksX2_take_8 0 rfl rfl)
theorem dX2_take_192 : decode cX2_take 192 = .ok (.aload_n 1, 1) := dk_43 (dk_at dksX2_take_8 1 rfl rfl)
theorem dX2_take_193 : decode cX2_take 193 = .ok (.getfield 107, 3) := dk_180 0 107 (dk_at dksX2_take_8 2 rfl rfl)
theorem dX2_take_196 : decode cX2_take 196 = .ok (.putfield 107, 3) := dk_181 0 107 (dk_at dksX2_take_8 5 rfl rfl)
theorem dX2_take_199 : decode cX2_take 199 = .ok (.aload_n 0, 1) := dk_42 (dk_at dksX2_take_8 8 rfl rfl)
theorem dX2_take_200 : decode cX2_take 200 = .ok (.aload_n 1, 1) := dk_43 (dk_at dksX2_take_8 9 rfl rfl)
theorem dX2_take_201 : decode cX2_take 201 = .ok (.getfield 110, 3) := dk_180 0 110 (dk_at dksX2_take_8 10 rfl rfl)
theorem dX2_take_204 : decode cX2_take 204 = .ok (.putfield 110, 3) := dk_181 0 110 (dk_at dksX2_take_8 13 rfl rfl)
theorem dX2_take_207 : decode cX2_take 207 = .ok (.aload_n 0, 1) := dk_42 (dk_at dksX2_take_8 16 rfl rfl)
theorem dX2_take_208 : decode cX2_take 208 = .ok (.aload_n 1, 1) := dk_43 (dk_at dksX2_take_8 17 rfl rfl)
theorem dX2_take_209 : decode cX2_take 209 = .ok (.getfield 113, 3) := dk_180 0 113 (dk_at dksX2_take_8 18 rfl rfl)
theorem dX2_take_212 : decode cX2_take 212 = .ok (.putfield 113, 3) := dk_181 0 113 (dk_at dksX2_take_8 21 rfl rfl)
theorem dX2_take_215 : decode cX2_take 215 = .ok (.return_, 1) := dk_177 (dk_at dksX2_take_9 0 rfl rfl)
abbrev cX2_takePlants : ByteArray := prog_3_method_3_code
def yX2_takePlants : MethodName := ⟨RX2, "takePlants", "(LCliffPlots$Cliff;)V"⟩
def dkwX2_takePlants_4 : List UInt8 := [42, 180, 0, 24, 28, 42, 43, 180, 0, 24, 28, 50, 182, 0, 124, 83, 132, 2, 1, 167, 255, 231, 177]
abbrev dktX2_takePlants_4 : List UInt8 := dkwX2_takePlants_4 ++ []
def dkwX2_takePlants_3 : List UInt8 := [182, 0, 124, 83, 132, 5, 1, 167, 255, 234, 132, 2, 1, 167, 255, 207, 3, 61, 28, 16, 12, 162, 0, 25]
abbrev dktX2_takePlants_3 : List UInt8 := dkwX2_takePlants_3 ++ dktX2_takePlants_4
def dkwX2_takePlants_2 : List UInt8 := [28, 182, 0, 120, 58, 4, 3, 54, 5, 21, 5, 8, 162, 0, 22, 25, 4, 21, 5, 42, 45, 21, 5, 50]
abbrev dktX2_takePlants_2 : List UInt8 := dkwX2_takePlants_2 ++ dktX2_takePlants_3
def dkwX2_takePlants_1 : List UInt8 := [3, 181, 0, 116, 132, 2, 1, 167, 255, 227, 3, 61, 28, 5, 162, 0, 50, 43, 28, 182, 0, 120, 78, 42]
abbrev dktX2_takePlants_1 : List UInt8 := dkwX2_takePlants_1 ++ dktX2_takePlants_2
def dkwX2_takePlants_0 : List UInt8 := [3, 61, 28, 16, 18, 162, 0, 29, 42, 180, 0, 28, 28, 50, 3, 181, 0, 116, 42, 180, 0, 31, 28, 50]
abbrev dktX2_takePlants_0 : List UInt8 := dkwX2_takePlants_0 ++ dktX2_takePlants_1
theorem dksX2_takePlants_0 : cX2_takePlants.data.toList.drop 0 = dktX2_takePlants_0 := by decide +kernel
theorem dksX2_takePlants_1 : cX2_takePlants.data.toList.drop 24 = dktX2_takePlants_1 := dk_seg dksX2_takePlants_0 24 rfl rfl
theorem dksX2_takePlants_2 : cX2_takePlants.data.toList.drop 48 = dktX2_takePlants_2 := dk_seg dksX2_takePlants_1 24 rfl rfl
theorem dksX2_takePlants_3 : cX2_takePlants.data.toList.drop 72 = dktX2_takePlants_3 := dk_seg dksX2_takePlants_2 24 rfl rfl
theorem dksX2_takePlants_4 : cX2_takePlants.data.toList.drop 96 = dktX2_takePlants_4 := dk_seg dksX2_takePlants_3 24 rfl rfl
theorem dX2_takePlants_0 : decode cX2_takePlants 0 = .ok (.iconst 0, 1) := dk_3 (dk_at dksX2_takePlants_0 0 rfl rfl)
theorem dX2_takePlants_1 : decode cX2_takePlants 1 = .ok (.istore_n 2, 1) := dk_61 (dk_at dksX2_takePlants_0 1 rfl rfl)
theorem dX2_takePlants_2 : decode cX2_takePlants 2 = .ok (.iload_n 2, 1) := dk_28 (dk_at dksX2_takePlants_0 2 rfl rfl)
theorem dX2_takePlants_3 : decode cX2_takePlants 3 = .ok (.bipush 18, 2) := dk_16 18 (dk_at dksX2_takePlants_0 3 rfl rfl)
theorem dX2_takePlants_5 : decode cX2_takePlants 5 = .ok (.if_icmp .ge 29, 3) := dk_162 0 29 (dk_at dksX2_takePlants_0 5 rfl rfl)
theorem dX2_takePlants_8 : decode cX2_takePlants 8 = .ok (.aload_n 0, 1) := dk_42 (dk_at dksX2_takePlants_0 8 rfl rfl)
theorem dX2_takePlants_9 : decode cX2_takePlants 9 = .ok (.getfield 28, 3) := dk_180 0 28 (dk_at dksX2_takePlants_0 9 rfl rfl)
theorem dX2_takePlants_12 : decode cX2_takePlants 12 = .ok (.iload_n 2, 1) := dk_28 (dk_at dksX2_takePlants_0 12 rfl rfl)
theorem dX2_takePlants_13 : decode cX2_takePlants 13 = .ok (.aaload, 1) := dk_50 (dk_at dksX2_takePlants_0 13 rfl rfl)
theorem dX2_takePlants_14 : decode cX2_takePlants 14 = .ok (.iconst 0, 1) := dk_3 (dk_at dksX2_takePlants_0 14 rfl rfl)
theorem dX2_takePlants_15 : decode cX2_takePlants 15 = .ok (.putfield 116, 3) := dk_181 0 116 (dk_at dksX2_takePlants_0 15 rfl rfl)
theorem dX2_takePlants_18 : decode cX2_takePlants 18 = .ok (.aload_n 0, 1) := dk_42 (dk_at dksX2_takePlants_0 18 rfl rfl)
theorem dX2_takePlants_19 : decode cX2_takePlants 19 = .ok (.getfield 31, 3) := dk_180 0 31 (dk_at dksX2_takePlants_0 19 rfl rfl)
theorem dX2_takePlants_22 : decode cX2_takePlants 22 = .ok (.iload_n 2, 1) := dk_28 (dk_at dksX2_takePlants_0 22 rfl rfl)
theorem dX2_takePlants_23 : decode cX2_takePlants 23 = .ok (.aaload, 1) := dk_50 (dk_at dksX2_takePlants_0 23 rfl rfl)
theorem dX2_takePlants_24 : decode cX2_takePlants 24 = .ok (.iconst 0, 1) := dk_3 (dk_at dksX2_takePlants_1 0 rfl rfl)
theorem dX2_takePlants_25 : decode cX2_takePlants 25 = .ok (.putfield 116, 3) := dk_181 0 116 (dk_at dksX2_takePlants_1 1 rfl rfl)
theorem dX2_takePlants_28 : decode cX2_takePlants 28 = .ok (.iinc 2 1, 3) := dk_132 2 1 (dk_at dksX2_takePlants_1 4 rfl rfl)
theorem dX2_takePlants_31 : decode cX2_takePlants 31 = .ok (.goto (-29), 3) := dk_167 255 227 (dk_at dksX2_takePlants_1 7 rfl rfl)
theorem dX2_takePlants_34 : decode cX2_takePlants 34 = .ok (.iconst 0, 1) := dk_3 (dk_at dksX2_takePlants_1 10 rfl rfl)
theorem dX2_takePlants_35 : decode cX2_takePlants 35 = .ok (.istore_n 2, 1) := dk_61 (dk_at dksX2_takePlants_1 11 rfl rfl)
theorem dX2_takePlants_36 : decode cX2_takePlants 36 = .ok (.iload_n 2, 1) := dk_28 (dk_at dksX2_takePlants_1 12 rfl rfl)
theorem dX2_takePlants_37 : decode cX2_takePlants 37 = .ok (.iconst 2, 1) := dk_5 (dk_at dksX2_takePlants_1 13 rfl rfl)
theorem dX2_takePlants_38 : decode cX2_takePlants 38 = .ok (.if_icmp .ge 50, 3) := dk_162 0 50 (dk_at dksX2_takePlants_1 14 rfl rfl)
theorem dX2_takePlants_41 : decode cX2_takePlants 41 = .ok (.aload_n 1, 1) := dk_43 (dk_at dksX2_takePlants_1 17 rfl rfl)
theorem dX2_takePlants_42 : decode cX2_takePlants 42 = .ok (.iload_n 2, 1) := dk_28 (dk_at dksX2_takePlants_1 18 rfl rfl)
theorem dX2_takePlants_43 : decode cX2_takePlants 43 = .ok (.invokevirtual 120, 3) := dk_182 0 120 (dk_at dksX2_takePlants_1 19 rfl rfl)
theorem dX2_takePlants_46 : decode cX2_takePlants 46 = .ok (.astore_n 3, 1) := dk_78 (dk_at dksX2_takePlants_1 22 rfl rfl)
theorem dX2_takePlants_47 : decode cX2_takePlants 47 = .ok (.aload_n 0, 1) := dk_42 (dk_at dksX2_takePlants_1 23 rfl rfl)
theorem dX2_takePlants_48 : decode cX2_takePlants 48 = .ok (.iload_n 2, 1) := dk_28 (dk_at dksX2_takePlants_2 0 rfl rfl)
theorem dX2_takePlants_49 : decode cX2_takePlants 49 = .ok (.invokevirtual 120, 3) := dk_182 0 120 (dk_at dksX2_takePlants_2 1 rfl rfl)
theorem dX2_takePlants_52 : decode cX2_takePlants 52 = .ok (.astore 4, 2) := dk_58 4 (dk_at dksX2_takePlants_2 4 rfl rfl)
theorem dX2_takePlants_54 : decode cX2_takePlants 54 = .ok (.iconst 0, 1) := dk_3 (dk_at dksX2_takePlants_2 6 rfl rfl)
theorem dX2_takePlants_55 : decode cX2_takePlants 55 = .ok (.istore 5, 2) := dk_54 5 (dk_at dksX2_takePlants_2 7 rfl rfl)
theorem dX2_takePlants_57 : decode cX2_takePlants 57 = .ok (.iload 5, 2) := dk_21 5 (dk_at dksX2_takePlants_2 9 rfl rfl)
theorem dX2_takePlants_59 : decode cX2_takePlants 59 = .ok (.iconst 5, 1) := dk_8 (dk_at dksX2_takePlants_2 11 rfl rfl)
theorem dX2_takePlants_60 : decode cX2_takePlants 60 = .ok (.if_icmp .ge 22, 3) := dk_162 0 22 (dk_at dksX2_takePlants_2 12 rfl rfl)
theorem dX2_takePlants_63 : decode cX2_takePlants 63 = .ok (.aload 4, 2) := dk_25 4 (dk_at dksX2_takePlants_2 15 rfl rfl)
theorem dX2_takePlants_65 : decode cX2_takePlants 65 = .ok (.iload 5, 2) := dk_21 5 (dk_at dksX2_takePlants_2 17 rfl rfl)
theorem dX2_takePlants_67 : decode cX2_takePlants 67 = .ok (.aload_n 0, 1) := dk_42 (dk_at dksX2_takePlants_2 19 rfl rfl)
theorem dX2_takePlants_68 : decode cX2_takePlants 68 = .ok (.aload_n 3, 1) := dk_45 (dk_at dksX2_takePlants_2 20 rfl rfl)
theorem dX2_takePlants_69 : decode cX2_takePlants 69 = .ok (.iload 5, 2) := dk_21 5 (dk_at dksX2_takePlants_2 21 rfl rfl)
theorem dX2_takePlants_71 : decode cX2_takePlants 71 = .ok (.aaload, 1) := dk_50 (dk_at dksX2_takePlants_2 23 rfl rfl)
theorem dX2_takePlants_72 : decode cX2_takePlants 72 = .ok (.invokevirtual 124, 3) := dk_182 0 124 (dk_at dksX2_takePlants_3 0 rfl rfl)
theorem dX2_takePlants_75 : decode cX2_takePlants 75 = .ok (.aastore, 1) := dk_83 (dk_at dksX2_takePlants_3 3 rfl rfl)
theorem dX2_takePlants_76 : decode cX2_takePlants 76 = .ok (.iinc 5 1, 3) := dk_132 5 1 (dk_at dksX2_takePlants_3 4 rfl rfl)
theorem dX2_takePlants_79 : decode cX2_takePlants 79 = .ok (.goto (-22), 3) := dk_167 255 234 (dk_at dksX2_takePlants_3 7 rfl rfl)
theorem dX2_takePlants_82 : decode cX2_takePlants 82 = .ok (.iinc 2 1, 3) := dk_132 2 1 (dk_at dksX2_takePlants_3 10 rfl rfl)
theorem dX2_takePlants_85 : decode cX2_takePlants 85 = .ok (.goto (-49), 3) := dk_167 255 207 (dk_at dksX2_takePlants_3 13 rfl rfl)
theorem dX2_takePlants_88 : decode cX2_takePlants 88 = .ok (.iconst 0, 1) := dk_3 (dk_at dksX2_takePlants_3 16 rfl rfl)
theorem dX2_takePlants_89 : decode cX2_takePlants 89 = .ok (.istore_n 2, 1) := dk_61 (dk_at dksX2_takePlants_3 17 rfl rfl)
theorem dX2_takePlants_90 : decode cX2_takePlants 90 = .ok (.iload_n 2, 1) := dk_28 (dk_at dksX2_takePlants_3 18 rfl rfl)
theorem dX2_takePlants_91 : decode cX2_takePlants 91 = .ok (.bipush 12, 2) := dk_16 12 (dk_at dksX2_takePlants_3 19 rfl rfl)
theorem dX2_takePlants_93 : decode cX2_takePlants 93 = .ok (.if_icmp .ge 25, 3) := dk_162 0 25 (dk_at dksX2_takePlants_3 21 rfl rfl)
theorem dX2_takePlants_96 : decode cX2_takePlants 96 = .ok (.aload_n 0, 1) := dk_42 (dk_at dksX2_takePlants_4 0 rfl rfl)
theorem dX2_takePlants_97 : decode cX2_takePlants 97 = .ok (.getfield 24, 3) := dk_180 0 24 (dk_at dksX2_takePlants_4 1 rfl rfl)
theorem dX2_takePlants_100 : decode cX2_takePlants 100 = .ok (.iload_n 2, 1) := dk_28 (dk_at dksX2_takePlants_4 4 rfl rfl)
theorem dX2_takePlants_101 : decode cX2_takePlants 101 = .ok (.aload_n 0, 1) := dk_42 (dk_at dksX2_takePlants_4 5 rfl rfl)
theorem dX2_takePlants_102 : decode cX2_takePlants 102 = .ok (.aload_n 1, 1) := dk_43 (dk_at dksX2_takePlants_4 6 rfl rfl)
theorem dX2_takePlants_103 : decode cX2_takePlants 103 = .ok (.getfield 24, 3) := dk_180 0 24 (dk_at dksX2_takePlants_4 7 rfl rfl)
theorem dX2_takePlants_106 : decode cX2_takePlants 106 = .ok (.iload_n 2, 1) := dk_28 (dk_at dksX2_takePlants_4 10 rfl rfl)
theorem dX2_takePlants_107 : decode cX2_takePlants 107 = .ok (.aaload, 1) := dk_50 (dk_at dksX2_takePlants_4 11 rfl rfl)
theorem dX2_takePlants_108 : decode cX2_takePlants 108 = .ok (.invokevirtual 124, 3) := dk_182 0 124 (dk_at dksX2_takePlants_4 12 rfl rfl)
theorem dX2_takePlants_111 : decode cX2_takePlants 111 = .ok (.aastore, 1) := dk_83 (dk_at dksX2_takePlants_4 15 rfl rfl)
theorem dX2_takePlants_112 : decode cX2_takePlants 112 = .ok (.iinc 2 1, 3) := dk_132 2 1 (dk_at dksX2_takePlants_4 16 rfl rfl)
theorem dX2_takePlants_115 : decode cX2_takePlants 115 = .ok (.goto (-25), 3) := dk_167 255 231 (dk_at dksX2_takePlants_4 19 rfl rfl)
theorem dX2_takePlants_118 : decode cX2_takePlants 118 = .ok (.return_, 1) := dk_177 (dk_at dksX2_takePlants_4 22 rfl rfl)
abbrev cX2_bench : ByteArray := prog_3_method_5_code
def yX2_bench : MethodName := ⟨RX2, "bench", "(I)[LCliffPlots$Plant;"⟩
def dkwX2_bench_0 : List UInt8 := [27, 154, 0, 10, 42, 180, 0, 36, 167, 0, 7, 42, 180, 0, 41, 176]
abbrev dktX2_bench_0 : List UInt8 := dkwX2_bench_0 ++ []
theorem dksX2_bench_0 : cX2_bench.data.toList.drop 0 = dktX2_bench_0 := by decide +kernel
theorem dX2_bench_0 : decode cX2_bench 0 = .ok (.iload_n 1, 1) := dk_27 (dk_at dksX2_bench_0 0 rfl rfl)
theorem dX2_bench_1 : decode cX2_bench 1 = .ok (.ifCond .ne 10, 3) := dk_154 0 10 (dk_at dksX2_bench_0 1 rfl rfl)
theorem dX2_bench_4 : decode cX2_bench 4 = .ok (.aload_n 0, 1) := dk_42 (dk_at dksX2_bench_0 4 rfl rfl)
theorem dX2_bench_5 : decode cX2_bench 5 = .ok (.getfield 36, 3) := dk_180 0 36 (dk_at dksX2_bench_0 5 rfl rfl)
theorem dX2_bench_8 : decode cX2_bench 8 = .ok (.goto 7, 3) := dk_167 0 7 (dk_at dksX2_bench_0 8 rfl rfl)
theorem dX2_bench_11 : decode cX2_bench 11 = .ok (.aload_n 0, 1) := dk_42 (dk_at dksX2_bench_0 11 rfl rfl)
theorem dX2_bench_12 : decode cX2_bench 12 = .ok (.getfield 41, 3) := dk_180 0 41 (dk_at dksX2_bench_0 12 rfl rfl)
theorem dX2_bench_15 : decode cX2_bench 15 = .ok (.areturn, 1) := dk_176 (dk_at dksX2_bench_0 15 rfl rfl)
abbrev cX2_like : ByteArray := prog_3_method_4_code
def yX2_like : MethodName := ⟨RX2, "like", "(LCliffPlots$Plant;)LCliffPlots$Plant;"⟩
def dkwX2_like_0 : List UInt8 := [43, 199, 0, 5, 1, 176, 42, 43, 182, 0, 128, 182, 0, 132, 77, 44, 43, 182, 0, 136, 44, 176]
abbrev dktX2_like_0 : List UInt8 := dkwX2_like_0 ++ []
theorem dksX2_like_0 : cX2_like.data.toList.drop 0 = dktX2_like_0 := by decide +kernel
theorem dX2_like_0 : decode cX2_like 0 = .ok (.aload_n 1, 1) := dk_43 (dk_at dksX2_like_0 0 rfl rfl)
theorem dX2_like_1 : decode cX2_like 1 = .ok (.ifnonnull 5, 3) := dk_199 0 5 (dk_at dksX2_like_0 1 rfl rfl)
theorem dX2_like_4 : decode cX2_like 4 = .ok (.aconst_null, 1) := dk_1 (dk_at dksX2_like_0 4 rfl rfl)
theorem dX2_like_5 : decode cX2_like 5 = .ok (.areturn, 1) := dk_176 (dk_at dksX2_like_0 5 rfl rfl)
theorem dX2_like_6 : decode cX2_like 6 = .ok (.aload_n 0, 1) := dk_42 (dk_at dksX2_like_0 6 rfl rfl)
theorem dX2_like_7 : decode cX2_like 7 = .ok (.aload_n 1, 1) := dk_43 (dk_at dksX2_like_0 7 rfl rfl)
theorem dX2_like_8 : decode cX2_like 8 = .ok (.invokevirtual 128, 3) := dk_182 0 128 (dk_at dksX2_like_0 8 rfl rfl)
theorem dX2_like_11 : decode cX2_like 11 = .ok (.invokevirtual 132, 3) := dk_182 0 132 (dk_at dksX2_like_0 11 rfl rfl)
theorem dX2_like_14 : decode cX2_like 14 = .ok (.astore_n 2, 1) := dk_77 (dk_at dksX2_like_0 14 rfl rfl)
theorem dX2_like_15 : decode cX2_like 15 = .ok (.aload_n 2, 1) := dk_44 (dk_at dksX2_like_0 15 rfl rfl)
theorem dX2_like_16 : decode cX2_like 16 = .ok (.aload_n 1, 1) := dk_43 (dk_at dksX2_like_0 16 rfl rfl)
theorem dX2_like_17 : decode cX2_like 17 = .ok (.invokevirtual 136, 3) := dk_182 0 136 (dk_at dksX2_like_0 17 rfl rfl)
theorem dX2_like_20 : decode cX2_like 20 = .ok (.aload_n 2, 1) := dk_44 (dk_at dksX2_like_0 20 rfl rfl)
theorem dX2_like_21 : decode cX2_like 21 = .ok (.areturn, 1) := dk_176 (dk_at dksX2_like_0 21 rfl rfl)
abbrev cX2_spare : ByteArray := prog_3_method_6_code
def yX2_spare : MethodName := ⟨RX2, "spare", "(I)LCliffPlots$Plant;"⟩
def dkwX2_spare_1 : List UInt8 := [44, 29, 50, 180, 0, 116, 153, 0, 9, 132, 3, 1, 167, 255, 238, 44, 29, 50, 176]
abbrev dktX2_spare_1 : List UInt8 := dkwX2_spare_1 ++ []
def dkwX2_spare_0 : List UInt8 := [27, 154, 0, 10, 42, 180, 0, 28, 167, 0, 7, 42, 180, 0, 31, 77, 3, 62, 29, 16, 17, 162, 0, 18]
abbrev dktX2_spare_0 : List UInt8 := dkwX2_spare_0 ++ dktX2_spare_1
theorem dksX2_spare_0 : cX2_spare.data.toList.drop 0 = dktX2_spare_0 := by decide +kernel
theorem dksX2_spare_1 : cX2_spare.data.toList.drop 24 = dktX2_spare_1 := dk_seg dksX2_spare_0 24 rfl rfl
theorem dX2_spare_0 : decode cX2_spare 0 = .ok (.iload_n 1, 1) := dk_27 (dk_at dksX2_spare_0 0 rfl rfl)
theorem dX2_spare_1 : decode cX2_spare 1 = .ok (.ifCond .ne 10, 3) := dk_154 0 10 (dk_at dksX2_spare_0 1 rfl rfl)
theorem dX2_spare_4 : decode cX2_spare 4 = .ok (.aload_n 0, 1) := dk_42 (dk_at dksX2_spare_0 4 rfl rfl)
theorem dX2_spare_5 : decode cX2_spare 5 = .ok (.getfield 28, 3) := dk_180 0 28 (dk_at dksX2_spare_0 5 rfl rfl)
theorem dX2_spare_8 : decode cX2_spare 8 = .ok (.goto 7, 3) := dk_167 0 7 (dk_at dksX2_spare_0 8 rfl rfl)
theorem dX2_spare_11 : decode cX2_spare 11 = .ok (.aload_n 0, 1) := dk_42 (dk_at dksX2_spare_0 11 rfl rfl)
theorem dX2_spare_12 : decode cX2_spare 12 = .ok (.getfield 31, 3) := dk_180 0 31 (dk_at dksX2_spare_0 12 rfl rfl)
theorem dX2_spare_15 : decode cX2_spare 15 = .ok (.astore_n 2, 1) := dk_77 (dk_at dksX2_spare_0 15 rfl rfl)
theorem dX2_spare_16 : decode cX2_spare 16 = .ok (.iconst 0, 1) := dk_3 (dk_at dksX2_spare_0 16 rfl rfl)
theorem dX2_spare_17 : decode cX2_spare 17 = .ok (.istore_n 3, 1) := dk_62 (dk_at dksX2_spare_0 17 rfl rfl)
theorem dX2_spare_18 : decode cX2_spare 18 = .ok (.iload_n 3, 1) := dk_29 (dk_at dksX2_spare_0 18 rfl rfl)
theorem dX2_spare_19 : decode cX2_spare 19 = .ok (.bipush 17, 2) := dk_16 17 (dk_at dksX2_spare_0 19 rfl rfl)
theorem dX2_spare_21 : decode cX2_spare 21 = .ok (.if_icmp .ge 18, 3) := dk_162 0 18 (dk_at dksX2_spare_0 21 rfl rfl)
theorem dX2_spare_24 : decode cX2_spare 24 = .ok (.aload_n 2, 1) := dk_44 (dk_at dksX2_spare_1 0 rfl rfl)
theorem dX2_spare_25 : decode cX2_spare 25 = .ok (.iload_n 3, 1) := dk_29 (dk_at dksX2_spare_1 1 rfl rfl)
theorem dX2_spare_26 : decode cX2_spare 26 = .ok (.aaload, 1) := dk_50 (dk_at dksX2_spare_1 2 rfl rfl)
theorem dX2_spare_27 : decode cX2_spare 27 = .ok (.getfield 116, 3) := dk_180 0 116 (dk_at dksX2_spare_1 3 rfl rfl)
theorem dX2_spare_30 : decode cX2_spare 30 = .ok (.ifCond .eq 9, 3) := dk_153 0 9 (dk_at dksX2_spare_1 6 rfl rfl)
theorem dX2_spare_33 : decode cX2_spare 33 = .ok (.iinc 3 1, 3) := dk_132 3 1 (dk_at dksX2_spare_1 9 rfl rfl)
theorem dX2_spare_36 : decode cX2_spare 36 = .ok (.goto (-18), 3) := dk_167 255 238 (dk_at dksX2_spare_1 12 rfl rfl)
theorem dX2_spare_39 : decode cX2_spare 39 = .ok (.aload_n 2, 1) := dk_44 (dk_at dksX2_spare_1 15 rfl rfl)
theorem dX2_spare_40 : decode cX2_spare 40 = .ok (.iload_n 3, 1) := dk_29 (dk_at dksX2_spare_1 16 rfl rfl)
theorem dX2_spare_41 : decode cX2_spare 41 = .ok (.aaload, 1) := dk_50 (dk_at dksX2_spare_1 17 rfl rfl)
theorem dX2_spare_42 : decode cX2_spare 42 = .ok (.areturn, 1) := dk_176 (dk_at dksX2_spare_1 18 rfl rfl)
abbrev cX2_count : ByteArray := prog_3_method_28_code
def yX2_count : MethodName := ⟨RX2, "count", "()I"⟩
def dkwX2_count_4 : List UInt8 := [181, 0, 113, 27, 172]
abbrev dktX2_count_4 : List UInt8 := dkwX2_count_4 ++ []
def dkwX2_count_3 : List UInt8 := [42, 180, 0, 46, 28, 50, 3, 181, 0, 228, 132, 2, 1, 167, 255, 235, 42, 89, 180, 0, 113, 27, 96]
abbrev dktX2_count_3 : List UInt8 := dkwX2_count_3 ++ dktX2_count_4
def dkwX2_count_2 : List UInt8 := [46, 29, 100, 79, 27, 29, 96, 60, 132, 2, 1, 167, 255, 208, 3, 61, 28, 42, 180, 0, 85, 162, 0, 19]
abbrev dktX2_count_2 : List UInt8 := dkwX2_count_2 ++ dktX2_count_3
def dkwX2_count_1 : List UInt8 := [160, 0, 7, 3, 167, 0, 13, 5, 42, 180, 0, 15, 28, 46, 184, 0, 207, 62, 42, 180, 0, 15, 28, 92]
abbrev dktX2_count_1 : List UInt8 := dkwX2_count_1 ++ dktX2_count_2
def dkwX2_count_0 : List UInt8 := [3, 60, 42, 182, 0, 231, 158, 0, 56, 3, 61, 28, 16, 12, 162, 0, 48, 42, 180, 0, 19, 28, 46, 2]
abbrev dktX2_count_0 : List UInt8 := dkwX2_count_0 ++ dktX2_count_1
theorem dksX2_count_0 : cX2_count.data.toList.drop 0 = dktX2_count_0 := by decide +kernel
theorem dksX2_count_1 : cX2_count.data.toList.drop 24 = dktX2_count_1 := dk_seg dksX2_count_0 24 rfl rfl
theorem dksX2_count_2 : cX2_count.data.toList.drop 48 = dktX2_count_2 := dk_seg dksX2_count_1 24 rfl rfl
theorem dksX2_count_3 : cX2_count.data.toList.drop 72 = dktX2_count_3 := dk_seg dksX2_count_2 24 rfl rfl
theorem dksX2_count_4 : cX2_count.data.toList.drop 95 = dktX2_count_4 := dk_seg dksX2_count_3 23 rfl rfl
theorem dX2_count_0 : decode cX2_count 0 = .ok (.iconst 0, 1) := dk_3 (dk_at dksX2_count_0 0 rfl rfl)
theorem dX2_count_1 : decode cX2_count 1 = .ok (.istore_n 1, 1) := dk_60 (dk_at dksX2_count_0 1 rfl rfl)
theorem dX2_count_2 : decode cX2_count 2 = .ok (.aload_n 0, 1) := dk_42 (dk_at dksX2_count_0 2 rfl rfl)
theorem dX2_count_3 : decode cX2_count 3 = .ok (.invokevirtual 231, 3) := dk_182 0 231 (dk_at dksX2_count_0 3 rfl rfl)
theorem dX2_count_6 : decode cX2_count 6 = .ok (.ifCond .le 56, 3) := dk_158 0 56 (dk_at dksX2_count_0 6 rfl rfl)
theorem dX2_count_9 : decode cX2_count 9 = .ok (.iconst 0, 1) := dk_3 (dk_at dksX2_count_0 9 rfl rfl)
theorem dX2_count_10 : decode cX2_count 10 = .ok (.istore_n 2, 1) := dk_61 (dk_at dksX2_count_0 10 rfl rfl)
theorem dX2_count_11 : decode cX2_count 11 = .ok (.iload_n 2, 1) := dk_28 (dk_at dksX2_count_0 11 rfl rfl)
theorem dX2_count_12 : decode cX2_count 12 = .ok (.bipush 12, 2) := dk_16 12 (dk_at dksX2_count_0 12 rfl rfl)
theorem dX2_count_14 : decode cX2_count 14 = .ok (.if_icmp .ge 48, 3) := dk_162 0 48 (dk_at dksX2_count_0 14 rfl rfl)
theorem dX2_count_17 : decode cX2_count 17 = .ok (.aload_n 0, 1) := dk_42 (dk_at dksX2_count_0 17 rfl rfl)
theorem dX2_count_18 : decode cX2_count 18 = .ok (.getfield 19, 3) := dk_180 0 19 (dk_at dksX2_count_0 18 rfl rfl)
theorem dX2_count_21 : decode cX2_count 21 = .ok (.iload_n 2, 1) := dk_28 (dk_at dksX2_count_0 21 rfl rfl)
theorem dX2_count_22 : decode cX2_count 22 = .ok (.iaload, 1) := dk_46 (dk_at dksX2_count_0 22 rfl rfl)
theorem dX2_count_23 : decode cX2_count 23 = .ok (.iconst (-1), 1) := dk_2 (dk_at dksX2_count_0 23 rfl rfl)
theorem dX2_count_24 : decode cX2_count 24 = .ok (.if_icmp .ne 7, 3) := dk_160 0 7 (dk_at dksX2_count_1 0 rfl rfl)
theorem dX2_count_27 : decode cX2_count 27 = .ok (.iconst 0, 1) := dk_3 (dk_at dksX2_count_1 3 rfl rfl)
theorem dX2_count_28 : decode cX2_count 28 = .ok (.goto 13, 3) := dk_167 0 13 (dk_at dksX2_count_1 4 rfl rfl)
theorem dX2_count_31 : decode cX2_count 31 = .ok (.iconst 2, 1) := dk_5 (dk_at dksX2_count_1 7 rfl rfl)
theorem dX2_count_32 : decode cX2_count 32 = .ok (.aload_n 0, 1) := dk_42 (dk_at dksX2_count_1 8 rfl rfl)
theorem dX2_count_33 : decode cX2_count 33 = .ok (.getfield 15, 3) := dk_180 0 15 (dk_at dksX2_count_1 9 rfl rfl)
theorem dX2_count_36 : decode cX2_count 36 = .ok (.iload_n 2, 1) := dk_28 (dk_at dksX2_count_1 12 rfl rfl)
theorem dX2_count_37 : decode cX2_count 37 = .ok (.iaload, 1) := dk_46 (dk_at dksX2_count_1 13 rfl rfl)
theorem dX2_count_38 : decode cX2_count 38 = .ok (.invokestatic 207, 3) := dk_184 0 207 (dk_at dksX2_count_1 14 rfl rfl)
theorem dX2_count_41 : decode cX2_count 41 = .ok (.istore_n 3, 1) := dk_62 (dk_at dksX2_count_1 17 rfl rfl)
theorem dX2_count_42 : decode cX2_count 42 = .ok (.aload_n 0, 1) := dk_42 (dk_at dksX2_count_1 18 rfl rfl)
theorem dX2_count_43 : decode cX2_count 43 = .ok (.getfield 15, 3) := dk_180 0 15 (dk_at dksX2_count_1 19 rfl rfl)
theorem dX2_count_46 : decode cX2_count 46 = .ok (.iload_n 2, 1) := dk_28 (dk_at dksX2_count_1 22 rfl rfl)
theorem dX2_count_47 : decode cX2_count 47 = .ok (.dup2, 1) := dk_92 (dk_at dksX2_count_1 23 rfl rfl)
theorem dX2_count_48 : decode cX2_count 48 = .ok (.iaload, 1) := dk_46 (dk_at dksX2_count_2 0 rfl rfl)
theorem dX2_count_49 : decode cX2_count 49 = .ok (.iload_n 3, 1) := dk_29 (dk_at dksX2_count_2 1 rfl rfl)
theorem dX2_count_50 : decode cX2_count 50 = .ok (.isub, 1) := dk_100 (dk_at dksX2_count_2 2 rfl rfl)
theorem dX2_count_51 : decode cX2_count 51 = .ok (.iastore, 1) := dk_79 (dk_at dksX2_count_2 3 rfl rfl)
theorem dX2_count_52 : decode cX2_count 52 = .ok (.iload_n 1, 1) := dk_27 (dk_at dksX2_count_2 4 rfl rfl)
theorem dX2_count_53 : decode cX2_count 53 = .ok (.iload_n 3, 1) := dk_29 (dk_at dksX2_count_2 5 rfl rfl)
theorem dX2_count_54 : decode cX2_count 54 = .ok (.iadd, 1) := dk_96 (dk_at dksX2_count_2 6 rfl rfl)
theorem dX2_count_55 : decode cX2_count 55 = .ok (.istore_n 1, 1) := dk_60 (dk_at dksX2_count_2 7 rfl rfl)
theorem dX2_count_56 : decode cX2_count 56 = .ok (.iinc 2 1, 3) := dk_132 2 1 (dk_at dksX2_count_2 8 rfl rfl)
theorem dX2_count_59 : decode cX2_count 59 = .ok (.goto (-48), 3) := dk_167 255 208 (dk_at dksX2_count_2 11 rfl rfl)
theorem dX2_count_62 : decode cX2_count 62 = .ok (.iconst 0, 1) := dk_3 (dk_at dksX2_count_2 14 rfl rfl)
theorem dX2_count_63 : decode cX2_count 63 = .ok (.istore_n 2, 1) := dk_61 (dk_at dksX2_count_2 15 rfl rfl)
theorem dX2_count_64 : decode cX2_count 64 = .ok (.iload_n 2, 1) := dk_28 (dk_at dksX2_count_2 16 rfl rfl)
theorem dX2_count_65 : decode cX2_count 65 = .ok (.aload_n 0, 1) := dk_42 (dk_at dksX2_count_2 17 rfl rfl)
theorem dX2_count_66 : decode cX2_count 66 = .ok (.getfield 85, 3) := dk_180 0 85 (dk_at dksX2_count_2 18 rfl rfl)
theorem dX2_count_69 : decode cX2_count 69 = .ok (.if_icmp .ge 19, 3) := dk_162 0 19 (dk_at dksX2_count_2 21 rfl rfl)
theorem dX2_count_72 : decode cX2_count 72 = .ok (.aload_n 0, 1) := dk_42 (dk_at dksX2_count_3 0 rfl rfl)
theorem dX2_count_73 : decode cX2_count 73 = .ok (.getfield 46, 3) := dk_180 0 46 (dk_at dksX2_count_3 1 rfl rfl)
theorem dX2_count_76 : decode cX2_count 76 = .ok (.iload_n 2, 1) := dk_28 (dk_at dksX2_count_3 4 rfl rfl)
theorem dX2_count_77 : decode cX2_count 77 = .ok (.aaload, 1) := dk_50 (dk_at dksX2_count_3 5 rfl rfl)
theorem dX2_count_78 : decode cX2_count 78 = .ok (.iconst 0, 1) := dk_3 (dk_at dksX2_count_3 6 rfl rfl)
theorem dX2_count_79 : decode cX2_count 79 = .ok (.putfield 228, 3) := dk_181 0 228 (dk_at dksX2_count_3 7 rfl rfl)
theorem dX2_count_82 : decode cX2_count 82 = .ok (.iinc 2 1, 3) := dk_132 2 1 (dk_at dksX2_count_3 10 rfl rfl)
theorem dX2_count_85 : decode cX2_count 85 = .ok (.goto (-21), 3) := dk_167 255 235 (dk_at dksX2_count_3 13 rfl rfl)
theorem dX2_count_88 : decode cX2_count 88 = .ok (.aload_n 0, 1) := dk_42 (dk_at dksX2_count_3 16 rfl rfl)
theorem dX2_count_89 : decode cX2_count 89 = .ok (.dup, 1) := dk_89 (dk_at dksX2_count_3 17 rfl rfl)
theorem dX2_count_90 : decode cX2_count 90 = .ok (.getfield 113, 3) := dk_180 0 113 (dk_at dksX2_count_3 18 rfl rfl)
theorem dX2_count_93 : decode cX2_count 93 = .ok (.iload_n 1, 1) := dk_27 (dk_at dksX2_count_3 21 rfl rfl)
theorem dX2_count_94 : decode cX2_count 94 = .ok (.iadd, 1) := dk_96 (dk_at dksX2_count_3 22 rfl rfl)
theorem dX2_count_95 : decode cX2_count 95 = .ok (.putfield 113, 3) := dk_181 0 113 (dk_at dksX2_count_4 0 rfl rfl)
theorem dX2_count_98 : decode cX2_count 98 = .ok (.iload_n 1, 1) := dk_27 (dk_at dksX2_count_4 3 rfl rfl)
theorem dX2_count_99 : decode cX2_count 99 = .ok (.ireturn, 1) := dk_172 (dk_at dksX2_count_4 4 rfl rfl)
abbrev cX2_votes : ByteArray := prog_3_method_26_code
def yX2_votes : MethodName := ⟨RX2, "votes", "()I"⟩
def dkwX2_votes_1 : List UInt8 := [132, 2, 1, 167, 255, 233, 27, 172]
abbrev dktX2_votes_1 : List UInt8 := dkwX2_votes_1 ++ []
def dkwX2_votes_0 : List UInt8 := [3, 60, 3, 61, 28, 42, 180, 0, 85, 162, 0, 21, 27, 42, 180, 0, 46, 28, 50, 180, 0, 228, 96, 60]
abbrev dktX2_votes_0 : List UInt8 := dkwX2_votes_0 ++ dktX2_votes_1
theorem dksX2_votes_0 : cX2_votes.data.toList.drop 0 = dktX2_votes_0 := by decide +kernel
theorem dksX2_votes_1 : cX2_votes.data.toList.drop 24 = dktX2_votes_1 := dk_seg dksX2_votes_0 24 rfl rfl
theorem dX2_votes_0 : decode cX2_votes 0 = .ok (.iconst 0, 1) := dk_3 (dk_at dksX2_votes_0 0 rfl rfl)
theorem dX2_votes_1 : decode cX2_votes 1 = .ok (.istore_n 1, 1) := dk_60 (dk_at dksX2_votes_0 1 rfl rfl)
theorem dX2_votes_2 : decode cX2_votes 2 = .ok (.iconst 0, 1) := dk_3 (dk_at dksX2_votes_0 2 rfl rfl)
theorem dX2_votes_3 : decode cX2_votes 3 = .ok (.istore_n 2, 1) := dk_61 (dk_at dksX2_votes_0 3 rfl rfl)
theorem dX2_votes_4 : decode cX2_votes 4 = .ok (.iload_n 2, 1) := dk_28 (dk_at dksX2_votes_0 4 rfl rfl)
theorem dX2_votes_5 : decode cX2_votes 5 = .ok (.aload_n 0, 1) := dk_42 (dk_at dksX2_votes_0 5 rfl rfl)
theorem dX2_votes_6 : decode cX2_votes 6 = .ok (.getfield 85, 3) := dk_180 0 85 (dk_at dksX2_votes_0 6 rfl rfl)
theorem dX2_votes_9 : decode cX2_votes 9 = .ok (.if_icmp .ge 21, 3) := dk_162 0 21 (dk_at dksX2_votes_0 9 rfl rfl)
theorem dX2_votes_12 : decode cX2_votes 12 = .ok (.iload_n 1, 1) := dk_27 (dk_at dksX2_votes_0 12 rfl rfl)
theorem dX2_votes_13 : decode cX2_votes 13 = .ok (.aload_n 0, 1) := dk_42 (dk_at dksX2_votes_0 13 rfl rfl)
theorem dX2_votes_14 : decode cX2_votes 14 = .ok (.getfield 46, 3) := dk_180 0 46 (dk_at dksX2_votes_0 14 rfl rfl)
theorem dX2_votes_17 : decode cX2_votes 17 = .ok (.iload_n 2, 1) := dk_28 (dk_at dksX2_votes_0 17 rfl rfl)
theorem dX2_votes_18 : decode cX2_votes 18 = .ok (.aaload, 1) := dk_50 (dk_at dksX2_votes_0 18 rfl rfl)
theorem dX2_votes_19 : decode cX2_votes 19 = .ok (.getfield 228, 3) := dk_180 0 228 (dk_at dksX2_votes_0 19 rfl rfl)
theorem dX2_votes_22 : decode cX2_votes 22 = .ok (.iadd, 1) := dk_96 (dk_at dksX2_votes_0 22 rfl rfl)
theorem dX2_votes_23 : decode cX2_votes 23 = .ok (.istore_n 1, 1) := dk_60 (dk_at dksX2_votes_0 23 rfl rfl)
theorem dX2_votes_24 : decode cX2_votes 24 = .ok (.iinc 2 1, 3) := dk_132 2 1 (dk_at dksX2_votes_1 0 rfl rfl)
theorem dX2_votes_27 : decode cX2_votes 27 = .ok (.goto (-23), 3) := dk_167 255 233 (dk_at dksX2_votes_1 3 rfl rfl)
theorem dX2_votes_30 : decode cX2_votes 30 = .ok (.iload_n 1, 1) := dk_27 (dk_at dksX2_votes_1 6 rfl rfl)
theorem dX2_votes_31 : decode cX2_votes 31 = .ok (.ireturn, 1) := dk_172 (dk_at dksX2_votes_1 7 rfl rfl)
abbrev cX2_isWell : ByteArray := prog_3_method_36_code
def yX2_isWell : MethodName := ⟨RX2, "isWell", "()Z"⟩
def dkwX2_isWell_7 : List UInt8 := [126, 60, 132, 2, 1, 167, 255, 176, 27, 172]
abbrev dktX2_isWell_7 : List UInt8 := dkwX2_isWell_7 ++ []
def dkwX2_isWell_6 : List UInt8 := [28, 48, 11, 149, 155, 0, 19, 42, 180, 0, 9, 28, 48, 18, 156, 150, 157, 0, 7, 4, 167, 0, 4, 3]
abbrev dktX2_isWell_6 : List UInt8 := dkwX2_isWell_6 ++ dktX2_isWell_7
def dkwX2_isWell_5 : List UInt8 := [46, 184, 0, 187, 50, 180, 0, 150, 28, 160, 0, 7, 4, 167, 0, 4, 3, 126, 60, 27, 42, 180, 0, 9]
abbrev dktX2_isWell_5 : List UInt8 := dkwX2_isWell_5 ++ dktX2_isWell_6
def dkwX2_isWell_4 : List UInt8 := [162, 0, 80, 27, 42, 180, 0, 19, 28, 46, 2, 159, 0, 25, 42, 180, 0, 46, 3, 42, 180, 0, 19, 28]
abbrev dktX2_isWell_4 : List UInt8 := dkwX2_isWell_4 ++ dktX2_isWell_5
def dkwX2_isWell_3 : List UInt8 := [46, 28, 160, 0, 7, 4, 167, 0, 4, 3, 126, 60, 132, 2, 1, 167, 255, 202, 3, 61, 28, 16, 12]
abbrev dktX2_isWell_3 : List UInt8 := dkwX2_isWell_3 ++ dktX2_isWell_4
def dkwX2_isWell_2 : List UInt8 := [180, 0, 150, 2, 159, 0, 25, 42, 180, 0, 19, 3, 42, 180, 0, 46, 28, 50, 180, 0, 150, 184, 0, 187]
abbrev dktX2_isWell_2 : List UInt8 := dkwX2_isWell_2 ++ dktX2_isWell_3
def dkwX2_isWell_1 : List UInt8 := [167, 0, 4, 3, 60, 3, 61, 28, 42, 180, 0, 85, 162, 0, 52, 27, 42, 180, 0, 46, 28, 50]
abbrev dktX2_isWell_1 : List UInt8 := dkwX2_isWell_1 ++ dktX2_isWell_2
def dkwX2_isWell_0 : List UInt8 := [42, 180, 0, 107, 42, 182, 0, 254, 42, 182, 1, 1, 96, 42, 180, 0, 110, 96, 160, 0, 7, 4]
abbrev dktX2_isWell_0 : List UInt8 := dkwX2_isWell_0 ++ dktX2_isWell_1
theorem dksX2_isWell_0 : cX2_isWell.data.toList.drop 0 = dktX2_isWell_0 := by decide +kernel
theorem dksX2_isWell_1 : cX2_isWell.data.toList.drop 22 = dktX2_isWell_1 := dk_seg dksX2_isWell_0 22 rfl rfl
theorem dksX2_isWell_2 : cX2_isWell.data.toList.drop 44 = dktX2_isWell_2 := dk_seg dksX2_isWell_1 22 rfl rfl
theorem dksX2_isWell_3 : cX2_isWell.data.toList.drop 68 = dktX2_isWell_3 := dk_seg dksX2_isWell_2 24 rfl rfl
theorem dksX2_isWell_4 : cX2_isWell.data.toList.drop 91 = dktX2_isWell_4 := dk_seg dksX2_isWell_3 23 rfl rfl
theorem dksX2_isWell_5 : cX2_isWell.data.toList.drop 115 = dktX2_isWell_5 := dk_seg dksX2_isWell_4 24 rfl rfl
theorem dksX2_isWell_6 : cX2_isWell.data.toList.drop 139 = dktX2_isWell_6 := dk_seg dksX2_isWell_5 24 rfl rfl
theorem dksX2_isWell_7 : cX2_isWell.data.toList.drop 163 = dktX2_isWell_7 := dk_seg dksX2_isWell_6 24 rfl rfl
theorem dX2_isWell_0 : decode cX2_isWell 0 = .ok (.aload_n 0, 1) := dk_42 (dk_at dksX2_isWell_0 0 rfl rfl)
theorem dX2_isWell_1 : decode cX2_isWell 1 = .ok (.getfield 107, 3) := dk_180 0 107 (dk_at dksX2_isWell_0 1 rfl rfl)
theorem dX2_isWell_4 : decode cX2_isWell 4 = .ok (.aload_n 0, 1) := dk_42 (dk_at dksX2_isWell_0 4 rfl rfl)
theorem dX2_isWell_5 : decode cX2_isWell 5 = .ok (.invokevirtual 254, 3) := dk_182 0 254 (dk_at dksX2_isWell_0 5 rfl rfl)
theorem dX2_isWell_8 : decode cX2_isWell 8 = .ok (.aload_n 0, 1) := dk_42 (dk_at dksX2_isWell_0 8 rfl rfl)
theorem dX2_isWell_9 : decode cX2_isWell 9 = .ok (.invokevirtual 257, 3) := dk_182 1 1 (dk_at dksX2_isWell_0 9 rfl rfl)
theorem dX2_isWell_12 : decode cX2_isWell 12 = .ok (.iadd, 1) := dk_96 (dk_at dksX2_isWell_0 12 rfl rfl)
theorem dX2_isWell_13 : decode cX2_isWell 13 = .ok (.aload_n 0, 1) := dk_42 (dk_at dksX2_isWell_0 13 rfl rfl)
theorem dX2_isWell_14 : decode cX2_isWell 14 = .ok (.getfield 110, 3) := dk_180 0 110 (dk_at dksX2_isWell_0 14 rfl rfl)
theorem dX2_isWell_17 : decode cX2_isWell 17 = .ok (.iadd, 1) := dk_96 (dk_at dksX2_isWell_0 17 rfl rfl)
theorem dX2_isWell_18 : decode cX2_isWell 18 = .ok (.if_icmp .ne 7, 3) := dk_160 0 7 (dk_at dksX2_isWell_0 18 rfl rfl)
theorem dX2_isWell_21 : decode cX2_isWell 21 = .ok (.iconst 1, 1) := dk_4 (dk_at dksX2_isWell_0 21 rfl rfl)
theorem dX2_isWell_22 : decode cX2_isWell 22 = .ok (.goto 4, 3) := dk_167 0 4 (dk_at dksX2_isWell_1 0 rfl rfl)
theorem dX2_isWell_25 : decode cX2_isWell 25 = .ok (.iconst 0, 1) := dk_3 (dk_at dksX2_isWell_1 3 rfl rfl)
theorem dX2_isWell_26 : decode cX2_isWell 26 = .ok (.istore_n 1, 1) := dk_60 (dk_at dksX2_isWell_1 4 rfl rfl)
theorem dX2_isWell_27 : decode cX2_isWell 27 = .ok (.iconst 0, 1) := dk_3 (dk_at dksX2_isWell_1 5 rfl rfl)
theorem dX2_isWell_28 : decode cX2_isWell 28 = .ok (.istore_n 2, 1) := dk_61 (dk_at dksX2_isWell_1 6 rfl rfl)
theorem dX2_isWell_29 : decode cX2_isWell 29 = .ok (.iload_n 2, 1) := dk_28 (dk_at dksX2_isWell_1 7 rfl rfl)
theorem dX2_isWell_30 : decode cX2_isWell 30 = .ok (.aload_n 0, 1) := dk_42 (dk_at dksX2_isWell_1 8 rfl rfl)
theorem dX2_isWell_31 : decode cX2_isWell 31 = .ok (.getfield 85, 3) := dk_180 0 85 (dk_at dksX2_isWell_1 9 rfl rfl)
theorem dX2_isWell_34 : decode cX2_isWell 34 = .ok (.if_icmp .ge 52, 3) := dk_162 0 52 (dk_at dksX2_isWell_1 12 rfl rfl)
theorem dX2_isWell_37 : decode cX2_isWell 37 = .ok (.iload_n 1, 1) := dk_27 (dk_at dksX2_isWell_1 15 rfl rfl)
theorem dX2_isWell_38 : decode cX2_isWell 38 = .ok (.aload_n 0, 1) := dk_42 (dk_at dksX2_isWell_1 16 rfl rfl)
theorem dX2_isWell_39 : decode cX2_isWell 39 = .ok (.getfield 46, 3) := dk_180 0 46 (dk_at dksX2_isWell_1 17 rfl rfl)
theorem dX2_isWell_42 : decode cX2_isWell 42 = .ok (.iload_n 2, 1) := dk_28 (dk_at dksX2_isWell_1 20 rfl rfl)
theorem dX2_isWell_43 : decode cX2_isWell 43 = .ok (.aaload, 1) := dk_50 (dk_at dksX2_isWell_1 21 rfl rfl)
theorem dX2_isWell_44 : decode cX2_isWell 44 = .ok (.getfield 150, 3) := dk_180 0 150 (dk_at dksX2_isWell_2 0 rfl rfl)
theorem dX2_isWell_47 : decode cX2_isWell 47 = .ok (.iconst (-1), 1) := dk_2 (dk_at dksX2_isWell_2 3 rfl rfl)
theorem dX2_isWell_48 : decode cX2_isWell 48 = .ok (.if_icmp .eq 25, 3) := dk_159 0 25 (dk_at dksX2_isWell_2 4 rfl rfl)
theorem dX2_isWell_51 : decode cX2_isWell 51 = .ok (.aload_n 0, 1) := dk_42 (dk_at dksX2_isWell_2 7 rfl rfl)
theorem dX2_isWell_52 : decode cX2_isWell 52 = .ok (.getfield 19, 3) := dk_180 0 19 (dk_at dksX2_isWell_2 8 rfl rfl)
theorem dX2_isWell_55 : decode cX2_isWell 55 = .ok (.iconst 0, 1) := dk_3 (dk_at dksX2_isWell_2 11 rfl rfl)
theorem dX2_isWell_56 : decode cX2_isWell 56 = .ok (.aload_n 0, 1) := dk_42 (dk_at dksX2_isWell_2 12 rfl rfl)
theorem dX2_isWell_57 : decode cX2_isWell 57 = .ok (.getfield 46, 3) := dk_180 0 46 (dk_at dksX2_isWell_2 13 rfl rfl)
theorem dX2_isWell_60 : decode cX2_isWell 60 = .ok (.iload_n 2, 1) := dk_28 (dk_at dksX2_isWell_2 16 rfl rfl)
theorem dX2_isWell_61 : decode cX2_isWell 61 = .ok (.aaload, 1) := dk_50 (dk_at dksX2_isWell_2 17 rfl rfl)
theorem dX2_isWell_62 : decode cX2_isWell 62 = .ok (.getfield 150, 3) := dk_180 0 150 (dk_at dksX2_isWell_2 18 rfl rfl)
theorem dX2_isWell_65 : decode cX2_isWell 65 = .ok (.invokestatic 187, 3) := dk_184 0 187 (dk_at dksX2_isWell_2 21 rfl rfl)
theorem dX2_isWell_68 : decode cX2_isWell 68 = .ok (.iaload, 1) := dk_46 (dk_at dksX2_isWell_3 0 rfl rfl)
theorem dX2_isWell_69 : decode cX2_isWell 69 = .ok (.iload_n 2, 1) := dk_28 (dk_at dksX2_isWell_3 1 rfl rfl)
theorem dX2_isWell_70 : decode cX2_isWell 70 = .ok (.if_icmp .ne 7, 3) := dk_160 0 7 (dk_at dksX2_isWell_3 2 rfl rfl)
theorem dX2_isWell_73 : decode cX2_isWell 73 = .ok (.iconst 1, 1) := dk_4 (dk_at dksX2_isWell_3 5 rfl rfl)
theorem dX2_isWell_74 : decode cX2_isWell 74 = .ok (.goto 4, 3) := dk_167 0 4 (dk_at dksX2_isWell_3 6 rfl rfl)
theorem dX2_isWell_77 : decode cX2_isWell 77 = .ok (.iconst 0, 1) := dk_3 (dk_at dksX2_isWell_3 9 rfl rfl)
theorem dX2_isWell_78 : decode cX2_isWell 78 = .ok (.iand, 1) := dk_126 (dk_at dksX2_isWell_3 10 rfl rfl)
theorem dX2_isWell_79 : decode cX2_isWell 79 = .ok (.istore_n 1, 1) := dk_60 (dk_at dksX2_isWell_3 11 rfl rfl)
theorem dX2_isWell_80 : decode cX2_isWell 80 = .ok (.iinc 2 1, 3) := dk_132 2 1 (dk_at dksX2_isWell_3 12 rfl rfl)
theorem dX2_isWell_83 : decode cX2_isWell 83 = .ok (.goto (-54), 3) := dk_167 255 202 (dk_at dksX2_isWell_3 15 rfl rfl)
theorem dX2_isWell_86 : decode cX2_isWell 86 = .ok (.iconst 0, 1) := dk_3 (dk_at dksX2_isWell_3 18 rfl rfl)
theorem dX2_isWell_87 : decode cX2_isWell 87 = .ok (.istore_n 2, 1) := dk_61 (dk_at dksX2_isWell_3 19 rfl rfl)
theorem dX2_isWell_88 : decode cX2_isWell 88 = .ok (.iload_n 2, 1) := dk_28 (dk_at dksX2_isWell_3 20 rfl rfl)
theorem dX2_isWell_89 : decode cX2_isWell 89 = .ok (.bipush 12, 2) := dk_16 12 (dk_at dksX2_isWell_3 21 rfl rfl)
theorem dX2_isWell_91 : decode cX2_isWell 91 = .ok (.if_icmp .ge 80, 3) := dk_162 0 80 (dk_at dksX2_isWell_4 0 rfl rfl)
theorem dX2_isWell_94 : decode cX2_isWell 94 = .ok (.iload_n 1, 1) := dk_27 (dk_at dksX2_isWell_4 3 rfl rfl)
theorem dX2_isWell_95 : decode cX2_isWell 95 = .ok (.aload_n 0, 1) := dk_42 (dk_at dksX2_isWell_4 4 rfl rfl)
theorem dX2_isWell_96 : decode cX2_isWell 96 = .ok (.getfield 19, 3) := dk_180 0 19 (dk_at dksX2_isWell_4 5 rfl rfl)
theorem dX2_isWell_99 : decode cX2_isWell 99 = .ok (.iload_n 2, 1) := dk_28 (dk_at dksX2_isWell_4 8 rfl rfl)
theorem dX2_isWell_100 : decode cX2_isWell 100 = .ok (.iaload, 1) := dk_46 (dk_at dksX2_isWell_4 9 rfl rfl)
theorem dX2_isWell_101 : decode cX2_isWell 101 = .ok (.iconst (-1), 1) := dk_2 (dk_at dksX2_isWell_4 10 rfl rfl)
theorem dX2_isWell_102 : decode cX2_isWell 102 = .ok (.if_icmp .eq 25, 3) := dk_159 0 25 (dk_at dksX2_isWell_4 11 rfl rfl)
theorem dX2_isWell_105 : decode cX2_isWell 105 = .ok (.aload_n 0, 1) := dk_42 (dk_at dksX2_isWell_4 14 rfl rfl)
theorem dX2_isWell_106 : decode cX2_isWell 106 = .ok (.getfield 46, 3) := dk_180 0 46 (dk_at dksX2_isWell_4 15 rfl rfl)
theorem dX2_isWell_109 : decode cX2_isWell 109 = .ok (.iconst 0, 1) := dk_3 (dk_at dksX2_isWell_4 18 rfl rfl)
theorem dX2_isWell_110 : decode cX2_isWell 110 = .ok (.aload_n 0, 1) := dk_42 (dk_at dksX2_isWell_4 19 rfl rfl)
theorem dX2_isWell_111 : decode cX2_isWell 111 = .ok (.getfield 19, 3) := dk_180 0 19 (dk_at dksX2_isWell_4 20 rfl rfl)
theorem dX2_isWell_114 : decode cX2_isWell 114 = .ok (.iload_n 2, 1) := dk_28 (dk_at dksX2_isWell_4 23 rfl rfl)
theorem dX2_isWell_115 : decode cX2_isWell 115 = .ok (.iaload, 1) := dk_46 (dk_at dksX2_isWell_5 0 rfl rfl)
theorem dX2_isWell_116 : decode cX2_isWell 116 = .ok (.invokestatic 187, 3) := dk_184 0 187 (dk_at dksX2_isWell_5 1 rfl rfl)
theorem dX2_isWell_119 : decode cX2_isWell 119 = .ok (.aaload, 1) := dk_50 (dk_at dksX2_isWell_5 4 rfl rfl)
theorem dX2_isWell_120 : decode cX2_isWell 120 = .ok (.getfield 150, 3) := dk_180 0 150 (dk_at dksX2_isWell_5 5 rfl rfl)
theorem dX2_isWell_123 : decode cX2_isWell 123 = .ok (.iload_n 2, 1) := dk_28 (dk_at dksX2_isWell_5 8 rfl rfl)
theorem dX2_isWell_124 : decode cX2_isWell 124 = .ok (.if_icmp .ne 7, 3) := dk_160 0 7 (dk_at dksX2_isWell_5 9 rfl rfl)
theorem dX2_isWell_127 : decode cX2_isWell 127 = .ok (.iconst 1, 1) := dk_4 (dk_at dksX2_isWell_5 12 rfl rfl)
theorem dX2_isWell_128 : decode cX2_isWell 128 = .ok (.goto 4, 3) := dk_167 0 4 (dk_at dksX2_isWell_5 13 rfl rfl)
theorem dX2_isWell_131 : decode cX2_isWell 131 = .ok (.iconst 0, 1) := dk_3 (dk_at dksX2_isWell_5 16 rfl rfl)
theorem dX2_isWell_132 : decode cX2_isWell 132 = .ok (.iand, 1) := dk_126 (dk_at dksX2_isWell_5 17 rfl rfl)
theorem dX2_isWell_133 : decode cX2_isWell 133 = .ok (.istore_n 1, 1) := dk_60 (dk_at dksX2_isWell_5 18 rfl rfl)
theorem dX2_isWell_134 : decode cX2_isWell 134 = .ok (.iload_n 1, 1) := dk_27 (dk_at dksX2_isWell_5 19 rfl rfl)
theorem dX2_isWell_135 : decode cX2_isWell 135 = .ok (.aload_n 0, 1) := dk_42 (dk_at dksX2_isWell_5 20 rfl rfl)
theorem dX2_isWell_136 : decode cX2_isWell 136 = .ok (.getfield 9, 3) := dk_180 0 9 (dk_at dksX2_isWell_5 21 rfl rfl)
theorem dX2_isWell_139 : decode cX2_isWell 139 = .ok (.iload_n 2, 1) := dk_28 (dk_at dksX2_isWell_6 0 rfl rfl)
theorem dX2_isWell_140 : decode cX2_isWell 140 = .ok (.faload, 1) := dk_48 (dk_at dksX2_isWell_6 1 rfl rfl)
theorem dX2_isWell_141 : decode cX2_isWell 141 = .ok (.fconst 0, 1) := dk_11 (dk_at dksX2_isWell_6 2 rfl rfl)
theorem dX2_isWell_142 : decode cX2_isWell 142 = .ok (.fcmp .l, 1) := dk_149 (dk_at dksX2_isWell_6 3 rfl rfl)
theorem dX2_isWell_143 : decode cX2_isWell 143 = .ok (.ifCond .lt 19, 3) := dk_155 0 19 (dk_at dksX2_isWell_6 4 rfl rfl)
theorem dX2_isWell_146 : decode cX2_isWell 146 = .ok (.aload_n 0, 1) := dk_42 (dk_at dksX2_isWell_6 7 rfl rfl)
theorem dX2_isWell_147 : decode cX2_isWell 147 = .ok (.getfield 9, 3) := dk_180 0 9 (dk_at dksX2_isWell_6 8 rfl rfl)
theorem dX2_isWell_150 : decode cX2_isWell 150 = .ok (.iload_n 2, 1) := dk_28 (dk_at dksX2_isWell_6 11 rfl rfl)
theorem dX2_isWell_151 : decode cX2_isWell 151 = .ok (.faload, 1) := dk_48 (dk_at dksX2_isWell_6 12 rfl rfl)
theorem dX2_isWell_152 : decode cX2_isWell 152 = .ok (.ldc 156, 2) := dk_18 156 (dk_at dksX2_isWell_6 13 rfl rfl)
theorem dX2_isWell_154 : decode cX2_isWell 154 = .ok (.fcmp .g, 1) := dk_150 (dk_at dksX2_isWell_6 15 rfl rfl)
theorem dX2_isWell_155 : decode cX2_isWell 155 = .ok (.ifCond .gt 7, 3) := dk_157 0 7 (dk_at dksX2_isWell_6 16 rfl rfl)
theorem dX2_isWell_158 : decode cX2_isWell 158 = .ok (.iconst 1, 1) := dk_4 (dk_at dksX2_isWell_6 19 rfl rfl)
theorem dX2_isWell_159 : decode cX2_isWell 159 = .ok (.goto 4, 3) := dk_167 0 4 (dk_at dksX2_isWell_6 20 rfl rfl)
theorem dX2_isWell_162 : decode cX2_isWell 162 = .ok (.iconst 0, 1) := dk_3 (dk_at dksX2_isWell_6 23 rfl rfl)
theorem dX2_isWell_163 : decode cX2_isWell 163 = .ok (.iand, 1) := dk_126 (dk_at dksX2_isWell_7 0 rfl rfl)
theorem dX2_isWell_164 : decode cX2_isWell 164 = .ok (.istore_n 1, 1) := dk_60 (dk_at dksX2_isWell_7 1 rfl rfl)
theorem dX2_isWell_165 : decode cX2_isWell 165 = .ok (.iinc 2 1, 3) := dk_132 2 1 (dk_at dksX2_isWell_7 2 rfl rfl)
theorem dX2_isWell_168 : decode cX2_isWell 168 = .ok (.goto (-80), 3) := dk_167 255 176 (dk_at dksX2_isWell_7 5 rfl rfl)
theorem dX2_isWell_171 : decode cX2_isWell 171 = .ok (.iload_n 1, 1) := dk_27 (dk_at dksX2_isWell_7 8 rfl rfl)
theorem dX2_isWell_172 : decode cX2_isWell 172 = .ok (.ireturn, 1) := dk_172 (dk_at dksX2_isWell_7 9 rfl rfl)
abbrev cX2_onBenches : ByteArray := prog_3_method_32_code
def yX2_onBenches : MethodName := ⟨RX2, "onBenches", "()I"⟩
def dkwX2_onBenches_2 : List UInt8 := [172]
abbrev dktX2_onBenches_2 : List UInt8 := dkwX2_onBenches_2 ++ []
def dkwX2_onBenches_1 : List UInt8 := [42, 180, 0, 41, 28, 50, 199, 0, 7, 3, 167, 0, 4, 4, 96, 96, 60, 132, 2, 1, 167, 255, 216, 27]
abbrev dktX2_onBenches_1 : List UInt8 := dkwX2_onBenches_1 ++ dktX2_onBenches_2
def dkwX2_onBenches_0 : List UInt8 := [3, 60, 3, 61, 28, 8, 162, 0, 41, 27, 42, 180, 0, 36, 28, 50, 199, 0, 7, 3, 167, 0, 4, 4]
abbrev dktX2_onBenches_0 : List UInt8 := dkwX2_onBenches_0 ++ dktX2_onBenches_1
theorem dksX2_onBenches_0 : cX2_onBenches.data.toList.drop 0 = dktX2_onBenches_0 := by decide +kernel
theorem dksX2_onBenches_1 : cX2_onBenches.data.toList.drop 24 = dktX2_onBenches_1 := dk_seg dksX2_onBenches_0 24 rfl rfl
theorem dksX2_onBenches_2 : cX2_onBenches.data.toList.drop 48 = dktX2_onBenches_2 := dk_seg dksX2_onBenches_1 24 rfl rfl
theorem dX2_onBenches_0 : decode cX2_onBenches 0 = .ok (.iconst 0, 1) := dk_3 (dk_at dksX2_onBenches_0 0 rfl rfl)
theorem dX2_onBenches_1 : decode cX2_onBenches 1 = .ok (.istore_n 1, 1) := dk_60 (dk_at dksX2_onBenches_0 1 rfl rfl)
theorem dX2_onBenches_2 : decode cX2_onBenches 2 = .ok (.iconst 0, 1) := dk_3 (dk_at dksX2_onBenches_0 2 rfl rfl)
theorem dX2_onBenches_3 : decode cX2_onBenches 3 = .ok (.istore_n 2, 1) := dk_61 (dk_at dksX2_onBenches_0 3 rfl rfl)
theorem dX2_onBenches_4 : decode cX2_onBenches 4 = .ok (.iload_n 2, 1) := dk_28 (dk_at dksX2_onBenches_0 4 rfl rfl)
theorem dX2_onBenches_5 : decode cX2_onBenches 5 = .ok (.iconst 5, 1) := dk_8 (dk_at dksX2_onBenches_0 5 rfl rfl)
theorem dX2_onBenches_6 : decode cX2_onBenches 6 = .ok (.if_icmp .ge 41, 3) := dk_162 0 41 (dk_at dksX2_onBenches_0 6 rfl rfl)
theorem dX2_onBenches_9 : decode cX2_onBenches 9 = .ok (.iload_n 1, 1) := dk_27 (dk_at dksX2_onBenches_0 9 rfl rfl)
theorem dX2_onBenches_10 : decode cX2_onBenches 10 = .ok (.aload_n 0, 1) := dk_42 (dk_at dksX2_onBenches_0 10 rfl rfl)
theorem dX2_onBenches_11 : decode cX2_onBenches 11 = .ok (.getfield 36, 3) := dk_180 0 36 (dk_at dksX2_onBenches_0 11 rfl rfl)
theorem dX2_onBenches_14 : decode cX2_onBenches 14 = .ok (.iload_n 2, 1) := dk_28 (dk_at dksX2_onBenches_0 14 rfl rfl)
theorem dX2_onBenches_15 : decode cX2_onBenches 15 = .ok (.aaload, 1) := dk_50 (dk_at dksX2_onBenches_0 15 rfl rfl)
theorem dX2_onBenches_16 : decode cX2_onBenches 16 = .ok (.ifnonnull 7, 3) := dk_199 0 7 (dk_at dksX2_onBenches_0 16 rfl rfl)
theorem dX2_onBenches_19 : decode cX2_onBenches 19 = .ok (.iconst 0, 1) := dk_3 (dk_at dksX2_onBenches_0 19 rfl rfl)
theorem dX2_onBenches_20 : decode cX2_onBenches 20 = .ok (.goto 4, 3) := dk_167 0 4 (dk_at dksX2_onBenches_0 20 rfl rfl)
theorem dX2_onBenches_23 : decode cX2_onBenches 23 = .ok (.iconst 1, 1) := dk_4 (dk_at dksX2_onBenches_0 23 rfl rfl)
theorem dX2_onBenches_24 : decode cX2_onBenches 24 = .ok (.aload_n 0, 1) := dk_42 (dk_at dksX2_onBenches_1 0 rfl rfl)
theorem dX2_onBenches_25 : decode cX2_onBenches 25 = .ok (.getfield 41, 3) := dk_180 0 41 (dk_at dksX2_onBenches_1 1 rfl rfl)
theorem dX2_onBenches_28 : decode cX2_onBenches 28 = .ok (.iload_n 2, 1) := dk_28 (dk_at dksX2_onBenches_1 4 rfl rfl)
theorem dX2_onBenches_29 : decode cX2_onBenches 29 = .ok (.aaload, 1) := dk_50 (dk_at dksX2_onBenches_1 5 rfl rfl)
theorem dX2_onBenches_30 : decode cX2_onBenches 30 = .ok (.ifnonnull 7, 3) := dk_199 0 7 (dk_at dksX2_onBenches_1 6 rfl rfl)
theorem dX2_onBenches_33 : decode cX2_onBenches 33 = .ok (.iconst 0, 1) := dk_3 (dk_at dksX2_onBenches_1 9 rfl rfl)
theorem dX2_onBenches_34 : decode cX2_onBenches 34 = .ok (.goto 4, 3) := dk_167 0 4 (dk_at dksX2_onBenches_1 10 rfl rfl)
theorem dX2_onBenches_37 : decode cX2_onBenches 37 = .ok (.iconst 1, 1) := dk_4 (dk_at dksX2_onBenches_1 13 rfl rfl)
theorem dX2_onBenches_38 : decode cX2_onBenches 38 = .ok (.iadd, 1) := dk_96 (dk_at dksX2_onBenches_1 14 rfl rfl)
theorem dX2_onBenches_39 : decode cX2_onBenches 39 = .ok (.iadd, 1) := dk_96 (dk_at dksX2_onBenches_1 15 rfl rfl)
theorem dX2_onBenches_40 : decode cX2_onBenches 40 = .ok (.istore_n 1, 1) := dk_60 (dk_at dksX2_onBenches_1 16 rfl rfl)
theorem dX2_onBenches_41 : decode cX2_onBenches 41 = .ok (.iinc 2 1, 3) := dk_132 2 1 (dk_at dksX2_onBenches_1 17 rfl rfl)
theorem dX2_onBenches_44 : decode cX2_onBenches 44 = .ok (.goto (-40), 3) := dk_167 255 216 (dk_at dksX2_onBenches_1 20 rfl rfl)
theorem dX2_onBenches_47 : decode cX2_onBenches 47 = .ok (.iload_n 1, 1) := dk_27 (dk_at dksX2_onBenches_1 23 rfl rfl)
theorem dX2_onBenches_48 : decode cX2_onBenches 48 = .ok (.ireturn, 1) := dk_172 (dk_at dksX2_onBenches_2 0 rfl rfl)
abbrev cX2_crops : ByteArray := prog_3_method_33_code
def yX2_crops : MethodName := ⟨RX2, "crops", "()I"⟩
def dkwX2_crops_1 : List UInt8 := [4, 96, 60, 132, 2, 1, 167, 255, 230, 27, 172]
abbrev dktX2_crops_1 : List UInt8 := dkwX2_crops_1 ++ []
def dkwX2_crops_0 : List UInt8 := [3, 60, 3, 61, 28, 16, 12, 162, 0, 26, 27, 42, 180, 0, 24, 28, 50, 199, 0, 7, 3, 167, 0, 4]
abbrev dktX2_crops_0 : List UInt8 := dkwX2_crops_0 ++ dktX2_crops_1
theorem dksX2_crops_0 : cX2_crops.data.toList.drop 0 = dktX2_crops_0 := by decide +kernel
theorem dksX2_crops_1 : cX2_crops.data.toList.drop 24 = dktX2_crops_1 := dk_seg dksX2_crops_0 24 rfl rfl
theorem dX2_crops_0 : decode cX2_crops 0 = .ok (.iconst 0, 1) := dk_3 (dk_at dksX2_crops_0 0 rfl rfl)
theorem dX2_crops_1 : decode cX2_crops 1 = .ok (.istore_n 1, 1) := dk_60 (dk_at dksX2_crops_0 1 rfl rfl)
theorem dX2_crops_2 : decode cX2_crops 2 = .ok (.iconst 0, 1) := dk_3 (dk_at dksX2_crops_0 2 rfl rfl)
theorem dX2_crops_3 : decode cX2_crops 3 = .ok (.istore_n 2, 1) := dk_61 (dk_at dksX2_crops_0 3 rfl rfl)
theorem dX2_crops_4 : decode cX2_crops 4 = .ok (.iload_n 2, 1) := dk_28 (dk_at dksX2_crops_0 4 rfl rfl)
theorem dX2_crops_5 : decode cX2_crops 5 = .ok (.bipush 12, 2) := dk_16 12 (dk_at dksX2_crops_0 5 rfl rfl)
theorem dX2_crops_7 : decode cX2_crops 7 = .ok (.if_icmp .ge 26, 3) := dk_162 0 26 (dk_at dksX2_crops_0 7 rfl rfl)
theorem dX2_crops_10 : decode cX2_crops 10 = .ok (.iload_n 1, 1) := dk_27 (dk_at dksX2_crops_0 10 rfl rfl)
theorem dX2_crops_11 : decode cX2_crops 11 = .ok (.aload_n 0, 1) := dk_42 (dk_at dksX2_crops_0 11 rfl rfl)
theorem dX2_crops_12 : decode cX2_crops 12 = .ok (.getfield 24, 3) := dk_180 0 24 (dk_at dksX2_crops_0 12 rfl rfl)
theorem dX2_crops_15 : decode cX2_crops 15 = .ok (.iload_n 2, 1) := dk_28 (dk_at dksX2_crops_0 15 rfl rfl)
theorem dX2_crops_16 : decode cX2_crops 16 = .ok (.aaload, 1) := dk_50 (dk_at dksX2_crops_0 16 rfl rfl)
theorem dX2_crops_17 : decode cX2_crops 17 = .ok (.ifnonnull 7, 3) := dk_199 0 7 (dk_at dksX2_crops_0 17 rfl rfl)
theorem dX2_crops_20 : decode cX2_crops 20 = .ok (.iconst 0, 1) := dk_3 (dk_at dksX2_crops_0 20 rfl rfl)
theorem dX2_crops_21 : decode cX2_crops 21 = .ok (.goto 4, 3) := dk_167 0 4 (dk_at dksX2_crops_0 21 rfl rfl)
theorem dX2_crops_24 : decode cX2_crops 24 = .ok (.iconst 1, 1) := dk_4 (dk_at dksX2_crops_1 0 rfl rfl)
theorem dX2_crops_25 : decode cX2_crops 25 = .ok (.iadd, 1) := dk_96 (dk_at dksX2_crops_1 1 rfl rfl)
theorem dX2_crops_26 : decode cX2_crops 26 = .ok (.istore_n 1, 1) := dk_60 (dk_at dksX2_crops_1 2 rfl rfl)
theorem dX2_crops_27 : decode cX2_crops 27 = .ok (.iinc 2 1, 3) := dk_132 2 1 (dk_at dksX2_crops_1 3 rfl rfl)
theorem dX2_crops_30 : decode cX2_crops 30 = .ok (.goto (-26), 3) := dk_167 255 230 (dk_at dksX2_crops_1 6 rfl rfl)
theorem dX2_crops_33 : decode cX2_crops 33 = .ok (.iload_n 1, 1) := dk_27 (dk_at dksX2_crops_1 9 rfl rfl)
theorem dX2_crops_34 : decode cX2_crops 34 = .ok (.ireturn, 1) := dk_172 (dk_at dksX2_crops_1 10 rfl rfl)
abbrev cX2_dug : ByteArray := prog_3_method_10_code
def yX2_dug : MethodName := ⟨RX2, "dug", "()I"⟩
def dkwX2_dug_1 : List UInt8 := [167, 0, 4, 4, 96, 60, 132, 2, 1, 167, 255, 229, 27, 172]
abbrev dktX2_dug_1 : List UInt8 := dkwX2_dug_1 ++ []
def dkwX2_dug_0 : List UInt8 := [3, 60, 3, 61, 28, 16, 12, 162, 0, 27, 27, 42, 180, 0, 19, 28, 46, 2, 160, 0, 7, 3]
abbrev dktX2_dug_0 : List UInt8 := dkwX2_dug_0 ++ dktX2_dug_1
theorem dksX2_dug_0 : cX2_dug.data.toList.drop 0 = dktX2_dug_0 := by decide +kernel
theorem dksX2_dug_1 : cX2_dug.data.toList.drop 22 = dktX2_dug_1 := dk_seg dksX2_dug_0 22 rfl rfl
theorem dX2_dug_0 : decode cX2_dug 0 = .ok (.iconst 0, 1) := dk_3 (dk_at dksX2_dug_0 0 rfl rfl)
theorem dX2_dug_1 : decode cX2_dug 1 = .ok (.istore_n 1, 1) := dk_60 (dk_at dksX2_dug_0 1 rfl rfl)
theorem dX2_dug_2 : decode cX2_dug 2 = .ok (.iconst 0, 1) := dk_3 (dk_at dksX2_dug_0 2 rfl rfl)
theorem dX2_dug_3 : decode cX2_dug 3 = .ok (.istore_n 2, 1) := dk_61 (dk_at dksX2_dug_0 3 rfl rfl)
theorem dX2_dug_4 : decode cX2_dug 4 = .ok (.iload_n 2, 1) := dk_28 (dk_at dksX2_dug_0 4 rfl rfl)
theorem dX2_dug_5 : decode cX2_dug 5 = .ok (.bipush 12, 2) := dk_16 12 (dk_at dksX2_dug_0 5 rfl rfl)
theorem dX2_dug_7 : decode cX2_dug 7 = .ok (.if_icmp .ge 27, 3) := dk_162 0 27 (dk_at dksX2_dug_0 7 rfl rfl)
theorem dX2_dug_10 : decode cX2_dug 10 = .ok (.iload_n 1, 1) := dk_27 (dk_at dksX2_dug_0 10 rfl rfl)
theorem dX2_dug_11 : decode cX2_dug 11 = .ok (.aload_n 0, 1) := dk_42 (dk_at dksX2_dug_0 11 rfl rfl)
theorem dX2_dug_12 : decode cX2_dug 12 = .ok (.getfield 19, 3) := dk_180 0 19 (dk_at dksX2_dug_0 12 rfl rfl)
theorem dX2_dug_15 : decode cX2_dug 15 = .ok (.iload_n 2, 1) := dk_28 (dk_at dksX2_dug_0 15 rfl rfl)
theorem dX2_dug_16 : decode cX2_dug 16 = .ok (.iaload, 1) := dk_46 (dk_at dksX2_dug_0 16 rfl rfl)
theorem dX2_dug_17 : decode cX2_dug 17 = .ok (.iconst (-1), 1) := dk_2 (dk_at dksX2_dug_0 17 rfl rfl)
theorem dX2_dug_18 : decode cX2_dug 18 = .ok (.if_icmp .ne 7, 3) := dk_160 0 7 (dk_at dksX2_dug_0 18 rfl rfl)
theorem dX2_dug_21 : decode cX2_dug 21 = .ok (.iconst 0, 1) := dk_3 (dk_at dksX2_dug_0 21 rfl rfl)
theorem dX2_dug_22 : decode cX2_dug 22 = .ok (.goto 4, 3) := dk_167 0 4 (dk_at dksX2_dug_1 0 rfl rfl)
theorem dX2_dug_25 : decode cX2_dug 25 = .ok (.iconst 1, 1) := dk_4 (dk_at dksX2_dug_1 3 rfl rfl)
theorem dX2_dug_26 : decode cX2_dug 26 = .ok (.iadd, 1) := dk_96 (dk_at dksX2_dug_1 4 rfl rfl)
theorem dX2_dug_27 : decode cX2_dug 27 = .ok (.istore_n 1, 1) := dk_60 (dk_at dksX2_dug_1 5 rfl rfl)
theorem dX2_dug_28 : decode cX2_dug 28 = .ok (.iinc 2 1, 3) := dk_132 2 1 (dk_at dksX2_dug_1 6 rfl rfl)
theorem dX2_dug_31 : decode cX2_dug 31 = .ok (.goto (-27), 3) := dk_167 255 229 (dk_at dksX2_dug_1 9 rfl rfl)
theorem dX2_dug_34 : decode cX2_dug 34 = .ok (.iload_n 1, 1) := dk_27 (dk_at dksX2_dug_1 12 rfl rfl)
theorem dX2_dug_35 : decode cX2_dug 35 = .ok (.ireturn, 1) := dk_172 (dk_at dksX2_dug_1 13 rfl rfl)
abbrev cX2_member : ByteArray := prog_3_method_9_code
def yX2_member : MethodName := ⟨RX2, "member", "()I"⟩
def dkwX2_member_2 : List UInt8 := [172]
abbrev dktX2_member_2 : List UInt8 := dkwX2_member_2 ++ []
def dkwX2_member_1 : List UInt8 := [42, 180, 0, 85, 50, 182, 0, 147, 42, 89, 180, 0, 85, 4, 96, 181, 0, 85, 42, 180, 0, 85, 4, 100]
abbrev dktX2_member_1 : List UInt8 := dkwX2_member_1 ++ dktX2_member_2
def dkwX2_member_0 : List UInt8 := [42, 180, 0, 85, 16, 6, 160, 0, 7, 4, 167, 0, 4, 3, 4, 16, 6, 184, 0, 143, 42, 180, 0, 46]
abbrev dktX2_member_0 : List UInt8 := dkwX2_member_0 ++ dktX2_member_1
theorem dksX2_member_0 : cX2_member.data.toList.drop 0 = dktX2_member_0 := by decide +kernel
theorem dksX2_member_1 : cX2_member.data.toList.drop 24 = dktX2_member_1 := dk_seg dksX2_member_0 24 rfl rfl
theorem dksX2_member_2 : cX2_member.data.toList.drop 48 = dktX2_member_2 := dk_seg dksX2_member_1 24 rfl rfl
theorem dX2_member_0 : decode cX2_member 0 = .ok (.aload_n 0, 1) := dk_42 (dk_at dksX2_member_0 0 rfl rfl)
theorem dX2_member_1 : decode cX2_member 1 = .ok (.getfield 85, 3) := dk_180 0 85 (dk_at dksX2_member_0 1 rfl rfl)
theorem dX2_member_4 : decode cX2_member 4 = .ok (.bipush 6, 2) := dk_16 6 (dk_at dksX2_member_0 4 rfl rfl)
theorem dX2_member_6 : decode cX2_member 6 = .ok (.if_icmp .ne 7, 3) := dk_160 0 7 (dk_at dksX2_member_0 6 rfl rfl)
theorem dX2_member_9 : decode cX2_member 9 = .ok (.iconst 1, 1) := dk_4 (dk_at dksX2_member_0 9 rfl rfl)
theorem dX2_member_10 : decode cX2_member 10 = .ok (.goto 4, 3) := dk_167 0 4 (dk_at dksX2_member_0 10 rfl rfl)
theorem dX2_member_13 : decode cX2_member 13 = .ok (.iconst 0, 1) := dk_3 (dk_at dksX2_member_0 13 rfl rfl)
theorem dX2_member_14 : decode cX2_member 14 = .ok (.iconst 1, 1) := dk_4 (dk_at dksX2_member_0 14 rfl rfl)
theorem dX2_member_15 : decode cX2_member 15 = .ok (.bipush 6, 2) := dk_16 6 (dk_at dksX2_member_0 15 rfl rfl)
theorem dX2_member_17 : decode cX2_member 17 = .ok (.invokestatic 143, 3) := dk_184 0 143 (dk_at dksX2_member_0 17 rfl rfl)
theorem dX2_member_20 : decode cX2_member 20 = .ok (.aload_n 0, 1) := dk_42 (dk_at dksX2_member_0 20 rfl rfl)
theorem dX2_member_21 : decode cX2_member 21 = .ok (.getfield 46, 3) := dk_180 0 46 (dk_at dksX2_member_0 21 rfl rfl)
theorem dX2_member_24 : decode cX2_member 24 = .ok (.aload_n 0, 1) := dk_42 (dk_at dksX2_member_1 0 rfl rfl)
theorem dX2_member_25 : decode cX2_member 25 = .ok (.getfield 85, 3) := dk_180 0 85 (dk_at dksX2_member_1 1 rfl rfl)
theorem dX2_member_28 : decode cX2_member 28 = .ok (.aaload, 1) := dk_50 (dk_at dksX2_member_1 4 rfl rfl)
theorem dX2_member_29 : decode cX2_member 29 = .ok (.invokevirtual 147, 3) := dk_182 0 147 (dk_at dksX2_member_1 5 rfl rfl)
theorem dX2_member_32 : decode cX2_member 32 = .ok (.aload_n 0, 1) := dk_42 (dk_at dksX2_member_1 8 rfl rfl)
theorem dX2_member_33 : decode cX2_member 33 = .ok (.dup, 1) := dk_89 (dk_at dksX2_member_1 9 rfl rfl)
theorem dX2_member_34 : decode cX2_member 34 = .ok (.getfield 85, 3) := dk_180 0 85 (dk_at dksX2_member_1 10 rfl rfl)
theorem dX2_member_37 : decode cX2_member 37 = .ok (.iconst 1, 1) := dk_4 (dk_at dksX2_member_1 13 rfl rfl)
theorem dX2_member_38 : decode cX2_member 38 = .ok (.iadd, 1) := dk_96 (dk_at dksX2_member_1 14 rfl rfl)
theorem dX2_member_39 : decode cX2_member 39 = .ok (.putfield 85, 3) := dk_181 0 85 (dk_at dksX2_member_1 15 rfl rfl)
theorem dX2_member_42 : decode cX2_member 42 = .ok (.aload_n 0, 1) := dk_42 (dk_at dksX2_member_1 18 rfl rfl)
theorem dX2_member_43 : decode cX2_member 43 = .ok (.getfield 85, 3) := dk_180 0 85 (dk_at dksX2_member_1 19 rfl rfl)
theorem dX2_member_46 : decode cX2_member 46 = .ok (.iconst 1, 1) := dk_4 (dk_at dksX2_member_1 22 rfl rfl)
theorem dX2_member_47 : decode cX2_member 47 = .ok (.isub, 1) := dk_100 (dk_at dksX2_member_1 23 rfl rfl)
theorem dX2_member_48 : decode cX2_member 48 = .ok (.ireturn, 1) := dk_172 (dk_at dksX2_member_2 0 rfl rfl)
abbrev cX2_isMember : ByteArray := prog_3_method_7_code
def yX2_isMember : MethodName := ⟨RX2, "isMember", "(I)Z"⟩
def dkwX2_isMember_0 : List UInt8 := [27, 3, 42, 180, 0, 85, 4, 100, 184, 0, 139, 172]
abbrev dktX2_isMember_0 : List UInt8 := dkwX2_isMember_0 ++ []
theorem dksX2_isMember_0 : cX2_isMember.data.toList.drop 0 = dktX2_isMember_0 := by decide +kernel
theorem dX2_isMember_0 : decode cX2_isMember 0 = .ok (.iload_n 1, 1) := dk_27 (dk_at dksX2_isMember_0 0 rfl rfl)
theorem dX2_isMember_1 : decode cX2_isMember 1 = .ok (.iconst 0, 1) := dk_3 (dk_at dksX2_isMember_0 1 rfl rfl)
theorem dX2_isMember_2 : decode cX2_isMember 2 = .ok (.aload_n 0, 1) := dk_42 (dk_at dksX2_isMember_0 2 rfl rfl)
theorem dX2_isMember_3 : decode cX2_isMember 3 = .ok (.getfield 85, 3) := dk_180 0 85 (dk_at dksX2_isMember_0 3 rfl rfl)
theorem dX2_isMember_6 : decode cX2_isMember 6 = .ok (.iconst 1, 1) := dk_4 (dk_at dksX2_isMember_0 6 rfl rfl)
theorem dX2_isMember_7 : decode cX2_isMember 7 = .ok (.isub, 1) := dk_100 (dk_at dksX2_isMember_0 7 rfl rfl)
theorem dX2_isMember_8 : decode cX2_isMember 8 = .ok (.invokestatic 139, 3) := dk_184 0 139 (dk_at dksX2_isMember_0 8 rfl rfl)
theorem dX2_isMember_11 : decode cX2_isMember 11 = .ok (.ireturn, 1) := dk_172 (dk_at dksX2_isMember_0 11 rfl rfl)
abbrev cX2_dig : ByteArray := prog_3_method_11_code
def yX2_dig : MethodName := ⟨RX2, "dig", "(II)I"⟩
def dkwX2_dig_3 : List UInt8 := [172]
abbrev dktX2_dig_3 : List UInt8 := dkwX2_dig_3 ++ []
def dkwX2_dig_2 : List UInt8 := [180, 0, 19, 28, 46, 184, 0, 143, 45, 28, 181, 0, 150, 42, 180, 0, 19, 28, 27, 79, 42, 182, 0, 153]
abbrev dktX2_dig_2 : List UInt8 := dkwX2_dig_2 ++ dktX2_dig_3
def dkwX2_dig_1 : List UInt8 := [180, 0, 150, 184, 0, 143, 42, 180, 0, 19, 28, 46, 2, 159, 0, 7, 4, 167, 0, 4, 3, 6, 42]
abbrev dktX2_dig_1 : List UInt8 := dkwX2_dig_1 ++ dktX2_dig_2
def dkwX2_dig_0 : List UInt8 := [42, 180, 0, 46, 27, 50, 78, 45, 180, 0, 150, 2, 159, 0, 7, 4, 167, 0, 4, 3, 5, 45]
abbrev dktX2_dig_0 : List UInt8 := dkwX2_dig_0 ++ dktX2_dig_1
theorem dksX2_dig_0 : cX2_dig.data.toList.drop 0 = dktX2_dig_0 := by decide +kernel
theorem dksX2_dig_1 : cX2_dig.data.toList.drop 22 = dktX2_dig_1 := dk_seg dksX2_dig_0 22 rfl rfl
theorem dksX2_dig_2 : cX2_dig.data.toList.drop 45 = dktX2_dig_2 := dk_seg dksX2_dig_1 23 rfl rfl
theorem dksX2_dig_3 : cX2_dig.data.toList.drop 69 = dktX2_dig_3 := dk_seg dksX2_dig_2 24 rfl rfl
theorem dX2_dig_0 : decode cX2_dig 0 = .ok (.aload_n 0, 1) := dk_42 (dk_at dksX2_dig_0 0 rfl rfl)
theorem dX2_dig_1 : decode cX2_dig 1 = .ok (.getfield 46, 3) := dk_180 0 46 (dk_at dksX2_dig_0 1 rfl rfl)
theorem dX2_dig_4 : decode cX2_dig 4 = .ok (.iload_n 1, 1) := dk_27 (dk_at dksX2_dig_0 4 rfl rfl)
theorem dX2_dig_5 : decode cX2_dig 5 = .ok (.aaload, 1) := dk_50 (dk_at dksX2_dig_0 5 rfl rfl)
theorem dX2_dig_6 : decode cX2_dig 6 = .ok (.astore_n 3, 1) := dk_78 (dk_at dksX2_dig_0 6 rfl rfl)
theorem dX2_dig_7 : decode cX2_dig 7 = .ok (.aload_n 3, 1) := dk_45 (dk_at dksX2_dig_0 7 rfl rfl)
theorem dX2_dig_8 : decode cX2_dig 8 = .ok (.getfield 150, 3) := dk_180 0 150 (dk_at dksX2_dig_0 8 rfl rfl)
theorem dX2_dig_11 : decode cX2_dig 11 = .ok (.iconst (-1), 1) := dk_2 (dk_at dksX2_dig_0 11 rfl rfl)
theorem dX2_dig_12 : decode cX2_dig 12 = .ok (.if_icmp .eq 7, 3) := dk_159 0 7 (dk_at dksX2_dig_0 12 rfl rfl)
theorem dX2_dig_15 : decode cX2_dig 15 = .ok (.iconst 1, 1) := dk_4 (dk_at dksX2_dig_0 15 rfl rfl)
theorem dX2_dig_16 : decode cX2_dig 16 = .ok (.goto 4, 3) := dk_167 0 4 (dk_at dksX2_dig_0 16 rfl rfl)
theorem dX2_dig_19 : decode cX2_dig 19 = .ok (.iconst 0, 1) := dk_3 (dk_at dksX2_dig_0 19 rfl rfl)
theorem dX2_dig_20 : decode cX2_dig 20 = .ok (.iconst 2, 1) := dk_5 (dk_at dksX2_dig_0 20 rfl rfl)
theorem dX2_dig_21 : decode cX2_dig 21 = .ok (.aload_n 3, 1) := dk_45 (dk_at dksX2_dig_0 21 rfl rfl)
theorem dX2_dig_22 : decode cX2_dig 22 = .ok (.getfield 150, 3) := dk_180 0 150 (dk_at dksX2_dig_1 0 rfl rfl)
theorem dX2_dig_25 : decode cX2_dig 25 = .ok (.invokestatic 143, 3) := dk_184 0 143 (dk_at dksX2_dig_1 3 rfl rfl)
theorem dX2_dig_28 : decode cX2_dig 28 = .ok (.aload_n 0, 1) := dk_42 (dk_at dksX2_dig_1 6 rfl rfl)
theorem dX2_dig_29 : decode cX2_dig 29 = .ok (.getfield 19, 3) := dk_180 0 19 (dk_at dksX2_dig_1 7 rfl rfl)
theorem dX2_dig_32 : decode cX2_dig 32 = .ok (.iload_n 2, 1) := dk_28 (dk_at dksX2_dig_1 10 rfl rfl)
theorem dX2_dig_33 : decode cX2_dig 33 = .ok (.iaload, 1) := dk_46 (dk_at dksX2_dig_1 11 rfl rfl)
theorem dX2_dig_34 : decode cX2_dig 34 = .ok (.iconst (-1), 1) := dk_2 (dk_at dksX2_dig_1 12 rfl rfl)
theorem dX2_dig_35 : decode cX2_dig 35 = .ok (.if_icmp .eq 7, 3) := dk_159 0 7 (dk_at dksX2_dig_1 13 rfl rfl)
theorem dX2_dig_38 : decode cX2_dig 38 = .ok (.iconst 1, 1) := dk_4 (dk_at dksX2_dig_1 16 rfl rfl)
theorem dX2_dig_39 : decode cX2_dig 39 = .ok (.goto 4, 3) := dk_167 0 4 (dk_at dksX2_dig_1 17 rfl rfl)
theorem dX2_dig_42 : decode cX2_dig 42 = .ok (.iconst 0, 1) := dk_3 (dk_at dksX2_dig_1 20 rfl rfl)
theorem dX2_dig_43 : decode cX2_dig 43 = .ok (.iconst 3, 1) := dk_6 (dk_at dksX2_dig_1 21 rfl rfl)
theorem dX2_dig_44 : decode cX2_dig 44 = .ok (.aload_n 0, 1) := dk_42 (dk_at dksX2_dig_1 22 rfl rfl)
theorem dX2_dig_45 : decode cX2_dig 45 = .ok (.getfield 19, 3) := dk_180 0 19 (dk_at dksX2_dig_2 0 rfl rfl)
theorem dX2_dig_48 : decode cX2_dig 48 = .ok (.iload_n 2, 1) := dk_28 (dk_at dksX2_dig_2 3 rfl rfl)
theorem dX2_dig_49 : decode cX2_dig 49 = .ok (.iaload, 1) := dk_46 (dk_at dksX2_dig_2 4 rfl rfl)
theorem dX2_dig_50 : decode cX2_dig 50 = .ok (.invokestatic 143, 3) := dk_184 0 143 (dk_at dksX2_dig_2 5 rfl rfl)
theorem dX2_dig_53 : decode cX2_dig 53 = .ok (.aload_n 3, 1) := dk_45 (dk_at dksX2_dig_2 8 rfl rfl)
theorem dX2_dig_54 : decode cX2_dig 54 = .ok (.iload_n 2, 1) := dk_28 (dk_at dksX2_dig_2 9 rfl rfl)
theorem dX2_dig_55 : decode cX2_dig 55 = .ok (.putfield 150, 3) := dk_181 0 150 (dk_at dksX2_dig_2 10 rfl rfl)
theorem dX2_dig_58 : decode cX2_dig 58 = .ok (.aload_n 0, 1) := dk_42 (dk_at dksX2_dig_2 13 rfl rfl)
theorem dX2_dig_59 : decode cX2_dig 59 = .ok (.getfield 19, 3) := dk_180 0 19 (dk_at dksX2_dig_2 14 rfl rfl)
theorem dX2_dig_62 : decode cX2_dig 62 = .ok (.iload_n 2, 1) := dk_28 (dk_at dksX2_dig_2 17 rfl rfl)
theorem dX2_dig_63 : decode cX2_dig 63 = .ok (.iload_n 1, 1) := dk_27 (dk_at dksX2_dig_2 18 rfl rfl)
theorem dX2_dig_64 : decode cX2_dig 64 = .ok (.iastore, 1) := dk_79 (dk_at dksX2_dig_2 19 rfl rfl)
theorem dX2_dig_65 : decode cX2_dig 65 = .ok (.aload_n 0, 1) := dk_42 (dk_at dksX2_dig_2 20 rfl rfl)
theorem dX2_dig_66 : decode cX2_dig 66 = .ok (.invokevirtual 153, 3) := dk_182 0 153 (dk_at dksX2_dig_2 21 rfl rfl)
theorem dX2_dig_69 : decode cX2_dig 69 = .ok (.ireturn, 1) := dk_172 (dk_at dksX2_dig_3 0 rfl rfl)
abbrev cX2_rest : ByteArray := prog_3_method_12_code
def yX2_rest : MethodName := ⟨RX2, "rest", "(I)I"⟩
def dkwX2_rest_1 : List UInt8 := [184, 0, 143, 44, 180, 0, 150, 62, 42, 180, 0, 19, 29, 2, 79, 44, 2, 181, 0, 150, 29, 172]
abbrev dktX2_rest_1 : List UInt8 := dkwX2_rest_1 ++ []
def dkwX2_rest_0 : List UInt8 := [42, 180, 0, 46, 27, 50, 77, 44, 180, 0, 150, 2, 160, 0, 7, 4, 167, 0, 4, 3, 7, 27]
abbrev dktX2_rest_0 : List UInt8 := dkwX2_rest_0 ++ dktX2_rest_1
theorem dksX2_rest_0 : cX2_rest.data.toList.drop 0 = dktX2_rest_0 := by decide +kernel
theorem dksX2_rest_1 : cX2_rest.data.toList.drop 22 = dktX2_rest_1 := dk_seg dksX2_rest_0 22 rfl rfl
theorem dX2_rest_0 : decode cX2_rest 0 = .ok (.aload_n 0, 1) := dk_42 (dk_at dksX2_rest_0 0 rfl rfl)
theorem dX2_rest_1 : decode cX2_rest 1 = .ok (.getfield 46, 3) := dk_180 0 46 (dk_at dksX2_rest_0 1 rfl rfl)
theorem dX2_rest_4 : decode cX2_rest 4 = .ok (.iload_n 1, 1) := dk_27 (dk_at dksX2_rest_0 4 rfl rfl)
theorem dX2_rest_5 : decode cX2_rest 5 = .ok (.aaload, 1) := dk_50 (dk_at dksX2_rest_0 5 rfl rfl)
theorem dX2_rest_6 : decode cX2_rest 6 = .ok (.astore_n 2, 1) := dk_77 (dk_at dksX2_rest_0 6 rfl rfl)
theorem dX2_rest_7 : decode cX2_rest 7 = .ok (.aload_n 2, 1) := dk_44 (dk_at dksX2_rest_0 7 rfl rfl)
theorem dX2_rest_8 : decode cX2_rest 8 = .ok (.getfield 150, 3) := dk_180 0 150 (dk_at dksX2_rest_0 8 rfl rfl)
theorem dX2_rest_11 : decode cX2_rest 11 = .ok (.iconst (-1), 1) := dk_2 (dk_at dksX2_rest_0 11 rfl rfl)
theorem dX2_rest_12 : decode cX2_rest 12 = .ok (.if_icmp .ne 7, 3) := dk_160 0 7 (dk_at dksX2_rest_0 12 rfl rfl)
theorem dX2_rest_15 : decode cX2_rest 15 = .ok (.iconst 1, 1) := dk_4 (dk_at dksX2_rest_0 15 rfl rfl)
theorem dX2_rest_16 : decode cX2_rest 16 = .ok (.goto 4, 3) := dk_167 0 4 (dk_at dksX2_rest_0 16 rfl rfl)
theorem dX2_rest_19 : decode cX2_rest 19 = .ok (.iconst 0, 1) := dk_3 (dk_at dksX2_rest_0 19 rfl rfl)
theorem dX2_rest_20 : decode cX2_rest 20 = .ok (.iconst 4, 1) := dk_7 (dk_at dksX2_rest_0 20 rfl rfl)
theorem dX2_rest_21 : decode cX2_rest 21 = .ok (.iload_n 1, 1) := dk_27 (dk_at dksX2_rest_0 21 rfl rfl)
theorem dX2_rest_22 : decode cX2_rest 22 = .ok (.invokestatic 143, 3) := dk_184 0 143 (dk_at dksX2_rest_1 0 rfl rfl)
theorem dX2_rest_25 : decode cX2_rest 25 = .ok (.aload_n 2, 1) := dk_44 (dk_at dksX2_rest_1 3 rfl rfl)
theorem dX2_rest_26 : decode cX2_rest 26 = .ok (.getfield 150, 3) := dk_180 0 150 (dk_at dksX2_rest_1 4 rfl rfl)
theorem dX2_rest_29 : decode cX2_rest 29 = .ok (.istore_n 3, 1) := dk_62 (dk_at dksX2_rest_1 7 rfl rfl)
theorem dX2_rest_30 : decode cX2_rest 30 = .ok (.aload_n 0, 1) := dk_42 (dk_at dksX2_rest_1 8 rfl rfl)
theorem dX2_rest_31 : decode cX2_rest 31 = .ok (.getfield 19, 3) := dk_180 0 19 (dk_at dksX2_rest_1 9 rfl rfl)
theorem dX2_rest_34 : decode cX2_rest 34 = .ok (.iload_n 3, 1) := dk_29 (dk_at dksX2_rest_1 12 rfl rfl)
theorem dX2_rest_35 : decode cX2_rest 35 = .ok (.iconst (-1), 1) := dk_2 (dk_at dksX2_rest_1 13 rfl rfl)
theorem dX2_rest_36 : decode cX2_rest 36 = .ok (.iastore, 1) := dk_79 (dk_at dksX2_rest_1 14 rfl rfl)
theorem dX2_rest_37 : decode cX2_rest 37 = .ok (.aload_n 2, 1) := dk_44 (dk_at dksX2_rest_1 15 rfl rfl)
theorem dX2_rest_38 : decode cX2_rest 38 = .ok (.iconst (-1), 1) := dk_2 (dk_at dksX2_rest_1 16 rfl rfl)
theorem dX2_rest_39 : decode cX2_rest 39 = .ok (.putfield 150, 3) := dk_181 0 150 (dk_at dksX2_rest_1 17 rfl rfl)
theorem dX2_rest_42 : decode cX2_rest 42 = .ok (.iload_n 3, 1) := dk_29 (dk_at dksX2_rest_1 20 rfl rfl)
theorem dX2_rest_43 : decode cX2_rest 43 = .ok (.ireturn, 1) := dk_172 (dk_at dksX2_rest_1 21 rfl rfl)
abbrev cX2_shedOn : ByteArray := prog_3_method_21_code
def yX2_shedOn : MethodName := ⟨RX2, "shedOn", "(I)I"⟩
def dkwX2_shedOn_1 : List UInt8 := [180, 0, 52, 28, 50, 180, 0, 212, 27, 160, 0, 5, 28, 172, 132, 2, 1, 167, 255, 218, 2, 172]
abbrev dktX2_shedOn_1 : List UInt8 := dkwX2_shedOn_1 ++ []
def dkwX2_shedOn_0 : List UInt8 := [3, 61, 28, 42, 180, 0, 92, 162, 0, 36, 42, 180, 0, 52, 28, 50, 180, 0, 209, 153, 0, 18, 42]
abbrev dktX2_shedOn_0 : List UInt8 := dkwX2_shedOn_0 ++ dktX2_shedOn_1
theorem dksX2_shedOn_0 : cX2_shedOn.data.toList.drop 0 = dktX2_shedOn_0 := by decide +kernel
theorem dksX2_shedOn_1 : cX2_shedOn.data.toList.drop 23 = dktX2_shedOn_1 := dk_seg dksX2_shedOn_0 23 rfl rfl
theorem dX2_shedOn_0 : decode cX2_shedOn 0 = .ok (.iconst 0, 1) := dk_3 (dk_at dksX2_shedOn_0 0 rfl rfl)
theorem dX2_shedOn_1 : decode cX2_shedOn 1 = .ok (.istore_n 2, 1) := dk_61 (dk_at dksX2_shedOn_0 1 rfl rfl)
theorem dX2_shedOn_2 : decode cX2_shedOn 2 = .ok (.iload_n 2, 1) := dk_28 (dk_at dksX2_shedOn_0 2 rfl rfl)
theorem dX2_shedOn_3 : decode cX2_shedOn 3 = .ok (.aload_n 0, 1) := dk_42 (dk_at dksX2_shedOn_0 3 rfl rfl)
theorem dX2_shedOn_4 : decode cX2_shedOn 4 = .ok (.getfield 92, 3) := dk_180 0 92 (dk_at dksX2_shedOn_0 4 rfl rfl)
theorem dX2_shedOn_7 : decode cX2_shedOn 7 = .ok (.if_icmp .ge 36, 3) := dk_162 0 36 (dk_at dksX2_shedOn_0 7 rfl rfl)
theorem dX2_shedOn_10 : decode cX2_shedOn 10 = .ok (.aload_n 0, 1) := dk_42 (dk_at dksX2_shedOn_0 10 rfl rfl)
theorem dX2_shedOn_11 : decode cX2_shedOn 11 = .ok (.getfield 52, 3) := dk_180 0 52 (dk_at dksX2_shedOn_0 11 rfl rfl)
theorem dX2_shedOn_14 : decode cX2_shedOn 14 = .ok (.iload_n 2, 1) := dk_28 (dk_at dksX2_shedOn_0 14 rfl rfl)
theorem dX2_shedOn_15 : decode cX2_shedOn 15 = .ok (.aaload, 1) := dk_50 (dk_at dksX2_shedOn_0 15 rfl rfl)
theorem dX2_shedOn_16 : decode cX2_shedOn 16 = .ok (.getfield 209, 3) := dk_180 0 209 (dk_at dksX2_shedOn_0 16 rfl rfl)
theorem dX2_shedOn_19 : decode cX2_shedOn 19 = .ok (.ifCond .eq 18, 3) := dk_153 0 18 (dk_at dksX2_shedOn_0 19 rfl rfl)
theorem dX2_shedOn_22 : decode cX2_shedOn 22 = .ok (.aload_n 0, 1) := dk_42 (dk_at dksX2_shedOn_0 22 rfl rfl)
theorem dX2_shedOn_23 : decode cX2_shedOn 23 = .ok (.getfield 52, 3) := dk_180 0 52 (dk_at dksX2_shedOn_1 0 rfl rfl)
theorem dX2_shedOn_26 : decode cX2_shedOn 26 = .ok (.iload_n 2, 1) := dk_28 (dk_at dksX2_shedOn_1 3 rfl rfl)
theorem dX2_shedOn_27 : decode cX2_shedOn 27 = .ok (.aaload, 1) := dk_50 (dk_at dksX2_shedOn_1 4 rfl rfl)
theorem dX2_shedOn_28 : decode cX2_shedOn 28 = .ok (.getfield 212, 3) := dk_180 0 212 (dk_at dksX2_shedOn_1 5 rfl rfl)
theorem dX2_shedOn_31 : decode cX2_shedOn 31 = .ok (.iload_n 1, 1) := dk_27 (dk_at dksX2_shedOn_1 8 rfl rfl)
theorem dX2_shedOn_32 : decode cX2_shedOn 32 = .ok (.if_icmp .ne 5, 3) := dk_160 0 5 (dk_at dksX2_shedOn_1 9 rfl rfl)
theorem dX2_shedOn_35 : decode cX2_shedOn 35 = .ok (.iload_n 2, 1) := dk_28 (dk_at dksX2_shedOn_1 12 rfl rfl)
theorem dX2_shedOn_36 : decode cX2_shedOn 36 = .ok (.ireturn, 1) := dk_172 (dk_at dksX2_shedOn_1 13 rfl rfl)
theorem dX2_shedOn_37 : decode cX2_shedOn 37 = .ok (.iinc 2 1, 3) := dk_132 2 1 (dk_at dksX2_shedOn_1 14 rfl rfl)
theorem dX2_shedOn_40 : decode cX2_shedOn 40 = .ok (.goto (-38), 3) := dk_167 255 218 (dk_at dksX2_shedOn_1 17 rfl rfl)
theorem dX2_shedOn_43 : decode cX2_shedOn 43 = .ok (.iconst (-1), 1) := dk_2 (dk_at dksX2_shedOn_1 20 rfl rfl)
theorem dX2_shedOn_44 : decode cX2_shedOn 44 = .ok (.ireturn, 1) := dk_172 (dk_at dksX2_shedOn_1 21 rfl rfl)
abbrev cX2_waterIn : ByteArray := prog_3_method_14_code
def yX2_waterIn : MethodName := ⟨RX2, "waterIn", "(II)F"⟩
def dkwX2_waterIn_1 : List UInt8 := [132, 4, 1, 167, 255, 241, 37, 174]
abbrev dktX2_waterIn_1 : List UInt8 := dkwX2_waterIn_1 ++ []
def dkwX2_waterIn_0 : List UInt8 := [42, 180, 0, 9, 27, 48, 70, 3, 54, 4, 21, 4, 28, 162, 0, 15, 42, 37, 182, 0, 169, 70]
abbrev dktX2_waterIn_0 : List UInt8 := dkwX2_waterIn_0 ++ dktX2_waterIn_1
theorem dksX2_waterIn_0 : cX2_waterIn.data.toList.drop 0 = dktX2_waterIn_0 := by decide +kernel
theorem dksX2_waterIn_1 : cX2_waterIn.data.toList.drop 22 = dktX2_waterIn_1 := dk_seg dksX2_waterIn_0 22 rfl rfl
theorem dX2_waterIn_0 : decode cX2_waterIn 0 = .ok (.aload_n 0, 1) := dk_42 (dk_at dksX2_waterIn_0 0 rfl rfl)
theorem dX2_waterIn_1 : decode cX2_waterIn 1 = .ok (.getfield 9, 3) := dk_180 0 9 (dk_at dksX2_waterIn_0 1 rfl rfl)
theorem dX2_waterIn_4 : decode cX2_waterIn 4 = .ok (.iload_n 1, 1) := dk_27 (dk_at dksX2_waterIn_0 4 rfl rfl)
theorem dX2_waterIn_5 : decode cX2_waterIn 5 = .ok (.faload, 1) := dk_48 (dk_at dksX2_waterIn_0 5 rfl rfl)
theorem dX2_waterIn_6 : decode cX2_waterIn 6 = .ok (.fstore_n 3, 1) := dk_70 (dk_at dksX2_waterIn_0 6 rfl rfl)
theorem dX2_waterIn_7 : decode cX2_waterIn 7 = .ok (.iconst 0, 1) := dk_3 (dk_at dksX2_waterIn_0 7 rfl rfl)
theorem dX2_waterIn_8 : decode cX2_waterIn 8 = .ok (.istore 4, 2) := dk_54 4 (dk_at dksX2_waterIn_0 8 rfl rfl)
theorem dX2_waterIn_10 : decode cX2_waterIn 10 = .ok (.iload 4, 2) := dk_21 4 (dk_at dksX2_waterIn_0 10 rfl rfl)
theorem dX2_waterIn_12 : decode cX2_waterIn 12 = .ok (.iload_n 2, 1) := dk_28 (dk_at dksX2_waterIn_0 12 rfl rfl)
theorem dX2_waterIn_13 : decode cX2_waterIn 13 = .ok (.if_icmp .ge 15, 3) := dk_162 0 15 (dk_at dksX2_waterIn_0 13 rfl rfl)
theorem dX2_waterIn_16 : decode cX2_waterIn 16 = .ok (.aload_n 0, 1) := dk_42 (dk_at dksX2_waterIn_0 16 rfl rfl)
theorem dX2_waterIn_17 : decode cX2_waterIn 17 = .ok (.fload_n 3, 1) := dk_37 (dk_at dksX2_waterIn_0 17 rfl rfl)
theorem dX2_waterIn_18 : decode cX2_waterIn 18 = .ok (.invokevirtual 169, 3) := dk_182 0 169 (dk_at dksX2_waterIn_0 18 rfl rfl)
theorem dX2_waterIn_21 : decode cX2_waterIn 21 = .ok (.fstore_n 3, 1) := dk_70 (dk_at dksX2_waterIn_0 21 rfl rfl)
theorem dX2_waterIn_22 : decode cX2_waterIn 22 = .ok (.iinc 4 1, 3) := dk_132 4 1 (dk_at dksX2_waterIn_1 0 rfl rfl)
theorem dX2_waterIn_25 : decode cX2_waterIn 25 = .ok (.goto (-15), 3) := dk_167 255 241 (dk_at dksX2_waterIn_1 3 rfl rfl)
theorem dX2_waterIn_28 : decode cX2_waterIn 28 = .ok (.fload_n 3, 1) := dk_37 (dk_at dksX2_waterIn_1 6 rfl rfl)
theorem dX2_waterIn_29 : decode cX2_waterIn 29 = .ok (.freturn, 1) := dk_174 (dk_at dksX2_waterIn_1 7 rfl rfl)
abbrev cX2_waterThen : ByteArray := prog_3_method_13_code
def yX2_waterThen : MethodName := ⟨RX2, "waterThen", "(F)F"⟩
def dkwX2_waterThen_1 : List UInt8 := [180, 0, 62, 134, 106, 98, 102, 184, 0, 166, 174]
abbrev dktX2_waterThen_1 : List UInt8 := dkwX2_waterThen_1 ++ []
def dkwX2_waterThen_0 : List UInt8 := [18, 156, 35, 18, 157, 42, 180, 0, 66, 134, 106, 98, 184, 0, 158, 69, 11, 36, 18, 164, 18, 165, 42]
abbrev dktX2_waterThen_0 : List UInt8 := dkwX2_waterThen_0 ++ dktX2_waterThen_1
theorem dksX2_waterThen_0 : cX2_waterThen.data.toList.drop 0 = dktX2_waterThen_0 := by decide +kernel
theorem dksX2_waterThen_1 : cX2_waterThen.data.toList.drop 23 = dktX2_waterThen_1 := dk_seg dksX2_waterThen_0 23 rfl rfl
theorem dX2_waterThen_0 : decode cX2_waterThen 0 = .ok (.ldc 156, 2) := dk_18 156 (dk_at dksX2_waterThen_0 0 rfl rfl)
theorem dX2_waterThen_2 : decode cX2_waterThen 2 = .ok (.fload_n 1, 1) := dk_35 (dk_at dksX2_waterThen_0 2 rfl rfl)
theorem dX2_waterThen_3 : decode cX2_waterThen 3 = .ok (.ldc 157, 2) := dk_18 157 (dk_at dksX2_waterThen_0 3 rfl rfl)
theorem dX2_waterThen_5 : decode cX2_waterThen 5 = .ok (.aload_n 0, 1) := dk_42 (dk_at dksX2_waterThen_0 5 rfl rfl)
theorem dX2_waterThen_6 : decode cX2_waterThen 6 = .ok (.getfield 66, 3) := dk_180 0 66 (dk_at dksX2_waterThen_0 6 rfl rfl)
theorem dX2_waterThen_9 : decode cX2_waterThen 9 = .ok (.i2f, 1) := dk_134 (dk_at dksX2_waterThen_0 9 rfl rfl)
theorem dX2_waterThen_10 : decode cX2_waterThen 10 = .ok (.fmul, 1) := dk_106 (dk_at dksX2_waterThen_0 10 rfl rfl)
theorem dX2_waterThen_11 : decode cX2_waterThen 11 = .ok (.fadd, 1) := dk_98 (dk_at dksX2_waterThen_0 11 rfl rfl)
theorem dX2_waterThen_12 : decode cX2_waterThen 12 = .ok (.invokestatic 158, 3) := dk_184 0 158 (dk_at dksX2_waterThen_0 12 rfl rfl)
theorem dX2_waterThen_15 : decode cX2_waterThen 15 = .ok (.fstore_n 2, 1) := dk_69 (dk_at dksX2_waterThen_0 15 rfl rfl)
theorem dX2_waterThen_16 : decode cX2_waterThen 16 = .ok (.fconst 0, 1) := dk_11 (dk_at dksX2_waterThen_0 16 rfl rfl)
theorem dX2_waterThen_17 : decode cX2_waterThen 17 = .ok (.fload_n 2, 1) := dk_36 (dk_at dksX2_waterThen_0 17 rfl rfl)
theorem dX2_waterThen_18 : decode cX2_waterThen 18 = .ok (.ldc 164, 2) := dk_18 164 (dk_at dksX2_waterThen_0 18 rfl rfl)
theorem dX2_waterThen_20 : decode cX2_waterThen 20 = .ok (.ldc 165, 2) := dk_18 165 (dk_at dksX2_waterThen_0 20 rfl rfl)
theorem dX2_waterThen_22 : decode cX2_waterThen 22 = .ok (.aload_n 0, 1) := dk_42 (dk_at dksX2_waterThen_0 22 rfl rfl)
theorem dX2_waterThen_23 : decode cX2_waterThen 23 = .ok (.getfield 62, 3) := dk_180 0 62 (dk_at dksX2_waterThen_1 0 rfl rfl)
theorem dX2_waterThen_26 : decode cX2_waterThen 26 = .ok (.i2f, 1) := dk_134 (dk_at dksX2_waterThen_1 3 rfl rfl)
theorem dX2_waterThen_27 : decode cX2_waterThen 27 = .ok (.fmul, 1) := dk_106 (dk_at dksX2_waterThen_1 4 rfl rfl)
theorem dX2_waterThen_28 : decode cX2_waterThen 28 = .ok (.fadd, 1) := dk_98 (dk_at dksX2_waterThen_1 5 rfl rfl)
theorem dX2_waterThen_29 : decode cX2_waterThen 29 = .ok (.fsub, 1) := dk_102 (dk_at dksX2_waterThen_1 6 rfl rfl)
theorem dX2_waterThen_30 : decode cX2_waterThen 30 = .ok (.invokestatic 166, 3) := dk_184 0 166 (dk_at dksX2_waterThen_1 7 rfl rfl)
theorem dX2_waterThen_33 : decode cX2_waterThen 33 = .ok (.freturn, 1) := dk_174 (dk_at dksX2_waterThen_1 10 rfl rfl)
abbrev cX2_pass : ByteArray := prog_3_method_31_code
def yX2_pass : MethodName := ⟨RX2, "pass", "(I)I"⟩
def dkwX2_pass_0 : List UInt8 := [3, 61, 3, 62, 29, 27, 162, 0, 16, 28, 42, 182, 0, 251, 96, 61, 132, 3, 1, 167, 255, 241, 28, 172]
abbrev dktX2_pass_0 : List UInt8 := dkwX2_pass_0 ++ []
theorem dksX2_pass_0 : cX2_pass.data.toList.drop 0 = dktX2_pass_0 := by decide +kernel
theorem dX2_pass_0 : decode cX2_pass 0 = .ok (.iconst 0, 1) := dk_3 (dk_at dksX2_pass_0 0 rfl rfl)
theorem dX2_pass_1 : decode cX2_pass 1 = .ok (.istore_n 2, 1) := dk_61 (dk_at dksX2_pass_0 1 rfl rfl)
theorem dX2_pass_2 : decode cX2_pass 2 = .ok (.iconst 0, 1) := dk_3 (dk_at dksX2_pass_0 2 rfl rfl)
theorem dX2_pass_3 : decode cX2_pass 3 = .ok (.istore_n 3, 1) := dk_62 (dk_at dksX2_pass_0 3 rfl rfl)
theorem dX2_pass_4 : decode cX2_pass 4 = .ok (.iload_n 3, 1) := dk_29 (dk_at dksX2_pass_0 4 rfl rfl)
theorem dX2_pass_5 : decode cX2_pass 5 = .ok (.iload_n 1, 1) := dk_27 (dk_at dksX2_pass_0 5 rfl rfl)
theorem dX2_pass_6 : decode cX2_pass 6 = .ok (.if_icmp .ge 16, 3) := dk_162 0 16 (dk_at dksX2_pass_0 6 rfl rfl)
theorem dX2_pass_9 : decode cX2_pass 9 = .ok (.iload_n 2, 1) := dk_28 (dk_at dksX2_pass_0 9 rfl rfl)
theorem dX2_pass_10 : decode cX2_pass 10 = .ok (.aload_n 0, 1) := dk_42 (dk_at dksX2_pass_0 10 rfl rfl)
theorem dX2_pass_11 : decode cX2_pass 11 = .ok (.invokevirtual 251, 3) := dk_182 0 251 (dk_at dksX2_pass_0 11 rfl rfl)
theorem dX2_pass_14 : decode cX2_pass 14 = .ok (.iadd, 1) := dk_96 (dk_at dksX2_pass_0 14 rfl rfl)
theorem dX2_pass_15 : decode cX2_pass 15 = .ok (.istore_n 2, 1) := dk_61 (dk_at dksX2_pass_0 15 rfl rfl)
theorem dX2_pass_16 : decode cX2_pass 16 = .ok (.iinc 3 1, 3) := dk_132 3 1 (dk_at dksX2_pass_0 16 rfl rfl)
theorem dX2_pass_19 : decode cX2_pass 19 = .ok (.goto (-15), 3) := dk_167 255 241 (dk_at dksX2_pass_0 19 rfl rfl)
theorem dX2_pass_22 : decode cX2_pass 22 = .ok (.iload_n 2, 1) := dk_28 (dk_at dksX2_pass_0 22 rfl rfl)
theorem dX2_pass_23 : decode cX2_pass 23 = .ok (.ireturn, 1) := dk_172 (dk_at dksX2_pass_0 23 rfl rfl)
abbrev cX2_goesBy : ByteArray := prog_3_method_30_code
def yX2_goesBy : MethodName := ⟨RX2, "goesBy", "()I"⟩
def dkwX2_goesBy_7 : List UInt8 := [180, 0, 104, 6, 112, 154, 0, 7, 42, 182, 0, 248, 42, 89, 180, 0, 104, 4, 96, 181, 0, 104, 27, 172]
abbrev dktX2_goesBy_7 : List UInt8 := dkwX2_goesBy_7 ++ []
def dkwX2_goesBy_6 : List UInt8 := [18, 247, 42, 180, 0, 66, 134, 106, 98, 184, 0, 158, 181, 0, 225, 132, 2, 1, 167, 255, 181, 42]
abbrev dktX2_goesBy_6 : List UInt8 := dkwX2_goesBy_6 ++ dktX2_goesBy_7
def dkwX2_goesBy_5 : List UInt8 := [45, 182, 0, 243, 132, 1, 1, 167, 0, 32, 45, 180, 0, 209, 153, 0, 25, 45, 18, 246, 45, 180, 0, 225]
abbrev dktX2_goesBy_5 : List UInt8 := dkwX2_goesBy_5 ++ dktX2_goesBy_6
def dkwX2_goesBy_4 : List UInt8 := [180, 0, 52, 28, 50, 78, 45, 180, 0, 209, 153, 0, 24, 45, 42, 180, 0, 62, 182, 0, 221, 154, 0, 13]
abbrev dktX2_goesBy_4 : List UInt8 := dkwX2_goesBy_4 ++ dktX2_goesBy_5
def dkwX2_goesBy_3 : List UInt8 := [181, 0, 193, 132, 1, 1, 167, 255, 183, 3, 60, 3, 61, 28, 42, 180, 0, 92, 162, 0, 73, 42]
abbrev dktX2_goesBy_3 : List UInt8 := dkwX2_goesBy_3 ++ dktX2_goesBy_4
def dkwX2_goesBy_2 : List UInt8 := [180, 0, 24, 27, 50, 180, 0, 193, 42, 180, 0, 9, 27, 48, 42, 180, 0, 15, 27, 46, 182, 0, 239]
abbrev dktX2_goesBy_2 : List UInt8 := dkwX2_goesBy_2 ++ dktX2_goesBy_3
def dkwX2_goesBy_1 : List UInt8 := [42, 180, 0, 24, 27, 50, 198, 0, 42, 42, 180, 0, 24, 27, 50, 42, 180, 0, 24, 27, 50, 42]
abbrev dktX2_goesBy_1 : List UInt8 := dkwX2_goesBy_1 ++ dktX2_goesBy_2
def dkwX2_goesBy_0 : List UInt8 := [3, 60, 27, 16, 12, 162, 0, 73, 42, 180, 0, 9, 27, 42, 42, 180, 0, 9, 27, 48, 182, 0, 169, 81]
abbrev dktX2_goesBy_0 : List UInt8 := dkwX2_goesBy_0 ++ dktX2_goesBy_1
theorem dksX2_goesBy_0 : cX2_goesBy.data.toList.drop 0 = dktX2_goesBy_0 := by decide +kernel
theorem dksX2_goesBy_1 : cX2_goesBy.data.toList.drop 24 = dktX2_goesBy_1 := dk_seg dksX2_goesBy_0 24 rfl rfl
theorem dksX2_goesBy_2 : cX2_goesBy.data.toList.drop 46 = dktX2_goesBy_2 := dk_seg dksX2_goesBy_1 22 rfl rfl
theorem dksX2_goesBy_3 : cX2_goesBy.data.toList.drop 69 = dktX2_goesBy_3 := dk_seg dksX2_goesBy_2 23 rfl rfl
theorem dksX2_goesBy_4 : cX2_goesBy.data.toList.drop 91 = dktX2_goesBy_4 := dk_seg dksX2_goesBy_3 22 rfl rfl
theorem dksX2_goesBy_5 : cX2_goesBy.data.toList.drop 115 = dktX2_goesBy_5 := dk_seg dksX2_goesBy_4 24 rfl rfl
theorem dksX2_goesBy_6 : cX2_goesBy.data.toList.drop 139 = dktX2_goesBy_6 := dk_seg dksX2_goesBy_5 24 rfl rfl
theorem dksX2_goesBy_7 : cX2_goesBy.data.toList.drop 161 = dktX2_goesBy_7 := dk_seg dksX2_goesBy_6 22 rfl rfl
theorem dX2_goesBy_0 : decode cX2_goesBy 0 = .ok (.iconst 0, 1) := dk_3 (dk_at dksX2_goesBy_0 0 rfl rfl)
theorem dX2_goesBy_1 : decode cX2_goesBy 1 = .ok (.istore_n 1, 1) := dk_60 (dk_at dksX2_goesBy_0 1 rfl rfl)
theorem dX2_goesBy_2 : decode cX2_goesBy 2 = .ok (.iload_n 1, 1) := dk_27 (dk_at dksX2_goesBy_0 2 rfl rfl)
theorem dX2_goesBy_3 : decode cX2_goesBy 3 = .ok (.bipush 12, 2) := dk_16 12 (dk_at dksX2_goesBy_0 3 rfl rfl)
theorem dX2_goesBy_5 : decode cX2_goesBy 5 = .ok (.if_icmp .ge 73, 3) := dk_162 0 73 (dk_at dksX2_goesBy_0 5 rfl rfl)
theorem dX2_goesBy_8 : decode cX2_goesBy 8 = .ok (.aload_n 0, 1) := dk_42 (dk_at dksX2_goesBy_0 8 rfl rfl)
theorem dX2_goesBy_9 : decode cX2_goesBy 9 = .ok (.getfield 9, 3) := dk_180 0 9 (dk_at dksX2_goesBy_0 9 rfl rfl)
theorem dX2_goesBy_12 : decode cX2_goesBy 12 = .ok (.iload_n 1, 1) := dk_27 (dk_at dksX2_goesBy_0 12 rfl rfl)
theorem dX2_goesBy_13 : decode cX2_goesBy 13 = .ok (.aload_n 0, 1) := dk_42 (dk_at dksX2_goesBy_0 13 rfl rfl)
theorem dX2_goesBy_14 : decode cX2_goesBy 14 = .ok (.aload_n 0, 1) := dk_42 (dk_at dksX2_goesBy_0 14 rfl rfl)
theorem dX2_goesBy_15 : decode cX2_goesBy 15 = .ok (.getfield 9, 3) := dk_180 0 9 (dk_at dksX2_goesBy_0 15 rfl rfl)
theorem dX2_goesBy_18 : decode cX2_goesBy 18 = .ok (.iload_n 1, 1) := dk_27 (dk_at dksX2_goesBy_0 18 rfl rfl)
theorem dX2_goesBy_19 : decode cX2_goesBy 19 = .ok (.faload, 1) := dk_48 (dk_at dksX2_goesBy_0 19 rfl rfl)
theorem dX2_goesBy_20 : decode cX2_goesBy 20 = .ok (.invokevirtual 169, 3) := dk_182 0 169 (dk_at dksX2_goesBy_0 20 rfl rfl)
theorem dX2_goesBy_23 : decode cX2_goesBy 23 = .ok (.fastore, 1) := dk_81 (dk_at dksX2_goesBy_0 23 rfl rfl)
theorem dX2_goesBy_24 : decode cX2_goesBy 24 = .ok (.aload_n 0, 1) := dk_42 (dk_at dksX2_goesBy_1 0 rfl rfl)
theorem dX2_goesBy_25 : decode cX2_goesBy 25 = .ok (.getfield 24, 3) := dk_180 0 24 (dk_at dksX2_goesBy_1 1 rfl rfl)
theorem dX2_goesBy_28 : decode cX2_goesBy 28 = .ok (.iload_n 1, 1) := dk_27 (dk_at dksX2_goesBy_1 4 rfl rfl)
theorem dX2_goesBy_29 : decode cX2_goesBy 29 = .ok (.aaload, 1) := dk_50 (dk_at dksX2_goesBy_1 5 rfl rfl)
theorem dX2_goesBy_30 : decode cX2_goesBy 30 = .ok (.ifnull 42, 3) := dk_198 0 42 (dk_at dksX2_goesBy_1 6 rfl rfl)
theorem dX2_goesBy_33 : decode cX2_goesBy 33 = .ok (.aload_n 0, 1) := dk_42 (dk_at dksX2_goesBy_1 9 rfl rfl)
theorem dX2_goesBy_34 : decode cX2_goesBy 34 = .ok (.getfield 24, 3) := dk_180 0 24 (dk_at dksX2_goesBy_1 10 rfl rfl)
theorem dX2_goesBy_37 : decode cX2_goesBy 37 = .ok (.iload_n 1, 1) := dk_27 (dk_at dksX2_goesBy_1 13 rfl rfl)
theorem dX2_goesBy_38 : decode cX2_goesBy 38 = .ok (.aaload, 1) := dk_50 (dk_at dksX2_goesBy_1 14 rfl rfl)
theorem dX2_goesBy_39 : decode cX2_goesBy 39 = .ok (.aload_n 0, 1) := dk_42 (dk_at dksX2_goesBy_1 15 rfl rfl)
theorem dX2_goesBy_40 : decode cX2_goesBy 40 = .ok (.getfield 24, 3) := dk_180 0 24 (dk_at dksX2_goesBy_1 16 rfl rfl)
theorem dX2_goesBy_43 : decode cX2_goesBy 43 = .ok (.iload_n 1, 1) := dk_27 (dk_at dksX2_goesBy_1 19 rfl rfl)
theorem dX2_goesBy_44 : decode cX2_goesBy 44 = .ok (.aaload, 1) := dk_50 (dk_at dksX2_goesBy_1 20 rfl rfl)
theorem dX2_goesBy_45 : decode cX2_goesBy 45 = .ok (.aload_n 0, 1) := dk_42 (dk_at dksX2_goesBy_1 21 rfl rfl)
theorem dX2_goesBy_46 : decode cX2_goesBy 46 = .ok (.getfield 24, 3) := dk_180 0 24 (dk_at dksX2_goesBy_2 0 rfl rfl)
theorem dX2_goesBy_49 : decode cX2_goesBy 49 = .ok (.iload_n 1, 1) := dk_27 (dk_at dksX2_goesBy_2 3 rfl rfl)
theorem dX2_goesBy_50 : decode cX2_goesBy 50 = .ok (.aaload, 1) := dk_50 (dk_at dksX2_goesBy_2 4 rfl rfl)
theorem dX2_goesBy_51 : decode cX2_goesBy 51 = .ok (.getfield 193, 3) := dk_180 0 193 (dk_at dksX2_goesBy_2 5 rfl rfl)
theorem dX2_goesBy_54 : decode cX2_goesBy 54 = .ok (.aload_n 0, 1) := dk_42 (dk_at dksX2_goesBy_2 8 rfl rfl)
theorem dX2_goesBy_55 : decode cX2_goesBy 55 = .ok (.getfield 9, 3) := dk_180 0 9 (dk_at dksX2_goesBy_2 9 rfl rfl)
theorem dX2_goesBy_58 : decode cX2_goesBy 58 = .ok (.iload_n 1, 1) := dk_27 (dk_at dksX2_goesBy_2 12 rfl rfl)
theorem dX2_goesBy_59 : decode cX2_goesBy 59 = .ok (.faload, 1) := dk_48 (dk_at dksX2_goesBy_2 13 rfl rfl)
theorem dX2_goesBy_60 : decode cX2_goesBy 60 = .ok (.aload_n 0, 1) := dk_42 (dk_at dksX2_goesBy_2 14 rfl rfl)
theorem dX2_goesBy_61 : decode cX2_goesBy 61 = .ok (.getfield 15, 3) := dk_180 0 15 (dk_at dksX2_goesBy_2 15 rfl rfl)
theorem dX2_goesBy_64 : decode cX2_goesBy 64 = .ok (.iload_n 1, 1) := dk_27 (dk_at dksX2_goesBy_2 18 rfl rfl)
theorem dX2_goesBy_65 : decode cX2_goesBy 65 = .ok (.iaload, 1) := dk_46 (dk_at dksX2_goesBy_2 19 rfl rfl)
theorem dX2_goesBy_66 : decode cX2_goesBy 66 = .ok (.invokevirtual 239, 3) := dk_182 0 239 (dk_at dksX2_goesBy_2 20 rfl rfl)
theorem dX2_goesBy_69 : decode cX2_goesBy 69 = .ok (.putfield 193, 3) := dk_181 0 193 (dk_at dksX2_goesBy_3 0 rfl rfl)
theorem dX2_goesBy_72 : decode cX2_goesBy 72 = .ok (.iinc 1 1, 3) := dk_132 1 1 (dk_at dksX2_goesBy_3 3 rfl rfl)
theorem dX2_goesBy_75 : decode cX2_goesBy 75 = .ok (.goto (-73), 3) := dk_167 255 183 (dk_at dksX2_goesBy_3 6 rfl rfl)
theorem dX2_goesBy_78 : decode cX2_goesBy 78 = .ok (.iconst 0, 1) := dk_3 (dk_at dksX2_goesBy_3 9 rfl rfl)
theorem dX2_goesBy_79 : decode cX2_goesBy 79 = .ok (.istore_n 1, 1) := dk_60 (dk_at dksX2_goesBy_3 10 rfl rfl)
theorem dX2_goesBy_80 : decode cX2_goesBy 80 = .ok (.iconst 0, 1) := dk_3 (dk_at dksX2_goesBy_3 11 rfl rfl)
theorem dX2_goesBy_81 : decode cX2_goesBy 81 = .ok (.istore_n 2, 1) := dk_61 (dk_at dksX2_goesBy_3 12 rfl rfl)
theorem dX2_goesBy_82 : decode cX2_goesBy 82 = .ok (.iload_n 2, 1) := dk_28 (dk_at dksX2_goesBy_3 13 rfl rfl)
theorem dX2_goesBy_83 : decode cX2_goesBy 83 = .ok (.aload_n 0, 1) := dk_42 (dk_at dksX2_goesBy_3 14 rfl rfl)
theorem dX2_goesBy_84 : decode cX2_goesBy 84 = .ok (.getfield 92, 3) := dk_180 0 92 (dk_at dksX2_goesBy_3 15 rfl rfl)
theorem dX2_goesBy_87 : decode cX2_goesBy 87 = .ok (.if_icmp .ge 73, 3) := dk_162 0 73 (dk_at dksX2_goesBy_3 18 rfl rfl)
theorem dX2_goesBy_90 : decode cX2_goesBy 90 = .ok (.aload_n 0, 1) := dk_42 (dk_at dksX2_goesBy_3 21 rfl rfl)
theorem dX2_goesBy_91 : decode cX2_goesBy 91 = .ok (.getfield 52, 3) := dk_180 0 52 (dk_at dksX2_goesBy_4 0 rfl rfl)
theorem dX2_goesBy_94 : decode cX2_goesBy 94 = .ok (.iload_n 2, 1) := dk_28 (dk_at dksX2_goesBy_4 3 rfl rfl)
theorem dX2_goesBy_95 : decode cX2_goesBy 95 = .ok (.aaload, 1) := dk_50 (dk_at dksX2_goesBy_4 4 rfl rfl)
theorem dX2_goesBy_96 : decode cX2_goesBy 96 = .ok (.astore_n 3, 1) := dk_78 (dk_at dksX2_goesBy_4 5 rfl rfl)
theorem dX2_goesBy_97 : decode cX2_goesBy 97 = .ok (.aload_n 3, 1) := dk_45 (dk_at dksX2_goesBy_4 6 rfl rfl)
theorem dX2_goesBy_98 : decode cX2_goesBy 98 = .ok (.getfield 209, 3) := dk_180 0 209 (dk_at dksX2_goesBy_4 7 rfl rfl)
theorem dX2_goesBy_101 : decode cX2_goesBy 101 = .ok (.ifCond .eq 24, 3) := dk_153 0 24 (dk_at dksX2_goesBy_4 10 rfl rfl)
theorem dX2_goesBy_104 : decode cX2_goesBy 104 = .ok (.aload_n 3, 1) := dk_45 (dk_at dksX2_goesBy_4 13 rfl rfl)
theorem dX2_goesBy_105 : decode cX2_goesBy 105 = .ok (.aload_n 0, 1) := dk_42 (dk_at dksX2_goesBy_4 14 rfl rfl)
theorem dX2_goesBy_106 : decode cX2_goesBy 106 = .ok (.getfield 62, 3) := dk_180 0 62 (dk_at dksX2_goesBy_4 15 rfl rfl)
theorem dX2_goesBy_109 : decode cX2_goesBy 109 = .ok (.invokevirtual 221, 3) := dk_182 0 221 (dk_at dksX2_goesBy_4 18 rfl rfl)
theorem dX2_goesBy_112 : decode cX2_goesBy 112 = .ok (.ifCond .ne 13, 3) := dk_154 0 13 (dk_at dksX2_goesBy_4 21 rfl rfl)
theorem dX2_goesBy_115 : decode cX2_goesBy 115 = .ok (.aload_n 3, 1) := dk_45 (dk_at dksX2_goesBy_5 0 rfl rfl)
theorem dX2_goesBy_116 : decode cX2_goesBy 116 = .ok (.invokevirtual 243, 3) := dk_182 0 243 (dk_at dksX2_goesBy_5 1 rfl rfl)
theorem dX2_goesBy_119 : decode cX2_goesBy 119 = .ok (.iinc 1 1, 3) := dk_132 1 1 (dk_at dksX2_goesBy_5 4 rfl rfl)
theorem dX2_goesBy_122 : decode cX2_goesBy 122 = .ok (.goto 32, 3) := dk_167 0 32 (dk_at dksX2_goesBy_5 7 rfl rfl)
theorem dX2_goesBy_125 : decode cX2_goesBy 125 = .ok (.aload_n 3, 1) := dk_45 (dk_at dksX2_goesBy_5 10 rfl rfl)
theorem dX2_goesBy_126 : decode cX2_goesBy 126 = .ok (.getfield 209, 3) := dk_180 0 209 (dk_at dksX2_goesBy_5 11 rfl rfl)
theorem dX2_goesBy_129 : decode cX2_goesBy 129 = .ok (.ifCond .eq 25, 3) := dk_153 0 25 (dk_at dksX2_goesBy_5 14 rfl rfl)
theorem dX2_goesBy_132 : decode cX2_goesBy 132 = .ok (.aload_n 3, 1) := dk_45 (dk_at dksX2_goesBy_5 17 rfl rfl)
theorem dX2_goesBy_133 : decode cX2_goesBy 133 = .ok (.ldc 246, 2) := dk_18 246 (dk_at dksX2_goesBy_5 18 rfl rfl)
theorem dX2_goesBy_135 : decode cX2_goesBy 135 = .ok (.aload_n 3, 1) := dk_45 (dk_at dksX2_goesBy_5 20 rfl rfl)
theorem dX2_goesBy_136 : decode cX2_goesBy 136 = .ok (.getfield 225, 3) := dk_180 0 225 (dk_at dksX2_goesBy_5 21 rfl rfl)
theorem dX2_goesBy_139 : decode cX2_goesBy 139 = .ok (.ldc 247, 2) := dk_18 247 (dk_at dksX2_goesBy_6 0 rfl rfl)
theorem dX2_goesBy_141 : decode cX2_goesBy 141 = .ok (.aload_n 0, 1) := dk_42 (dk_at dksX2_goesBy_6 2 rfl rfl)
theorem dX2_goesBy_142 : decode cX2_goesBy 142 = .ok (.getfield 66, 3) := dk_180 0 66 (dk_at dksX2_goesBy_6 3 rfl rfl)
theorem dX2_goesBy_145 : decode cX2_goesBy 145 = .ok (.i2f, 1) := dk_134 (dk_at dksX2_goesBy_6 6 rfl rfl)
theorem dX2_goesBy_146 : decode cX2_goesBy 146 = .ok (.fmul, 1) := dk_106 (dk_at dksX2_goesBy_6 7 rfl rfl)
theorem dX2_goesBy_147 : decode cX2_goesBy 147 = .ok (.fadd, 1) := dk_98 (dk_at dksX2_goesBy_6 8 rfl rfl)
theorem dX2_goesBy_148 : decode cX2_goesBy 148 = .ok (.invokestatic 158, 3) := dk_184 0 158 (dk_at dksX2_goesBy_6 9 rfl rfl)
theorem dX2_goesBy_151 : decode cX2_goesBy 151 = .ok (.putfield 225, 3) := dk_181 0 225 (dk_at dksX2_goesBy_6 12 rfl rfl)
theorem dX2_goesBy_154 : decode cX2_goesBy 154 = .ok (.iinc 2 1, 3) := dk_132 2 1 (dk_at dksX2_goesBy_6 15 rfl rfl)
theorem dX2_goesBy_157 : decode cX2_goesBy 157 = .ok (.goto (-75), 3) := dk_167 255 181 (dk_at dksX2_goesBy_6 18 rfl rfl)
theorem dX2_goesBy_160 : decode cX2_goesBy 160 = .ok (.aload_n 0, 1) := dk_42 (dk_at dksX2_goesBy_6 21 rfl rfl)
theorem dX2_goesBy_161 : decode cX2_goesBy 161 = .ok (.getfield 104, 3) := dk_180 0 104 (dk_at dksX2_goesBy_7 0 rfl rfl)
theorem dX2_goesBy_164 : decode cX2_goesBy 164 = .ok (.iconst 3, 1) := dk_6 (dk_at dksX2_goesBy_7 3 rfl rfl)
theorem dX2_goesBy_165 : decode cX2_goesBy 165 = .ok (.irem, 1) := dk_112 (dk_at dksX2_goesBy_7 4 rfl rfl)
theorem dX2_goesBy_166 : decode cX2_goesBy 166 = .ok (.ifCond .ne 7, 3) := dk_154 0 7 (dk_at dksX2_goesBy_7 5 rfl rfl)
theorem dX2_goesBy_169 : decode cX2_goesBy 169 = .ok (.aload_n 0, 1) := dk_42 (dk_at dksX2_goesBy_7 8 rfl rfl)
theorem dX2_goesBy_170 : decode cX2_goesBy 170 = .ok (.invokevirtual 248, 3) := dk_182 0 248 (dk_at dksX2_goesBy_7 9 rfl rfl)
theorem dX2_goesBy_173 : decode cX2_goesBy 173 = .ok (.aload_n 0, 1) := dk_42 (dk_at dksX2_goesBy_7 12 rfl rfl)
theorem dX2_goesBy_174 : decode cX2_goesBy 174 = .ok (.dup, 1) := dk_89 (dk_at dksX2_goesBy_7 13 rfl rfl)
theorem dX2_goesBy_175 : decode cX2_goesBy 175 = .ok (.getfield 104, 3) := dk_180 0 104 (dk_at dksX2_goesBy_7 14 rfl rfl)
theorem dX2_goesBy_178 : decode cX2_goesBy 178 = .ok (.iconst 1, 1) := dk_4 (dk_at dksX2_goesBy_7 17 rfl rfl)
theorem dX2_goesBy_179 : decode cX2_goesBy 179 = .ok (.iadd, 1) := dk_96 (dk_at dksX2_goesBy_7 18 rfl rfl)
theorem dX2_goesBy_180 : decode cX2_goesBy 180 = .ok (.putfield 104, 3) := dk_181 0 104 (dk_at dksX2_goesBy_7 19 rfl rfl)
theorem dX2_goesBy_183 : decode cX2_goesBy 183 = .ok (.iload_n 1, 1) := dk_27 (dk_at dksX2_goesBy_7 22 rfl rfl)
theorem dX2_goesBy_184 : decode cX2_goesBy 184 = .ok (.ireturn, 1) := dk_172 (dk_at dksX2_goesBy_7 23 rfl rfl)
abbrev cX2_molesGo : ByteArray := prog_3_method_29_code
def yX2_molesGo : MethodName := ⟨RX2, "molesGo", "()V"⟩
def dkwX2_molesGo_1 : List UInt8 := [4, 96, 16, 12, 112, 43, 28, 46, 79, 132, 2, 1, 167, 255, 233, 177]
abbrev dktX2_molesGo_1 : List UInt8 := dkwX2_molesGo_1 ++ []
def dkwX2_molesGo_0 : List UInt8 := [42, 180, 0, 15, 182, 0, 234, 192, 0, 235, 76, 3, 61, 28, 16, 12, 162, 0, 23, 42, 180, 0, 15, 28]
abbrev dktX2_molesGo_0 : List UInt8 := dkwX2_molesGo_0 ++ dktX2_molesGo_1
theorem dksX2_molesGo_0 : cX2_molesGo.data.toList.drop 0 = dktX2_molesGo_0 := by decide +kernel
theorem dksX2_molesGo_1 : cX2_molesGo.data.toList.drop 24 = dktX2_molesGo_1 := dk_seg dksX2_molesGo_0 24 rfl rfl
theorem dX2_molesGo_0 : decode cX2_molesGo 0 = .ok (.aload_n 0, 1) := dk_42 (dk_at dksX2_molesGo_0 0 rfl rfl)
theorem dX2_molesGo_1 : decode cX2_molesGo 1 = .ok (.getfield 15, 3) := dk_180 0 15 (dk_at dksX2_molesGo_0 1 rfl rfl)
theorem dX2_molesGo_4 : decode cX2_molesGo 4 = .ok (.invokevirtual 234, 3) := dk_182 0 234 (dk_at dksX2_molesGo_0 4 rfl rfl)
theorem dX2_molesGo_7 : decode cX2_molesGo 7 = .ok (.checkcast 235, 3) := dk_192 0 235 (dk_at dksX2_molesGo_0 7 rfl rfl)
theorem dX2_molesGo_10 : decode cX2_molesGo 10 = .ok (.astore_n 1, 1) := dk_76 (dk_at dksX2_molesGo_0 10 rfl rfl)
theorem dX2_molesGo_11 : decode cX2_molesGo 11 = .ok (.iconst 0, 1) := dk_3 (dk_at dksX2_molesGo_0 11 rfl rfl)
theorem dX2_molesGo_12 : decode cX2_molesGo 12 = .ok (.istore_n 2, 1) := dk_61 (dk_at dksX2_molesGo_0 12 rfl rfl)
theorem dX2_molesGo_13 : decode cX2_molesGo 13 = .ok (.iload_n 2, 1) := dk_28 (dk_at dksX2_molesGo_0 13 rfl rfl)
theorem dX2_molesGo_14 : decode cX2_molesGo 14 = .ok (.bipush 12, 2) := dk_16 12 (dk_at dksX2_molesGo_0 14 rfl rfl)
theorem dX2_molesGo_16 : decode cX2_molesGo 16 = .ok (.if_icmp .ge 23, 3) := dk_162 0 23 (dk_at dksX2_molesGo_0 16 rfl rfl)
theorem dX2_molesGo_19 : decode cX2_molesGo 19 = .ok (.aload_n 0, 1) := dk_42 (dk_at dksX2_molesGo_0 19 rfl rfl)
theorem dX2_molesGo_20 : decode cX2_molesGo 20 = .ok (.getfield 15, 3) := dk_180 0 15 (dk_at dksX2_molesGo_0 20 rfl rfl)
theorem dX2_molesGo_23 : decode cX2_molesGo 23 = .ok (.iload_n 2, 1) := dk_28 (dk_at dksX2_molesGo_0 23 rfl rfl)
theorem dX2_molesGo_24 : decode cX2_molesGo 24 = .ok (.iconst 1, 1) := dk_4 (dk_at dksX2_molesGo_1 0 rfl rfl)
theorem dX2_molesGo_25 : decode cX2_molesGo 25 = .ok (.iadd, 1) := dk_96 (dk_at dksX2_molesGo_1 1 rfl rfl)
theorem dX2_molesGo_26 : decode cX2_molesGo 26 = .ok (.bipush 12, 2) := dk_16 12 (dk_at dksX2_molesGo_1 2 rfl rfl)
theorem dX2_molesGo_28 : decode cX2_molesGo 28 = .ok (.irem, 1) := dk_112 (dk_at dksX2_molesGo_1 4 rfl rfl)
theorem dX2_molesGo_29 : decode cX2_molesGo 29 = .ok (.aload_n 1, 1) := dk_43 (dk_at dksX2_molesGo_1 5 rfl rfl)
theorem dX2_molesGo_30 : decode cX2_molesGo 30 = .ok (.iload_n 2, 1) := dk_28 (dk_at dksX2_molesGo_1 6 rfl rfl)
theorem dX2_molesGo_31 : decode cX2_molesGo 31 = .ok (.iaload, 1) := dk_46 (dk_at dksX2_molesGo_1 7 rfl rfl)
theorem dX2_molesGo_32 : decode cX2_molesGo 32 = .ok (.iastore, 1) := dk_79 (dk_at dksX2_molesGo_1 8 rfl rfl)
theorem dX2_molesGo_33 : decode cX2_molesGo 33 = .ok (.iinc 2 1, 3) := dk_132 2 1 (dk_at dksX2_molesGo_1 9 rfl rfl)
theorem dX2_molesGo_36 : decode cX2_molesGo 36 = .ok (.goto (-23), 3) := dk_167 255 233 (dk_at dksX2_molesGo_1 12 rfl rfl)
theorem dX2_molesGo_39 : decode cX2_molesGo 39 = .ok (.return_, 1) := dk_177 (dk_at dksX2_molesGo_1 15 rfl rfl)
abbrev cX2_seedling : ByteArray := prog_3_method_16_code
def yX2_seedling : MethodName := ⟨RX2, "seedling", "(II)I"⟩
def dkwX2_seedling_3 : List UInt8 := [180, 0, 107, 4, 96, 181, 0, 107, 21, 4, 172]
abbrev dktX2_seedling_3 : List UInt8 := dkwX2_seedling_3 ++ []
def dkwX2_seedling_2 : List UInt8 := [187, 0, 179, 89, 16, 6, 28, 183, 0, 181, 191, 25, 5, 42, 180, 0, 104, 182, 0, 184, 42, 89]
abbrev dktX2_seedling_2 : List UInt8 := dkwX2_seedling_2 ++ dktX2_seedling_3
def dkwX2_seedling_1 : List UInt8 := [28, 184, 0, 143, 42, 27, 182, 0, 132, 58, 5, 45, 21, 4, 25, 5, 83, 167, 0, 16, 58, 6]
abbrev dktX2_seedling_1 : List UInt8 := dkwX2_seedling_1 ++ dktX2_seedling_2
def dkwX2_seedling_0 : List UInt8 := [42, 28, 182, 0, 120, 78, 45, 184, 0, 173, 54, 4, 21, 4, 8, 160, 0, 7, 4, 167, 0, 4, 3, 8]
abbrev dktX2_seedling_0 : List UInt8 := dkwX2_seedling_0 ++ dktX2_seedling_1
theorem dksX2_seedling_0 : cX2_seedling.data.toList.drop 0 = dktX2_seedling_0 := by decide +kernel
theorem dksX2_seedling_1 : cX2_seedling.data.toList.drop 24 = dktX2_seedling_1 := dk_seg dksX2_seedling_0 24 rfl rfl
theorem dksX2_seedling_2 : cX2_seedling.data.toList.drop 46 = dktX2_seedling_2 := dk_seg dksX2_seedling_1 22 rfl rfl
theorem dksX2_seedling_3 : cX2_seedling.data.toList.drop 68 = dktX2_seedling_3 := dk_seg dksX2_seedling_2 22 rfl rfl
theorem dX2_seedling_0 : decode cX2_seedling 0 = .ok (.aload_n 0, 1) := dk_42 (dk_at dksX2_seedling_0 0 rfl rfl)
theorem dX2_seedling_1 : decode cX2_seedling 1 = .ok (.iload_n 2, 1) := dk_28 (dk_at dksX2_seedling_0 1 rfl rfl)
theorem dX2_seedling_2 : decode cX2_seedling 2 = .ok (.invokevirtual 120, 3) := dk_182 0 120 (dk_at dksX2_seedling_0 2 rfl rfl)
theorem dX2_seedling_5 : decode cX2_seedling 5 = .ok (.astore_n 3, 1) := dk_78 (dk_at dksX2_seedling_0 5 rfl rfl)
theorem dX2_seedling_6 : decode cX2_seedling 6 = .ok (.aload_n 3, 1) := dk_45 (dk_at dksX2_seedling_0 6 rfl rfl)
theorem dX2_seedling_7 : decode cX2_seedling 7 = .ok (.invokestatic 173, 3) := dk_184 0 173 (dk_at dksX2_seedling_0 7 rfl rfl)
theorem dX2_seedling_10 : decode cX2_seedling 10 = .ok (.istore 4, 2) := dk_54 4 (dk_at dksX2_seedling_0 10 rfl rfl)
theorem dX2_seedling_12 : decode cX2_seedling 12 = .ok (.iload 4, 2) := dk_21 4 (dk_at dksX2_seedling_0 12 rfl rfl)
theorem dX2_seedling_14 : decode cX2_seedling 14 = .ok (.iconst 5, 1) := dk_8 (dk_at dksX2_seedling_0 14 rfl rfl)
theorem dX2_seedling_15 : decode cX2_seedling 15 = .ok (.if_icmp .ne 7, 3) := dk_160 0 7 (dk_at dksX2_seedling_0 15 rfl rfl)
theorem dX2_seedling_18 : decode cX2_seedling 18 = .ok (.iconst 1, 1) := dk_4 (dk_at dksX2_seedling_0 18 rfl rfl)
theorem dX2_seedling_19 : decode cX2_seedling 19 = .ok (.goto 4, 3) := dk_167 0 4 (dk_at dksX2_seedling_0 19 rfl rfl)
theorem dX2_seedling_22 : decode cX2_seedling 22 = .ok (.iconst 0, 1) := dk_3 (dk_at dksX2_seedling_0 22 rfl rfl)
theorem dX2_seedling_23 : decode cX2_seedling 23 = .ok (.iconst 5, 1) := dk_8 (dk_at dksX2_seedling_0 23 rfl rfl)
theorem dX2_seedling_24 : decode cX2_seedling 24 = .ok (.iload_n 2, 1) := dk_28 (dk_at dksX2_seedling_1 0 rfl rfl)
theorem dX2_seedling_25 : decode cX2_seedling 25 = .ok (.invokestatic 143, 3) := dk_184 0 143 (dk_at dksX2_seedling_1 1 rfl rfl)
theorem dX2_seedling_28 : decode cX2_seedling 28 = .ok (.aload_n 0, 1) := dk_42 (dk_at dksX2_seedling_1 4 rfl rfl)
theorem dX2_seedling_29 : decode cX2_seedling 29 = .ok (.iload_n 1, 1) := dk_27 (dk_at dksX2_seedling_1 5 rfl rfl)
theorem dX2_seedling_30 : decode cX2_seedling 30 = .ok (.invokevirtual 132, 3) := dk_182 0 132 (dk_at dksX2_seedling_1 6 rfl rfl)
theorem dX2_seedling_33 : decode cX2_seedling 33 = .ok (.astore 5, 2) := dk_58 5 (dk_at dksX2_seedling_1 9 rfl rfl)
theorem dX2_seedling_35 : decode cX2_seedling 35 = .ok (.aload_n 3, 1) := dk_45 (dk_at dksX2_seedling_1 11 rfl rfl)
theorem dX2_seedling_36 : decode cX2_seedling 36 = .ok (.iload 4, 2) := dk_21 4 (dk_at dksX2_seedling_1 12 rfl rfl)
theorem dX2_seedling_38 : decode cX2_seedling 38 = .ok (.aload 5, 2) := dk_25 5 (dk_at dksX2_seedling_1 14 rfl rfl)
theorem dX2_seedling_40 : decode cX2_seedling 40 = .ok (.aastore, 1) := dk_83 (dk_at dksX2_seedling_1 16 rfl rfl)
theorem dX2_seedling_41 : decode cX2_seedling 41 = .ok (.goto 16, 3) := dk_167 0 16 (dk_at dksX2_seedling_1 17 rfl rfl)
theorem dX2_seedling_44 : decode cX2_seedling 44 = .ok (.astore 6, 2) := dk_58 6 (dk_at dksX2_seedling_1 20 rfl rfl)
theorem dX2_seedling_46 : decode cX2_seedling 46 = .ok (.new 179, 3) := dk_187 0 179 (dk_at dksX2_seedling_2 0 rfl rfl)
theorem dX2_seedling_49 : decode cX2_seedling 49 = .ok (.dup, 1) := dk_89 (dk_at dksX2_seedling_2 3 rfl rfl)
theorem dX2_seedling_50 : decode cX2_seedling 50 = .ok (.bipush 6, 2) := dk_16 6 (dk_at dksX2_seedling_2 4 rfl rfl)
theorem dX2_seedling_52 : decode cX2_seedling 52 = .ok (.iload_n 2, 1) := dk_28 (dk_at dksX2_seedling_2 6 rfl rfl)
theorem dX2_seedling_53 : decode cX2_seedling 53 = .ok (.invokespecial 181, 3) := dk_183 0 181 (dk_at dksX2_seedling_2 7 rfl rfl)
theorem dX2_seedling_56 : decode cX2_seedling 56 = .ok (.athrow, 1) := dk_191 (dk_at dksX2_seedling_2 10 rfl rfl)
theorem dX2_seedling_57 : decode cX2_seedling 57 = .ok (.aload 5, 2) := dk_25 5 (dk_at dksX2_seedling_2 11 rfl rfl)
theorem dX2_seedling_59 : decode cX2_seedling 59 = .ok (.aload_n 0, 1) := dk_42 (dk_at dksX2_seedling_2 13 rfl rfl)
theorem dX2_seedling_60 : decode cX2_seedling 60 = .ok (.getfield 104, 3) := dk_180 0 104 (dk_at dksX2_seedling_2 14 rfl rfl)
theorem dX2_seedling_63 : decode cX2_seedling 63 = .ok (.invokevirtual 184, 3) := dk_182 0 184 (dk_at dksX2_seedling_2 17 rfl rfl)
theorem dX2_seedling_66 : decode cX2_seedling 66 = .ok (.aload_n 0, 1) := dk_42 (dk_at dksX2_seedling_2 20 rfl rfl)
theorem dX2_seedling_67 : decode cX2_seedling 67 = .ok (.dup, 1) := dk_89 (dk_at dksX2_seedling_2 21 rfl rfl)
theorem dX2_seedling_68 : decode cX2_seedling 68 = .ok (.getfield 107, 3) := dk_180 0 107 (dk_at dksX2_seedling_3 0 rfl rfl)
theorem dX2_seedling_71 : decode cX2_seedling 71 = .ok (.iconst 1, 1) := dk_4 (dk_at dksX2_seedling_3 3 rfl rfl)
theorem dX2_seedling_72 : decode cX2_seedling 72 = .ok (.iadd, 1) := dk_96 (dk_at dksX2_seedling_3 4 rfl rfl)
theorem dX2_seedling_73 : decode cX2_seedling 73 = .ok (.putfield 107, 3) := dk_181 0 107 (dk_at dksX2_seedling_3 5 rfl rfl)
theorem dX2_seedling_76 : decode cX2_seedling 76 = .ok (.iload 4, 2) := dk_21 4 (dk_at dksX2_seedling_3 8 rfl rfl)
theorem dX2_seedling_78 : decode cX2_seedling 78 = .ok (.ireturn, 1) := dk_172 (dk_at dksX2_seedling_3 10 rfl rfl)
abbrev cX2_free : ByteArray := prog_3_method_15_code
def yX2_free : MethodName := ⟨RX2, "free", "([LCliffPlots$Plant;)I"⟩
def dkwX2_free_0 : List UInt8 := [3, 60, 27, 8, 162, 0, 15, 42, 27, 50, 198, 0, 9, 132, 1, 1, 167, 255, 242, 27, 172]
abbrev dktX2_free_0 : List UInt8 := dkwX2_free_0 ++ []
theorem dksX2_free_0 : cX2_free.data.toList.drop 0 = dktX2_free_0 := by decide +kernel
theorem dX2_free_0 : decode cX2_free 0 = .ok (.iconst 0, 1) := dk_3 (dk_at dksX2_free_0 0 rfl rfl)
theorem dX2_free_1 : decode cX2_free 1 = .ok (.istore_n 1, 1) := dk_60 (dk_at dksX2_free_0 1 rfl rfl)
theorem dX2_free_2 : decode cX2_free 2 = .ok (.iload_n 1, 1) := dk_27 (dk_at dksX2_free_0 2 rfl rfl)
theorem dX2_free_3 : decode cX2_free 3 = .ok (.iconst 5, 1) := dk_8 (dk_at dksX2_free_0 3 rfl rfl)
theorem dX2_free_4 : decode cX2_free 4 = .ok (.if_icmp .ge 15, 3) := dk_162 0 15 (dk_at dksX2_free_0 4 rfl rfl)
theorem dX2_free_7 : decode cX2_free 7 = .ok (.aload_n 0, 1) := dk_42 (dk_at dksX2_free_0 7 rfl rfl)
theorem dX2_free_8 : decode cX2_free 8 = .ok (.iload_n 1, 1) := dk_27 (dk_at dksX2_free_0 8 rfl rfl)
theorem dX2_free_9 : decode cX2_free 9 = .ok (.aaload, 1) := dk_50 (dk_at dksX2_free_0 9 rfl rfl)
theorem dX2_free_10 : decode cX2_free 10 = .ok (.ifnull 9, 3) := dk_198 0 9 (dk_at dksX2_free_0 10 rfl rfl)
theorem dX2_free_13 : decode cX2_free 13 = .ok (.iinc 1 1, 3) := dk_132 1 1 (dk_at dksX2_free_0 13 rfl rfl)
theorem dX2_free_16 : decode cX2_free 16 = .ok (.goto (-14), 3) := dk_167 255 242 (dk_at dksX2_free_0 16 rfl rfl)
theorem dX2_free_19 : decode cX2_free 19 = .ok (.iload_n 1, 1) := dk_27 (dk_at dksX2_free_0 19 rfl rfl)
theorem dX2_free_20 : decode cX2_free 20 = .ok (.ireturn, 1) := dk_172 (dk_at dksX2_free_0 20 rfl rfl)
abbrev cX2_plant : ByteArray := prog_3_method_17_code
def yX2_plant : MethodName := ⟨RX2, "plant", "(III)I"⟩
def dkwX2_plant_4 : List UInt8 := [25, 5, 42, 180, 0, 104, 182, 0, 190, 42, 180, 0, 24, 21, 4, 25, 5, 83, 21, 4, 172]
abbrev dktX2_plant_4 : List UInt8 := dkwX2_plant_4 ++ []
def dkwX2_plant_3 : List UInt8 := [50, 182, 0, 128, 184, 0, 143, 42, 28, 182, 0, 120, 29, 50, 58, 5, 42, 28, 182, 0, 120, 29, 1, 83]
abbrev dktX2_plant_3 : List UInt8 := dkwX2_plant_3 ++ dktX2_plant_4
def dkwX2_plant_2 : List UInt8 := [42, 180, 0, 24, 3, 21, 4, 184, 0, 187, 50, 199, 0, 7, 3, 167, 0, 13, 42, 180, 0, 24, 21, 4]
abbrev dktX2_plant_2 : List UInt8 := dkwX2_plant_2 ++ dktX2_plant_3
def dkwX2_plant_1 : List UInt8 := [184, 0, 143, 42, 180, 0, 24, 3, 21, 4, 184, 0, 187, 50, 198, 0, 7, 4, 167, 0, 4, 3, 16, 7]
abbrev dktX2_plant_1 : List UInt8 := dkwX2_plant_1 ++ dktX2_plant_2
def dkwX2_plant_0 : List UInt8 := [42, 180, 0, 46, 27, 50, 180, 0, 150, 54, 4, 21, 4, 2, 160, 0, 7, 4, 167, 0, 4, 3, 7, 27]
abbrev dktX2_plant_0 : List UInt8 := dkwX2_plant_0 ++ dktX2_plant_1
theorem dksX2_plant_0 : cX2_plant.data.toList.drop 0 = dktX2_plant_0 := by decide +kernel
theorem dksX2_plant_1 : cX2_plant.data.toList.drop 24 = dktX2_plant_1 := dk_seg dksX2_plant_0 24 rfl rfl
theorem dksX2_plant_2 : cX2_plant.data.toList.drop 48 = dktX2_plant_2 := dk_seg dksX2_plant_1 24 rfl rfl
theorem dksX2_plant_3 : cX2_plant.data.toList.drop 72 = dktX2_plant_3 := dk_seg dksX2_plant_2 24 rfl rfl
theorem dksX2_plant_4 : cX2_plant.data.toList.drop 96 = dktX2_plant_4 := dk_seg dksX2_plant_3 24 rfl rfl
theorem dX2_plant_0 : decode cX2_plant 0 = .ok (.aload_n 0, 1) := dk_42 (dk_at dksX2_plant_0 0 rfl rfl)
theorem dX2_plant_1 : decode cX2_plant 1 = .ok (.getfield 46, 3) := dk_180 0 46 (dk_at dksX2_plant_0 1 rfl rfl)
theorem dX2_plant_4 : decode cX2_plant 4 = .ok (.iload_n 1, 1) := dk_27 (dk_at dksX2_plant_0 4 rfl rfl)
theorem dX2_plant_5 : decode cX2_plant 5 = .ok (.aaload, 1) := dk_50 (dk_at dksX2_plant_0 5 rfl rfl)
theorem dX2_plant_6 : decode cX2_plant 6 = .ok (.getfield 150, 3) := dk_180 0 150 (dk_at dksX2_plant_0 6 rfl rfl)
theorem dX2_plant_9 : decode cX2_plant 9 = .ok (.istore 4, 2) := dk_54 4 (dk_at dksX2_plant_0 9 rfl rfl)
theorem dX2_plant_11 : decode cX2_plant 11 = .ok (.iload 4, 2) := dk_21 4 (dk_at dksX2_plant_0 11 rfl rfl)
theorem dX2_plant_13 : decode cX2_plant 13 = .ok (.iconst (-1), 1) := dk_2 (dk_at dksX2_plant_0 13 rfl rfl)
theorem dX2_plant_14 : decode cX2_plant 14 = .ok (.if_icmp .ne 7, 3) := dk_160 0 7 (dk_at dksX2_plant_0 14 rfl rfl)
theorem dX2_plant_17 : decode cX2_plant 17 = .ok (.iconst 1, 1) := dk_4 (dk_at dksX2_plant_0 17 rfl rfl)
theorem dX2_plant_18 : decode cX2_plant 18 = .ok (.goto 4, 3) := dk_167 0 4 (dk_at dksX2_plant_0 18 rfl rfl)
theorem dX2_plant_21 : decode cX2_plant 21 = .ok (.iconst 0, 1) := dk_3 (dk_at dksX2_plant_0 21 rfl rfl)
theorem dX2_plant_22 : decode cX2_plant 22 = .ok (.iconst 4, 1) := dk_7 (dk_at dksX2_plant_0 22 rfl rfl)
theorem dX2_plant_23 : decode cX2_plant 23 = .ok (.iload_n 1, 1) := dk_27 (dk_at dksX2_plant_0 23 rfl rfl)
theorem dX2_plant_24 : decode cX2_plant 24 = .ok (.invokestatic 143, 3) := dk_184 0 143 (dk_at dksX2_plant_1 0 rfl rfl)
theorem dX2_plant_27 : decode cX2_plant 27 = .ok (.aload_n 0, 1) := dk_42 (dk_at dksX2_plant_1 3 rfl rfl)
theorem dX2_plant_28 : decode cX2_plant 28 = .ok (.getfield 24, 3) := dk_180 0 24 (dk_at dksX2_plant_1 4 rfl rfl)
theorem dX2_plant_31 : decode cX2_plant 31 = .ok (.iconst 0, 1) := dk_3 (dk_at dksX2_plant_1 7 rfl rfl)
theorem dX2_plant_32 : decode cX2_plant 32 = .ok (.iload 4, 2) := dk_21 4 (dk_at dksX2_plant_1 8 rfl rfl)
theorem dX2_plant_34 : decode cX2_plant 34 = .ok (.invokestatic 187, 3) := dk_184 0 187 (dk_at dksX2_plant_1 10 rfl rfl)
theorem dX2_plant_37 : decode cX2_plant 37 = .ok (.aaload, 1) := dk_50 (dk_at dksX2_plant_1 13 rfl rfl)
theorem dX2_plant_38 : decode cX2_plant 38 = .ok (.ifnull 7, 3) := dk_198 0 7 (dk_at dksX2_plant_1 14 rfl rfl)
theorem dX2_plant_41 : decode cX2_plant 41 = .ok (.iconst 1, 1) := dk_4 (dk_at dksX2_plant_1 17 rfl rfl)
theorem dX2_plant_42 : decode cX2_plant 42 = .ok (.goto 4, 3) := dk_167 0 4 (dk_at dksX2_plant_1 18 rfl rfl)
theorem dX2_plant_45 : decode cX2_plant 45 = .ok (.iconst 0, 1) := dk_3 (dk_at dksX2_plant_1 21 rfl rfl)
theorem dX2_plant_46 : decode cX2_plant 46 = .ok (.bipush 7, 2) := dk_16 7 (dk_at dksX2_plant_1 22 rfl rfl)
theorem dX2_plant_48 : decode cX2_plant 48 = .ok (.aload_n 0, 1) := dk_42 (dk_at dksX2_plant_2 0 rfl rfl)
theorem dX2_plant_49 : decode cX2_plant 49 = .ok (.getfield 24, 3) := dk_180 0 24 (dk_at dksX2_plant_2 1 rfl rfl)
theorem dX2_plant_52 : decode cX2_plant 52 = .ok (.iconst 0, 1) := dk_3 (dk_at dksX2_plant_2 4 rfl rfl)
theorem dX2_plant_53 : decode cX2_plant 53 = .ok (.iload 4, 2) := dk_21 4 (dk_at dksX2_plant_2 5 rfl rfl)
theorem dX2_plant_55 : decode cX2_plant 55 = .ok (.invokestatic 187, 3) := dk_184 0 187 (dk_at dksX2_plant_2 7 rfl rfl)
theorem dX2_plant_58 : decode cX2_plant 58 = .ok (.aaload, 1) := dk_50 (dk_at dksX2_plant_2 10 rfl rfl)
theorem dX2_plant_59 : decode cX2_plant 59 = .ok (.ifnonnull 7, 3) := dk_199 0 7 (dk_at dksX2_plant_2 11 rfl rfl)
theorem dX2_plant_62 : decode cX2_plant 62 = .ok (.iconst 0, 1) := dk_3 (dk_at dksX2_plant_2 14 rfl rfl)
theorem dX2_plant_63 : decode cX2_plant 63 = .ok (.goto 13, 3) := dk_167 0 13 (dk_at dksX2_plant_2 15 rfl rfl)
theorem dX2_plant_66 : decode cX2_plant 66 = .ok (.aload_n 0, 1) := dk_42 (dk_at dksX2_plant_2 18 rfl rfl)
theorem dX2_plant_67 : decode cX2_plant 67 = .ok (.getfield 24, 3) := dk_180 0 24 (dk_at dksX2_plant_2 19 rfl rfl)
theorem dX2_plant_70 : decode cX2_plant 70 = .ok (.iload 4, 2) := dk_21 4 (dk_at dksX2_plant_2 22 rfl rfl)
theorem dX2_plant_72 : decode cX2_plant 72 = .ok (.aaload, 1) := dk_50 (dk_at dksX2_plant_3 0 rfl rfl)
theorem dX2_plant_73 : decode cX2_plant 73 = .ok (.invokevirtual 128, 3) := dk_182 0 128 (dk_at dksX2_plant_3 1 rfl rfl)
theorem dX2_plant_76 : decode cX2_plant 76 = .ok (.invokestatic 143, 3) := dk_184 0 143 (dk_at dksX2_plant_3 4 rfl rfl)
theorem dX2_plant_79 : decode cX2_plant 79 = .ok (.aload_n 0, 1) := dk_42 (dk_at dksX2_plant_3 7 rfl rfl)
theorem dX2_plant_80 : decode cX2_plant 80 = .ok (.iload_n 2, 1) := dk_28 (dk_at dksX2_plant_3 8 rfl rfl)
theorem dX2_plant_81 : decode cX2_plant 81 = .ok (.invokevirtual 120, 3) := dk_182 0 120 (dk_at dksX2_plant_3 9 rfl rfl)
theorem dX2_plant_84 : decode cX2_plant 84 = .ok (.iload_n 3, 1) := dk_29 (dk_at dksX2_plant_3 12 rfl rfl)
theorem dX2_plant_85 : decode cX2_plant 85 = .ok (.aaload, 1) := dk_50 (dk_at dksX2_plant_3 13 rfl rfl)
theorem dX2_plant_86 : decode cX2_plant 86 = .ok (.astore 5, 2) := dk_58 5 (dk_at dksX2_plant_3 14 rfl rfl)
theorem dX2_plant_88 : decode cX2_plant 88 = .ok (.aload_n 0, 1) := dk_42 (dk_at dksX2_plant_3 16 rfl rfl)
theorem dX2_plant_89 : decode cX2_plant 89 = .ok (.iload_n 2, 1) := dk_28 (dk_at dksX2_plant_3 17 rfl rfl)
theorem dX2_plant_90 : decode cX2_plant 90 = .ok (.invokevirtual 120, 3) := dk_182 0 120 (dk_at dksX2_plant_3 18 rfl rfl)
theorem dX2_plant_93 : decode cX2_plant 93 = .ok (.iload_n 3, 1) := dk_29 (dk_at dksX2_plant_3 21 rfl rfl)
theorem dX2_plant_94 : decode cX2_plant 94 = .ok (.aconst_null, 1) := dk_1 (dk_at dksX2_plant_3 22 rfl rfl)
theorem dX2_plant_95 : decode cX2_plant 95 = .ok (.aastore, 1) := dk_83 (dk_at dksX2_plant_3 23 rfl rfl)
theorem dX2_plant_96 : decode cX2_plant 96 = .ok (.aload 5, 2) := dk_25 5 (dk_at dksX2_plant_4 0 rfl rfl)
theorem dX2_plant_98 : decode cX2_plant 98 = .ok (.aload_n 0, 1) := dk_42 (dk_at dksX2_plant_4 2 rfl rfl)
theorem dX2_plant_99 : decode cX2_plant 99 = .ok (.getfield 104, 3) := dk_180 0 104 (dk_at dksX2_plant_4 3 rfl rfl)
theorem dX2_plant_102 : decode cX2_plant 102 = .ok (.invokevirtual 190, 3) := dk_182 0 190 (dk_at dksX2_plant_4 6 rfl rfl)
theorem dX2_plant_105 : decode cX2_plant 105 = .ok (.aload_n 0, 1) := dk_42 (dk_at dksX2_plant_4 9 rfl rfl)
theorem dX2_plant_106 : decode cX2_plant 106 = .ok (.getfield 24, 3) := dk_180 0 24 (dk_at dksX2_plant_4 10 rfl rfl)
theorem dX2_plant_109 : decode cX2_plant 109 = .ok (.iload 4, 2) := dk_21 4 (dk_at dksX2_plant_4 13 rfl rfl)
theorem dX2_plant_111 : decode cX2_plant 111 = .ok (.aload 5, 2) := dk_25 5 (dk_at dksX2_plant_4 15 rfl rfl)
theorem dX2_plant_113 : decode cX2_plant 113 = .ok (.aastore, 1) := dk_83 (dk_at dksX2_plant_4 17 rfl rfl)
theorem dX2_plant_114 : decode cX2_plant 114 = .ok (.iload 4, 2) := dk_21 4 (dk_at dksX2_plant_4 18 rfl rfl)
theorem dX2_plant_116 : decode cX2_plant 116 = .ok (.ireturn, 1) := dk_172 (dk_at dksX2_plant_4 20 rfl rfl)
abbrev cX2_heaviest : ByteArray := prog_3_method_18_code
def yX2_heaviest : MethodName := ⟨RX2, "heaviest", "(I)I"⟩
def dkwX2_heaviest_3 : List UInt8 := [180, 0, 193, 149, 158, 0, 7, 29, 167, 0, 4, 28, 61, 132, 3, 1, 167, 255, 176, 28, 172]
abbrev dktX2_heaviest_3 : List UInt8 := dkwX2_heaviest_3 ++ []
def dkwX2_heaviest_2 : List UInt8 := [159, 0, 29, 42, 180, 0, 24, 29, 50, 180, 0, 193, 42, 180, 0, 24, 3, 28, 184, 0, 187, 50]
abbrev dktX2_heaviest_2 : List UInt8 := dkwX2_heaviest_2 ++ dktX2_heaviest_3
def dkwX2_heaviest_1 : List UInt8 := [50, 182, 0, 128, 27, 160, 0, 7, 4, 167, 0, 4, 3, 54, 4, 21, 4, 153, 0, 38, 28, 2]
abbrev dktX2_heaviest_1 : List UInt8 := dkwX2_heaviest_1 ++ dktX2_heaviest_2
def dkwX2_heaviest_0 : List UInt8 := [2, 61, 3, 62, 29, 16, 12, 162, 0, 80, 42, 180, 0, 24, 29, 50, 198, 0, 20, 42, 180, 0, 24, 29]
abbrev dktX2_heaviest_0 : List UInt8 := dkwX2_heaviest_0 ++ dktX2_heaviest_1
theorem dksX2_heaviest_0 : cX2_heaviest.data.toList.drop 0 = dktX2_heaviest_0 := by decide +kernel
theorem dksX2_heaviest_1 : cX2_heaviest.data.toList.drop 24 = dktX2_heaviest_1 := dk_seg dksX2_heaviest_0 24 rfl rfl
theorem dksX2_heaviest_2 : cX2_heaviest.data.toList.drop 46 = dktX2_heaviest_2 := dk_seg dksX2_heaviest_1 22 rfl rfl
theorem dksX2_heaviest_3 : cX2_heaviest.data.toList.drop 68 = dktX2_heaviest_3 := dk_seg dksX2_heaviest_2 22 rfl rfl
theorem dX2_heaviest_0 : decode cX2_heaviest 0 = .ok (.iconst (-1), 1) := dk_2 (dk_at dksX2_heaviest_0 0 rfl rfl)
theorem dX2_heaviest_1 : decode cX2_heaviest 1 = .ok (.istore_n 2, 1) := dk_61 (dk_at dksX2_heaviest_0 1 rfl rfl)
theorem dX2_heaviest_2 : decode cX2_heaviest 2 = .ok (.iconst 0, 1) := dk_3 (dk_at dksX2_heaviest_0 2 rfl rfl)
theorem dX2_heaviest_3 : decode cX2_heaviest 3 = .ok (.istore_n 3, 1) := dk_62 (dk_at dksX2_heaviest_0 3 rfl rfl)
theorem dX2_heaviest_4 : decode cX2_heaviest 4 = .ok (.iload_n 3, 1) := dk_29 (dk_at dksX2_heaviest_0 4 rfl rfl)
theorem dX2_heaviest_5 : decode cX2_heaviest 5 = .ok (.bipush 12, 2) := dk_16 12 (dk_at dksX2_heaviest_0 5 rfl rfl)
theorem dX2_heaviest_7 : decode cX2_heaviest 7 = .ok (.if_icmp .ge 80, 3) := dk_162 0 80 (dk_at dksX2_heaviest_0 7 rfl rfl)
theorem dX2_heaviest_10 : decode cX2_heaviest 10 = .ok (.aload_n 0, 1) := dk_42 (dk_at dksX2_heaviest_0 10 rfl rfl)
theorem dX2_heaviest_11 : decode cX2_heaviest 11 = .ok (.getfield 24, 3) := dk_180 0 24 (dk_at dksX2_heaviest_0 11 rfl rfl)
theorem dX2_heaviest_14 : decode cX2_heaviest 14 = .ok (.iload_n 3, 1) := dk_29 (dk_at dksX2_heaviest_0 14 rfl rfl)
theorem dX2_heaviest_15 : decode cX2_heaviest 15 = .ok (.aaload, 1) := dk_50 (dk_at dksX2_heaviest_0 15 rfl rfl)
theorem dX2_heaviest_16 : decode cX2_heaviest 16 = .ok (.ifnull 20, 3) := dk_198 0 20 (dk_at dksX2_heaviest_0 16 rfl rfl)
theorem dX2_heaviest_19 : decode cX2_heaviest 19 = .ok (.aload_n 0, 1) := dk_42 (dk_at dksX2_heaviest_0 19 rfl rfl)
theorem dX2_heaviest_20 : decode cX2_heaviest 20 = .ok (.getfield 24, 3) := dk_180 0 24 (dk_at dksX2_heaviest_0 20 rfl rfl)
theorem dX2_heaviest_23 : decode cX2_heaviest 23 = .ok (.iload_n 3, 1) := dk_29 (dk_at dksX2_heaviest_0 23 rfl rfl)
theorem dX2_heaviest_24 : decode cX2_heaviest 24 = .ok (.aaload, 1) := dk_50 (dk_at dksX2_heaviest_1 0 rfl rfl)
theorem dX2_heaviest_25 : decode cX2_heaviest 25 = .ok (.invokevirtual 128, 3) := dk_182 0 128 (dk_at dksX2_heaviest_1 1 rfl rfl)
theorem dX2_heaviest_28 : decode cX2_heaviest 28 = .ok (.iload_n 1, 1) := dk_27 (dk_at dksX2_heaviest_1 4 rfl rfl)
theorem dX2_heaviest_29 : decode cX2_heaviest 29 = .ok (.if_icmp .ne 7, 3) := dk_160 0 7 (dk_at dksX2_heaviest_1 5 rfl rfl)
theorem dX2_heaviest_32 : decode cX2_heaviest 32 = .ok (.iconst 1, 1) := dk_4 (dk_at dksX2_heaviest_1 8 rfl rfl)
theorem dX2_heaviest_33 : decode cX2_heaviest 33 = .ok (.goto 4, 3) := dk_167 0 4 (dk_at dksX2_heaviest_1 9 rfl rfl)
theorem dX2_heaviest_36 : decode cX2_heaviest 36 = .ok (.iconst 0, 1) := dk_3 (dk_at dksX2_heaviest_1 12 rfl rfl)
theorem dX2_heaviest_37 : decode cX2_heaviest 37 = .ok (.istore 4, 2) := dk_54 4 (dk_at dksX2_heaviest_1 13 rfl rfl)
theorem dX2_heaviest_39 : decode cX2_heaviest 39 = .ok (.iload 4, 2) := dk_21 4 (dk_at dksX2_heaviest_1 15 rfl rfl)
theorem dX2_heaviest_41 : decode cX2_heaviest 41 = .ok (.ifCond .eq 38, 3) := dk_153 0 38 (dk_at dksX2_heaviest_1 17 rfl rfl)
theorem dX2_heaviest_44 : decode cX2_heaviest 44 = .ok (.iload_n 2, 1) := dk_28 (dk_at dksX2_heaviest_1 20 rfl rfl)
theorem dX2_heaviest_45 : decode cX2_heaviest 45 = .ok (.iconst (-1), 1) := dk_2 (dk_at dksX2_heaviest_1 21 rfl rfl)
theorem dX2_heaviest_46 : decode cX2_heaviest 46 = .ok (.if_icmp .eq 29, 3) := dk_159 0 29 (dk_at dksX2_heaviest_2 0 rfl rfl)
theorem dX2_heaviest_49 : decode cX2_heaviest 49 = .ok (.aload_n 0, 1) := dk_42 (dk_at dksX2_heaviest_2 3 rfl rfl)
theorem dX2_heaviest_50 : decode cX2_heaviest 50 = .ok (.getfield 24, 3) := dk_180 0 24 (dk_at dksX2_heaviest_2 4 rfl rfl)
theorem dX2_heaviest_53 : decode cX2_heaviest 53 = .ok (.iload_n 3, 1) := dk_29 (dk_at dksX2_heaviest_2 7 rfl rfl)
theorem dX2_heaviest_54 : decode cX2_heaviest 54 = .ok (.aaload, 1) := dk_50 (dk_at dksX2_heaviest_2 8 rfl rfl)
theorem dX2_heaviest_55 : decode cX2_heaviest 55 = .ok (.getfield 193, 3) := dk_180 0 193 (dk_at dksX2_heaviest_2 9 rfl rfl)
theorem dX2_heaviest_58 : decode cX2_heaviest 58 = .ok (.aload_n 0, 1) := dk_42 (dk_at dksX2_heaviest_2 12 rfl rfl)
theorem dX2_heaviest_59 : decode cX2_heaviest 59 = .ok (.getfield 24, 3) := dk_180 0 24 (dk_at dksX2_heaviest_2 13 rfl rfl)
theorem dX2_heaviest_62 : decode cX2_heaviest 62 = .ok (.iconst 0, 1) := dk_3 (dk_at dksX2_heaviest_2 16 rfl rfl)
theorem dX2_heaviest_63 : decode cX2_heaviest 63 = .ok (.iload_n 2, 1) := dk_28 (dk_at dksX2_heaviest_2 17 rfl rfl)
theorem dX2_heaviest_64 : decode cX2_heaviest 64 = .ok (.invokestatic 187, 3) := dk_184 0 187 (dk_at dksX2_heaviest_2 18 rfl rfl)
theorem dX2_heaviest_67 : decode cX2_heaviest 67 = .ok (.aaload, 1) := dk_50 (dk_at dksX2_heaviest_2 21 rfl rfl)
theorem dX2_heaviest_68 : decode cX2_heaviest 68 = .ok (.getfield 193, 3) := dk_180 0 193 (dk_at dksX2_heaviest_3 0 rfl rfl)
theorem dX2_heaviest_71 : decode cX2_heaviest 71 = .ok (.fcmp .l, 1) := dk_149 (dk_at dksX2_heaviest_3 3 rfl rfl)
theorem dX2_heaviest_72 : decode cX2_heaviest 72 = .ok (.ifCond .le 7, 3) := dk_158 0 7 (dk_at dksX2_heaviest_3 4 rfl rfl)
theorem dX2_heaviest_75 : decode cX2_heaviest 75 = .ok (.iload_n 3, 1) := dk_29 (dk_at dksX2_heaviest_3 7 rfl rfl)
theorem dX2_heaviest_76 : decode cX2_heaviest 76 = .ok (.goto 4, 3) := dk_167 0 4 (dk_at dksX2_heaviest_3 8 rfl rfl)
theorem dX2_heaviest_79 : decode cX2_heaviest 79 = .ok (.iload_n 2, 1) := dk_28 (dk_at dksX2_heaviest_3 11 rfl rfl)
theorem dX2_heaviest_80 : decode cX2_heaviest 80 = .ok (.istore_n 2, 1) := dk_61 (dk_at dksX2_heaviest_3 12 rfl rfl)
theorem dX2_heaviest_81 : decode cX2_heaviest 81 = .ok (.iinc 3 1, 3) := dk_132 3 1 (dk_at dksX2_heaviest_3 13 rfl rfl)
theorem dX2_heaviest_84 : decode cX2_heaviest 84 = .ok (.goto (-80), 3) := dk_167 255 176 (dk_at dksX2_heaviest_3 16 rfl rfl)
theorem dX2_heaviest_87 : decode cX2_heaviest 87 = .ok (.iload_n 2, 1) := dk_28 (dk_at dksX2_heaviest_3 19 rfl rfl)
theorem dX2_heaviest_88 : decode cX2_heaviest 88 = .ok (.ireturn, 1) := dk_172 (dk_at dksX2_heaviest_3 20 rfl rfl)
abbrev cX2_harvest : ByteArray := prog_3_method_19_code
def yX2_harvest : MethodName := ⟨RX2, "harvest", "(I)F"⟩
def dkwX2_harvest_4 : List UInt8 := [25, 4, 182, 0, 128, 27, 25, 4, 180, 0, 193, 182, 0, 198, 25, 4, 180, 0, 193, 174]
abbrev dktX2_harvest_4 : List UInt8 := dkwX2_harvest_4 ++ []
def dkwX2_harvest_3 : List UInt8 := [181, 0, 116, 44, 89, 180, 0, 197, 4, 96, 181, 0, 197, 42, 89, 180, 0, 110, 4, 96, 181, 0, 110, 42]
abbrev dktX2_harvest_3 : List UInt8 := dkwX2_harvest_3 ++ dktX2_harvest_4
def dkwX2_harvest_2 : List UInt8 := [29, 184, 0, 143, 42, 180, 0, 24, 29, 50, 58, 4, 42, 180, 0, 24, 29, 1, 83, 25, 4, 3]
abbrev dktX2_harvest_2 : List UInt8 := dkwX2_harvest_2 ++ dktX2_harvest_3
def dkwX2_harvest_1 : List UInt8 := [184, 0, 143, 44, 180, 0, 150, 62, 42, 180, 0, 24, 29, 50, 199, 0, 7, 4, 167, 0, 4, 3, 16, 8]
abbrev dktX2_harvest_1 : List UInt8 := dkwX2_harvest_1 ++ dktX2_harvest_2
def dkwX2_harvest_0 : List UInt8 := [42, 180, 0, 46, 27, 50, 77, 44, 180, 0, 150, 2, 160, 0, 7, 4, 167, 0, 4, 3, 7, 27]
abbrev dktX2_harvest_0 : List UInt8 := dkwX2_harvest_0 ++ dktX2_harvest_1
theorem dksX2_harvest_0 : cX2_harvest.data.toList.drop 0 = dktX2_harvest_0 := by decide +kernel
theorem dksX2_harvest_1 : cX2_harvest.data.toList.drop 22 = dktX2_harvest_1 := dk_seg dksX2_harvest_0 22 rfl rfl
theorem dksX2_harvest_2 : cX2_harvest.data.toList.drop 46 = dktX2_harvest_2 := dk_seg dksX2_harvest_1 24 rfl rfl
theorem dksX2_harvest_3 : cX2_harvest.data.toList.drop 68 = dktX2_harvest_3 := dk_seg dksX2_harvest_2 22 rfl rfl
theorem dksX2_harvest_4 : cX2_harvest.data.toList.drop 92 = dktX2_harvest_4 := dk_seg dksX2_harvest_3 24 rfl rfl
theorem dX2_harvest_0 : decode cX2_harvest 0 = .ok (.aload_n 0, 1) := dk_42 (dk_at dksX2_harvest_0 0 rfl rfl)
theorem dX2_harvest_1 : decode cX2_harvest 1 = .ok (.getfield 46, 3) := dk_180 0 46 (dk_at dksX2_harvest_0 1 rfl rfl)
theorem dX2_harvest_4 : decode cX2_harvest 4 = .ok (.iload_n 1, 1) := dk_27 (dk_at dksX2_harvest_0 4 rfl rfl)
theorem dX2_harvest_5 : decode cX2_harvest 5 = .ok (.aaload, 1) := dk_50 (dk_at dksX2_harvest_0 5 rfl rfl)
theorem dX2_harvest_6 : decode cX2_harvest 6 = .ok (.astore_n 2, 1) := dk_77 (dk_at dksX2_harvest_0 6 rfl rfl)
theorem dX2_harvest_7 : decode cX2_harvest 7 = .ok (.aload_n 2, 1) := dk_44 (dk_at dksX2_harvest_0 7 rfl rfl)
theorem dX2_harvest_8 : decode cX2_harvest 8 = .ok (.getfield 150, 3) := dk_180 0 150 (dk_at dksX2_harvest_0 8 rfl rfl)
theorem dX2_harvest_11 : decode cX2_harvest 11 = .ok (.iconst (-1), 1) := dk_2 (dk_at dksX2_harvest_0 11 rfl rfl)
theorem dX2_harvest_12 : decode cX2_harvest 12 = .ok (.if_icmp .ne 7, 3) := dk_160 0 7 (dk_at dksX2_harvest_0 12 rfl rfl)
theorem dX2_harvest_15 : decode cX2_harvest 15 = .ok (.iconst 1, 1) := dk_4 (dk_at dksX2_harvest_0 15 rfl rfl)
theorem dX2_harvest_16 : decode cX2_harvest 16 = .ok (.goto 4, 3) := dk_167 0 4 (dk_at dksX2_harvest_0 16 rfl rfl)
theorem dX2_harvest_19 : decode cX2_harvest 19 = .ok (.iconst 0, 1) := dk_3 (dk_at dksX2_harvest_0 19 rfl rfl)
theorem dX2_harvest_20 : decode cX2_harvest 20 = .ok (.iconst 4, 1) := dk_7 (dk_at dksX2_harvest_0 20 rfl rfl)
theorem dX2_harvest_21 : decode cX2_harvest 21 = .ok (.iload_n 1, 1) := dk_27 (dk_at dksX2_harvest_0 21 rfl rfl)
theorem dX2_harvest_22 : decode cX2_harvest 22 = .ok (.invokestatic 143, 3) := dk_184 0 143 (dk_at dksX2_harvest_1 0 rfl rfl)
theorem dX2_harvest_25 : decode cX2_harvest 25 = .ok (.aload_n 2, 1) := dk_44 (dk_at dksX2_harvest_1 3 rfl rfl)
theorem dX2_harvest_26 : decode cX2_harvest 26 = .ok (.getfield 150, 3) := dk_180 0 150 (dk_at dksX2_harvest_1 4 rfl rfl)
theorem dX2_harvest_29 : decode cX2_harvest 29 = .ok (.istore_n 3, 1) := dk_62 (dk_at dksX2_harvest_1 7 rfl rfl)
theorem dX2_harvest_30 : decode cX2_harvest 30 = .ok (.aload_n 0, 1) := dk_42 (dk_at dksX2_harvest_1 8 rfl rfl)
theorem dX2_harvest_31 : decode cX2_harvest 31 = .ok (.getfield 24, 3) := dk_180 0 24 (dk_at dksX2_harvest_1 9 rfl rfl)
theorem dX2_harvest_34 : decode cX2_harvest 34 = .ok (.iload_n 3, 1) := dk_29 (dk_at dksX2_harvest_1 12 rfl rfl)
theorem dX2_harvest_35 : decode cX2_harvest 35 = .ok (.aaload, 1) := dk_50 (dk_at dksX2_harvest_1 13 rfl rfl)
theorem dX2_harvest_36 : decode cX2_harvest 36 = .ok (.ifnonnull 7, 3) := dk_199 0 7 (dk_at dksX2_harvest_1 14 rfl rfl)
theorem dX2_harvest_39 : decode cX2_harvest 39 = .ok (.iconst 1, 1) := dk_4 (dk_at dksX2_harvest_1 17 rfl rfl)
theorem dX2_harvest_40 : decode cX2_harvest 40 = .ok (.goto 4, 3) := dk_167 0 4 (dk_at dksX2_harvest_1 18 rfl rfl)
theorem dX2_harvest_43 : decode cX2_harvest 43 = .ok (.iconst 0, 1) := dk_3 (dk_at dksX2_harvest_1 21 rfl rfl)
theorem dX2_harvest_44 : decode cX2_harvest 44 = .ok (.bipush 8, 2) := dk_16 8 (dk_at dksX2_harvest_1 22 rfl rfl)
theorem dX2_harvest_46 : decode cX2_harvest 46 = .ok (.iload_n 3, 1) := dk_29 (dk_at dksX2_harvest_2 0 rfl rfl)
theorem dX2_harvest_47 : decode cX2_harvest 47 = .ok (.invokestatic 143, 3) := dk_184 0 143 (dk_at dksX2_harvest_2 1 rfl rfl)
theorem dX2_harvest_50 : decode cX2_harvest 50 = .ok (.aload_n 0, 1) := dk_42 (dk_at dksX2_harvest_2 4 rfl rfl)
theorem dX2_harvest_51 : decode cX2_harvest 51 = .ok (.getfield 24, 3) := dk_180 0 24 (dk_at dksX2_harvest_2 5 rfl rfl)
theorem dX2_harvest_54 : decode cX2_harvest 54 = .ok (.iload_n 3, 1) := dk_29 (dk_at dksX2_harvest_2 8 rfl rfl)
theorem dX2_harvest_55 : decode cX2_harvest 55 = .ok (.aaload, 1) := dk_50 (dk_at dksX2_harvest_2 9 rfl rfl)
theorem dX2_harvest_56 : decode cX2_harvest 56 = .ok (.astore 4, 2) := dk_58 4 (dk_at dksX2_harvest_2 10 rfl rfl)
theorem dX2_harvest_58 : decode cX2_harvest 58 = .ok (.aload_n 0, 1) := dk_42 (dk_at dksX2_harvest_2 12 rfl rfl)
theorem dX2_harvest_59 : decode cX2_harvest 59 = .ok (.getfield 24, 3) := dk_180 0 24 (dk_at dksX2_harvest_2 13 rfl rfl)
theorem dX2_harvest_62 : decode cX2_harvest 62 = .ok (.iload_n 3, 1) := dk_29 (dk_at dksX2_harvest_2 16 rfl rfl)
theorem dX2_harvest_63 : decode cX2_harvest 63 = .ok (.aconst_null, 1) := dk_1 (dk_at dksX2_harvest_2 17 rfl rfl)
theorem dX2_harvest_64 : decode cX2_harvest 64 = .ok (.aastore, 1) := dk_83 (dk_at dksX2_harvest_2 18 rfl rfl)
theorem dX2_harvest_65 : decode cX2_harvest 65 = .ok (.aload 4, 2) := dk_25 4 (dk_at dksX2_harvest_2 19 rfl rfl)
theorem dX2_harvest_67 : decode cX2_harvest 67 = .ok (.iconst 0, 1) := dk_3 (dk_at dksX2_harvest_2 21 rfl rfl)
theorem dX2_harvest_68 : decode cX2_harvest 68 = .ok (.putfield 116, 3) := dk_181 0 116 (dk_at dksX2_harvest_3 0 rfl rfl)
theorem dX2_harvest_71 : decode cX2_harvest 71 = .ok (.aload_n 2, 1) := dk_44 (dk_at dksX2_harvest_3 3 rfl rfl)
theorem dX2_harvest_72 : decode cX2_harvest 72 = .ok (.dup, 1) := dk_89 (dk_at dksX2_harvest_3 4 rfl rfl)
theorem dX2_harvest_73 : decode cX2_harvest 73 = .ok (.getfield 197, 3) := dk_180 0 197 (dk_at dksX2_harvest_3 5 rfl rfl)
theorem dX2_harvest_76 : decode cX2_harvest 76 = .ok (.iconst 1, 1) := dk_4 (dk_at dksX2_harvest_3 8 rfl rfl)
theorem dX2_harvest_77 : decode cX2_harvest 77 = .ok (.iadd, 1) := dk_96 (dk_at dksX2_harvest_3 9 rfl rfl)
theorem dX2_harvest_78 : decode cX2_harvest 78 = .ok (.putfield 197, 3) := dk_181 0 197 (dk_at dksX2_harvest_3 10 rfl rfl)
theorem dX2_harvest_81 : decode cX2_harvest 81 = .ok (.aload_n 0, 1) := dk_42 (dk_at dksX2_harvest_3 13 rfl rfl)
theorem dX2_harvest_82 : decode cX2_harvest 82 = .ok (.dup, 1) := dk_89 (dk_at dksX2_harvest_3 14 rfl rfl)
theorem dX2_harvest_83 : decode cX2_harvest 83 = .ok (.getfield 110, 3) := dk_180 0 110 (dk_at dksX2_harvest_3 15 rfl rfl)
theorem dX2_harvest_86 : decode cX2_harvest 86 = .ok (.iconst 1, 1) := dk_4 (dk_at dksX2_harvest_3 18 rfl rfl)
theorem dX2_harvest_87 : decode cX2_harvest 87 = .ok (.iadd, 1) := dk_96 (dk_at dksX2_harvest_3 19 rfl rfl)
theorem dX2_harvest_88 : decode cX2_harvest 88 = .ok (.putfield 110, 3) := dk_181 0 110 (dk_at dksX2_harvest_3 20 rfl rfl)
theorem dX2_harvest_91 : decode cX2_harvest 91 = .ok (.aload_n 0, 1) := dk_42 (dk_at dksX2_harvest_3 23 rfl rfl)
theorem dX2_harvest_92 : decode cX2_harvest 92 = .ok (.aload 4, 2) := dk_25 4 (dk_at dksX2_harvest_4 0 rfl rfl)
theorem dX2_harvest_94 : decode cX2_harvest 94 = .ok (.invokevirtual 128, 3) := dk_182 0 128 (dk_at dksX2_harvest_4 2 rfl rfl)
theorem dX2_harvest_97 : decode cX2_harvest 97 = .ok (.iload_n 1, 1) := dk_27 (dk_at dksX2_harvest_4 5 rfl rfl)
theorem dX2_harvest_98 : decode cX2_harvest 98 = .ok (.aload 4, 2) := dk_25 4 (dk_at dksX2_harvest_4 6 rfl rfl)
theorem dX2_harvest_100 : decode cX2_harvest 100 = .ok (.getfield 193, 3) := dk_180 0 193 (dk_at dksX2_harvest_4 8 rfl rfl)
theorem dX2_harvest_103 : decode cX2_harvest 103 = .ok (.invokevirtual 198, 3) := dk_182 0 198 (dk_at dksX2_harvest_4 11 rfl rfl)
theorem dX2_harvest_106 : decode cX2_harvest 106 = .ok (.aload 4, 2) := dk_25 4 (dk_at dksX2_harvest_4 14 rfl rfl)
theorem dX2_harvest_108 : decode cX2_harvest 108 = .ok (.getfield 193, 3) := dk_180 0 193 (dk_at dksX2_harvest_4 16 rfl rfl)
theorem dX2_harvest_111 : decode cX2_harvest 111 = .ok (.freturn, 1) := dk_174 (dk_at dksX2_harvest_4 19 rfl rfl)
abbrev cX2_lists : ByteArray := prog_3_method_20_code
def yX2_lists : MethodName := ⟨RX2, "lists", "(IIF)V"⟩
def dkwX2_lists_4 : List UInt8 := [167, 255, 186, 42, 8, 42, 180, 0, 98, 4, 96, 184, 0, 207, 181, 0, 98, 177]
abbrev dktX2_lists_4 : List UInt8 := dkwX2_lists_4 ++ []
def dkwX2_lists_3 : List UInt8 := [180, 0, 58, 21, 4, 4, 100, 50, 83, 42, 180, 0, 58, 21, 4, 4, 100, 25, 5, 83, 132, 4, 255]
abbrev dktX2_lists_3 : List UInt8 := dkwX2_lists_3 ++ dktX2_lists_4
def dkwX2_lists_2 : List UInt8 := [180, 0, 206, 150, 156, 0, 45, 42, 180, 0, 58, 21, 4, 50, 58, 5, 42, 180, 0, 58, 21, 4, 42]
abbrev dktX2_lists_2 : List UInt8 := dkwX2_lists_2 ++ dktX2_lists_3
def dkwX2_lists_1 : List UInt8 := [21, 4, 158, 0, 71, 42, 180, 0, 58, 21, 4, 4, 100, 50, 180, 0, 206, 42, 180, 0, 58, 21, 4, 50]
abbrev dktX2_lists_1 : List UInt8 := dkwX2_lists_1 ++ dktX2_lists_2
def dkwX2_lists_0 : List UInt8 := [42, 180, 0, 98, 54, 4, 42, 180, 0, 58, 21, 4, 50, 27, 28, 37, 42, 180, 0, 104, 182, 0, 202]
abbrev dktX2_lists_0 : List UInt8 := dkwX2_lists_0 ++ dktX2_lists_1
theorem dksX2_lists_0 : cX2_lists.data.toList.drop 0 = dktX2_lists_0 := by decide +kernel
theorem dksX2_lists_1 : cX2_lists.data.toList.drop 23 = dktX2_lists_1 := dk_seg dksX2_lists_0 23 rfl rfl
theorem dksX2_lists_2 : cX2_lists.data.toList.drop 47 = dktX2_lists_2 := dk_seg dksX2_lists_1 24 rfl rfl
theorem dksX2_lists_3 : cX2_lists.data.toList.drop 70 = dktX2_lists_3 := dk_seg dksX2_lists_2 23 rfl rfl
theorem dksX2_lists_4 : cX2_lists.data.toList.drop 93 = dktX2_lists_4 := dk_seg dksX2_lists_3 23 rfl rfl
theorem dX2_lists_0 : decode cX2_lists 0 = .ok (.aload_n 0, 1) := dk_42 (dk_at dksX2_lists_0 0 rfl rfl)
theorem dX2_lists_1 : decode cX2_lists 1 = .ok (.getfield 98, 3) := dk_180 0 98 (dk_at dksX2_lists_0 1 rfl rfl)
theorem dX2_lists_4 : decode cX2_lists 4 = .ok (.istore 4, 2) := dk_54 4 (dk_at dksX2_lists_0 4 rfl rfl)
theorem dX2_lists_6 : decode cX2_lists 6 = .ok (.aload_n 0, 1) := dk_42 (dk_at dksX2_lists_0 6 rfl rfl)
theorem dX2_lists_7 : decode cX2_lists 7 = .ok (.getfield 58, 3) := dk_180 0 58 (dk_at dksX2_lists_0 7 rfl rfl)
theorem dX2_lists_10 : decode cX2_lists 10 = .ok (.iload 4, 2) := dk_21 4 (dk_at dksX2_lists_0 10 rfl rfl)
theorem dX2_lists_12 : decode cX2_lists 12 = .ok (.aaload, 1) := dk_50 (dk_at dksX2_lists_0 12 rfl rfl)
theorem dX2_lists_13 : decode cX2_lists 13 = .ok (.iload_n 1, 1) := dk_27 (dk_at dksX2_lists_0 13 rfl rfl)
theorem dX2_lists_14 : decode cX2_lists 14 = .ok (.iload_n 2, 1) := dk_28 (dk_at dksX2_lists_0 14 rfl rfl)
theorem dX2_lists_15 : decode cX2_lists 15 = .ok (.fload_n 3, 1) := dk_37 (dk_at dksX2_lists_0 15 rfl rfl)
theorem dX2_lists_16 : decode cX2_lists 16 = .ok (.aload_n 0, 1) := dk_42 (dk_at dksX2_lists_0 16 rfl rfl)
theorem dX2_lists_17 : decode cX2_lists 17 = .ok (.getfield 104, 3) := dk_180 0 104 (dk_at dksX2_lists_0 17 rfl rfl)
theorem dX2_lists_20 : decode cX2_lists 20 = .ok (.invokevirtual 202, 3) := dk_182 0 202 (dk_at dksX2_lists_0 20 rfl rfl)
theorem dX2_lists_23 : decode cX2_lists 23 = .ok (.iload 4, 2) := dk_21 4 (dk_at dksX2_lists_1 0 rfl rfl)
theorem dX2_lists_25 : decode cX2_lists 25 = .ok (.ifCond .le 71, 3) := dk_158 0 71 (dk_at dksX2_lists_1 2 rfl rfl)
theorem dX2_lists_28 : decode cX2_lists 28 = .ok (.aload_n 0, 1) := dk_42 (dk_at dksX2_lists_1 5 rfl rfl)
theorem dX2_lists_29 : decode cX2_lists 29 = .ok (.getfield 58, 3) := dk_180 0 58 (dk_at dksX2_lists_1 6 rfl rfl)
theorem dX2_lists_32 : decode cX2_lists 32 = .ok (.iload 4, 2) := dk_21 4 (dk_at dksX2_lists_1 9 rfl rfl)
theorem dX2_lists_34 : decode cX2_lists 34 = .ok (.iconst 1, 1) := dk_4 (dk_at dksX2_lists_1 11 rfl rfl)
theorem dX2_lists_35 : decode cX2_lists 35 = .ok (.isub, 1) := dk_100 (dk_at dksX2_lists_1 12 rfl rfl)
theorem dX2_lists_36 : decode cX2_lists 36 = .ok (.aaload, 1) := dk_50 (dk_at dksX2_lists_1 13 rfl rfl)
theorem dX2_lists_37 : decode cX2_lists 37 = .ok (.getfield 206, 3) := dk_180 0 206 (dk_at dksX2_lists_1 14 rfl rfl)
theorem dX2_lists_40 : decode cX2_lists 40 = .ok (.aload_n 0, 1) := dk_42 (dk_at dksX2_lists_1 17 rfl rfl)
theorem dX2_lists_41 : decode cX2_lists 41 = .ok (.getfield 58, 3) := dk_180 0 58 (dk_at dksX2_lists_1 18 rfl rfl)
theorem dX2_lists_44 : decode cX2_lists 44 = .ok (.iload 4, 2) := dk_21 4 (dk_at dksX2_lists_1 21 rfl rfl)
theorem dX2_lists_46 : decode cX2_lists 46 = .ok (.aaload, 1) := dk_50 (dk_at dksX2_lists_1 23 rfl rfl)
theorem dX2_lists_47 : decode cX2_lists 47 = .ok (.getfield 206, 3) := dk_180 0 206 (dk_at dksX2_lists_2 0 rfl rfl)
theorem dX2_lists_50 : decode cX2_lists 50 = .ok (.fcmp .g, 1) := dk_150 (dk_at dksX2_lists_2 3 rfl rfl)
theorem dX2_lists_51 : decode cX2_lists 51 = .ok (.ifCond .ge 45, 3) := dk_156 0 45 (dk_at dksX2_lists_2 4 rfl rfl)
theorem dX2_lists_54 : decode cX2_lists 54 = .ok (.aload_n 0, 1) := dk_42 (dk_at dksX2_lists_2 7 rfl rfl)
theorem dX2_lists_55 : decode cX2_lists 55 = .ok (.getfield 58, 3) := dk_180 0 58 (dk_at dksX2_lists_2 8 rfl rfl)
theorem dX2_lists_58 : decode cX2_lists 58 = .ok (.iload 4, 2) := dk_21 4 (dk_at dksX2_lists_2 11 rfl rfl)
theorem dX2_lists_60 : decode cX2_lists 60 = .ok (.aaload, 1) := dk_50 (dk_at dksX2_lists_2 13 rfl rfl)
theorem dX2_lists_61 : decode cX2_lists 61 = .ok (.astore 5, 2) := dk_58 5 (dk_at dksX2_lists_2 14 rfl rfl)
theorem dX2_lists_63 : decode cX2_lists 63 = .ok (.aload_n 0, 1) := dk_42 (dk_at dksX2_lists_2 16 rfl rfl)
theorem dX2_lists_64 : decode cX2_lists 64 = .ok (.getfield 58, 3) := dk_180 0 58 (dk_at dksX2_lists_2 17 rfl rfl)
theorem dX2_lists_67 : decode cX2_lists 67 = .ok (.iload 4, 2) := dk_21 4 (dk_at dksX2_lists_2 20 rfl rfl)
theorem dX2_lists_69 : decode cX2_lists 69 = .ok (.aload_n 0, 1) := dk_42 (dk_at dksX2_lists_2 22 rfl rfl)
theorem dX2_lists_70 : decode cX2_lists 70 = .ok (.getfield 58, 3) := dk_180 0 58 (dk_at dksX2_lists_3 0 rfl rfl)
theorem dX2_lists_73 : decode cX2_lists 73 = .ok (.iload 4, 2) := dk_21 4 (dk_at dksX2_lists_3 3 rfl rfl)
theorem dX2_lists_75 : decode cX2_lists 75 = .ok (.iconst 1, 1) := dk_4 (dk_at dksX2_lists_3 5 rfl rfl)
theorem dX2_lists_76 : decode cX2_lists 76 = .ok (.isub, 1) := dk_100 (dk_at dksX2_lists_3 6 rfl rfl)
theorem dX2_lists_77 : decode cX2_lists 77 = .ok (.aaload, 1) := dk_50 (dk_at dksX2_lists_3 7 rfl rfl)
theorem dX2_lists_78 : decode cX2_lists 78 = .ok (.aastore, 1) := dk_83 (dk_at dksX2_lists_3 8 rfl rfl)
theorem dX2_lists_79 : decode cX2_lists 79 = .ok (.aload_n 0, 1) := dk_42 (dk_at dksX2_lists_3 9 rfl rfl)
theorem dX2_lists_80 : decode cX2_lists 80 = .ok (.getfield 58, 3) := dk_180 0 58 (dk_at dksX2_lists_3 10 rfl rfl)
theorem dX2_lists_83 : decode cX2_lists 83 = .ok (.iload 4, 2) := dk_21 4 (dk_at dksX2_lists_3 13 rfl rfl)
theorem dX2_lists_85 : decode cX2_lists 85 = .ok (.iconst 1, 1) := dk_4 (dk_at dksX2_lists_3 15 rfl rfl)
theorem dX2_lists_86 : decode cX2_lists 86 = .ok (.isub, 1) := dk_100 (dk_at dksX2_lists_3 16 rfl rfl)
theorem dX2_lists_87 : decode cX2_lists 87 = .ok (.aload 5, 2) := dk_25 5 (dk_at dksX2_lists_3 17 rfl rfl)
theorem dX2_lists_89 : decode cX2_lists 89 = .ok (.aastore, 1) := dk_83 (dk_at dksX2_lists_3 19 rfl rfl)
theorem dX2_lists_90 : decode cX2_lists 90 = .ok (.iinc 4 (-1), 3) := dk_132 4 255 (dk_at dksX2_lists_3 20 rfl rfl)
theorem dX2_lists_93 : decode cX2_lists 93 = .ok (.goto (-70), 3) := dk_167 255 186 (dk_at dksX2_lists_4 0 rfl rfl)
theorem dX2_lists_96 : decode cX2_lists 96 = .ok (.aload_n 0, 1) := dk_42 (dk_at dksX2_lists_4 3 rfl rfl)
theorem dX2_lists_97 : decode cX2_lists 97 = .ok (.iconst 5, 1) := dk_8 (dk_at dksX2_lists_4 4 rfl rfl)
theorem dX2_lists_98 : decode cX2_lists 98 = .ok (.aload_n 0, 1) := dk_42 (dk_at dksX2_lists_4 5 rfl rfl)
theorem dX2_lists_99 : decode cX2_lists 99 = .ok (.getfield 98, 3) := dk_180 0 98 (dk_at dksX2_lists_4 6 rfl rfl)
theorem dX2_lists_102 : decode cX2_lists 102 = .ok (.iconst 1, 1) := dk_4 (dk_at dksX2_lists_4 9 rfl rfl)
theorem dX2_lists_103 : decode cX2_lists 103 = .ok (.iadd, 1) := dk_96 (dk_at dksX2_lists_4 10 rfl rfl)
theorem dX2_lists_104 : decode cX2_lists 104 = .ok (.invokestatic 207, 3) := dk_184 0 207 (dk_at dksX2_lists_4 11 rfl rfl)
theorem dX2_lists_107 : decode cX2_lists 107 = .ok (.putfield 98, 3) := dk_181 0 98 (dk_at dksX2_lists_4 14 rfl rfl)
theorem dX2_lists_110 : decode cX2_lists 110 = .ok (.return_, 1) := dk_177 (dk_at dksX2_lists_4 17 rfl rfl)
abbrev cX2_shed : ByteArray := prog_3_method_22_code
def yX2_shed : MethodName := ⟨RX2, "shed", "(I)I"⟩
def dkwX2_shed_2 : List UInt8 := [50, 27, 182, 0, 217, 42, 89, 180, 0, 92, 4, 96, 181, 0, 92, 42, 180, 0, 92, 4, 100, 172]
abbrev dktX2_shed_2 : List UInt8 := dkwX2_shed_2 ++ []
def dkwX2_shed_1 : List UInt8 := [28, 2, 159, 0, 7, 4, 167, 0, 4, 3, 16, 9, 28, 184, 0, 143, 42, 180, 0, 52, 42, 180, 0, 92]
abbrev dktX2_shed_1 : List UInt8 := dkwX2_shed_1 ++ dktX2_shed_2
def dkwX2_shed_0 : List UInt8 := [42, 180, 0, 92, 7, 160, 0, 7, 4, 167, 0, 4, 3, 4, 7, 184, 0, 143, 42, 27, 182, 0, 213, 61]
abbrev dktX2_shed_0 : List UInt8 := dkwX2_shed_0 ++ dktX2_shed_1
theorem dksX2_shed_0 : cX2_shed.data.toList.drop 0 = dktX2_shed_0 := by decide +kernel
theorem dksX2_shed_1 : cX2_shed.data.toList.drop 24 = dktX2_shed_1 := dk_seg dksX2_shed_0 24 rfl rfl
theorem dksX2_shed_2 : cX2_shed.data.toList.drop 48 = dktX2_shed_2 := dk_seg dksX2_shed_1 24 rfl rfl
theorem dX2_shed_0 : decode cX2_shed 0 = .ok (.aload_n 0, 1) := dk_42 (dk_at dksX2_shed_0 0 rfl rfl)
theorem dX2_shed_1 : decode cX2_shed 1 = .ok (.getfield 92, 3) := dk_180 0 92 (dk_at dksX2_shed_0 1 rfl rfl)
theorem dX2_shed_4 : decode cX2_shed 4 = .ok (.iconst 4, 1) := dk_7 (dk_at dksX2_shed_0 4 rfl rfl)
theorem dX2_shed_5 : decode cX2_shed 5 = .ok (.if_icmp .ne 7, 3) := dk_160 0 7 (dk_at dksX2_shed_0 5 rfl rfl)
theorem dX2_shed_8 : decode cX2_shed 8 = .ok (.iconst 1, 1) := dk_4 (dk_at dksX2_shed_0 8 rfl rfl)
theorem dX2_shed_9 : decode cX2_shed 9 = .ok (.goto 4, 3) := dk_167 0 4 (dk_at dksX2_shed_0 9 rfl rfl)
theorem dX2_shed_12 : decode cX2_shed 12 = .ok (.iconst 0, 1) := dk_3 (dk_at dksX2_shed_0 12 rfl rfl)
theorem dX2_shed_13 : decode cX2_shed 13 = .ok (.iconst 1, 1) := dk_4 (dk_at dksX2_shed_0 13 rfl rfl)
theorem dX2_shed_14 : decode cX2_shed 14 = .ok (.iconst 4, 1) := dk_7 (dk_at dksX2_shed_0 14 rfl rfl)
theorem dX2_shed_15 : decode cX2_shed 15 = .ok (.invokestatic 143, 3) := dk_184 0 143 (dk_at dksX2_shed_0 15 rfl rfl)
theorem dX2_shed_18 : decode cX2_shed 18 = .ok (.aload_n 0, 1) := dk_42 (dk_at dksX2_shed_0 18 rfl rfl)
theorem dX2_shed_19 : decode cX2_shed 19 = .ok (.iload_n 1, 1) := dk_27 (dk_at dksX2_shed_0 19 rfl rfl)
theorem dX2_shed_20 : decode cX2_shed 20 = .ok (.invokevirtual 213, 3) := dk_182 0 213 (dk_at dksX2_shed_0 20 rfl rfl)
theorem dX2_shed_23 : decode cX2_shed 23 = .ok (.istore_n 2, 1) := dk_61 (dk_at dksX2_shed_0 23 rfl rfl)
theorem dX2_shed_24 : decode cX2_shed 24 = .ok (.iload_n 2, 1) := dk_28 (dk_at dksX2_shed_1 0 rfl rfl)
theorem dX2_shed_25 : decode cX2_shed 25 = .ok (.iconst (-1), 1) := dk_2 (dk_at dksX2_shed_1 1 rfl rfl)
theorem dX2_shed_26 : decode cX2_shed 26 = .ok (.if_icmp .eq 7, 3) := dk_159 0 7 (dk_at dksX2_shed_1 2 rfl rfl)
theorem dX2_shed_29 : decode cX2_shed 29 = .ok (.iconst 1, 1) := dk_4 (dk_at dksX2_shed_1 5 rfl rfl)
theorem dX2_shed_30 : decode cX2_shed 30 = .ok (.goto 4, 3) := dk_167 0 4 (dk_at dksX2_shed_1 6 rfl rfl)
theorem dX2_shed_33 : decode cX2_shed 33 = .ok (.iconst 0, 1) := dk_3 (dk_at dksX2_shed_1 9 rfl rfl)
theorem dX2_shed_34 : decode cX2_shed 34 = .ok (.bipush 9, 2) := dk_16 9 (dk_at dksX2_shed_1 10 rfl rfl)
theorem dX2_shed_36 : decode cX2_shed 36 = .ok (.iload_n 2, 1) := dk_28 (dk_at dksX2_shed_1 12 rfl rfl)
theorem dX2_shed_37 : decode cX2_shed 37 = .ok (.invokestatic 143, 3) := dk_184 0 143 (dk_at dksX2_shed_1 13 rfl rfl)
theorem dX2_shed_40 : decode cX2_shed 40 = .ok (.aload_n 0, 1) := dk_42 (dk_at dksX2_shed_1 16 rfl rfl)
theorem dX2_shed_41 : decode cX2_shed 41 = .ok (.getfield 52, 3) := dk_180 0 52 (dk_at dksX2_shed_1 17 rfl rfl)
theorem dX2_shed_44 : decode cX2_shed 44 = .ok (.aload_n 0, 1) := dk_42 (dk_at dksX2_shed_1 20 rfl rfl)
theorem dX2_shed_45 : decode cX2_shed 45 = .ok (.getfield 92, 3) := dk_180 0 92 (dk_at dksX2_shed_1 21 rfl rfl)
theorem dX2_shed_48 : decode cX2_shed 48 = .ok (.aaload, 1) := dk_50 (dk_at dksX2_shed_2 0 rfl rfl)
theorem dX2_shed_49 : decode cX2_shed 49 = .ok (.iload_n 1, 1) := dk_27 (dk_at dksX2_shed_2 1 rfl rfl)
theorem dX2_shed_50 : decode cX2_shed 50 = .ok (.invokevirtual 217, 3) := dk_182 0 217 (dk_at dksX2_shed_2 2 rfl rfl)
theorem dX2_shed_53 : decode cX2_shed 53 = .ok (.aload_n 0, 1) := dk_42 (dk_at dksX2_shed_2 5 rfl rfl)
theorem dX2_shed_54 : decode cX2_shed 54 = .ok (.dup, 1) := dk_89 (dk_at dksX2_shed_2 6 rfl rfl)
theorem dX2_shed_55 : decode cX2_shed 55 = .ok (.getfield 92, 3) := dk_180 0 92 (dk_at dksX2_shed_2 7 rfl rfl)
theorem dX2_shed_58 : decode cX2_shed 58 = .ok (.iconst 1, 1) := dk_4 (dk_at dksX2_shed_2 10 rfl rfl)
theorem dX2_shed_59 : decode cX2_shed 59 = .ok (.iadd, 1) := dk_96 (dk_at dksX2_shed_2 11 rfl rfl)
theorem dX2_shed_60 : decode cX2_shed 60 = .ok (.putfield 92, 3) := dk_181 0 92 (dk_at dksX2_shed_2 12 rfl rfl)
theorem dX2_shed_63 : decode cX2_shed 63 = .ok (.aload_n 0, 1) := dk_42 (dk_at dksX2_shed_2 15 rfl rfl)
theorem dX2_shed_64 : decode cX2_shed 64 = .ok (.getfield 92, 3) := dk_180 0 92 (dk_at dksX2_shed_2 16 rfl rfl)
theorem dX2_shed_67 : decode cX2_shed 67 = .ok (.iconst 1, 1) := dk_4 (dk_at dksX2_shed_2 19 rfl rfl)
theorem dX2_shed_68 : decode cX2_shed 68 = .ok (.isub, 1) := dk_100 (dk_at dksX2_shed_2 20 rfl rfl)
theorem dX2_shed_69 : decode cX2_shed 69 = .ok (.ireturn, 1) := dk_172 (dk_at dksX2_shed_2 21 rfl rfl)
abbrev cX2_isShed : ByteArray := prog_3_method_8_code
def yX2_isShed : MethodName := ⟨RX2, "isShed", "(I)Z"⟩
def dkwX2_isShed_0 : List UInt8 := [27, 3, 42, 180, 0, 92, 4, 100, 184, 0, 139, 172]
abbrev dktX2_isShed_0 : List UInt8 := dkwX2_isShed_0 ++ []
theorem dksX2_isShed_0 : cX2_isShed.data.toList.drop 0 = dktX2_isShed_0 := by decide +kernel
theorem dX2_isShed_0 : decode cX2_isShed 0 = .ok (.iload_n 1, 1) := dk_27 (dk_at dksX2_isShed_0 0 rfl rfl)
theorem dX2_isShed_1 : decode cX2_isShed 1 = .ok (.iconst 0, 1) := dk_3 (dk_at dksX2_isShed_0 1 rfl rfl)
theorem dX2_isShed_2 : decode cX2_isShed 2 = .ok (.aload_n 0, 1) := dk_42 (dk_at dksX2_isShed_0 2 rfl rfl)
theorem dX2_isShed_3 : decode cX2_isShed 3 = .ok (.getfield 92, 3) := dk_180 0 92 (dk_at dksX2_isShed_0 3 rfl rfl)
theorem dX2_isShed_6 : decode cX2_isShed 6 = .ok (.iconst 1, 1) := dk_4 (dk_at dksX2_isShed_0 6 rfl rfl)
theorem dX2_isShed_7 : decode cX2_isShed 7 = .ok (.isub, 1) := dk_100 (dk_at dksX2_isShed_0 7 rfl rfl)
theorem dX2_isShed_8 : decode cX2_isShed 8 = .ok (.invokestatic 139, 3) := dk_184 0 139 (dk_at dksX2_isShed_0 8 rfl rfl)
theorem dX2_isShed_11 : decode cX2_isShed 11 = .ok (.ireturn, 1) := dk_172 (dk_at dksX2_isShed_0 11 rfl rfl)
abbrev cX2_rope : ByteArray := prog_3_method_23_code
def yX2_rope : MethodName := ⟨RX2, "rope", "(I)I"⟩
def dkwX2_rope_2 : List UInt8 := [89, 180, 0, 218, 4, 96, 181, 0, 218, 44, 180, 0, 218, 172]
abbrev dktX2_rope_2 : List UInt8 := dkwX2_rope_2 ++ []
def dkwX2_rope_1 : List UInt8 := [184, 0, 143, 44, 180, 0, 218, 16, 6, 160, 0, 7, 4, 167, 0, 4, 3, 4, 16, 6, 184, 0, 143, 44]
abbrev dktX2_rope_1 : List UInt8 := dkwX2_rope_1 ++ dktX2_rope_2
def dkwX2_rope_0 : List UInt8 := [42, 180, 0, 52, 27, 50, 77, 44, 180, 0, 209, 154, 0, 7, 4, 167, 0, 4, 3, 16, 10, 27]
abbrev dktX2_rope_0 : List UInt8 := dkwX2_rope_0 ++ dktX2_rope_1
theorem dksX2_rope_0 : cX2_rope.data.toList.drop 0 = dktX2_rope_0 := by decide +kernel
theorem dksX2_rope_1 : cX2_rope.data.toList.drop 22 = dktX2_rope_1 := dk_seg dksX2_rope_0 22 rfl rfl
theorem dksX2_rope_2 : cX2_rope.data.toList.drop 46 = dktX2_rope_2 := dk_seg dksX2_rope_1 24 rfl rfl
theorem dX2_rope_0 : decode cX2_rope 0 = .ok (.aload_n 0, 1) := dk_42 (dk_at dksX2_rope_0 0 rfl rfl)
theorem dX2_rope_1 : decode cX2_rope 1 = .ok (.getfield 52, 3) := dk_180 0 52 (dk_at dksX2_rope_0 1 rfl rfl)
theorem dX2_rope_4 : decode cX2_rope 4 = .ok (.iload_n 1, 1) := dk_27 (dk_at dksX2_rope_0 4 rfl rfl)
theorem dX2_rope_5 : decode cX2_rope 5 = .ok (.aaload, 1) := dk_50 (dk_at dksX2_rope_0 5 rfl rfl)
theorem dX2_rope_6 : decode cX2_rope 6 = .ok (.astore_n 2, 1) := dk_77 (dk_at dksX2_rope_0 6 rfl rfl)
theorem dX2_rope_7 : decode cX2_rope 7 = .ok (.aload_n 2, 1) := dk_44 (dk_at dksX2_rope_0 7 rfl rfl)
theorem dX2_rope_8 : decode cX2_rope 8 = .ok (.getfield 209, 3) := dk_180 0 209 (dk_at dksX2_rope_0 8 rfl rfl)
theorem dX2_rope_11 : decode cX2_rope 11 = .ok (.ifCond .ne 7, 3) := dk_154 0 7 (dk_at dksX2_rope_0 11 rfl rfl)
theorem dX2_rope_14 : decode cX2_rope 14 = .ok (.iconst 1, 1) := dk_4 (dk_at dksX2_rope_0 14 rfl rfl)
theorem dX2_rope_15 : decode cX2_rope 15 = .ok (.goto 4, 3) := dk_167 0 4 (dk_at dksX2_rope_0 15 rfl rfl)
theorem dX2_rope_18 : decode cX2_rope 18 = .ok (.iconst 0, 1) := dk_3 (dk_at dksX2_rope_0 18 rfl rfl)
theorem dX2_rope_19 : decode cX2_rope 19 = .ok (.bipush 10, 2) := dk_16 10 (dk_at dksX2_rope_0 19 rfl rfl)
theorem dX2_rope_21 : decode cX2_rope 21 = .ok (.iload_n 1, 1) := dk_27 (dk_at dksX2_rope_0 21 rfl rfl)
theorem dX2_rope_22 : decode cX2_rope 22 = .ok (.invokestatic 143, 3) := dk_184 0 143 (dk_at dksX2_rope_1 0 rfl rfl)
theorem dX2_rope_25 : decode cX2_rope 25 = .ok (.aload_n 2, 1) := dk_44 (dk_at dksX2_rope_1 3 rfl rfl)
theorem dX2_rope_26 : decode cX2_rope 26 = .ok (.getfield 218, 3) := dk_180 0 218 (dk_at dksX2_rope_1 4 rfl rfl)
theorem dX2_rope_29 : decode cX2_rope 29 = .ok (.bipush 6, 2) := dk_16 6 (dk_at dksX2_rope_1 7 rfl rfl)
theorem dX2_rope_31 : decode cX2_rope 31 = .ok (.if_icmp .ne 7, 3) := dk_160 0 7 (dk_at dksX2_rope_1 9 rfl rfl)
theorem dX2_rope_34 : decode cX2_rope 34 = .ok (.iconst 1, 1) := dk_4 (dk_at dksX2_rope_1 12 rfl rfl)
theorem dX2_rope_35 : decode cX2_rope 35 = .ok (.goto 4, 3) := dk_167 0 4 (dk_at dksX2_rope_1 13 rfl rfl)
theorem dX2_rope_38 : decode cX2_rope 38 = .ok (.iconst 0, 1) := dk_3 (dk_at dksX2_rope_1 16 rfl rfl)
theorem dX2_rope_39 : decode cX2_rope 39 = .ok (.iconst 1, 1) := dk_4 (dk_at dksX2_rope_1 17 rfl rfl)
theorem dX2_rope_40 : decode cX2_rope 40 = .ok (.bipush 6, 2) := dk_16 6 (dk_at dksX2_rope_1 18 rfl rfl)
theorem dX2_rope_42 : decode cX2_rope 42 = .ok (.invokestatic 143, 3) := dk_184 0 143 (dk_at dksX2_rope_1 20 rfl rfl)
theorem dX2_rope_45 : decode cX2_rope 45 = .ok (.aload_n 2, 1) := dk_44 (dk_at dksX2_rope_1 23 rfl rfl)
theorem dX2_rope_46 : decode cX2_rope 46 = .ok (.dup, 1) := dk_89 (dk_at dksX2_rope_2 0 rfl rfl)
theorem dX2_rope_47 : decode cX2_rope 47 = .ok (.getfield 218, 3) := dk_180 0 218 (dk_at dksX2_rope_2 1 rfl rfl)
theorem dX2_rope_50 : decode cX2_rope 50 = .ok (.iconst 1, 1) := dk_4 (dk_at dksX2_rope_2 4 rfl rfl)
theorem dX2_rope_51 : decode cX2_rope 51 = .ok (.iadd, 1) := dk_96 (dk_at dksX2_rope_2 5 rfl rfl)
theorem dX2_rope_52 : decode cX2_rope 52 = .ok (.putfield 218, 3) := dk_181 0 218 (dk_at dksX2_rope_2 6 rfl rfl)
theorem dX2_rope_55 : decode cX2_rope 55 = .ok (.aload_n 2, 1) := dk_44 (dk_at dksX2_rope_2 9 rfl rfl)
theorem dX2_rope_56 : decode cX2_rope 56 = .ok (.getfield 218, 3) := dk_180 0 218 (dk_at dksX2_rope_2 10 rfl rfl)
theorem dX2_rope_59 : decode cX2_rope 59 = .ok (.ireturn, 1) := dk_172 (dk_at dksX2_rope_2 13 rfl rfl)
abbrev cX2_leastWind : ByteArray := prog_3_method_24_code
def yX2_leastWind : MethodName := ⟨RX2, "leastWind", "(I)I"⟩
def dkwX2_leastWind_1 : List UInt8 := [182, 0, 221, 154, 0, 5, 29, 172, 132, 3, 1, 167, 255, 230, 2, 172]
abbrev dktX2_leastWind_1 : List UInt8 := dkwX2_leastWind_1 ++ []
def dkwX2_leastWind_0 : List UInt8 := [42, 180, 0, 52, 27, 50, 77, 3, 62, 29, 16, 12, 163, 0, 26, 44, 180, 0, 209, 153, 0, 13, 44, 29]
abbrev dktX2_leastWind_0 : List UInt8 := dkwX2_leastWind_0 ++ dktX2_leastWind_1
theorem dksX2_leastWind_0 : cX2_leastWind.data.toList.drop 0 = dktX2_leastWind_0 := by decide +kernel
theorem dksX2_leastWind_1 : cX2_leastWind.data.toList.drop 24 = dktX2_leastWind_1 := dk_seg dksX2_leastWind_0 24 rfl rfl
theorem dX2_leastWind_0 : decode cX2_leastWind 0 = .ok (.aload_n 0, 1) := dk_42 (dk_at dksX2_leastWind_0 0 rfl rfl)
theorem dX2_leastWind_1 : decode cX2_leastWind 1 = .ok (.getfield 52, 3) := dk_180 0 52 (dk_at dksX2_leastWind_0 1 rfl rfl)
theorem dX2_leastWind_4 : decode cX2_leastWind 4 = .ok (.iload_n 1, 1) := dk_27 (dk_at dksX2_leastWind_0 4 rfl rfl)
theorem dX2_leastWind_5 : decode cX2_leastWind 5 = .ok (.aaload, 1) := dk_50 (dk_at dksX2_leastWind_0 5 rfl rfl)
theorem dX2_leastWind_6 : decode cX2_leastWind 6 = .ok (.astore_n 2, 1) := dk_77 (dk_at dksX2_leastWind_0 6 rfl rfl)
theorem dX2_leastWind_7 : decode cX2_leastWind 7 = .ok (.iconst 0, 1) := dk_3 (dk_at dksX2_leastWind_0 7 rfl rfl)
theorem dX2_leastWind_8 : decode cX2_leastWind 8 = .ok (.istore_n 3, 1) := dk_62 (dk_at dksX2_leastWind_0 8 rfl rfl)
theorem dX2_leastWind_9 : decode cX2_leastWind 9 = .ok (.iload_n 3, 1) := dk_29 (dk_at dksX2_leastWind_0 9 rfl rfl)
theorem dX2_leastWind_10 : decode cX2_leastWind 10 = .ok (.bipush 12, 2) := dk_16 12 (dk_at dksX2_leastWind_0 10 rfl rfl)
theorem dX2_leastWind_12 : decode cX2_leastWind 12 = .ok (.if_icmp .gt 26, 3) := dk_163 0 26 (dk_at dksX2_leastWind_0 12 rfl rfl)
theorem dX2_leastWind_15 : decode cX2_leastWind 15 = .ok (.aload_n 2, 1) := dk_44 (dk_at dksX2_leastWind_0 15 rfl rfl)
theorem dX2_leastWind_16 : decode cX2_leastWind 16 = .ok (.getfield 209, 3) := dk_180 0 209 (dk_at dksX2_leastWind_0 16 rfl rfl)
theorem dX2_leastWind_19 : decode cX2_leastWind 19 = .ok (.ifCond .eq 13, 3) := dk_153 0 13 (dk_at dksX2_leastWind_0 19 rfl rfl)
theorem dX2_leastWind_22 : decode cX2_leastWind 22 = .ok (.aload_n 2, 1) := dk_44 (dk_at dksX2_leastWind_0 22 rfl rfl)
theorem dX2_leastWind_23 : decode cX2_leastWind 23 = .ok (.iload_n 3, 1) := dk_29 (dk_at dksX2_leastWind_0 23 rfl rfl)
theorem dX2_leastWind_24 : decode cX2_leastWind 24 = .ok (.invokevirtual 221, 3) := dk_182 0 221 (dk_at dksX2_leastWind_1 0 rfl rfl)
theorem dX2_leastWind_27 : decode cX2_leastWind 27 = .ok (.ifCond .ne 5, 3) := dk_154 0 5 (dk_at dksX2_leastWind_1 3 rfl rfl)
theorem dX2_leastWind_30 : decode cX2_leastWind 30 = .ok (.iload_n 3, 1) := dk_29 (dk_at dksX2_leastWind_1 6 rfl rfl)
theorem dX2_leastWind_31 : decode cX2_leastWind 31 = .ok (.ireturn, 1) := dk_172 (dk_at dksX2_leastWind_1 7 rfl rfl)
theorem dX2_leastWind_32 : decode cX2_leastWind 32 = .ok (.iinc 3 1, 3) := dk_132 3 1 (dk_at dksX2_leastWind_1 8 rfl rfl)
theorem dX2_leastWind_35 : decode cX2_leastWind 35 = .ok (.goto (-26), 3) := dk_167 255 230 (dk_at dksX2_leastWind_1 11 rfl rfl)
theorem dX2_leastWind_38 : decode cX2_leastWind 38 = .ok (.iconst (-1), 1) := dk_2 (dk_at dksX2_leastWind_1 14 rfl rfl)
theorem dX2_leastWind_39 : decode cX2_leastWind 39 = .ok (.ireturn, 1) := dk_172 (dk_at dksX2_leastWind_1 15 rfl rfl)
abbrev cX2_pour : ByteArray := prog_3_method_25_code
def yX2_pour : MethodName := ⟨RX2, "pour", "(III)F"⟩
def dkwX2_pour_4 : List UInt8 := [174]
abbrev dktX2_pour_4 : List UInt8 := dkwX2_pour_4 ++ []
def dkwX2_pour_3 : List UInt8 := [18, 156, 42, 180, 0, 9, 28, 48, 18, 164, 29, 134, 106, 98, 184, 0, 158, 81, 42, 180, 0, 9, 28, 48]
abbrev dktX2_pour_3 : List UInt8 := dkwX2_pour_3 ++ dktX2_pour_4
def dkwX2_pour_2 : List UInt8 := [180, 0, 225, 139, 184, 0, 143, 25, 4, 89, 180, 0, 225, 29, 134, 102, 181, 0, 225, 42, 180, 0, 9, 28]
abbrev dktX2_pour_2 : List UInt8 := dkwX2_pour_2 ++ dktX2_pour_3
def dkwX2_pour_1 : List UInt8 := [184, 0, 143, 25, 4, 180, 0, 225, 29, 134, 150, 156, 0, 7, 4, 167, 0, 4, 3, 16, 11, 25, 4]
abbrev dktX2_pour_1 : List UInt8 := dkwX2_pour_1 ++ dktX2_pour_2
def dkwX2_pour_0 : List UInt8 := [42, 180, 0, 52, 27, 50, 58, 4, 25, 4, 180, 0, 209, 154, 0, 7, 4, 167, 0, 4, 3, 16, 10, 27]
abbrev dktX2_pour_0 : List UInt8 := dkwX2_pour_0 ++ dktX2_pour_1
theorem dksX2_pour_0 : cX2_pour.data.toList.drop 0 = dktX2_pour_0 := by decide +kernel
theorem dksX2_pour_1 : cX2_pour.data.toList.drop 24 = dktX2_pour_1 := dk_seg dksX2_pour_0 24 rfl rfl
theorem dksX2_pour_2 : cX2_pour.data.toList.drop 47 = dktX2_pour_2 := dk_seg dksX2_pour_1 23 rfl rfl
theorem dksX2_pour_3 : cX2_pour.data.toList.drop 71 = dktX2_pour_3 := dk_seg dksX2_pour_2 24 rfl rfl
theorem dksX2_pour_4 : cX2_pour.data.toList.drop 95 = dktX2_pour_4 := dk_seg dksX2_pour_3 24 rfl rfl
theorem dX2_pour_0 : decode cX2_pour 0 = .ok (.aload_n 0, 1) := dk_42 (dk_at dksX2_pour_0 0 rfl rfl)
theorem dX2_pour_1 : decode cX2_pour 1 = .ok (.getfield 52, 3) := dk_180 0 52 (dk_at dksX2_pour_0 1 rfl rfl)
theorem dX2_pour_4 : decode cX2_pour 4 = .ok (.iload_n 1, 1) := dk_27 (dk_at dksX2_pour_0 4 rfl rfl)
theorem dX2_pour_5 : decode cX2_pour 5 = .ok (.aaload, 1) := dk_50 (dk_at dksX2_pour_0 5 rfl rfl)
theorem dX2_pour_6 : decode cX2_pour 6 = .ok (.astore 4, 2) := dk_58 4 (dk_at dksX2_pour_0 6 rfl rfl)
theorem dX2_pour_8 : decode cX2_pour 8 = .ok (.aload 4, 2) := dk_25 4 (dk_at dksX2_pour_0 8 rfl rfl)
theorem dX2_pour_10 : decode cX2_pour 10 = .ok (.getfield 209, 3) := dk_180 0 209 (dk_at dksX2_pour_0 10 rfl rfl)
theorem dX2_pour_13 : decode cX2_pour 13 = .ok (.ifCond .ne 7, 3) := dk_154 0 7 (dk_at dksX2_pour_0 13 rfl rfl)
theorem dX2_pour_16 : decode cX2_pour 16 = .ok (.iconst 1, 1) := dk_4 (dk_at dksX2_pour_0 16 rfl rfl)
theorem dX2_pour_17 : decode cX2_pour 17 = .ok (.goto 4, 3) := dk_167 0 4 (dk_at dksX2_pour_0 17 rfl rfl)
theorem dX2_pour_20 : decode cX2_pour 20 = .ok (.iconst 0, 1) := dk_3 (dk_at dksX2_pour_0 20 rfl rfl)
theorem dX2_pour_21 : decode cX2_pour 21 = .ok (.bipush 10, 2) := dk_16 10 (dk_at dksX2_pour_0 21 rfl rfl)
theorem dX2_pour_23 : decode cX2_pour 23 = .ok (.iload_n 1, 1) := dk_27 (dk_at dksX2_pour_0 23 rfl rfl)
theorem dX2_pour_24 : decode cX2_pour 24 = .ok (.invokestatic 143, 3) := dk_184 0 143 (dk_at dksX2_pour_1 0 rfl rfl)
theorem dX2_pour_27 : decode cX2_pour 27 = .ok (.aload 4, 2) := dk_25 4 (dk_at dksX2_pour_1 3 rfl rfl)
theorem dX2_pour_29 : decode cX2_pour 29 = .ok (.getfield 225, 3) := dk_180 0 225 (dk_at dksX2_pour_1 5 rfl rfl)
theorem dX2_pour_32 : decode cX2_pour 32 = .ok (.iload_n 3, 1) := dk_29 (dk_at dksX2_pour_1 8 rfl rfl)
theorem dX2_pour_33 : decode cX2_pour 33 = .ok (.i2f, 1) := dk_134 (dk_at dksX2_pour_1 9 rfl rfl)
theorem dX2_pour_34 : decode cX2_pour 34 = .ok (.fcmp .g, 1) := dk_150 (dk_at dksX2_pour_1 10 rfl rfl)
theorem dX2_pour_35 : decode cX2_pour 35 = .ok (.ifCond .ge 7, 3) := dk_156 0 7 (dk_at dksX2_pour_1 11 rfl rfl)
theorem dX2_pour_38 : decode cX2_pour 38 = .ok (.iconst 1, 1) := dk_4 (dk_at dksX2_pour_1 14 rfl rfl)
theorem dX2_pour_39 : decode cX2_pour 39 = .ok (.goto 4, 3) := dk_167 0 4 (dk_at dksX2_pour_1 15 rfl rfl)
theorem dX2_pour_42 : decode cX2_pour 42 = .ok (.iconst 0, 1) := dk_3 (dk_at dksX2_pour_1 18 rfl rfl)
theorem dX2_pour_43 : decode cX2_pour 43 = .ok (.bipush 11, 2) := dk_16 11 (dk_at dksX2_pour_1 19 rfl rfl)
theorem dX2_pour_45 : decode cX2_pour 45 = .ok (.aload 4, 2) := dk_25 4 (dk_at dksX2_pour_1 21 rfl rfl)
theorem dX2_pour_47 : decode cX2_pour 47 = .ok (.getfield 225, 3) := dk_180 0 225 (dk_at dksX2_pour_2 0 rfl rfl)
theorem dX2_pour_50 : decode cX2_pour 50 = .ok (.f2i, 1) := dk_139 (dk_at dksX2_pour_2 3 rfl rfl)
theorem dX2_pour_51 : decode cX2_pour 51 = .ok (.invokestatic 143, 3) := dk_184 0 143 (dk_at dksX2_pour_2 4 rfl rfl)
theorem dX2_pour_54 : decode cX2_pour 54 = .ok (.aload 4, 2) := dk_25 4 (dk_at dksX2_pour_2 7 rfl rfl)
theorem dX2_pour_56 : decode cX2_pour 56 = .ok (.dup, 1) := dk_89 (dk_at dksX2_pour_2 9 rfl rfl)
theorem dX2_pour_57 : decode cX2_pour 57 = .ok (.getfield 225, 3) := dk_180 0 225 (dk_at dksX2_pour_2 10 rfl rfl)
theorem dX2_pour_60 : decode cX2_pour 60 = .ok (.iload_n 3, 1) := dk_29 (dk_at dksX2_pour_2 13 rfl rfl)
theorem dX2_pour_61 : decode cX2_pour 61 = .ok (.i2f, 1) := dk_134 (dk_at dksX2_pour_2 14 rfl rfl)
theorem dX2_pour_62 : decode cX2_pour 62 = .ok (.fsub, 1) := dk_102 (dk_at dksX2_pour_2 15 rfl rfl)
theorem dX2_pour_63 : decode cX2_pour 63 = .ok (.putfield 225, 3) := dk_181 0 225 (dk_at dksX2_pour_2 16 rfl rfl)
theorem dX2_pour_66 : decode cX2_pour 66 = .ok (.aload_n 0, 1) := dk_42 (dk_at dksX2_pour_2 19 rfl rfl)
theorem dX2_pour_67 : decode cX2_pour 67 = .ok (.getfield 9, 3) := dk_180 0 9 (dk_at dksX2_pour_2 20 rfl rfl)
theorem dX2_pour_70 : decode cX2_pour 70 = .ok (.iload_n 2, 1) := dk_28 (dk_at dksX2_pour_2 23 rfl rfl)
theorem dX2_pour_71 : decode cX2_pour 71 = .ok (.ldc 156, 2) := dk_18 156 (dk_at dksX2_pour_3 0 rfl rfl)
theorem dX2_pour_73 : decode cX2_pour 73 = .ok (.aload_n 0, 1) := dk_42 (dk_at dksX2_pour_3 2 rfl rfl)
theorem dX2_pour_74 : decode cX2_pour 74 = .ok (.getfield 9, 3) := dk_180 0 9 (dk_at dksX2_pour_3 3 rfl rfl)
theorem dX2_pour_77 : decode cX2_pour 77 = .ok (.iload_n 2, 1) := dk_28 (dk_at dksX2_pour_3 6 rfl rfl)
theorem dX2_pour_78 : decode cX2_pour 78 = .ok (.faload, 1) := dk_48 (dk_at dksX2_pour_3 7 rfl rfl)
theorem dX2_pour_79 : decode cX2_pour 79 = .ok (.ldc 164, 2) := dk_18 164 (dk_at dksX2_pour_3 8 rfl rfl)
theorem dX2_pour_81 : decode cX2_pour 81 = .ok (.iload_n 3, 1) := dk_29 (dk_at dksX2_pour_3 10 rfl rfl)
theorem dX2_pour_82 : decode cX2_pour 82 = .ok (.i2f, 1) := dk_134 (dk_at dksX2_pour_3 11 rfl rfl)
theorem dX2_pour_83 : decode cX2_pour 83 = .ok (.fmul, 1) := dk_106 (dk_at dksX2_pour_3 12 rfl rfl)
theorem dX2_pour_84 : decode cX2_pour 84 = .ok (.fadd, 1) := dk_98 (dk_at dksX2_pour_3 13 rfl rfl)
theorem dX2_pour_85 : decode cX2_pour 85 = .ok (.invokestatic 158, 3) := dk_184 0 158 (dk_at dksX2_pour_3 14 rfl rfl)
theorem dX2_pour_88 : decode cX2_pour 88 = .ok (.fastore, 1) := dk_81 (dk_at dksX2_pour_3 17 rfl rfl)
theorem dX2_pour_89 : decode cX2_pour 89 = .ok (.aload_n 0, 1) := dk_42 (dk_at dksX2_pour_3 18 rfl rfl)
theorem dX2_pour_90 : decode cX2_pour 90 = .ok (.getfield 9, 3) := dk_180 0 9 (dk_at dksX2_pour_3 19 rfl rfl)
theorem dX2_pour_93 : decode cX2_pour 93 = .ok (.iload_n 2, 1) := dk_28 (dk_at dksX2_pour_3 22 rfl rfl)
theorem dX2_pour_94 : decode cX2_pour 94 = .ok (.faload, 1) := dk_48 (dk_at dksX2_pour_3 23 rfl rfl)
theorem dX2_pour_95 : decode cX2_pour 95 = .ok (.freturn, 1) := dk_174 (dk_at dksX2_pour_4 0 rfl rfl)
abbrev cX2_vote : ByteArray := prog_3_method_27_code
def yX2_vote : MethodName := ⟨RX2, "vote", "(IZ)I"⟩
def dkwX2_vote_0 : List UInt8 := [42, 180, 0, 46, 27, 50, 28, 153, 0, 7, 4, 167, 0, 4, 2, 181, 0, 228, 42, 182, 0, 231, 172]
abbrev dktX2_vote_0 : List UInt8 := dkwX2_vote_0 ++ []
theorem dksX2_vote_0 : cX2_vote.data.toList.drop 0 = dktX2_vote_0 := by decide +kernel
theorem dX2_vote_0 : decode cX2_vote 0 = .ok (.aload_n 0, 1) := dk_42 (dk_at dksX2_vote_0 0 rfl rfl)
theorem dX2_vote_1 : decode cX2_vote 1 = .ok (.getfield 46, 3) := dk_180 0 46 (dk_at dksX2_vote_0 1 rfl rfl)
theorem dX2_vote_4 : decode cX2_vote 4 = .ok (.iload_n 1, 1) := dk_27 (dk_at dksX2_vote_0 4 rfl rfl)
theorem dX2_vote_5 : decode cX2_vote 5 = .ok (.aaload, 1) := dk_50 (dk_at dksX2_vote_0 5 rfl rfl)
theorem dX2_vote_6 : decode cX2_vote 6 = .ok (.iload_n 2, 1) := dk_28 (dk_at dksX2_vote_0 6 rfl rfl)
theorem dX2_vote_7 : decode cX2_vote 7 = .ok (.ifCond .eq 7, 3) := dk_153 0 7 (dk_at dksX2_vote_0 7 rfl rfl)
theorem dX2_vote_10 : decode cX2_vote 10 = .ok (.iconst 1, 1) := dk_4 (dk_at dksX2_vote_0 10 rfl rfl)
theorem dX2_vote_11 : decode cX2_vote 11 = .ok (.goto 4, 3) := dk_167 0 4 (dk_at dksX2_vote_0 11 rfl rfl)
theorem dX2_vote_14 : decode cX2_vote 14 = .ok (.iconst (-1), 1) := dk_2 (dk_at dksX2_vote_0 14 rfl rfl)
theorem dX2_vote_15 : decode cX2_vote 15 = .ok (.putfield 228, 3) := dk_181 0 228 (dk_at dksX2_vote_0 15 rfl rfl)
theorem dX2_vote_18 : decode cX2_vote 18 = .ok (.aload_n 0, 1) := dk_42 (dk_at dksX2_vote_0 18 rfl rfl)
theorem dX2_vote_19 : decode cX2_vote 19 = .ok (.invokevirtual 231, 3) := dk_182 0 231 (dk_at dksX2_vote_0 19 rfl rfl)
theorem dX2_vote_22 : decode cX2_vote 22 = .ok (.ireturn, 1) := dk_172 (dk_at dksX2_vote_0 22 rfl rfl)
abbrev cX2_standing : ByteArray := prog_3_method_34_code
def yX2_standing : MethodName := ⟨RX2, "standing", "()I"⟩
def dkwX2_standing_1 : List UInt8 := [153, 0, 7, 4, 167, 0, 4, 3, 96, 60, 132, 2, 1, 167, 255, 225, 27, 172]
abbrev dktX2_standing_1 : List UInt8 := dkwX2_standing_1 ++ []
def dkwX2_standing_0 : List UInt8 := [3, 60, 3, 61, 28, 42, 180, 0, 92, 162, 0, 29, 27, 42, 180, 0, 52, 28, 50, 180, 0, 209]
abbrev dktX2_standing_0 : List UInt8 := dkwX2_standing_0 ++ dktX2_standing_1
theorem dksX2_standing_0 : cX2_standing.data.toList.drop 0 = dktX2_standing_0 := by decide +kernel
theorem dksX2_standing_1 : cX2_standing.data.toList.drop 22 = dktX2_standing_1 := dk_seg dksX2_standing_0 22 rfl rfl
theorem dX2_standing_0 : decode cX2_standing 0 = .ok (.iconst 0, 1) := dk_3 (dk_at dksX2_standing_0 0 rfl rfl)
theorem dX2_standing_1 : decode cX2_standing 1 = .ok (.istore_n 1, 1) := dk_60 (dk_at dksX2_standing_0 1 rfl rfl)
theorem dX2_standing_2 : decode cX2_standing 2 = .ok (.iconst 0, 1) := dk_3 (dk_at dksX2_standing_0 2 rfl rfl)
theorem dX2_standing_3 : decode cX2_standing 3 = .ok (.istore_n 2, 1) := dk_61 (dk_at dksX2_standing_0 3 rfl rfl)
theorem dX2_standing_4 : decode cX2_standing 4 = .ok (.iload_n 2, 1) := dk_28 (dk_at dksX2_standing_0 4 rfl rfl)
theorem dX2_standing_5 : decode cX2_standing 5 = .ok (.aload_n 0, 1) := dk_42 (dk_at dksX2_standing_0 5 rfl rfl)
theorem dX2_standing_6 : decode cX2_standing 6 = .ok (.getfield 92, 3) := dk_180 0 92 (dk_at dksX2_standing_0 6 rfl rfl)
theorem dX2_standing_9 : decode cX2_standing 9 = .ok (.if_icmp .ge 29, 3) := dk_162 0 29 (dk_at dksX2_standing_0 9 rfl rfl)
theorem dX2_standing_12 : decode cX2_standing 12 = .ok (.iload_n 1, 1) := dk_27 (dk_at dksX2_standing_0 12 rfl rfl)
theorem dX2_standing_13 : decode cX2_standing 13 = .ok (.aload_n 0, 1) := dk_42 (dk_at dksX2_standing_0 13 rfl rfl)
theorem dX2_standing_14 : decode cX2_standing 14 = .ok (.getfield 52, 3) := dk_180 0 52 (dk_at dksX2_standing_0 14 rfl rfl)
theorem dX2_standing_17 : decode cX2_standing 17 = .ok (.iload_n 2, 1) := dk_28 (dk_at dksX2_standing_0 17 rfl rfl)
theorem dX2_standing_18 : decode cX2_standing 18 = .ok (.aaload, 1) := dk_50 (dk_at dksX2_standing_0 18 rfl rfl)
theorem dX2_standing_19 : decode cX2_standing 19 = .ok (.getfield 209, 3) := dk_180 0 209 (dk_at dksX2_standing_0 19 rfl rfl)
theorem dX2_standing_22 : decode cX2_standing 22 = .ok (.ifCond .eq 7, 3) := dk_153 0 7 (dk_at dksX2_standing_1 0 rfl rfl)
theorem dX2_standing_25 : decode cX2_standing 25 = .ok (.iconst 1, 1) := dk_4 (dk_at dksX2_standing_1 3 rfl rfl)
theorem dX2_standing_26 : decode cX2_standing 26 = .ok (.goto 4, 3) := dk_167 0 4 (dk_at dksX2_standing_1 4 rfl rfl)
theorem dX2_standing_29 : decode cX2_standing 29 = .ok (.iconst 0, 1) := dk_3 (dk_at dksX2_standing_1 7 rfl rfl)
theorem dX2_standing_30 : decode cX2_standing 30 = .ok (.iadd, 1) := dk_96 (dk_at dksX2_standing_1 8 rfl rfl)
theorem dX2_standing_31 : decode cX2_standing 31 = .ok (.istore_n 1, 1) := dk_60 (dk_at dksX2_standing_1 9 rfl rfl)
theorem dX2_standing_32 : decode cX2_standing 32 = .ok (.iinc 2 1, 3) := dk_132 2 1 (dk_at dksX2_standing_1 10 rfl rfl)
theorem dX2_standing_35 : decode cX2_standing 35 = .ok (.goto (-31), 3) := dk_167 255 225 (dk_at dksX2_standing_1 13 rfl rfl)
theorem dX2_standing_38 : decode cX2_standing 38 = .ok (.iload_n 1, 1) := dk_27 (dk_at dksX2_standing_1 16 rfl rfl)
theorem dX2_standing_39 : decode cX2_standing 39 = .ok (.ireturn, 1) := dk_172 (dk_at dksX2_standing_1 17 rfl rfl)
abbrev cX2_moles : ByteArray := prog_3_method_35_code
def yX2_moles : MethodName := ⟨RX2, "moles", "()I"⟩
def dkwX2_moles_1 : List UInt8 := [167, 255, 238, 27, 172]
abbrev dktX2_moles_1 : List UInt8 := dkwX2_moles_1 ++ []
def dkwX2_moles_0 : List UInt8 := [3, 60, 3, 61, 28, 16, 12, 162, 0, 18, 27, 42, 180, 0, 15, 28, 46, 96, 60, 132, 2, 1]
abbrev dktX2_moles_0 : List UInt8 := dkwX2_moles_0 ++ dktX2_moles_1
theorem dksX2_moles_0 : cX2_moles.data.toList.drop 0 = dktX2_moles_0 := by decide +kernel
theorem dksX2_moles_1 : cX2_moles.data.toList.drop 22 = dktX2_moles_1 := dk_seg dksX2_moles_0 22 rfl rfl
theorem dX2_moles_0 : decode cX2_moles 0 = .ok (.iconst 0, 1) := dk_3 (dk_at dksX2_moles_0 0 rfl rfl)
theorem dX2_moles_1 : decode cX2_moles 1 = .ok (.istore_n 1, 1) := dk_60 (dk_at dksX2_moles_0 1 rfl rfl)
theorem dX2_moles_2 : decode cX2_moles 2 = .ok (.iconst 0, 1) := dk_3 (dk_at dksX2_moles_0 2 rfl rfl)
theorem dX2_moles_3 : decode cX2_moles 3 = .ok (.istore_n 2, 1) := dk_61 (dk_at dksX2_moles_0 3 rfl rfl)
theorem dX2_moles_4 : decode cX2_moles 4 = .ok (.iload_n 2, 1) := dk_28 (dk_at dksX2_moles_0 4 rfl rfl)
theorem dX2_moles_5 : decode cX2_moles 5 = .ok (.bipush 12, 2) := dk_16 12 (dk_at dksX2_moles_0 5 rfl rfl)
theorem dX2_moles_7 : decode cX2_moles 7 = .ok (.if_icmp .ge 18, 3) := dk_162 0 18 (dk_at dksX2_moles_0 7 rfl rfl)
theorem dX2_moles_10 : decode cX2_moles 10 = .ok (.iload_n 1, 1) := dk_27 (dk_at dksX2_moles_0 10 rfl rfl)
theorem dX2_moles_11 : decode cX2_moles 11 = .ok (.aload_n 0, 1) := dk_42 (dk_at dksX2_moles_0 11 rfl rfl)
theorem dX2_moles_12 : decode cX2_moles 12 = .ok (.getfield 15, 3) := dk_180 0 15 (dk_at dksX2_moles_0 12 rfl rfl)
theorem dX2_moles_15 : decode cX2_moles 15 = .ok (.iload_n 2, 1) := dk_28 (dk_at dksX2_moles_0 15 rfl rfl)
theorem dX2_moles_16 : decode cX2_moles 16 = .ok (.iaload, 1) := dk_46 (dk_at dksX2_moles_0 16 rfl rfl)
theorem dX2_moles_17 : decode cX2_moles 17 = .ok (.iadd, 1) := dk_96 (dk_at dksX2_moles_0 17 rfl rfl)
theorem dX2_moles_18 : decode cX2_moles 18 = .ok (.istore_n 1, 1) := dk_60 (dk_at dksX2_moles_0 18 rfl rfl)
theorem dX2_moles_19 : decode cX2_moles 19 = .ok (.iinc 2 1, 3) := dk_132 2 1 (dk_at dksX2_moles_0 19 rfl rfl)
theorem dX2_moles_22 : decode cX2_moles 22 = .ok (.goto (-18), 3) := dk_167 255 238 (dk_at dksX2_moles_1 0 rfl rfl)
theorem dX2_moles_25 : decode cX2_moles 25 = .ok (.iload_n 1, 1) := dk_27 (dk_at dksX2_moles_1 3 rfl rfl)
theorem dX2_moles_26 : decode cX2_moles 26 = .ok (.ireturn, 1) := dk_172 (dk_at dksX2_moles_1 4 rfl rfl)
theorem q59 : (Jvm.Cond.initialized "CliffPlots$Cliff") ∈ lw_all := lw_g (lw_at lw_m1 2 rfl) rfl
theorem q106 : (Jvm.Cond.instantiable "CliffPlots$Cliff" (20 : Nat)) ∈ lw_all := lw_g (lw_at lw_m1 49 rfl) rfl
theorem q108 : (Jvm.Cond.instanceMethod ({ cls := "CliffPlots$Cliff", name := "<init>", desc := "()V" } : Jvm.MethodName)) ∈ lw_all := lw_g (lw_at lw_m1 51 rfl) rfl
theorem q109 : (Jvm.Cond.code ({ cls := "CliffPlots$Cliff", name := "<init>", desc := "()V" } : Jvm.MethodName) prog_3_method_1_code (2 : Nat) (Option.none : Option Jvm.ClassFile.FieldType)) ∈ lw_all := lw_g (lw_at lw_m1 52 rfl) rfl
theorem q110 : (Jvm.Cond.methodLink "CliffPlots$Cliff" (3 : Nat) ({ cls := "java/lang/Object", name := "<init>", desc := "()V" } : Jvm.MethodName)) ∈ lw_all := lw_g (lw_at lw_m1 53 rfl) rfl
theorem q111 : (Jvm.Cond.classLink "CliffPlots$Cliff" (22 : Nat) "CliffPlots$Plant") ∈ lw_all := lw_g (lw_at lw_m1 54 rfl) rfl
theorem q113 : (Jvm.Cond.classLink "CliffPlots$Cliff" (34 : Nat) "CliffPlots$Marrow") ∈ lw_all := lw_g (lw_at lw_m1 56 rfl) rfl
theorem q115 : (Jvm.Cond.classLink "CliffPlots$Cliff" (39 : Nat) "CliffPlots$Bean") ∈ lw_all := lw_g (lw_at lw_m1 58 rfl) rfl
theorem q117 : (Jvm.Cond.classLink "CliffPlots$Cliff" (44 : Nat) "CliffPlots$Member") ∈ lw_all := lw_g (lw_at lw_m1 60 rfl) rfl
theorem q119 : (Jvm.Cond.classLink "CliffPlots$Cliff" (50 : Nat) "CliffPlots$Shed") ∈ lw_all := lw_g (lw_at lw_m1 62 rfl) rfl
theorem q121 : (Jvm.Cond.classLink "CliffPlots$Cliff" (56 : Nat) "CliffPlots$Prize") ∈ lw_all := lw_g (lw_at lw_m1 64 rfl) rfl
theorem q123 : (Jvm.Cond.constantFloat "CliffPlots$Cliff" (69 : Nat) (1106247680 : UInt32)) ∈ lw_all := lw_g (lw_at lw_m1 66 rfl) rfl
theorem q125 : (Jvm.Cond.methodLinkNest "CliffPlots$Cliff" (70 : Nat) ({ cls := "CliffPlots$Marrow", name := "<init>", desc := "()V" } : Jvm.MethodName) "CliffPlots") ∈ lw_tbl := lw_at lw_m1 68 rfl
theorem q135 : (Jvm.Cond.fieldLinkNest "CliffPlots$Cliff" (193 : Nat) "CliffPlots$Plant" "weight" "F" "CliffPlots") ∈ lw_tbl := lw_at lw_m1 78 rfl
theorem q137 : (Jvm.Cond.fieldLinkNest "CliffPlots$Cliff" (116 : Nat) "CliffPlots$Plant" "isUsed" "Z" "CliffPlots") ∈ lw_tbl := lw_at lw_m1 80 rfl
theorem q149 : (Jvm.Cond.methodLinkNest "CliffPlots$Cliff" (71 : Nat) ({ cls := "CliffPlots$Bean", name := "<init>", desc := "()V" } : Jvm.MethodName) "CliffPlots") ∈ lw_tbl := lw_at lw_m1 92 rfl
theorem q158 : (Jvm.Cond.methodLinkNest "CliffPlots$Cliff" (72 : Nat) ({ cls := "CliffPlots$Member", name := "<init>", desc := "()V" } : Jvm.MethodName) "CliffPlots") ∈ lw_tbl := lw_at lw_m1 101 rfl
theorem q163 : (Jvm.Cond.fieldLinkNest "CliffPlots$Cliff" (150 : Nat) "CliffPlots$Member" "plot" "I" "CliffPlots") ∈ lw_tbl := lw_at lw_m1 106 rfl
theorem q167 : (Jvm.Cond.fieldLinkNest "CliffPlots$Cliff" (228 : Nat) "CliffPlots$Member" "vote" "I" "CliffPlots") ∈ lw_tbl := lw_at lw_m1 110 rfl
theorem q169 : (Jvm.Cond.fieldLinkNest "CliffPlots$Cliff" (197 : Nat) "CliffPlots$Member" "harvests" "I" "CliffPlots") ∈ lw_tbl := lw_at lw_m1 112 rfl
theorem q179 : (Jvm.Cond.methodLinkNest "CliffPlots$Cliff" (73 : Nat) ({ cls := "CliffPlots$Shed", name := "<init>", desc := "()V" } : Jvm.MethodName) "CliffPlots") ∈ lw_tbl := lw_at lw_m1 122 rfl
theorem q184 : (Jvm.Cond.fieldLinkNest "CliffPlots$Cliff" (212 : Nat) "CliffPlots$Shed" "plot" "I" "CliffPlots") ∈ lw_tbl := lw_at lw_m1 127 rfl
theorem q187 : (Jvm.Cond.fieldLinkNest "CliffPlots$Cliff" (218 : Nat) "CliffPlots$Shed" "ropes" "I" "CliffPlots") ∈ lw_tbl := lw_at lw_m1 130 rfl
theorem q190 : (Jvm.Cond.fieldLinkNest "CliffPlots$Cliff" (209 : Nat) "CliffPlots$Shed" "stands" "Z" "CliffPlots") ∈ lw_tbl := lw_at lw_m1 133 rfl
theorem q193 : (Jvm.Cond.fieldLinkNest "CliffPlots$Cliff" (225 : Nat) "CliffPlots$Shed" "litres" "F" "CliffPlots") ∈ lw_tbl := lw_at lw_m1 136 rfl
theorem q205 : (Jvm.Cond.methodLinkNest "CliffPlots$Cliff" (74 : Nat) ({ cls := "CliffPlots$Prize", name := "<init>", desc := "()V" } : Jvm.MethodName) "CliffPlots") ∈ lw_tbl := lw_at lw_m1 148 rfl
theorem q214 : (Jvm.Cond.fieldLinkNest "CliffPlots$Cliff" (206 : Nat) "CliffPlots$Prize" "weight" "F" "CliffPlots") ∈ lw_tbl := lw_at lw_m1 157 rfl
theorem q227 : (Jvm.Cond.fieldLink "CliffPlots$Cliff" (9 : Nat) "CliffPlots$Cliff" "water" "[F") ∈ lw_all := lw_g (lw_at lw_m1 170 rfl) rfl
theorem q229 : (Jvm.Cond.fieldLink "CliffPlots$Cliff" (15 : Nat) "CliffPlots$Cliff" "moles" "[I") ∈ lw_all := lw_g (lw_at lw_m1 172 rfl) rfl
theorem q231 : (Jvm.Cond.fieldLink "CliffPlots$Cliff" (19 : Nat) "CliffPlots$Cliff" "dugBy" "[I") ∈ lw_all := lw_g (lw_at lw_m1 174 rfl) rfl
theorem q233 : (Jvm.Cond.fieldLink "CliffPlots$Cliff" (24 : Nat) "CliffPlots$Cliff" "crops" "[LCliffPlots$Plant;") ∈ lw_all := lw_g (lw_at lw_m1 176 rfl) rfl
theorem q235 : (Jvm.Cond.fieldLink "CliffPlots$Cliff" (28 : Nat) "CliffPlots$Cliff" "spareMarrows" "[LCliffPlots$Plant;") ∈ lw_all := lw_g (lw_at lw_m1 178 rfl) rfl
theorem q236 : (Jvm.Cond.fieldLink "CliffPlots$Cliff" (31 : Nat) "CliffPlots$Cliff" "spareBeans" "[LCliffPlots$Plant;") ∈ lw_all := lw_g (lw_at lw_m1 179 rfl) rfl
theorem q237 : (Jvm.Cond.fieldLink "CliffPlots$Cliff" (36 : Nat) "CliffPlots$Cliff" "marrows" "[LCliffPlots$Plant;") ∈ lw_all := lw_g (lw_at lw_m1 180 rfl) rfl
theorem q238 : (Jvm.Cond.fieldLink "CliffPlots$Cliff" (41 : Nat) "CliffPlots$Cliff" "beans" "[LCliffPlots$Plant;") ∈ lw_all := lw_g (lw_at lw_m1 181 rfl) rfl
theorem q239 : (Jvm.Cond.fieldLink "CliffPlots$Cliff" (46 : Nat) "CliffPlots$Cliff" "members" "[LCliffPlots$Member;") ∈ lw_all := lw_g (lw_at lw_m1 182 rfl) rfl
theorem q241 : (Jvm.Cond.fieldLink "CliffPlots$Cliff" (52 : Nat) "CliffPlots$Cliff" "sheds" "[LCliffPlots$Shed;") ∈ lw_all := lw_g (lw_at lw_m1 184 rfl) rfl
theorem q243 : (Jvm.Cond.fieldLink "CliffPlots$Cliff" (58 : Nat) "CliffPlots$Cliff" "prizes" "[LCliffPlots$Prize;") ∈ lw_all := lw_g (lw_at lw_m1 186 rfl) rfl
theorem q245 : (Jvm.Cond.fieldLink "CliffPlots$Cliff" (85 : Nat) "CliffPlots$Cliff" "memberMany" "I") ∈ lw_all := lw_g (lw_at lw_m1 188 rfl) rfl
theorem q247 : (Jvm.Cond.fieldLink "CliffPlots$Cliff" (92 : Nat) "CliffPlots$Cliff" "shedMany" "I") ∈ lw_all := lw_g (lw_at lw_m1 190 rfl) rfl
theorem q249 : (Jvm.Cond.fieldLink "CliffPlots$Cliff" (98 : Nat) "CliffPlots$Cliff" "prizeMany" "I") ∈ lw_all := lw_g (lw_at lw_m1 192 rfl) rfl
theorem q251 : (Jvm.Cond.fieldLink "CliffPlots$Cliff" (62 : Nat) "CliffPlots$Cliff" "wind" "I") ∈ lw_all := lw_g (lw_at lw_m1 194 rfl) rfl
theorem q254 : (Jvm.Cond.fieldLink "CliffPlots$Cliff" (66 : Nat) "CliffPlots$Cliff" "rain" "I") ∈ lw_all := lw_g (lw_at lw_m1 197 rfl) rfl
theorem q257 : (Jvm.Cond.fieldLink "CliffPlots$Cliff" (104 : Nat) "CliffPlots$Cliff" "day" "I") ∈ lw_all := lw_g (lw_at lw_m1 200 rfl) rfl
theorem q259 : (Jvm.Cond.fieldLink "CliffPlots$Cliff" (107 : Nat) "CliffPlots$Cliff" "seedlings" "I") ∈ lw_all := lw_g (lw_at lw_m1 202 rfl) rfl
theorem q261 : (Jvm.Cond.fieldLink "CliffPlots$Cliff" (110 : Nat) "CliffPlots$Cliff" "harvests" "I") ∈ lw_all := lw_g (lw_at lw_m1 204 rfl) rfl
theorem q263 : (Jvm.Cond.fieldLink "CliffPlots$Cliff" (113 : Nat) "CliffPlots$Cliff" "trapped" "I") ∈ lw_all := lw_g (lw_at lw_m1 206 rfl) rfl
theorem q265 : (Jvm.Cond.laysFinal "CliffPlots$Cliff" "CliffPlots$Cliff" "water" "[F") ∈ lw_all := lw_g (lw_at lw_m1 208 rfl) rfl
theorem q266 : (Jvm.Cond.soleField "CliffPlots$Cliff" "water") ∈ lw_all := lw_g (lw_at lw_m1 209 rfl) rfl
theorem q267 : (Jvm.Cond.laysFinal "CliffPlots$Cliff" "CliffPlots$Cliff" "moles" "[I") ∈ lw_all := lw_g (lw_at lw_m1 210 rfl) rfl
theorem q268 : (Jvm.Cond.soleField "CliffPlots$Cliff" "moles") ∈ lw_all := lw_g (lw_at lw_m1 211 rfl) rfl
theorem q269 : (Jvm.Cond.laysFinal "CliffPlots$Cliff" "CliffPlots$Cliff" "dugBy" "[I") ∈ lw_all := lw_g (lw_at lw_m1 212 rfl) rfl
theorem q270 : (Jvm.Cond.soleField "CliffPlots$Cliff" "dugBy") ∈ lw_all := lw_g (lw_at lw_m1 213 rfl) rfl
theorem q271 : (Jvm.Cond.laysFinal "CliffPlots$Cliff" "CliffPlots$Cliff" "crops" "[LCliffPlots$Plant;") ∈ lw_all := lw_g (lw_at lw_m1 214 rfl) rfl
theorem q272 : (Jvm.Cond.soleField "CliffPlots$Cliff" "crops") ∈ lw_all := lw_g (lw_at lw_m1 215 rfl) rfl
theorem q273 : (Jvm.Cond.laysFinal "CliffPlots$Cliff" "CliffPlots$Cliff" "spareMarrows" "[LCliffPlots$Plant;") ∈ lw_all := lw_g (lw_at lw_m1 216 rfl) rfl
theorem q274 : (Jvm.Cond.soleField "CliffPlots$Cliff" "spareMarrows") ∈ lw_all := lw_g (lw_at lw_m1 217 rfl) rfl
theorem q275 : (Jvm.Cond.laysFinal "CliffPlots$Cliff" "CliffPlots$Cliff" "spareBeans" "[LCliffPlots$Plant;") ∈ lw_all := lw_g (lw_at lw_m1 218 rfl) rfl
theorem q276 : (Jvm.Cond.soleField "CliffPlots$Cliff" "spareBeans") ∈ lw_all := lw_g (lw_at lw_m1 219 rfl) rfl
theorem q277 : (Jvm.Cond.laysFinal "CliffPlots$Cliff" "CliffPlots$Cliff" "marrows" "[LCliffPlots$Plant;") ∈ lw_all := lw_g (lw_at lw_m1 220 rfl) rfl
theorem q278 : (Jvm.Cond.soleField "CliffPlots$Cliff" "marrows") ∈ lw_all := lw_g (lw_at lw_m1 221 rfl) rfl
theorem q279 : (Jvm.Cond.laysFinal "CliffPlots$Cliff" "CliffPlots$Cliff" "beans" "[LCliffPlots$Plant;") ∈ lw_all := lw_g (lw_at lw_m1 222 rfl) rfl
theorem q280 : (Jvm.Cond.soleField "CliffPlots$Cliff" "beans") ∈ lw_all := lw_g (lw_at lw_m1 223 rfl) rfl
theorem q281 : (Jvm.Cond.laysFinal "CliffPlots$Cliff" "CliffPlots$Cliff" "members" "[LCliffPlots$Member;") ∈ lw_all := lw_g (lw_at lw_m1 224 rfl) rfl
theorem q282 : (Jvm.Cond.soleField "CliffPlots$Cliff" "members") ∈ lw_all := lw_g (lw_at lw_m1 225 rfl) rfl
theorem q283 : (Jvm.Cond.laysFinal "CliffPlots$Cliff" "CliffPlots$Cliff" "sheds" "[LCliffPlots$Shed;") ∈ lw_all := lw_g (lw_at lw_m1 226 rfl) rfl
theorem q284 : (Jvm.Cond.soleField "CliffPlots$Cliff" "sheds") ∈ lw_all := lw_g (lw_at lw_m1 227 rfl) rfl
theorem q285 : (Jvm.Cond.laysFinal "CliffPlots$Cliff" "CliffPlots$Cliff" "prizes" "[LCliffPlots$Prize;") ∈ lw_all := lw_g (lw_at lw_m1 228 rfl) rfl
theorem q286 : (Jvm.Cond.soleField "CliffPlots$Cliff" "prizes") ∈ lw_all := lw_g (lw_at lw_m1 229 rfl) rfl
theorem q287 : (Jvm.Cond.lays "CliffPlots$Cliff" "CliffPlots$Cliff" "memberMany" "I") ∈ lw_all := lw_g (lw_at lw_m1 230 rfl) rfl
theorem q288 : (Jvm.Cond.soleField "CliffPlots$Cliff" "memberMany") ∈ lw_all := lw_g (lw_at lw_m1 231 rfl) rfl
theorem q289 : (Jvm.Cond.lays "CliffPlots$Cliff" "CliffPlots$Cliff" "shedMany" "I") ∈ lw_all := lw_g (lw_at lw_m1 232 rfl) rfl
theorem q290 : (Jvm.Cond.soleField "CliffPlots$Cliff" "shedMany") ∈ lw_all := lw_g (lw_at lw_m1 233 rfl) rfl
theorem q291 : (Jvm.Cond.lays "CliffPlots$Cliff" "CliffPlots$Cliff" "prizeMany" "I") ∈ lw_all := lw_g (lw_at lw_m1 234 rfl) rfl
theorem q292 : (Jvm.Cond.soleField "CliffPlots$Cliff" "prizeMany") ∈ lw_all := lw_g (lw_at lw_m1 235 rfl) rfl
theorem q293 : (Jvm.Cond.lays "CliffPlots$Cliff" "CliffPlots$Cliff" "wind" "I") ∈ lw_all := lw_g (lw_at lw_m1 236 rfl) rfl
theorem q294 : (Jvm.Cond.soleField "CliffPlots$Cliff" "wind") ∈ lw_all := lw_g (lw_at lw_m1 237 rfl) rfl
theorem q295 : (Jvm.Cond.lays "CliffPlots$Cliff" "CliffPlots$Cliff" "rain" "I") ∈ lw_all := lw_g (lw_at lw_m1 238 rfl) rfl
theorem q296 : (Jvm.Cond.soleField "CliffPlots$Cliff" "rain") ∈ lw_all := lw_g (lw_at lw_m1 239 rfl) rfl
theorem q297 : (Jvm.Cond.lays "CliffPlots$Cliff" "CliffPlots$Cliff" "day" "I") ∈ lw_all := lw_g (lw_at lw_m2 0 rfl) rfl
theorem q298 : (Jvm.Cond.soleField "CliffPlots$Cliff" "day") ∈ lw_all := lw_g (lw_at lw_m2 1 rfl) rfl
theorem q299 : (Jvm.Cond.lays "CliffPlots$Cliff" "CliffPlots$Cliff" "seedlings" "I") ∈ lw_all := lw_g (lw_at lw_m2 2 rfl) rfl
theorem q300 : (Jvm.Cond.soleField "CliffPlots$Cliff" "seedlings") ∈ lw_all := lw_g (lw_at lw_m2 3 rfl) rfl
theorem q301 : (Jvm.Cond.lays "CliffPlots$Cliff" "CliffPlots$Cliff" "harvests" "I") ∈ lw_all := lw_g (lw_at lw_m2 4 rfl) rfl
theorem q302 : (Jvm.Cond.soleField "CliffPlots$Cliff" "harvests") ∈ lw_all := lw_g (lw_at lw_m2 5 rfl) rfl
theorem q303 : (Jvm.Cond.lays "CliffPlots$Cliff" "CliffPlots$Cliff" "trapped" "I") ∈ lw_all := lw_g (lw_at lw_m2 6 rfl) rfl
theorem q304 : (Jvm.Cond.soleField "CliffPlots$Cliff" "trapped") ∈ lw_all := lw_g (lw_at lw_m2 7 rfl) rfl
theorem q305 : (Jvm.Cond.superclass "CliffPlots$Cliff" "java/lang/Object") ∈ lw_all := lw_g (lw_at lw_m2 8 rfl) rfl
theorem q486 : (Jvm.Cond.selects "CliffPlots$Cliff" ({ cls := "java/lang/Object", name := "getClass", desc := "()Ljava/lang/Class;" } : Jvm.MethodName) ({ cls := "java/lang/Object", name := "getClass", desc := "()Ljava/lang/Class;" } : Jvm.MethodName)) ∈ lw_all := lw_g (lw_at lw_m2 189 rfl) rfl
theorem q573 : (Jvm.Cond.instanceMethod ({ cls := "CliffPlots$Cliff", name := "take", desc := "(LCliffPlots$Cliff;)V" } : Jvm.MethodName)) ∈ lw_all := lw_g (lw_at lw_m3 36 rfl) rfl
theorem q574 : (Jvm.Cond.selects "CliffPlots$Cliff" ({ cls := "CliffPlots$Cliff", name := "take", desc := "(LCliffPlots$Cliff;)V" } : Jvm.MethodName) ({ cls := "CliffPlots$Cliff", name := "take", desc := "(LCliffPlots$Cliff;)V" } : Jvm.MethodName)) ∈ lw_all := lw_g (lw_at lw_m3 37 rfl) rfl
theorem q575 : (Jvm.Cond.code ({ cls := "CliffPlots$Cliff", name := "take", desc := "(LCliffPlots$Cliff;)V" } : Jvm.MethodName) prog_3_method_2_code (3 : Nat) (Option.none : Option Jvm.ClassFile.FieldType)) ∈ lw_all := lw_g (lw_at lw_m3 38 rfl) rfl
theorem q576 : (Jvm.Cond.methodLink "CliffPlots$Cliff" (75 : Nat) ({ cls := "java/lang/System", name := "arraycopy", desc := "(Ljava/lang/Object;ILjava/lang/Object;II)V" } : Jvm.MethodName)) ∈ lw_all := lw_g (lw_at lw_m3 39 rfl) rfl
theorem q577 : (Jvm.Cond.methodLink "CliffPlots$Cliff" (81 : Nat) ({ cls := "CliffPlots$Cliff", name := "takePlants", desc := "(LCliffPlots$Cliff;)V" } : Jvm.MethodName)) ∈ lw_all := lw_g (lw_at lw_m3 40 rfl) rfl
theorem q578 : (Jvm.Cond.privateMethod ({ cls := "CliffPlots$Cliff", name := "takePlants", desc := "(LCliffPlots$Cliff;)V" } : Jvm.MethodName)) ∈ lw_tbl := lw_at lw_m3 41 rfl
theorem q579 : (Jvm.Cond.instanceMethod ({ cls := "CliffPlots$Cliff", name := "takePlants", desc := "(LCliffPlots$Cliff;)V" } : Jvm.MethodName)) ∈ lw_all := lw_g (lw_at lw_m3 42 rfl) rfl
theorem q580 : (Jvm.Cond.code ({ cls := "CliffPlots$Cliff", name := "takePlants", desc := "(LCliffPlots$Cliff;)V" } : Jvm.MethodName) prog_3_method_3_code (6 : Nat) (Option.none : Option Jvm.ClassFile.FieldType)) ∈ lw_all := lw_g (lw_at lw_m3 43 rfl) rfl
theorem q581 : (Jvm.Cond.methodLink "CliffPlots$Cliff" (120 : Nat) ({ cls := "CliffPlots$Cliff", name := "bench", desc := "(I)[LCliffPlots$Plant;" } : Jvm.MethodName)) ∈ lw_all := lw_g (lw_at lw_m3 44 rfl) rfl
theorem q582 : (Jvm.Cond.instanceMethod ({ cls := "CliffPlots$Cliff", name := "bench", desc := "(I)[LCliffPlots$Plant;" } : Jvm.MethodName)) ∈ lw_all := lw_g (lw_at lw_m3 45 rfl) rfl
theorem q583 : (Jvm.Cond.selects "CliffPlots$Cliff" ({ cls := "CliffPlots$Cliff", name := "bench", desc := "(I)[LCliffPlots$Plant;" } : Jvm.MethodName) ({ cls := "CliffPlots$Cliff", name := "bench", desc := "(I)[LCliffPlots$Plant;" } : Jvm.MethodName)) ∈ lw_all := lw_g (lw_at lw_m3 46 rfl) rfl
theorem q584 : (Jvm.Cond.code ({ cls := "CliffPlots$Cliff", name := "bench", desc := "(I)[LCliffPlots$Plant;" } : Jvm.MethodName) prog_3_method_5_code (2 : Nat) (Option.some (Jvm.ClassFile.FieldType.array (Jvm.ClassFile.FieldType.object "CliffPlots$Plant")))) ∈ lw_all := lw_g (lw_at lw_m3 47 rfl) rfl
theorem q585 : (Jvm.Cond.methodLink "CliffPlots$Cliff" (124 : Nat) ({ cls := "CliffPlots$Cliff", name := "like", desc := "(LCliffPlots$Plant;)LCliffPlots$Plant;" } : Jvm.MethodName)) ∈ lw_all := lw_g (lw_at lw_m3 48 rfl) rfl
theorem q586 : (Jvm.Cond.privateMethod ({ cls := "CliffPlots$Cliff", name := "like", desc := "(LCliffPlots$Plant;)LCliffPlots$Plant;" } : Jvm.MethodName)) ∈ lw_tbl := lw_at lw_m3 49 rfl
theorem q587 : (Jvm.Cond.instanceMethod ({ cls := "CliffPlots$Cliff", name := "like", desc := "(LCliffPlots$Plant;)LCliffPlots$Plant;" } : Jvm.MethodName)) ∈ lw_all := lw_g (lw_at lw_m3 50 rfl) rfl
theorem q588 : (Jvm.Cond.code ({ cls := "CliffPlots$Cliff", name := "like", desc := "(LCliffPlots$Plant;)LCliffPlots$Plant;" } : Jvm.MethodName) prog_3_method_4_code (3 : Nat) (Option.some (Jvm.ClassFile.FieldType.object "CliffPlots$Plant"))) ∈ lw_all := lw_g (lw_at lw_m3 51 rfl) rfl
theorem q589 : (Jvm.Cond.methodLink "CliffPlots$Cliff" (128 : Nat) ({ cls := "CliffPlots$Plant", name := "kind", desc := "()I" } : Jvm.MethodName)) ∈ lw_all := lw_g (lw_at lw_m3 52 rfl) rfl
theorem q598 : (Jvm.Cond.methodLink "CliffPlots$Cliff" (132 : Nat) ({ cls := "CliffPlots$Cliff", name := "spare", desc := "(I)LCliffPlots$Plant;" } : Jvm.MethodName)) ∈ lw_all := lw_g (lw_at lw_m3 61 rfl) rfl
theorem q599 : (Jvm.Cond.privateMethod ({ cls := "CliffPlots$Cliff", name := "spare", desc := "(I)LCliffPlots$Plant;" } : Jvm.MethodName)) ∈ lw_tbl := lw_at lw_m3 62 rfl
theorem q600 : (Jvm.Cond.instanceMethod ({ cls := "CliffPlots$Cliff", name := "spare", desc := "(I)LCliffPlots$Plant;" } : Jvm.MethodName)) ∈ lw_all := lw_g (lw_at lw_m3 63 rfl) rfl
theorem q601 : (Jvm.Cond.code ({ cls := "CliffPlots$Cliff", name := "spare", desc := "(I)LCliffPlots$Plant;" } : Jvm.MethodName) prog_3_method_6_code (4 : Nat) (Option.some (Jvm.ClassFile.FieldType.object "CliffPlots$Plant"))) ∈ lw_all := lw_g (lw_at lw_m3 64 rfl) rfl
theorem q602 : (Jvm.Cond.methodLink "CliffPlots$Cliff" (136 : Nat) ({ cls := "CliffPlots$Plant", name := "take", desc := "(LCliffPlots$Plant;)V" } : Jvm.MethodName)) ∈ lw_all := lw_g (lw_at lw_m3 65 rfl) rfl
theorem q614 : (Jvm.Cond.methodLink "CliffPlots$Cliff" (88 : Nat) ({ cls := "CliffPlots$Member", name := "take", desc := "(LCliffPlots$Member;)V" } : Jvm.MethodName)) ∈ lw_all := lw_g (lw_at lw_m3 77 rfl) rfl
theorem q618 : (Jvm.Cond.methodLink "CliffPlots$Cliff" (95 : Nat) ({ cls := "CliffPlots$Shed", name := "take", desc := "(LCliffPlots$Shed;)V" } : Jvm.MethodName)) ∈ lw_all := lw_g (lw_at lw_m3 81 rfl) rfl
theorem q622 : (Jvm.Cond.methodLink "CliffPlots$Cliff" (101 : Nat) ({ cls := "CliffPlots$Prize", name := "take", desc := "(LCliffPlots$Prize;)V" } : Jvm.MethodName)) ∈ lw_all := lw_g (lw_at lw_m3 85 rfl) rfl
theorem q631 : (Jvm.Cond.instanceMethod ({ cls := "CliffPlots$Cliff", name := "count", desc := "()I" } : Jvm.MethodName)) ∈ lw_all := lw_g (lw_at lw_m3 94 rfl) rfl
theorem q632 : (Jvm.Cond.selects "CliffPlots$Cliff" ({ cls := "CliffPlots$Cliff", name := "count", desc := "()I" } : Jvm.MethodName) ({ cls := "CliffPlots$Cliff", name := "count", desc := "()I" } : Jvm.MethodName)) ∈ lw_all := lw_g (lw_at lw_m3 95 rfl) rfl
theorem q633 : (Jvm.Cond.code ({ cls := "CliffPlots$Cliff", name := "count", desc := "()I" } : Jvm.MethodName) prog_3_method_28_code (4 : Nat) (Option.some Jvm.ClassFile.FieldType.int)) ∈ lw_all := lw_g (lw_at lw_m3 96 rfl) rfl
theorem q634 : (Jvm.Cond.methodLink "CliffPlots$Cliff" (231 : Nat) ({ cls := "CliffPlots$Cliff", name := "votes", desc := "()I" } : Jvm.MethodName)) ∈ lw_all := lw_g (lw_at lw_m3 97 rfl) rfl
theorem q635 : (Jvm.Cond.instanceMethod ({ cls := "CliffPlots$Cliff", name := "votes", desc := "()I" } : Jvm.MethodName)) ∈ lw_all := lw_g (lw_at lw_m3 98 rfl) rfl
theorem q636 : (Jvm.Cond.selects "CliffPlots$Cliff" ({ cls := "CliffPlots$Cliff", name := "votes", desc := "()I" } : Jvm.MethodName) ({ cls := "CliffPlots$Cliff", name := "votes", desc := "()I" } : Jvm.MethodName)) ∈ lw_all := lw_g (lw_at lw_m3 99 rfl) rfl
theorem q637 : (Jvm.Cond.code ({ cls := "CliffPlots$Cliff", name := "votes", desc := "()I" } : Jvm.MethodName) prog_3_method_26_code (3 : Nat) (Option.some Jvm.ClassFile.FieldType.int)) ∈ lw_all := lw_g (lw_at lw_m3 100 rfl) rfl
theorem q638 : (Jvm.Cond.methodLink "CliffPlots$Cliff" (207 : Nat) ({ cls := "java/lang/Math", name := "min", desc := "(II)I" } : Jvm.MethodName)) ∈ lw_all := lw_g (lw_at lw_m3 101 rfl) rfl
theorem q648 : (Jvm.Cond.instanceMethod ({ cls := "CliffPlots$Cliff", name := "isWell", desc := "()Z" } : Jvm.MethodName)) ∈ lw_all := lw_g (lw_at lw_m3 111 rfl) rfl
theorem q649 : (Jvm.Cond.selects "CliffPlots$Cliff" ({ cls := "CliffPlots$Cliff", name := "isWell", desc := "()Z" } : Jvm.MethodName) ({ cls := "CliffPlots$Cliff", name := "isWell", desc := "()Z" } : Jvm.MethodName)) ∈ lw_all := lw_g (lw_at lw_m3 112 rfl) rfl
theorem q650 : (Jvm.Cond.code ({ cls := "CliffPlots$Cliff", name := "isWell", desc := "()Z" } : Jvm.MethodName) prog_3_method_36_code (3 : Nat) (Option.some Jvm.ClassFile.FieldType.boolean)) ∈ lw_all := lw_g (lw_at lw_m3 113 rfl) rfl
theorem q651 : (Jvm.Cond.methodLink "CliffPlots$Cliff" (254 : Nat) ({ cls := "CliffPlots$Cliff", name := "onBenches", desc := "()I" } : Jvm.MethodName)) ∈ lw_all := lw_g (lw_at lw_m3 114 rfl) rfl
theorem q652 : (Jvm.Cond.instanceMethod ({ cls := "CliffPlots$Cliff", name := "onBenches", desc := "()I" } : Jvm.MethodName)) ∈ lw_all := lw_g (lw_at lw_m3 115 rfl) rfl
theorem q653 : (Jvm.Cond.selects "CliffPlots$Cliff" ({ cls := "CliffPlots$Cliff", name := "onBenches", desc := "()I" } : Jvm.MethodName) ({ cls := "CliffPlots$Cliff", name := "onBenches", desc := "()I" } : Jvm.MethodName)) ∈ lw_all := lw_g (lw_at lw_m3 116 rfl) rfl
theorem q654 : (Jvm.Cond.code ({ cls := "CliffPlots$Cliff", name := "onBenches", desc := "()I" } : Jvm.MethodName) prog_3_method_32_code (3 : Nat) (Option.some Jvm.ClassFile.FieldType.int)) ∈ lw_all := lw_g (lw_at lw_m3 117 rfl) rfl
theorem q655 : (Jvm.Cond.methodLink "CliffPlots$Cliff" (257 : Nat) ({ cls := "CliffPlots$Cliff", name := "crops", desc := "()I" } : Jvm.MethodName)) ∈ lw_all := lw_g (lw_at lw_m3 118 rfl) rfl
theorem q656 : (Jvm.Cond.instanceMethod ({ cls := "CliffPlots$Cliff", name := "crops", desc := "()I" } : Jvm.MethodName)) ∈ lw_all := lw_g (lw_at lw_m3 119 rfl) rfl
theorem q657 : (Jvm.Cond.selects "CliffPlots$Cliff" ({ cls := "CliffPlots$Cliff", name := "crops", desc := "()I" } : Jvm.MethodName) ({ cls := "CliffPlots$Cliff", name := "crops", desc := "()I" } : Jvm.MethodName)) ∈ lw_all := lw_g (lw_at lw_m3 120 rfl) rfl
theorem q658 : (Jvm.Cond.code ({ cls := "CliffPlots$Cliff", name := "crops", desc := "()I" } : Jvm.MethodName) prog_3_method_33_code (3 : Nat) (Option.some Jvm.ClassFile.FieldType.int)) ∈ lw_all := lw_g (lw_at lw_m3 121 rfl) rfl
theorem q659 : (Jvm.Cond.methodLink "CliffPlots$Cliff" (187 : Nat) ({ cls := "java/lang/Math", name := "max", desc := "(II)I" } : Jvm.MethodName)) ∈ lw_all := lw_g (lw_at lw_m3 122 rfl) rfl
theorem q662 : (Jvm.Cond.constantFloat "CliffPlots$Cliff" (156 : Nat) (1120403456 : UInt32)) ∈ lw_all := lw_g (lw_at lw_m3 125 rfl) rfl
theorem q683 : (Jvm.Cond.instanceMethod ({ cls := "CliffPlots$Cliff", name := "dug", desc := "()I" } : Jvm.MethodName)) ∈ lw_all := lw_g (lw_at lw_m3 146 rfl) rfl
theorem q684 : (Jvm.Cond.selects "CliffPlots$Cliff" ({ cls := "CliffPlots$Cliff", name := "dug", desc := "()I" } : Jvm.MethodName) ({ cls := "CliffPlots$Cliff", name := "dug", desc := "()I" } : Jvm.MethodName)) ∈ lw_all := lw_g (lw_at lw_m3 147 rfl) rfl
theorem q685 : (Jvm.Cond.code ({ cls := "CliffPlots$Cliff", name := "dug", desc := "()I" } : Jvm.MethodName) prog_3_method_10_code (3 : Nat) (Option.some Jvm.ClassFile.FieldType.int)) ∈ lw_all := lw_g (lw_at lw_m3 148 rfl) rfl
theorem q747 : (Jvm.Cond.instanceMethod ({ cls := "CliffPlots$Cliff", name := "member", desc := "()I" } : Jvm.MethodName)) ∈ lw_all := lw_g (lw_at lw_m3 210 rfl) rfl
theorem q748 : (Jvm.Cond.selects "CliffPlots$Cliff" ({ cls := "CliffPlots$Cliff", name := "member", desc := "()I" } : Jvm.MethodName) ({ cls := "CliffPlots$Cliff", name := "member", desc := "()I" } : Jvm.MethodName)) ∈ lw_all := lw_g (lw_at lw_m3 211 rfl) rfl
theorem q749 : (Jvm.Cond.code ({ cls := "CliffPlots$Cliff", name := "member", desc := "()I" } : Jvm.MethodName) prog_3_method_9_code (1 : Nat) (Option.some Jvm.ClassFile.FieldType.int)) ∈ lw_all := lw_g (lw_at lw_m3 212 rfl) rfl
theorem q750 : (Jvm.Cond.methodLinkNest "CliffPlots$Cliff" (143 : Nat) ({ cls := "CliffPlots", name := "refuse", desc := "(ZII)V" } : Jvm.MethodName) "CliffPlots") ∈ lw_tbl := lw_at lw_m3 213 rfl
theorem q775 : (Jvm.Cond.methodLink "CliffPlots$Cliff" (147 : Nat) ({ cls := "CliffPlots$Member", name := "begins", desc := "()V" } : Jvm.MethodName)) ∈ lw_all := lw_g (lw_at lw_m3 238 rfl) rfl
theorem q834 : (Jvm.Cond.instanceMethod ({ cls := "CliffPlots$Cliff", name := "isMember", desc := "(I)Z" } : Jvm.MethodName)) ∈ lw_all := lw_g (lw_at lw_m4 57 rfl) rfl
theorem q835 : (Jvm.Cond.selects "CliffPlots$Cliff" ({ cls := "CliffPlots$Cliff", name := "isMember", desc := "(I)Z" } : Jvm.MethodName) ({ cls := "CliffPlots$Cliff", name := "isMember", desc := "(I)Z" } : Jvm.MethodName)) ∈ lw_all := lw_g (lw_at lw_m4 58 rfl) rfl
theorem q836 : (Jvm.Cond.code ({ cls := "CliffPlots$Cliff", name := "isMember", desc := "(I)Z" } : Jvm.MethodName) prog_3_method_7_code (2 : Nat) (Option.some Jvm.ClassFile.FieldType.boolean)) ∈ lw_all := lw_g (lw_at lw_m4 59 rfl) rfl
theorem q837 : (Jvm.Cond.methodLinkNest "CliffPlots$Cliff" (139 : Nat) ({ cls := "CliffPlots", name := "in", desc := "(III)Z" } : Jvm.MethodName) "CliffPlots") ∈ lw_tbl := lw_at lw_m4 60 rfl
theorem q860 : (Jvm.Cond.instanceMethod ({ cls := "CliffPlots$Cliff", name := "dig", desc := "(II)I" } : Jvm.MethodName)) ∈ lw_all := lw_g (lw_at lw_m4 83 rfl) rfl
theorem q861 : (Jvm.Cond.selects "CliffPlots$Cliff" ({ cls := "CliffPlots$Cliff", name := "dig", desc := "(II)I" } : Jvm.MethodName) ({ cls := "CliffPlots$Cliff", name := "dig", desc := "(II)I" } : Jvm.MethodName)) ∈ lw_all := lw_g (lw_at lw_m4 84 rfl) rfl
theorem q862 : (Jvm.Cond.code ({ cls := "CliffPlots$Cliff", name := "dig", desc := "(II)I" } : Jvm.MethodName) prog_3_method_11_code (4 : Nat) (Option.some Jvm.ClassFile.FieldType.int)) ∈ lw_all := lw_g (lw_at lw_m4 85 rfl) rfl
theorem q863 : (Jvm.Cond.methodLink "CliffPlots$Cliff" (153 : Nat) ({ cls := "CliffPlots$Cliff", name := "dug", desc := "()I" } : Jvm.MethodName)) ∈ lw_all := lw_g (lw_at lw_m4 86 rfl) rfl
theorem q872 : (Jvm.Cond.instanceMethod ({ cls := "CliffPlots$Cliff", name := "rest", desc := "(I)I" } : Jvm.MethodName)) ∈ lw_all := lw_g (lw_at lw_m4 95 rfl) rfl
theorem q873 : (Jvm.Cond.selects "CliffPlots$Cliff" ({ cls := "CliffPlots$Cliff", name := "rest", desc := "(I)I" } : Jvm.MethodName) ({ cls := "CliffPlots$Cliff", name := "rest", desc := "(I)I" } : Jvm.MethodName)) ∈ lw_all := lw_g (lw_at lw_m4 96 rfl) rfl
theorem q874 : (Jvm.Cond.code ({ cls := "CliffPlots$Cliff", name := "rest", desc := "(I)I" } : Jvm.MethodName) prog_3_method_12_code (4 : Nat) (Option.some Jvm.ClassFile.FieldType.int)) ∈ lw_all := lw_g (lw_at lw_m4 97 rfl) rfl
theorem q891 : (Jvm.Cond.instanceMethod ({ cls := "CliffPlots$Cliff", name := "shedOn", desc := "(I)I" } : Jvm.MethodName)) ∈ lw_all := lw_g (lw_at lw_m4 114 rfl) rfl
theorem q892 : (Jvm.Cond.selects "CliffPlots$Cliff" ({ cls := "CliffPlots$Cliff", name := "shedOn", desc := "(I)I" } : Jvm.MethodName) ({ cls := "CliffPlots$Cliff", name := "shedOn", desc := "(I)I" } : Jvm.MethodName)) ∈ lw_all := lw_g (lw_at lw_m4 115 rfl) rfl
theorem q893 : (Jvm.Cond.code ({ cls := "CliffPlots$Cliff", name := "shedOn", desc := "(I)I" } : Jvm.MethodName) prog_3_method_21_code (3 : Nat) (Option.some Jvm.ClassFile.FieldType.int)) ∈ lw_all := lw_g (lw_at lw_m4 116 rfl) rfl
theorem q909 : (Jvm.Cond.instanceMethod ({ cls := "CliffPlots$Cliff", name := "waterIn", desc := "(II)F" } : Jvm.MethodName)) ∈ lw_all := lw_g (lw_at lw_m4 132 rfl) rfl
theorem q910 : (Jvm.Cond.selects "CliffPlots$Cliff" ({ cls := "CliffPlots$Cliff", name := "waterIn", desc := "(II)F" } : Jvm.MethodName) ({ cls := "CliffPlots$Cliff", name := "waterIn", desc := "(II)F" } : Jvm.MethodName)) ∈ lw_all := lw_g (lw_at lw_m4 133 rfl) rfl
theorem q911 : (Jvm.Cond.code ({ cls := "CliffPlots$Cliff", name := "waterIn", desc := "(II)F" } : Jvm.MethodName) prog_3_method_14_code (5 : Nat) (Option.some Jvm.ClassFile.FieldType.float)) ∈ lw_all := lw_g (lw_at lw_m4 134 rfl) rfl
theorem q912 : (Jvm.Cond.methodLink "CliffPlots$Cliff" (169 : Nat) ({ cls := "CliffPlots$Cliff", name := "waterThen", desc := "(F)F" } : Jvm.MethodName)) ∈ lw_all := lw_g (lw_at lw_m4 135 rfl) rfl
theorem q913 : (Jvm.Cond.privateMethod ({ cls := "CliffPlots$Cliff", name := "waterThen", desc := "(F)F" } : Jvm.MethodName)) ∈ lw_tbl := lw_at lw_m4 136 rfl
theorem q914 : (Jvm.Cond.instanceMethod ({ cls := "CliffPlots$Cliff", name := "waterThen", desc := "(F)F" } : Jvm.MethodName)) ∈ lw_all := lw_g (lw_at lw_m4 137 rfl) rfl
theorem q915 : (Jvm.Cond.code ({ cls := "CliffPlots$Cliff", name := "waterThen", desc := "(F)F" } : Jvm.MethodName) prog_3_method_13_code (3 : Nat) (Option.some Jvm.ClassFile.FieldType.float)) ∈ lw_all := lw_g (lw_at lw_m4 138 rfl) rfl
theorem q916 : (Jvm.Cond.constantFloat "CliffPlots$Cliff" (157 : Nat) (1061997773 : UInt32)) ∈ lw_all := lw_g (lw_at lw_m4 139 rfl) rfl
theorem q917 : (Jvm.Cond.methodLink "CliffPlots$Cliff" (158 : Nat) ({ cls := "java/lang/Math", name := "min", desc := "(FF)F" } : Jvm.MethodName)) ∈ lw_all := lw_g (lw_at lw_m4 140 rfl) rfl
theorem q925 : (Jvm.Cond.constantFloat "CliffPlots$Cliff" (164 : Nat) (1056964608 : UInt32)) ∈ lw_all := lw_g (lw_at lw_m4 148 rfl) rfl
theorem q926 : (Jvm.Cond.constantFloat "CliffPlots$Cliff" (165 : Nat) (1048576000 : UInt32)) ∈ lw_all := lw_g (lw_at lw_m4 149 rfl) rfl
theorem q927 : (Jvm.Cond.methodLink "CliffPlots$Cliff" (166 : Nat) ({ cls := "java/lang/Math", name := "max", desc := "(FF)F" } : Jvm.MethodName)) ∈ lw_all := lw_g (lw_at lw_m4 150 rfl) rfl
theorem q946 : (Jvm.Cond.instanceMethod ({ cls := "CliffPlots$Cliff", name := "pass", desc := "(I)I" } : Jvm.MethodName)) ∈ lw_all := lw_g (lw_at lw_m4 169 rfl) rfl
theorem q947 : (Jvm.Cond.selects "CliffPlots$Cliff" ({ cls := "CliffPlots$Cliff", name := "pass", desc := "(I)I" } : Jvm.MethodName) ({ cls := "CliffPlots$Cliff", name := "pass", desc := "(I)I" } : Jvm.MethodName)) ∈ lw_all := lw_g (lw_at lw_m4 170 rfl) rfl
theorem q948 : (Jvm.Cond.code ({ cls := "CliffPlots$Cliff", name := "pass", desc := "(I)I" } : Jvm.MethodName) prog_3_method_31_code (4 : Nat) (Option.some Jvm.ClassFile.FieldType.int)) ∈ lw_all := lw_g (lw_at lw_m4 171 rfl) rfl
theorem q949 : (Jvm.Cond.methodLink "CliffPlots$Cliff" (251 : Nat) ({ cls := "CliffPlots$Cliff", name := "goesBy", desc := "()I" } : Jvm.MethodName)) ∈ lw_all := lw_g (lw_at lw_m4 172 rfl) rfl
theorem q950 : (Jvm.Cond.instanceMethod ({ cls := "CliffPlots$Cliff", name := "goesBy", desc := "()I" } : Jvm.MethodName)) ∈ lw_all := lw_g (lw_at lw_m4 173 rfl) rfl
theorem q951 : (Jvm.Cond.selects "CliffPlots$Cliff" ({ cls := "CliffPlots$Cliff", name := "goesBy", desc := "()I" } : Jvm.MethodName) ({ cls := "CliffPlots$Cliff", name := "goesBy", desc := "()I" } : Jvm.MethodName)) ∈ lw_all := lw_g (lw_at lw_m4 174 rfl) rfl
theorem q952 : (Jvm.Cond.code ({ cls := "CliffPlots$Cliff", name := "goesBy", desc := "()I" } : Jvm.MethodName) prog_3_method_30_code (4 : Nat) (Option.some Jvm.ClassFile.FieldType.int)) ∈ lw_all := lw_g (lw_at lw_m4 175 rfl) rfl
theorem q953 : (Jvm.Cond.methodLink "CliffPlots$Cliff" (239 : Nat) ({ cls := "CliffPlots$Plant", name := "grown", desc := "(FFI)F" } : Jvm.MethodName)) ∈ lw_all := lw_g (lw_at lw_m4 176 rfl) rfl
theorem q975 : (Jvm.Cond.methodLink "CliffPlots$Cliff" (221 : Nat) ({ cls := "CliffPlots$Shed", name := "holds", desc := "(I)Z" } : Jvm.MethodName)) ∈ lw_all := lw_g (lw_at lw_m4 198 rfl) rfl
theorem q980 : (Jvm.Cond.methodLink "CliffPlots$Cliff" (243 : Nat) ({ cls := "CliffPlots$Shed", name := "blowsOff", desc := "()V" } : Jvm.MethodName)) ∈ lw_all := lw_g (lw_at lw_m4 203 rfl) rfl
theorem q984 : (Jvm.Cond.constantFloat "CliffPlots$Cliff" (246 : Nat) (1119092736 : UInt32)) ∈ lw_all := lw_g (lw_at lw_m4 207 rfl) rfl
theorem q985 : (Jvm.Cond.constantFloat "CliffPlots$Cliff" (247 : Nat) (1075838976 : UInt32)) ∈ lw_all := lw_g (lw_at lw_m4 208 rfl) rfl
theorem q986 : (Jvm.Cond.methodLink "CliffPlots$Cliff" (248 : Nat) ({ cls := "CliffPlots$Cliff", name := "molesGo", desc := "()V" } : Jvm.MethodName)) ∈ lw_all := lw_g (lw_at lw_m4 209 rfl) rfl
theorem q987 : (Jvm.Cond.privateMethod ({ cls := "CliffPlots$Cliff", name := "molesGo", desc := "()V" } : Jvm.MethodName)) ∈ lw_tbl := lw_at lw_m4 210 rfl
theorem q988 : (Jvm.Cond.instanceMethod ({ cls := "CliffPlots$Cliff", name := "molesGo", desc := "()V" } : Jvm.MethodName)) ∈ lw_all := lw_g (lw_at lw_m4 211 rfl) rfl
theorem q989 : (Jvm.Cond.code ({ cls := "CliffPlots$Cliff", name := "molesGo", desc := "()V" } : Jvm.MethodName) prog_3_method_29_code (3 : Nat) (Option.none : Option Jvm.ClassFile.FieldType)) ∈ lw_all := lw_g (lw_at lw_m4 212 rfl) rfl
theorem q990 : (Jvm.Cond.methodLink "CliffPlots$Cliff" (234 : Nat) ({ cls := "[I", name := "clone", desc := "()Ljava/lang/Object;" } : Jvm.MethodName)) ∈ lw_all := lw_g (lw_at lw_m4 213 rfl) rfl
theorem q996 : (Jvm.Cond.classLink "CliffPlots$Cliff" (235 : Nat) "[I") ∈ lw_all := lw_g (lw_at lw_m4 219 rfl) rfl
theorem q1008 : (Jvm.Cond.instanceMethod ({ cls := "CliffPlots$Cliff", name := "seedling", desc := "(II)I" } : Jvm.MethodName)) ∈ lw_all := lw_g (lw_at lw_m4 231 rfl) rfl
theorem q1009 : (Jvm.Cond.selects "CliffPlots$Cliff" ({ cls := "CliffPlots$Cliff", name := "seedling", desc := "(II)I" } : Jvm.MethodName) ({ cls := "CliffPlots$Cliff", name := "seedling", desc := "(II)I" } : Jvm.MethodName)) ∈ lw_all := lw_g (lw_at lw_m4 232 rfl) rfl
theorem q1010 : (Jvm.Cond.codeWith ({ cls := "CliffPlots$Cliff", name := "seedling", desc := "(II)I" } : Jvm.MethodName) prog_3_method_16_code (7 : Nat) (Option.some Jvm.ClassFile.FieldType.int) [((35 : Nat), (41 : Nat), (44 : Nat), (177 : Nat))]) ∈ lw_all := lw_g (lw_at lw_m4 233 rfl) rfl
theorem q1011 : (Jvm.Cond.classLink "CliffPlots$Cliff" (177 : Nat) "java/lang/ArrayStoreException") ∈ lw_all := lw_g (lw_at lw_m4 234 rfl) rfl
theorem q1025 : (Jvm.Cond.methodLink "CliffPlots$Cliff" (173 : Nat) ({ cls := "CliffPlots$Cliff", name := "free", desc := "([LCliffPlots$Plant;)I" } : Jvm.MethodName)) ∈ lw_all := lw_g (lw_at lw_m5 8 rfl) rfl
theorem q1026 : (Jvm.Cond.static ({ cls := "CliffPlots$Cliff", name := "free", desc := "([LCliffPlots$Plant;)I" } : Jvm.MethodName)) ∈ lw_all := lw_g (lw_at lw_m5 9 rfl) rfl
theorem q1027 : (Jvm.Cond.code ({ cls := "CliffPlots$Cliff", name := "free", desc := "([LCliffPlots$Plant;)I" } : Jvm.MethodName) prog_3_method_15_code (2 : Nat) (Option.some Jvm.ClassFile.FieldType.int)) ∈ lw_all := lw_g (lw_at lw_m5 10 rfl) rfl
theorem q1028 : (Jvm.Cond.classLink "CliffPlots$Cliff" (179 : Nat) "CliffPlots$Refused") ∈ lw_all := lw_g (lw_at lw_m5 11 rfl) rfl
theorem q1029 : (Jvm.Cond.methodLink "CliffPlots$Cliff" (181 : Nat) ({ cls := "CliffPlots$Refused", name := "<init>", desc := "(II)V" } : Jvm.MethodName)) ∈ lw_all := lw_g (lw_at lw_m5 12 rfl) rfl
theorem q1030 : (Jvm.Cond.methodLink "CliffPlots$Cliff" (184 : Nat) ({ cls := "CliffPlots$Plant", name := "begins", desc := "(I)V" } : Jvm.MethodName)) ∈ lw_all := lw_g (lw_at lw_m5 13 rfl) rfl
theorem q1069 : (Jvm.Cond.instanceMethod ({ cls := "CliffPlots$Cliff", name := "plant", desc := "(III)I" } : Jvm.MethodName)) ∈ lw_all := lw_g (lw_at lw_m5 52 rfl) rfl
theorem q1070 : (Jvm.Cond.selects "CliffPlots$Cliff" ({ cls := "CliffPlots$Cliff", name := "plant", desc := "(III)I" } : Jvm.MethodName) ({ cls := "CliffPlots$Cliff", name := "plant", desc := "(III)I" } : Jvm.MethodName)) ∈ lw_all := lw_g (lw_at lw_m5 53 rfl) rfl
theorem q1071 : (Jvm.Cond.code ({ cls := "CliffPlots$Cliff", name := "plant", desc := "(III)I" } : Jvm.MethodName) prog_3_method_17_code (6 : Nat) (Option.some Jvm.ClassFile.FieldType.int)) ∈ lw_all := lw_g (lw_at lw_m5 54 rfl) rfl
theorem q1072 : (Jvm.Cond.methodLink "CliffPlots$Cliff" (190 : Nat) ({ cls := "CliffPlots$Plant", name := "isPlanted", desc := "(I)V" } : Jvm.MethodName)) ∈ lw_all := lw_g (lw_at lw_m5 55 rfl) rfl
theorem q1114 : (Jvm.Cond.instanceMethod ({ cls := "CliffPlots$Cliff", name := "heaviest", desc := "(I)I" } : Jvm.MethodName)) ∈ lw_all := lw_g (lw_at lw_m5 97 rfl) rfl
theorem q1115 : (Jvm.Cond.selects "CliffPlots$Cliff" ({ cls := "CliffPlots$Cliff", name := "heaviest", desc := "(I)I" } : Jvm.MethodName) ({ cls := "CliffPlots$Cliff", name := "heaviest", desc := "(I)I" } : Jvm.MethodName)) ∈ lw_all := lw_g (lw_at lw_m5 98 rfl) rfl
theorem q1116 : (Jvm.Cond.code ({ cls := "CliffPlots$Cliff", name := "heaviest", desc := "(I)I" } : Jvm.MethodName) prog_3_method_18_code (5 : Nat) (Option.some Jvm.ClassFile.FieldType.int)) ∈ lw_all := lw_g (lw_at lw_m5 99 rfl) rfl
theorem q1125 : (Jvm.Cond.instanceMethod ({ cls := "CliffPlots$Cliff", name := "harvest", desc := "(I)F" } : Jvm.MethodName)) ∈ lw_all := lw_g (lw_at lw_m5 108 rfl) rfl
theorem q1126 : (Jvm.Cond.selects "CliffPlots$Cliff" ({ cls := "CliffPlots$Cliff", name := "harvest", desc := "(I)F" } : Jvm.MethodName) ({ cls := "CliffPlots$Cliff", name := "harvest", desc := "(I)F" } : Jvm.MethodName)) ∈ lw_all := lw_g (lw_at lw_m5 109 rfl) rfl
theorem q1127 : (Jvm.Cond.code ({ cls := "CliffPlots$Cliff", name := "harvest", desc := "(I)F" } : Jvm.MethodName) prog_3_method_19_code (5 : Nat) (Option.some Jvm.ClassFile.FieldType.float)) ∈ lw_all := lw_g (lw_at lw_m5 110 rfl) rfl
theorem q1128 : (Jvm.Cond.methodLink "CliffPlots$Cliff" (198 : Nat) ({ cls := "CliffPlots$Cliff", name := "lists", desc := "(IIF)V" } : Jvm.MethodName)) ∈ lw_all := lw_g (lw_at lw_m5 111 rfl) rfl
theorem q1129 : (Jvm.Cond.privateMethod ({ cls := "CliffPlots$Cliff", name := "lists", desc := "(IIF)V" } : Jvm.MethodName)) ∈ lw_tbl := lw_at lw_m5 112 rfl
theorem q1130 : (Jvm.Cond.instanceMethod ({ cls := "CliffPlots$Cliff", name := "lists", desc := "(IIF)V" } : Jvm.MethodName)) ∈ lw_all := lw_g (lw_at lw_m5 113 rfl) rfl
theorem q1131 : (Jvm.Cond.code ({ cls := "CliffPlots$Cliff", name := "lists", desc := "(IIF)V" } : Jvm.MethodName) prog_3_method_20_code (6 : Nat) (Option.none : Option Jvm.ClassFile.FieldType)) ∈ lw_all := lw_g (lw_at lw_m5 114 rfl) rfl
theorem q1132 : (Jvm.Cond.methodLink "CliffPlots$Cliff" (202 : Nat) ({ cls := "CliffPlots$Prize", name := "is", desc := "(IIFI)V" } : Jvm.MethodName)) ∈ lw_all := lw_g (lw_at lw_m5 115 rfl) rfl
theorem q1148 : (Jvm.Cond.instanceMethod ({ cls := "CliffPlots$Cliff", name := "shed", desc := "(I)I" } : Jvm.MethodName)) ∈ lw_all := lw_g (lw_at lw_m5 131 rfl) rfl
theorem q1149 : (Jvm.Cond.selects "CliffPlots$Cliff" ({ cls := "CliffPlots$Cliff", name := "shed", desc := "(I)I" } : Jvm.MethodName) ({ cls := "CliffPlots$Cliff", name := "shed", desc := "(I)I" } : Jvm.MethodName)) ∈ lw_all := lw_g (lw_at lw_m5 132 rfl) rfl
theorem q1150 : (Jvm.Cond.code ({ cls := "CliffPlots$Cliff", name := "shed", desc := "(I)I" } : Jvm.MethodName) prog_3_method_22_code (3 : Nat) (Option.some Jvm.ClassFile.FieldType.int)) ∈ lw_all := lw_g (lw_at lw_m5 133 rfl) rfl
theorem q1151 : (Jvm.Cond.methodLink "CliffPlots$Cliff" (213 : Nat) ({ cls := "CliffPlots$Cliff", name := "shedOn", desc := "(I)I" } : Jvm.MethodName)) ∈ lw_all := lw_g (lw_at lw_m5 134 rfl) rfl
theorem q1152 : (Jvm.Cond.methodLink "CliffPlots$Cliff" (217 : Nat) ({ cls := "CliffPlots$Shed", name := "begins", desc := "(I)V" } : Jvm.MethodName)) ∈ lw_all := lw_g (lw_at lw_m5 135 rfl) rfl
theorem q1164 : (Jvm.Cond.instanceMethod ({ cls := "CliffPlots$Cliff", name := "isShed", desc := "(I)Z" } : Jvm.MethodName)) ∈ lw_all := lw_g (lw_at lw_m5 147 rfl) rfl
theorem q1165 : (Jvm.Cond.selects "CliffPlots$Cliff" ({ cls := "CliffPlots$Cliff", name := "isShed", desc := "(I)Z" } : Jvm.MethodName) ({ cls := "CliffPlots$Cliff", name := "isShed", desc := "(I)Z" } : Jvm.MethodName)) ∈ lw_all := lw_g (lw_at lw_m5 148 rfl) rfl
theorem q1166 : (Jvm.Cond.code ({ cls := "CliffPlots$Cliff", name := "isShed", desc := "(I)Z" } : Jvm.MethodName) prog_3_method_8_code (2 : Nat) (Option.some Jvm.ClassFile.FieldType.boolean)) ∈ lw_all := lw_g (lw_at lw_m5 149 rfl) rfl
theorem q1168 : (Jvm.Cond.instanceMethod ({ cls := "CliffPlots$Cliff", name := "rope", desc := "(I)I" } : Jvm.MethodName)) ∈ lw_all := lw_g (lw_at lw_m5 151 rfl) rfl
theorem q1169 : (Jvm.Cond.selects "CliffPlots$Cliff" ({ cls := "CliffPlots$Cliff", name := "rope", desc := "(I)I" } : Jvm.MethodName) ({ cls := "CliffPlots$Cliff", name := "rope", desc := "(I)I" } : Jvm.MethodName)) ∈ lw_all := lw_g (lw_at lw_m5 152 rfl) rfl
theorem q1170 : (Jvm.Cond.code ({ cls := "CliffPlots$Cliff", name := "rope", desc := "(I)I" } : Jvm.MethodName) prog_3_method_23_code (3 : Nat) (Option.some Jvm.ClassFile.FieldType.int)) ∈ lw_all := lw_g (lw_at lw_m5 153 rfl) rfl
theorem q1179 : (Jvm.Cond.instanceMethod ({ cls := "CliffPlots$Cliff", name := "leastWind", desc := "(I)I" } : Jvm.MethodName)) ∈ lw_all := lw_g (lw_at lw_m5 162 rfl) rfl
theorem q1180 : (Jvm.Cond.selects "CliffPlots$Cliff" ({ cls := "CliffPlots$Cliff", name := "leastWind", desc := "(I)I" } : Jvm.MethodName) ({ cls := "CliffPlots$Cliff", name := "leastWind", desc := "(I)I" } : Jvm.MethodName)) ∈ lw_all := lw_g (lw_at lw_m5 163 rfl) rfl
theorem q1181 : (Jvm.Cond.code ({ cls := "CliffPlots$Cliff", name := "leastWind", desc := "(I)I" } : Jvm.MethodName) prog_3_method_24_code (4 : Nat) (Option.some Jvm.ClassFile.FieldType.int)) ∈ lw_all := lw_g (lw_at lw_m5 164 rfl) rfl
theorem q1197 : (Jvm.Cond.instanceMethod ({ cls := "CliffPlots$Cliff", name := "pour", desc := "(III)F" } : Jvm.MethodName)) ∈ lw_all := lw_g (lw_at lw_m5 180 rfl) rfl
theorem q1198 : (Jvm.Cond.selects "CliffPlots$Cliff" ({ cls := "CliffPlots$Cliff", name := "pour", desc := "(III)F" } : Jvm.MethodName) ({ cls := "CliffPlots$Cliff", name := "pour", desc := "(III)F" } : Jvm.MethodName)) ∈ lw_all := lw_g (lw_at lw_m5 181 rfl) rfl
theorem q1199 : (Jvm.Cond.code ({ cls := "CliffPlots$Cliff", name := "pour", desc := "(III)F" } : Jvm.MethodName) prog_3_method_25_code (5 : Nat) (Option.some Jvm.ClassFile.FieldType.float)) ∈ lw_all := lw_g (lw_at lw_m5 182 rfl) rfl
theorem q1215 : (Jvm.Cond.instanceMethod ({ cls := "CliffPlots$Cliff", name := "vote", desc := "(IZ)I" } : Jvm.MethodName)) ∈ lw_all := lw_g (lw_at lw_m5 198 rfl) rfl
theorem q1216 : (Jvm.Cond.selects "CliffPlots$Cliff" ({ cls := "CliffPlots$Cliff", name := "vote", desc := "(IZ)I" } : Jvm.MethodName) ({ cls := "CliffPlots$Cliff", name := "vote", desc := "(IZ)I" } : Jvm.MethodName)) ∈ lw_all := lw_g (lw_at lw_m5 199 rfl) rfl
theorem q1217 : (Jvm.Cond.code ({ cls := "CliffPlots$Cliff", name := "vote", desc := "(IZ)I" } : Jvm.MethodName) prog_3_method_27_code (3 : Nat) (Option.some Jvm.ClassFile.FieldType.int)) ∈ lw_all := lw_g (lw_at lw_m5 200 rfl) rfl
theorem q1632 : (Jvm.Cond.instanceMethod ({ cls := "CliffPlots$Cliff", name := "standing", desc := "()I" } : Jvm.MethodName)) ∈ lw_all := lw_g (lw_at lw_m7 135 rfl) rfl
theorem q1633 : (Jvm.Cond.selects "CliffPlots$Cliff" ({ cls := "CliffPlots$Cliff", name := "standing", desc := "()I" } : Jvm.MethodName) ({ cls := "CliffPlots$Cliff", name := "standing", desc := "()I" } : Jvm.MethodName)) ∈ lw_all := lw_g (lw_at lw_m7 136 rfl) rfl
theorem q1634 : (Jvm.Cond.code ({ cls := "CliffPlots$Cliff", name := "standing", desc := "()I" } : Jvm.MethodName) prog_3_method_34_code (3 : Nat) (Option.some Jvm.ClassFile.FieldType.int)) ∈ lw_all := lw_g (lw_at lw_m7 137 rfl) rfl
theorem q1636 : (Jvm.Cond.instanceMethod ({ cls := "CliffPlots$Cliff", name := "moles", desc := "()I" } : Jvm.MethodName)) ∈ lw_all := lw_g (lw_at lw_m7 139 rfl) rfl
theorem q1637 : (Jvm.Cond.selects "CliffPlots$Cliff" ({ cls := "CliffPlots$Cliff", name := "moles", desc := "()I" } : Jvm.MethodName) ({ cls := "CliffPlots$Cliff", name := "moles", desc := "()I" } : Jvm.MethodName)) ∈ lw_all := lw_g (lw_at lw_m7 140 rfl) rfl
theorem q1638 : (Jvm.Cond.code ({ cls := "CliffPlots$Cliff", name := "moles", desc := "()I" } : Jvm.MethodName) prog_3_method_35_code (3 : Nat) (Option.some Jvm.ClassFile.FieldType.int)) ∈ lw_all := lw_g (lw_at lw_m7 141 rfl) rfl
theorem q2114 : (Jvm.Cond.castable "CliffPlots$Cliff" "java/lang/Object") ∈ lw_tbl := lw_at lw_m9 137 rfl
theorem in_X2 : ∀ w ∈ wsX20, w ∈ lw_all := lw_in wsX20 [265, 267, 269, 271, 273, 275, 277, 279, 281, 283, 285, 287, 289, 291, 293, 295, 297, 299, 301, 303] (by decide +kernel) (by decide +kernel)
