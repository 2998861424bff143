/-! CliffPlotsLaw -/
set_option maxRecDepth 100000
def RX0 : String := "CliffPlotsLaw"
abbrev cX0_wind : ByteArray := method_3_code
def yX0_wind : MethodName := ⟨RX0, "wind", "(LCliffPlots;I[J)I"⟩
def dkwX0_wind_0 : List UInt8 := [44, 3, 42, 27, 182, 0, 7, 133, 80, 167, 0, 6, 78, 4, 172, 3, 172]
abbrev dktX0_wind_0 : List UInt8 := dkwX0_wind_0 ++ []
theorem dksX0_wind_0 : cX0_wind.data.toList.drop 0 = dktX0_wind_0 := by decide +kernel
theorem dX0_wind_0 : decode cX0_wind 0 = .ok (.aload_n 2, 1) := dk_44 (dk_at dksX0_wind_0 0 rfl rfl)
theorem dX0_wind_1 : decode cX0_wind 1 = .ok (.iconst 0, 1) := dk_3 (dk_at dksX0_wind_0 1 rfl rfl)
theorem dX0_wind_2 : decode cX0_wind 2 = .ok (.aload_n 0, 1) := dk_42 (dk_at dksX0_wind_0 2 rfl rfl)
theorem dX0_wind_3 : decode cX0_wind 3 = .ok (.iload_n 1, 1) := dk_27 (dk_at dksX0_wind_0 3 rfl rfl)
theorem dX0_wind_4 : decode cX0_wind 4 = .ok (.invokevirtual 7, 3) := dk_182 0 7 (dk_at dksX0_wind_0 4 rfl rfl)
theorem dX0_wind_7 : decode cX0_wind 7 = .ok (.i2l, 1) := dk_133 (dk_at dksX0_wind_0 7 rfl rfl)
theorem dX0_wind_8 : decode cX0_wind 8 = .ok (.lastore, 1) := dk_80 (dk_at dksX0_wind_0 8 rfl rfl)
theorem dX0_wind_9 : decode cX0_wind 9 = .ok (.goto 6, 3) := dk_167 0 6 (dk_at dksX0_wind_0 9 rfl rfl)
theorem dX0_wind_12 : decode cX0_wind 12 = .ok (.astore_n 3, 1) := dk_78 (dk_at dksX0_wind_0 12 rfl rfl)
theorem dX0_wind_13 : decode cX0_wind 13 = .ok (.iconst 1, 1) := dk_4 (dk_at dksX0_wind_0 13 rfl rfl)
theorem dX0_wind_14 : decode cX0_wind 14 = .ok (.ireturn, 1) := dk_172 (dk_at dksX0_wind_0 14 rfl rfl)
theorem dX0_wind_15 : decode cX0_wind 15 = .ok (.iconst 0, 1) := dk_3 (dk_at dksX0_wind_0 15 rfl rfl)
theorem dX0_wind_16 : decode cX0_wind 16 = .ok (.ireturn, 1) := dk_172 (dk_at dksX0_wind_0 16 rfl rfl)
abbrev cX0_rain : ByteArray := method_4_code
def yX0_rain : MethodName := ⟨RX0, "rain", "(LCliffPlots;I[J)I"⟩
def dkwX0_rain_0 : List UInt8 := [44, 3, 42, 27, 182, 0, 15, 133, 80, 167, 0, 6, 78, 4, 172, 3, 172]
abbrev dktX0_rain_0 : List UInt8 := dkwX0_rain_0 ++ []
theorem dksX0_rain_0 : cX0_rain.data.toList.drop 0 = dktX0_rain_0 := by decide +kernel
theorem dX0_rain_0 : decode cX0_rain 0 = .ok (.aload_n 2, 1) := dk_44 (dk_at dksX0_rain_0 0 rfl rfl)
theorem dX0_rain_1 : decode cX0_rain 1 = .ok (.iconst 0, 1) := dk_3 (dk_at dksX0_rain_0 1 rfl rfl)
theorem dX0_rain_2 : decode cX0_rain 2 = .ok (.aload_n 0, 1) := dk_42 (dk_at dksX0_rain_0 2 rfl rfl)
theorem dX0_rain_3 : decode cX0_rain 3 = .ok (.iload_n 1, 1) := dk_27 (dk_at dksX0_rain_0 3 rfl rfl)
theorem dX0_rain_4 : decode cX0_rain 4 = .ok (.invokevirtual 15, 3) := dk_182 0 15 (dk_at dksX0_rain_0 4 rfl rfl)
theorem dX0_rain_7 : decode cX0_rain 7 = .ok (.i2l, 1) := dk_133 (dk_at dksX0_rain_0 7 rfl rfl)
theorem dX0_rain_8 : decode cX0_rain 8 = .ok (.lastore, 1) := dk_80 (dk_at dksX0_rain_0 8 rfl rfl)
theorem dX0_rain_9 : decode cX0_rain 9 = .ok (.goto 6, 3) := dk_167 0 6 (dk_at dksX0_rain_0 9 rfl rfl)
theorem dX0_rain_12 : decode cX0_rain 12 = .ok (.astore_n 3, 1) := dk_78 (dk_at dksX0_rain_0 12 rfl rfl)
theorem dX0_rain_13 : decode cX0_rain 13 = .ok (.iconst 1, 1) := dk_4 (dk_at dksX0_rain_0 13 rfl rfl)
theorem dX0_rain_14 : decode cX0_rain 14 = .ok (.ireturn, 1) := dk_172 (dk_at dksX0_rain_0 14 rfl rfl)
theorem dX0_rain_15 : decode cX0_rain 15 = .ok (.iconst 0, 1) := dk_3 (dk_at dksX0_rain_0 15 rfl rfl)
theorem dX0_rain_16 : decode cX0_rain 16 = .ok (.ireturn, 1) := dk_172 (dk_at dksX0_rain_0 16 rfl rfl)
abbrev cX0_member : ByteArray := method_5_code
def yX0_member : MethodName := ⟨RX0, "member", "(LCliffPlots;[J)I"⟩
def dkwX0_member_0 : List UInt8 := [43, 3, 42, 182, 0, 18, 133, 80, 167, 0, 6, 77, 4, 172, 3, 172]
abbrev dktX0_member_0 : List UInt8 := dkwX0_member_0 ++ []
theorem dksX0_member_0 : cX0_member.data.toList.drop 0 = dktX0_member_0 := by decide +kernel
theorem dX0_member_0 : decode cX0_member 0 = .ok (.aload_n 1, 1) := dk_43 (dk_at dksX0_member_0 0 rfl rfl)
theorem dX0_member_1 : decode cX0_member 1 = .ok (.iconst 0, 1) := dk_3 (dk_at dksX0_member_0 1 rfl rfl)
theorem dX0_member_2 : decode cX0_member 2 = .ok (.aload_n 0, 1) := dk_42 (dk_at dksX0_member_0 2 rfl rfl)
theorem dX0_member_3 : decode cX0_member 3 = .ok (.invokevirtual 18, 3) := dk_182 0 18 (dk_at dksX0_member_0 3 rfl rfl)
theorem dX0_member_6 : decode cX0_member 6 = .ok (.i2l, 1) := dk_133 (dk_at dksX0_member_0 6 rfl rfl)
theorem dX0_member_7 : decode cX0_member 7 = .ok (.lastore, 1) := dk_80 (dk_at dksX0_member_0 7 rfl rfl)
theorem dX0_member_8 : decode cX0_member 8 = .ok (.goto 6, 3) := dk_167 0 6 (dk_at dksX0_member_0 8 rfl rfl)
theorem dX0_member_11 : decode cX0_member 11 = .ok (.astore_n 2, 1) := dk_77 (dk_at dksX0_member_0 11 rfl rfl)
theorem dX0_member_12 : decode cX0_member 12 = .ok (.iconst 1, 1) := dk_4 (dk_at dksX0_member_0 12 rfl rfl)
theorem dX0_member_13 : decode cX0_member 13 = .ok (.ireturn, 1) := dk_172 (dk_at dksX0_member_0 13 rfl rfl)
theorem dX0_member_14 : decode cX0_member 14 = .ok (.iconst 0, 1) := dk_3 (dk_at dksX0_member_0 14 rfl rfl)
theorem dX0_member_15 : decode cX0_member 15 = .ok (.ireturn, 1) := dk_172 (dk_at dksX0_member_0 15 rfl rfl)
abbrev cX0_dig : ByteArray := method_6_code
def yX0_dig : MethodName := ⟨RX0, "dig", "(LCliffPlots;II[J)I"⟩
def dkwX0_dig_0 : List UInt8 := [45, 3, 42, 27, 28, 182, 0, 24, 133, 80, 167, 0, 11, 58, 4, 4, 172, 58, 4, 5, 172, 3, 172]
abbrev dktX0_dig_0 : List UInt8 := dkwX0_dig_0 ++ []
theorem dksX0_dig_0 : cX0_dig.data.toList.drop 0 = dktX0_dig_0 := by decide +kernel
theorem dX0_dig_0 : decode cX0_dig 0 = .ok (.aload_n 3, 1) := dk_45 (dk_at dksX0_dig_0 0 rfl rfl)
theorem dX0_dig_1 : decode cX0_dig 1 = .ok (.iconst 0, 1) := dk_3 (dk_at dksX0_dig_0 1 rfl rfl)
theorem dX0_dig_2 : decode cX0_dig 2 = .ok (.aload_n 0, 1) := dk_42 (dk_at dksX0_dig_0 2 rfl rfl)
theorem dX0_dig_3 : decode cX0_dig 3 = .ok (.iload_n 1, 1) := dk_27 (dk_at dksX0_dig_0 3 rfl rfl)
theorem dX0_dig_4 : decode cX0_dig 4 = .ok (.iload_n 2, 1) := dk_28 (dk_at dksX0_dig_0 4 rfl rfl)
theorem dX0_dig_5 : decode cX0_dig 5 = .ok (.invokevirtual 24, 3) := dk_182 0 24 (dk_at dksX0_dig_0 5 rfl rfl)
theorem dX0_dig_8 : decode cX0_dig 8 = .ok (.i2l, 1) := dk_133 (dk_at dksX0_dig_0 8 rfl rfl)
theorem dX0_dig_9 : decode cX0_dig 9 = .ok (.lastore, 1) := dk_80 (dk_at dksX0_dig_0 9 rfl rfl)
theorem dX0_dig_10 : decode cX0_dig 10 = .ok (.goto 11, 3) := dk_167 0 11 (dk_at dksX0_dig_0 10 rfl rfl)
theorem dX0_dig_13 : decode cX0_dig 13 = .ok (.astore 4, 2) := dk_58 4 (dk_at dksX0_dig_0 13 rfl rfl)
theorem dX0_dig_15 : decode cX0_dig 15 = .ok (.iconst 1, 1) := dk_4 (dk_at dksX0_dig_0 15 rfl rfl)
theorem dX0_dig_16 : decode cX0_dig 16 = .ok (.ireturn, 1) := dk_172 (dk_at dksX0_dig_0 16 rfl rfl)
theorem dX0_dig_17 : decode cX0_dig 17 = .ok (.astore 4, 2) := dk_58 4 (dk_at dksX0_dig_0 17 rfl rfl)
theorem dX0_dig_19 : decode cX0_dig 19 = .ok (.iconst 2, 1) := dk_5 (dk_at dksX0_dig_0 19 rfl rfl)
theorem dX0_dig_20 : decode cX0_dig 20 = .ok (.ireturn, 1) := dk_172 (dk_at dksX0_dig_0 20 rfl rfl)
theorem dX0_dig_21 : decode cX0_dig 21 = .ok (.iconst 0, 1) := dk_3 (dk_at dksX0_dig_0 21 rfl rfl)
theorem dX0_dig_22 : decode cX0_dig 22 = .ok (.ireturn, 1) := dk_172 (dk_at dksX0_dig_0 22 rfl rfl)
abbrev cX0_rest : ByteArray := method_7_code
def yX0_rest : MethodName := ⟨RX0, "rest", "(LCliffPlots;I[J)I"⟩
def dkwX0_rest_0 : List UInt8 := [44, 3, 42, 27, 182, 0, 30, 133, 80, 167, 0, 9, 78, 4, 172, 78, 5, 172, 3, 172]
abbrev dktX0_rest_0 : List UInt8 := dkwX0_rest_0 ++ []
theorem dksX0_rest_0 : cX0_rest.data.toList.drop 0 = dktX0_rest_0 := by decide +kernel
theorem dX0_rest_0 : decode cX0_rest 0 = .ok (.aload_n 2, 1) := dk_44 (dk_at dksX0_rest_0 0 rfl rfl)
theorem dX0_rest_1 : decode cX0_rest 1 = .ok (.iconst 0, 1) := dk_3 (dk_at dksX0_rest_0 1 rfl rfl)
theorem dX0_rest_2 : decode cX0_rest 2 = .ok (.aload_n 0, 1) := dk_42 (dk_at dksX0_rest_0 2 rfl rfl)
theorem dX0_rest_3 : decode cX0_rest 3 = .ok (.iload_n 1, 1) := dk_27 (dk_at dksX0_rest_0 3 rfl rfl)
theorem dX0_rest_4 : decode cX0_rest 4 = .ok (.invokevirtual 30, 3) := dk_182 0 30 (dk_at dksX0_rest_0 4 rfl rfl)
theorem dX0_rest_7 : decode cX0_rest 7 = .ok (.i2l, 1) := dk_133 (dk_at dksX0_rest_0 7 rfl rfl)
theorem dX0_rest_8 : decode cX0_rest 8 = .ok (.lastore, 1) := dk_80 (dk_at dksX0_rest_0 8 rfl rfl)
theorem dX0_rest_9 : decode cX0_rest 9 = .ok (.goto 9, 3) := dk_167 0 9 (dk_at dksX0_rest_0 9 rfl rfl)
theorem dX0_rest_12 : decode cX0_rest 12 = .ok (.astore_n 3, 1) := dk_78 (dk_at dksX0_rest_0 12 rfl rfl)
theorem dX0_rest_13 : decode cX0_rest 13 = .ok (.iconst 1, 1) := dk_4 (dk_at dksX0_rest_0 13 rfl rfl)
theorem dX0_rest_14 : decode cX0_rest 14 = .ok (.ireturn, 1) := dk_172 (dk_at dksX0_rest_0 14 rfl rfl)
theorem dX0_rest_15 : decode cX0_rest 15 = .ok (.astore_n 3, 1) := dk_78 (dk_at dksX0_rest_0 15 rfl rfl)
theorem dX0_rest_16 : decode cX0_rest 16 = .ok (.iconst 2, 1) := dk_5 (dk_at dksX0_rest_0 16 rfl rfl)
theorem dX0_rest_17 : decode cX0_rest 17 = .ok (.ireturn, 1) := dk_172 (dk_at dksX0_rest_0 17 rfl rfl)
theorem dX0_rest_18 : decode cX0_rest 18 = .ok (.iconst 0, 1) := dk_3 (dk_at dksX0_rest_0 18 rfl rfl)
theorem dX0_rest_19 : decode cX0_rest 19 = .ok (.ireturn, 1) := dk_172 (dk_at dksX0_rest_0 19 rfl rfl)
abbrev cX0_memberOf : ByteArray := method_8_code
def yX0_memberOf : MethodName := ⟨RX0, "memberOf", "(LCliffPlots;II[J)I"⟩
def dkwX0_memberOf_0 : List UInt8 := [45, 3, 42, 27, 28, 182, 0, 33, 133, 80, 167, 0, 11, 58, 4, 4, 172, 58, 4, 5, 172, 3, 172]
abbrev dktX0_memberOf_0 : List UInt8 := dkwX0_memberOf_0 ++ []
theorem dksX0_memberOf_0 : cX0_memberOf.data.toList.drop 0 = dktX0_memberOf_0 := by decide +kernel
theorem dX0_memberOf_0 : decode cX0_memberOf 0 = .ok (.aload_n 3, 1) := dk_45 (dk_at dksX0_memberOf_0 0 rfl rfl)
theorem dX0_memberOf_1 : decode cX0_memberOf 1 = .ok (.iconst 0, 1) := dk_3 (dk_at dksX0_memberOf_0 1 rfl rfl)
theorem dX0_memberOf_2 : decode cX0_memberOf 2 = .ok (.aload_n 0, 1) := dk_42 (dk_at dksX0_memberOf_0 2 rfl rfl)
theorem dX0_memberOf_3 : decode cX0_memberOf 3 = .ok (.iload_n 1, 1) := dk_27 (dk_at dksX0_memberOf_0 3 rfl rfl)
theorem dX0_memberOf_4 : decode cX0_memberOf 4 = .ok (.iload_n 2, 1) := dk_28 (dk_at dksX0_memberOf_0 4 rfl rfl)
theorem dX0_memberOf_5 : decode cX0_memberOf 5 = .ok (.invokevirtual 33, 3) := dk_182 0 33 (dk_at dksX0_memberOf_0 5 rfl rfl)
theorem dX0_memberOf_8 : decode cX0_memberOf 8 = .ok (.i2l, 1) := dk_133 (dk_at dksX0_memberOf_0 8 rfl rfl)
theorem dX0_memberOf_9 : decode cX0_memberOf 9 = .ok (.lastore, 1) := dk_80 (dk_at dksX0_memberOf_0 9 rfl rfl)
theorem dX0_memberOf_10 : decode cX0_memberOf 10 = .ok (.goto 11, 3) := dk_167 0 11 (dk_at dksX0_memberOf_0 10 rfl rfl)
theorem dX0_memberOf_13 : decode cX0_memberOf 13 = .ok (.astore 4, 2) := dk_58 4 (dk_at dksX0_memberOf_0 13 rfl rfl)
theorem dX0_memberOf_15 : decode cX0_memberOf 15 = .ok (.iconst 1, 1) := dk_4 (dk_at dksX0_memberOf_0 15 rfl rfl)
theorem dX0_memberOf_16 : decode cX0_memberOf 16 = .ok (.ireturn, 1) := dk_172 (dk_at dksX0_memberOf_0 16 rfl rfl)
theorem dX0_memberOf_17 : decode cX0_memberOf 17 = .ok (.astore 4, 2) := dk_58 4 (dk_at dksX0_memberOf_0 17 rfl rfl)
theorem dX0_memberOf_19 : decode cX0_memberOf 19 = .ok (.iconst 2, 1) := dk_5 (dk_at dksX0_memberOf_0 19 rfl rfl)
theorem dX0_memberOf_20 : decode cX0_memberOf 20 = .ok (.ireturn, 1) := dk_172 (dk_at dksX0_memberOf_0 20 rfl rfl)
theorem dX0_memberOf_21 : decode cX0_memberOf 21 = .ok (.iconst 0, 1) := dk_3 (dk_at dksX0_memberOf_0 21 rfl rfl)
theorem dX0_memberOf_22 : decode cX0_memberOf 22 = .ok (.ireturn, 1) := dk_172 (dk_at dksX0_memberOf_0 22 rfl rfl)
abbrev cX0_plotOf : ByteArray := method_9_code
def yX0_plotOf : MethodName := ⟨RX0, "plotOf", "(LCliffPlots;II[J)I"⟩
def dkwX0_plotOf_0 : List UInt8 := [45, 3, 42, 27, 28, 182, 0, 36, 133, 80, 167, 0, 11, 58, 4, 4, 172, 58, 4, 5, 172, 3, 172]
abbrev dktX0_plotOf_0 : List UInt8 := dkwX0_plotOf_0 ++ []
theorem dksX0_plotOf_0 : cX0_plotOf.data.toList.drop 0 = dktX0_plotOf_0 := by decide +kernel
theorem dX0_plotOf_0 : decode cX0_plotOf 0 = .ok (.aload_n 3, 1) := dk_45 (dk_at dksX0_plotOf_0 0 rfl rfl)
theorem dX0_plotOf_1 : decode cX0_plotOf 1 = .ok (.iconst 0, 1) := dk_3 (dk_at dksX0_plotOf_0 1 rfl rfl)
theorem dX0_plotOf_2 : decode cX0_plotOf 2 = .ok (.aload_n 0, 1) := dk_42 (dk_at dksX0_plotOf_0 2 rfl rfl)
theorem dX0_plotOf_3 : decode cX0_plotOf 3 = .ok (.iload_n 1, 1) := dk_27 (dk_at dksX0_plotOf_0 3 rfl rfl)
theorem dX0_plotOf_4 : decode cX0_plotOf 4 = .ok (.iload_n 2, 1) := dk_28 (dk_at dksX0_plotOf_0 4 rfl rfl)
theorem dX0_plotOf_5 : decode cX0_plotOf 5 = .ok (.invokevirtual 36, 3) := dk_182 0 36 (dk_at dksX0_plotOf_0 5 rfl rfl)
theorem dX0_plotOf_8 : decode cX0_plotOf 8 = .ok (.i2l, 1) := dk_133 (dk_at dksX0_plotOf_0 8 rfl rfl)
theorem dX0_plotOf_9 : decode cX0_plotOf 9 = .ok (.lastore, 1) := dk_80 (dk_at dksX0_plotOf_0 9 rfl rfl)
theorem dX0_plotOf_10 : decode cX0_plotOf 10 = .ok (.goto 11, 3) := dk_167 0 11 (dk_at dksX0_plotOf_0 10 rfl rfl)
theorem dX0_plotOf_13 : decode cX0_plotOf 13 = .ok (.astore 4, 2) := dk_58 4 (dk_at dksX0_plotOf_0 13 rfl rfl)
theorem dX0_plotOf_15 : decode cX0_plotOf 15 = .ok (.iconst 1, 1) := dk_4 (dk_at dksX0_plotOf_0 15 rfl rfl)
theorem dX0_plotOf_16 : decode cX0_plotOf 16 = .ok (.ireturn, 1) := dk_172 (dk_at dksX0_plotOf_0 16 rfl rfl)
theorem dX0_plotOf_17 : decode cX0_plotOf 17 = .ok (.astore 4, 2) := dk_58 4 (dk_at dksX0_plotOf_0 17 rfl rfl)
theorem dX0_plotOf_19 : decode cX0_plotOf 19 = .ok (.iconst 2, 1) := dk_5 (dk_at dksX0_plotOf_0 19 rfl rfl)
theorem dX0_plotOf_20 : decode cX0_plotOf 20 = .ok (.ireturn, 1) := dk_172 (dk_at dksX0_plotOf_0 20 rfl rfl)
theorem dX0_plotOf_21 : decode cX0_plotOf 21 = .ok (.iconst 0, 1) := dk_3 (dk_at dksX0_plotOf_0 21 rfl rfl)
theorem dX0_plotOf_22 : decode cX0_plotOf 22 = .ok (.ireturn, 1) := dk_172 (dk_at dksX0_plotOf_0 22 rfl rfl)
abbrev cX0_water : ByteArray := method_10_code
def yX0_water : MethodName := ⟨RX0, "water", "(LCliffPlots;I[D)I"⟩
def dkwX0_water_0 : List UInt8 := [44, 3, 42, 27, 182, 0, 39, 141, 82, 167, 0, 6, 78, 4, 172, 3, 172]
abbrev dktX0_water_0 : List UInt8 := dkwX0_water_0 ++ []
theorem dksX0_water_0 : cX0_water.data.toList.drop 0 = dktX0_water_0 := by decide +kernel
theorem dX0_water_0 : decode cX0_water 0 = .ok (.aload_n 2, 1) := dk_44 (dk_at dksX0_water_0 0 rfl rfl)
theorem dX0_water_1 : decode cX0_water 1 = .ok (.iconst 0, 1) := dk_3 (dk_at dksX0_water_0 1 rfl rfl)
theorem dX0_water_2 : decode cX0_water 2 = .ok (.aload_n 0, 1) := dk_42 (dk_at dksX0_water_0 2 rfl rfl)
theorem dX0_water_3 : decode cX0_water 3 = .ok (.iload_n 1, 1) := dk_27 (dk_at dksX0_water_0 3 rfl rfl)
theorem dX0_water_4 : decode cX0_water 4 = .ok (.invokevirtual 39, 3) := dk_182 0 39 (dk_at dksX0_water_0 4 rfl rfl)
theorem dX0_water_7 : decode cX0_water 7 = .ok (.f2d, 1) := dk_141 (dk_at dksX0_water_0 7 rfl rfl)
theorem dX0_water_8 : decode cX0_water 8 = .ok (.dastore, 1) := dk_82 (dk_at dksX0_water_0 8 rfl rfl)
theorem dX0_water_9 : decode cX0_water 9 = .ok (.goto 6, 3) := dk_167 0 6 (dk_at dksX0_water_0 9 rfl rfl)
theorem dX0_water_12 : decode cX0_water 12 = .ok (.astore_n 3, 1) := dk_78 (dk_at dksX0_water_0 12 rfl rfl)
theorem dX0_water_13 : decode cX0_water 13 = .ok (.iconst 1, 1) := dk_4 (dk_at dksX0_water_0 13 rfl rfl)
theorem dX0_water_14 : decode cX0_water 14 = .ok (.ireturn, 1) := dk_172 (dk_at dksX0_water_0 14 rfl rfl)
theorem dX0_water_15 : decode cX0_water 15 = .ok (.iconst 0, 1) := dk_3 (dk_at dksX0_water_0 15 rfl rfl)
theorem dX0_water_16 : decode cX0_water 16 = .ok (.ireturn, 1) := dk_172 (dk_at dksX0_water_0 16 rfl rfl)
abbrev cX0_waterIn : ByteArray := method_11_code
def yX0_waterIn : MethodName := ⟨RX0, "waterIn", "(LCliffPlots;II[J)I"⟩
def dkwX0_waterIn_0 : List UInt8 := [45, 3, 42, 27, 28, 182, 0, 43, 133, 80, 167, 0, 11, 58, 4, 4, 172, 58, 4, 5, 172, 3, 172]
abbrev dktX0_waterIn_0 : List UInt8 := dkwX0_waterIn_0 ++ []
theorem dksX0_waterIn_0 : cX0_waterIn.data.toList.drop 0 = dktX0_waterIn_0 := by decide +kernel
theorem dX0_waterIn_0 : decode cX0_waterIn 0 = .ok (.aload_n 3, 1) := dk_45 (dk_at dksX0_waterIn_0 0 rfl rfl)
theorem dX0_waterIn_1 : decode cX0_waterIn 1 = .ok (.iconst 0, 1) := dk_3 (dk_at dksX0_waterIn_0 1 rfl rfl)
theorem dX0_waterIn_2 : decode cX0_waterIn 2 = .ok (.aload_n 0, 1) := dk_42 (dk_at dksX0_waterIn_0 2 rfl rfl)
theorem dX0_waterIn_3 : decode cX0_waterIn 3 = .ok (.iload_n 1, 1) := dk_27 (dk_at dksX0_waterIn_0 3 rfl rfl)
theorem dX0_waterIn_4 : decode cX0_waterIn 4 = .ok (.iload_n 2, 1) := dk_28 (dk_at dksX0_waterIn_0 4 rfl rfl)
theorem dX0_waterIn_5 : decode cX0_waterIn 5 = .ok (.invokevirtual 43, 3) := dk_182 0 43 (dk_at dksX0_waterIn_0 5 rfl rfl)
theorem dX0_waterIn_8 : decode cX0_waterIn 8 = .ok (.i2l, 1) := dk_133 (dk_at dksX0_waterIn_0 8 rfl rfl)
theorem dX0_waterIn_9 : decode cX0_waterIn 9 = .ok (.lastore, 1) := dk_80 (dk_at dksX0_waterIn_0 9 rfl rfl)
theorem dX0_waterIn_10 : decode cX0_waterIn 10 = .ok (.goto 11, 3) := dk_167 0 11 (dk_at dksX0_waterIn_0 10 rfl rfl)
theorem dX0_waterIn_13 : decode cX0_waterIn 13 = .ok (.astore 4, 2) := dk_58 4 (dk_at dksX0_waterIn_0 13 rfl rfl)
theorem dX0_waterIn_15 : decode cX0_waterIn 15 = .ok (.iconst 1, 1) := dk_4 (dk_at dksX0_waterIn_0 15 rfl rfl)
theorem dX0_waterIn_16 : decode cX0_waterIn 16 = .ok (.ireturn, 1) := dk_172 (dk_at dksX0_waterIn_0 16 rfl rfl)
theorem dX0_waterIn_17 : decode cX0_waterIn 17 = .ok (.astore 4, 2) := dk_58 4 (dk_at dksX0_waterIn_0 17 rfl rfl)
theorem dX0_waterIn_19 : decode cX0_waterIn 19 = .ok (.iconst 2, 1) := dk_5 (dk_at dksX0_waterIn_0 19 rfl rfl)
theorem dX0_waterIn_20 : decode cX0_waterIn 20 = .ok (.ireturn, 1) := dk_172 (dk_at dksX0_waterIn_0 20 rfl rfl)
theorem dX0_waterIn_21 : decode cX0_waterIn 21 = .ok (.iconst 0, 1) := dk_3 (dk_at dksX0_waterIn_0 21 rfl rfl)
theorem dX0_waterIn_22 : decode cX0_waterIn 22 = .ok (.ireturn, 1) := dk_172 (dk_at dksX0_waterIn_0 22 rfl rfl)
abbrev cX0_waterAgain : ByteArray := method_12_code
def yX0_waterAgain : MethodName := ⟨RX0, "waterAgain", "(LCliffPlots;II[J)I"⟩
def dkwX0_waterAgain_0 : List UInt8 := [45, 3, 42, 27, 28, 182, 0, 46, 133, 80, 167, 0, 11, 58, 4, 4, 172, 58, 4, 5, 172, 3, 172]
abbrev dktX0_waterAgain_0 : List UInt8 := dkwX0_waterAgain_0 ++ []
theorem dksX0_waterAgain_0 : cX0_waterAgain.data.toList.drop 0 = dktX0_waterAgain_0 := by decide +kernel
theorem dX0_waterAgain_0 : decode cX0_waterAgain 0 = .ok (.aload_n 3, 1) := dk_45 (dk_at dksX0_waterAgain_0 0 rfl rfl)
theorem dX0_waterAgain_1 : decode cX0_waterAgain 1 = .ok (.iconst 0, 1) := dk_3 (dk_at dksX0_waterAgain_0 1 rfl rfl)
theorem dX0_waterAgain_2 : decode cX0_waterAgain 2 = .ok (.aload_n 0, 1) := dk_42 (dk_at dksX0_waterAgain_0 2 rfl rfl)
theorem dX0_waterAgain_3 : decode cX0_waterAgain 3 = .ok (.iload_n 1, 1) := dk_27 (dk_at dksX0_waterAgain_0 3 rfl rfl)
theorem dX0_waterAgain_4 : decode cX0_waterAgain 4 = .ok (.iload_n 2, 1) := dk_28 (dk_at dksX0_waterAgain_0 4 rfl rfl)
theorem dX0_waterAgain_5 : decode cX0_waterAgain 5 = .ok (.invokevirtual 46, 3) := dk_182 0 46 (dk_at dksX0_waterAgain_0 5 rfl rfl)
theorem dX0_waterAgain_8 : decode cX0_waterAgain 8 = .ok (.i2l, 1) := dk_133 (dk_at dksX0_waterAgain_0 8 rfl rfl)
theorem dX0_waterAgain_9 : decode cX0_waterAgain 9 = .ok (.lastore, 1) := dk_80 (dk_at dksX0_waterAgain_0 9 rfl rfl)
theorem dX0_waterAgain_10 : decode cX0_waterAgain 10 = .ok (.goto 11, 3) := dk_167 0 11 (dk_at dksX0_waterAgain_0 10 rfl rfl)
theorem dX0_waterAgain_13 : decode cX0_waterAgain 13 = .ok (.astore 4, 2) := dk_58 4 (dk_at dksX0_waterAgain_0 13 rfl rfl)
theorem dX0_waterAgain_15 : decode cX0_waterAgain 15 = .ok (.iconst 1, 1) := dk_4 (dk_at dksX0_waterAgain_0 15 rfl rfl)
theorem dX0_waterAgain_16 : decode cX0_waterAgain 16 = .ok (.ireturn, 1) := dk_172 (dk_at dksX0_waterAgain_0 16 rfl rfl)
theorem dX0_waterAgain_17 : decode cX0_waterAgain 17 = .ok (.astore 4, 2) := dk_58 4 (dk_at dksX0_waterAgain_0 17 rfl rfl)
theorem dX0_waterAgain_19 : decode cX0_waterAgain 19 = .ok (.iconst 2, 1) := dk_5 (dk_at dksX0_waterAgain_0 19 rfl rfl)
theorem dX0_waterAgain_20 : decode cX0_waterAgain 20 = .ok (.ireturn, 1) := dk_172 (dk_at dksX0_waterAgain_0 20 rfl rfl)
theorem dX0_waterAgain_21 : decode cX0_waterAgain 21 = .ok (.iconst 0, 1) := dk_3 (dk_at dksX0_waterAgain_0 21 rfl rfl)
theorem dX0_waterAgain_22 : decode cX0_waterAgain 22 = .ok (.ireturn, 1) := dk_172 (dk_at dksX0_waterAgain_0 22 rfl rfl)
abbrev cX0_seedling : ByteArray := method_13_code
def yX0_seedling : MethodName := ⟨RX0, "seedling", "(LCliffPlots;II[J)I"⟩
def dkwX0_seedling_1 : List UInt8 := [172, 3, 172]
abbrev dktX0_seedling_1 : List UInt8 := dkwX0_seedling_1 ++ []
def dkwX0_seedling_0 : List UInt8 := [45, 3, 42, 27, 28, 182, 0, 49, 133, 80, 167, 0, 15, 58, 4, 4, 172, 58, 4, 5, 172, 58, 4, 6]
abbrev dktX0_seedling_0 : List UInt8 := dkwX0_seedling_0 ++ dktX0_seedling_1
theorem dksX0_seedling_0 : cX0_seedling.data.toList.drop 0 = dktX0_seedling_0 := by decide +kernel
theorem dksX0_seedling_1 : cX0_seedling.data.toList.drop 24 = dktX0_seedling_1 := dk_seg dksX0_seedling_0 24 rfl rfl
theorem dX0_seedling_0 : decode cX0_seedling 0 = .ok (.aload_n 3, 1) := dk_45 (dk_at dksX0_seedling_0 0 rfl rfl)
theorem dX0_seedling_1 : decode cX0_seedling 1 = .ok (.iconst 0, 1) := dk_3 (dk_at dksX0_seedling_0 1 rfl rfl)
theorem dX0_seedling_2 : decode cX0_seedling 2 = .ok (.aload_n 0, 1) := dk_42 (dk_at dksX0_seedling_0 2 rfl rfl)
theorem dX0_seedling_3 : decode cX0_seedling 3 = .ok (.iload_n 1, 1) := dk_27 (dk_at dksX0_seedling_0 3 rfl rfl)
theorem dX0_seedling_4 : decode cX0_seedling 4 = .ok (.iload_n 2, 1) := dk_28 (dk_at dksX0_seedling_0 4 rfl rfl)
theorem dX0_seedling_5 : decode cX0_seedling 5 = .ok (.invokevirtual 49, 3) := dk_182 0 49 (dk_at dksX0_seedling_0 5 rfl rfl)
theorem dX0_seedling_8 : decode cX0_seedling 8 = .ok (.i2l, 1) := dk_133 (dk_at dksX0_seedling_0 8 rfl rfl)
theorem dX0_seedling_9 : decode cX0_seedling 9 = .ok (.lastore, 1) := dk_80 (dk_at dksX0_seedling_0 9 rfl rfl)
theorem dX0_seedling_10 : decode cX0_seedling 10 = .ok (.goto 15, 3) := dk_167 0 15 (dk_at dksX0_seedling_0 10 rfl rfl)
theorem dX0_seedling_13 : decode cX0_seedling 13 = .ok (.astore 4, 2) := dk_58 4 (dk_at dksX0_seedling_0 13 rfl rfl)
theorem dX0_seedling_15 : decode cX0_seedling 15 = .ok (.iconst 1, 1) := dk_4 (dk_at dksX0_seedling_0 15 rfl rfl)
theorem dX0_seedling_16 : decode cX0_seedling 16 = .ok (.ireturn, 1) := dk_172 (dk_at dksX0_seedling_0 16 rfl rfl)
theorem dX0_seedling_17 : decode cX0_seedling 17 = .ok (.astore 4, 2) := dk_58 4 (dk_at dksX0_seedling_0 17 rfl rfl)
theorem dX0_seedling_19 : decode cX0_seedling 19 = .ok (.iconst 2, 1) := dk_5 (dk_at dksX0_seedling_0 19 rfl rfl)
theorem dX0_seedling_20 : decode cX0_seedling 20 = .ok (.ireturn, 1) := dk_172 (dk_at dksX0_seedling_0 20 rfl rfl)
theorem dX0_seedling_21 : decode cX0_seedling 21 = .ok (.astore 4, 2) := dk_58 4 (dk_at dksX0_seedling_0 21 rfl rfl)
theorem dX0_seedling_23 : decode cX0_seedling 23 = .ok (.iconst 3, 1) := dk_6 (dk_at dksX0_seedling_0 23 rfl rfl)
theorem dX0_seedling_24 : decode cX0_seedling 24 = .ok (.ireturn, 1) := dk_172 (dk_at dksX0_seedling_1 0 rfl rfl)
theorem dX0_seedling_25 : decode cX0_seedling 25 = .ok (.iconst 0, 1) := dk_3 (dk_at dksX0_seedling_1 1 rfl rfl)
theorem dX0_seedling_26 : decode cX0_seedling 26 = .ok (.ireturn, 1) := dk_172 (dk_at dksX0_seedling_1 2 rfl rfl)
abbrev cX0_waits : ByteArray := method_14_code
def yX0_waits : MethodName := ⟨RX0, "waits", "(LCliffPlots;II[J)I"⟩
def dkwX0_waits_0 : List UInt8 := [45, 3, 42, 27, 28, 182, 0, 52, 133, 80, 167, 0, 11, 58, 4, 4, 172, 58, 4, 5, 172, 3, 172]
abbrev dktX0_waits_0 : List UInt8 := dkwX0_waits_0 ++ []
theorem dksX0_waits_0 : cX0_waits.data.toList.drop 0 = dktX0_waits_0 := by decide +kernel
theorem dX0_waits_0 : decode cX0_waits 0 = .ok (.aload_n 3, 1) := dk_45 (dk_at dksX0_waits_0 0 rfl rfl)
theorem dX0_waits_1 : decode cX0_waits 1 = .ok (.iconst 0, 1) := dk_3 (dk_at dksX0_waits_0 1 rfl rfl)
theorem dX0_waits_2 : decode cX0_waits 2 = .ok (.aload_n 0, 1) := dk_42 (dk_at dksX0_waits_0 2 rfl rfl)
theorem dX0_waits_3 : decode cX0_waits 3 = .ok (.iload_n 1, 1) := dk_27 (dk_at dksX0_waits_0 3 rfl rfl)
theorem dX0_waits_4 : decode cX0_waits 4 = .ok (.iload_n 2, 1) := dk_28 (dk_at dksX0_waits_0 4 rfl rfl)
theorem dX0_waits_5 : decode cX0_waits 5 = .ok (.invokevirtual 52, 3) := dk_182 0 52 (dk_at dksX0_waits_0 5 rfl rfl)
theorem dX0_waits_8 : decode cX0_waits 8 = .ok (.i2l, 1) := dk_133 (dk_at dksX0_waits_0 8 rfl rfl)
theorem dX0_waits_9 : decode cX0_waits 9 = .ok (.lastore, 1) := dk_80 (dk_at dksX0_waits_0 9 rfl rfl)
theorem dX0_waits_10 : decode cX0_waits 10 = .ok (.goto 11, 3) := dk_167 0 11 (dk_at dksX0_waits_0 10 rfl rfl)
theorem dX0_waits_13 : decode cX0_waits 13 = .ok (.astore 4, 2) := dk_58 4 (dk_at dksX0_waits_0 13 rfl rfl)
theorem dX0_waits_15 : decode cX0_waits 15 = .ok (.iconst 1, 1) := dk_4 (dk_at dksX0_waits_0 15 rfl rfl)
theorem dX0_waits_16 : decode cX0_waits 16 = .ok (.ireturn, 1) := dk_172 (dk_at dksX0_waits_0 16 rfl rfl)
theorem dX0_waits_17 : decode cX0_waits 17 = .ok (.astore 4, 2) := dk_58 4 (dk_at dksX0_waits_0 17 rfl rfl)
theorem dX0_waits_19 : decode cX0_waits 19 = .ok (.iconst 2, 1) := dk_5 (dk_at dksX0_waits_0 19 rfl rfl)
theorem dX0_waits_20 : decode cX0_waits 20 = .ok (.ireturn, 1) := dk_172 (dk_at dksX0_waits_0 20 rfl rfl)
theorem dX0_waits_21 : decode cX0_waits 21 = .ok (.iconst 0, 1) := dk_3 (dk_at dksX0_waits_0 21 rfl rfl)
theorem dX0_waits_22 : decode cX0_waits 22 = .ok (.ireturn, 1) := dk_172 (dk_at dksX0_waits_0 22 rfl rfl)
abbrev cX0_plant : ByteArray := method_15_code
def yX0_plant : MethodName := ⟨RX0, "plant", "(LCliffPlots;III[J)I"⟩
def dkwX0_plant_1 : List UInt8 := [58, 5, 6, 172, 3, 172]
abbrev dktX0_plant_1 : List UInt8 := dkwX0_plant_1 ++ []
def dkwX0_plant_0 : List UInt8 := [25, 4, 3, 42, 27, 28, 29, 182, 0, 57, 133, 80, 167, 0, 15, 58, 5, 4, 172, 58, 5, 5, 172]
abbrev dktX0_plant_0 : List UInt8 := dkwX0_plant_0 ++ dktX0_plant_1
theorem dksX0_plant_0 : cX0_plant.data.toList.drop 0 = dktX0_plant_0 := by decide +kernel
theorem dksX0_plant_1 : cX0_plant.data.toList.drop 23 = dktX0_plant_1 := dk_seg dksX0_plant_0 23 rfl rfl
theorem dX0_plant_0 : decode cX0_plant 0 = .ok (.aload 4, 2) := dk_25 4 (dk_at dksX0_plant_0 0 rfl rfl)
theorem dX0_plant_2 : decode cX0_plant 2 = .ok (.iconst 0, 1) := dk_3 (dk_at dksX0_plant_0 2 rfl rfl)
theorem dX0_plant_3 : decode cX0_plant 3 = .ok (.aload_n 0, 1) := dk_42 (dk_at dksX0_plant_0 3 rfl rfl)
theorem dX0_plant_4 : decode cX0_plant 4 = .ok (.iload_n 1, 1) := dk_27 (dk_at dksX0_plant_0 4 rfl rfl)
theorem dX0_plant_5 : decode cX0_plant 5 = .ok (.iload_n 2, 1) := dk_28 (dk_at dksX0_plant_0 5 rfl rfl)
theorem dX0_plant_6 : decode cX0_plant 6 = .ok (.iload_n 3, 1) := dk_29 (dk_at dksX0_plant_0 6 rfl rfl)
theorem dX0_plant_7 : decode cX0_plant 7 = .ok (.invokevirtual 57, 3) := dk_182 0 57 (dk_at dksX0_plant_0 7 rfl rfl)
theorem dX0_plant_10 : decode cX0_plant 10 = .ok (.i2l, 1) := dk_133 (dk_at dksX0_plant_0 10 rfl rfl)
theorem dX0_plant_11 : decode cX0_plant 11 = .ok (.lastore, 1) := dk_80 (dk_at dksX0_plant_0 11 rfl rfl)
theorem dX0_plant_12 : decode cX0_plant 12 = .ok (.goto 15, 3) := dk_167 0 15 (dk_at dksX0_plant_0 12 rfl rfl)
theorem dX0_plant_15 : decode cX0_plant 15 = .ok (.astore 5, 2) := dk_58 5 (dk_at dksX0_plant_0 15 rfl rfl)
theorem dX0_plant_17 : decode cX0_plant 17 = .ok (.iconst 1, 1) := dk_4 (dk_at dksX0_plant_0 17 rfl rfl)
theorem dX0_plant_18 : decode cX0_plant 18 = .ok (.ireturn, 1) := dk_172 (dk_at dksX0_plant_0 18 rfl rfl)
theorem dX0_plant_19 : decode cX0_plant 19 = .ok (.astore 5, 2) := dk_58 5 (dk_at dksX0_plant_0 19 rfl rfl)
theorem dX0_plant_21 : decode cX0_plant 21 = .ok (.iconst 2, 1) := dk_5 (dk_at dksX0_plant_0 21 rfl rfl)
theorem dX0_plant_22 : decode cX0_plant 22 = .ok (.ireturn, 1) := dk_172 (dk_at dksX0_plant_0 22 rfl rfl)
theorem dX0_plant_23 : decode cX0_plant 23 = .ok (.astore 5, 2) := dk_58 5 (dk_at dksX0_plant_1 0 rfl rfl)
theorem dX0_plant_25 : decode cX0_plant 25 = .ok (.iconst 3, 1) := dk_6 (dk_at dksX0_plant_1 2 rfl rfl)
theorem dX0_plant_26 : decode cX0_plant 26 = .ok (.ireturn, 1) := dk_172 (dk_at dksX0_plant_1 3 rfl rfl)
theorem dX0_plant_27 : decode cX0_plant 27 = .ok (.iconst 0, 1) := dk_3 (dk_at dksX0_plant_1 4 rfl rfl)
theorem dX0_plant_28 : decode cX0_plant 28 = .ok (.ireturn, 1) := dk_172 (dk_at dksX0_plant_1 5 rfl rfl)
abbrev cX0_weight : ByteArray := method_16_code
def yX0_weight : MethodName := ⟨RX0, "weight", "(LCliffPlots;I[J)I"⟩
def dkwX0_weight_0 : List UInt8 := [44, 3, 42, 27, 182, 0, 61, 133, 80, 167, 0, 9, 78, 4, 172, 78, 5, 172, 3, 172]
abbrev dktX0_weight_0 : List UInt8 := dkwX0_weight_0 ++ []
theorem dksX0_weight_0 : cX0_weight.data.toList.drop 0 = dktX0_weight_0 := by decide +kernel
theorem dX0_weight_0 : decode cX0_weight 0 = .ok (.aload_n 2, 1) := dk_44 (dk_at dksX0_weight_0 0 rfl rfl)
theorem dX0_weight_1 : decode cX0_weight 1 = .ok (.iconst 0, 1) := dk_3 (dk_at dksX0_weight_0 1 rfl rfl)
theorem dX0_weight_2 : decode cX0_weight 2 = .ok (.aload_n 0, 1) := dk_42 (dk_at dksX0_weight_0 2 rfl rfl)
theorem dX0_weight_3 : decode cX0_weight 3 = .ok (.iload_n 1, 1) := dk_27 (dk_at dksX0_weight_0 3 rfl rfl)
theorem dX0_weight_4 : decode cX0_weight 4 = .ok (.invokevirtual 61, 3) := dk_182 0 61 (dk_at dksX0_weight_0 4 rfl rfl)
theorem dX0_weight_7 : decode cX0_weight 7 = .ok (.i2l, 1) := dk_133 (dk_at dksX0_weight_0 7 rfl rfl)
theorem dX0_weight_8 : decode cX0_weight 8 = .ok (.lastore, 1) := dk_80 (dk_at dksX0_weight_0 8 rfl rfl)
theorem dX0_weight_9 : decode cX0_weight 9 = .ok (.goto 9, 3) := dk_167 0 9 (dk_at dksX0_weight_0 9 rfl rfl)
theorem dX0_weight_12 : decode cX0_weight 12 = .ok (.astore_n 3, 1) := dk_78 (dk_at dksX0_weight_0 12 rfl rfl)
theorem dX0_weight_13 : decode cX0_weight 13 = .ok (.iconst 1, 1) := dk_4 (dk_at dksX0_weight_0 13 rfl rfl)
theorem dX0_weight_14 : decode cX0_weight 14 = .ok (.ireturn, 1) := dk_172 (dk_at dksX0_weight_0 14 rfl rfl)
theorem dX0_weight_15 : decode cX0_weight 15 = .ok (.astore_n 3, 1) := dk_78 (dk_at dksX0_weight_0 15 rfl rfl)
theorem dX0_weight_16 : decode cX0_weight 16 = .ok (.iconst 2, 1) := dk_5 (dk_at dksX0_weight_0 16 rfl rfl)
theorem dX0_weight_17 : decode cX0_weight 17 = .ok (.ireturn, 1) := dk_172 (dk_at dksX0_weight_0 17 rfl rfl)
theorem dX0_weight_18 : decode cX0_weight 18 = .ok (.iconst 0, 1) := dk_3 (dk_at dksX0_weight_0 18 rfl rfl)
theorem dX0_weight_19 : decode cX0_weight 19 = .ok (.ireturn, 1) := dk_172 (dk_at dksX0_weight_0 19 rfl rfl)
abbrev cX0_weightIn : ByteArray := method_17_code
def yX0_weightIn : MethodName := ⟨RX0, "weightIn", "(LCliffPlots;II[J)I"⟩
def dkwX0_weightIn_1 : List UInt8 := [172, 3, 172]
abbrev dktX0_weightIn_1 : List UInt8 := dkwX0_weightIn_1 ++ []
def dkwX0_weightIn_0 : List UInt8 := [45, 3, 42, 27, 28, 182, 0, 64, 133, 80, 167, 0, 15, 58, 4, 4, 172, 58, 4, 5, 172, 58, 4, 6]
abbrev dktX0_weightIn_0 : List UInt8 := dkwX0_weightIn_0 ++ dktX0_weightIn_1
theorem dksX0_weightIn_0 : cX0_weightIn.data.toList.drop 0 = dktX0_weightIn_0 := by decide +kernel
theorem dksX0_weightIn_1 : cX0_weightIn.data.toList.drop 24 = dktX0_weightIn_1 := dk_seg dksX0_weightIn_0 24 rfl rfl
theorem dX0_weightIn_0 : decode cX0_weightIn 0 = .ok (.aload_n 3, 1) := dk_45 (dk_at dksX0_weightIn_0 0 rfl rfl)
theorem dX0_weightIn_1 : decode cX0_weightIn 1 = .ok (.iconst 0, 1) := dk_3 (dk_at dksX0_weightIn_0 1 rfl rfl)
theorem dX0_weightIn_2 : decode cX0_weightIn 2 = .ok (.aload_n 0, 1) := dk_42 (dk_at dksX0_weightIn_0 2 rfl rfl)
theorem dX0_weightIn_3 : decode cX0_weightIn 3 = .ok (.iload_n 1, 1) := dk_27 (dk_at dksX0_weightIn_0 3 rfl rfl)
theorem dX0_weightIn_4 : decode cX0_weightIn 4 = .ok (.iload_n 2, 1) := dk_28 (dk_at dksX0_weightIn_0 4 rfl rfl)
theorem dX0_weightIn_5 : decode cX0_weightIn 5 = .ok (.invokevirtual 64, 3) := dk_182 0 64 (dk_at dksX0_weightIn_0 5 rfl rfl)
theorem dX0_weightIn_8 : decode cX0_weightIn 8 = .ok (.i2l, 1) := dk_133 (dk_at dksX0_weightIn_0 8 rfl rfl)
theorem dX0_weightIn_9 : decode cX0_weightIn 9 = .ok (.lastore, 1) := dk_80 (dk_at dksX0_weightIn_0 9 rfl rfl)
theorem dX0_weightIn_10 : decode cX0_weightIn 10 = .ok (.goto 15, 3) := dk_167 0 15 (dk_at dksX0_weightIn_0 10 rfl rfl)
theorem dX0_weightIn_13 : decode cX0_weightIn 13 = .ok (.astore 4, 2) := dk_58 4 (dk_at dksX0_weightIn_0 13 rfl rfl)
theorem dX0_weightIn_15 : decode cX0_weightIn 15 = .ok (.iconst 1, 1) := dk_4 (dk_at dksX0_weightIn_0 15 rfl rfl)
theorem dX0_weightIn_16 : decode cX0_weightIn 16 = .ok (.ireturn, 1) := dk_172 (dk_at dksX0_weightIn_0 16 rfl rfl)
theorem dX0_weightIn_17 : decode cX0_weightIn 17 = .ok (.astore 4, 2) := dk_58 4 (dk_at dksX0_weightIn_0 17 rfl rfl)
theorem dX0_weightIn_19 : decode cX0_weightIn 19 = .ok (.iconst 2, 1) := dk_5 (dk_at dksX0_weightIn_0 19 rfl rfl)
theorem dX0_weightIn_20 : decode cX0_weightIn 20 = .ok (.ireturn, 1) := dk_172 (dk_at dksX0_weightIn_0 20 rfl rfl)
theorem dX0_weightIn_21 : decode cX0_weightIn 21 = .ok (.astore 4, 2) := dk_58 4 (dk_at dksX0_weightIn_0 21 rfl rfl)
theorem dX0_weightIn_23 : decode cX0_weightIn 23 = .ok (.iconst 3, 1) := dk_6 (dk_at dksX0_weightIn_0 23 rfl rfl)
theorem dX0_weightIn_24 : decode cX0_weightIn 24 = .ok (.ireturn, 1) := dk_172 (dk_at dksX0_weightIn_1 0 rfl rfl)
theorem dX0_weightIn_25 : decode cX0_weightIn 25 = .ok (.iconst 0, 1) := dk_3 (dk_at dksX0_weightIn_1 1 rfl rfl)
theorem dX0_weightIn_26 : decode cX0_weightIn 26 = .ok (.ireturn, 1) := dk_172 (dk_at dksX0_weightIn_1 2 rfl rfl)
abbrev cX0_heaviest : ByteArray := method_18_code
def yX0_heaviest : MethodName := ⟨RX0, "heaviest", "(LCliffPlots;I[J)I"⟩
def dkwX0_heaviest_0 : List UInt8 := [44, 3, 42, 27, 182, 0, 67, 133, 80, 167, 0, 9, 78, 4, 172, 78, 5, 172, 3, 172]
abbrev dktX0_heaviest_0 : List UInt8 := dkwX0_heaviest_0 ++ []
theorem dksX0_heaviest_0 : cX0_heaviest.data.toList.drop 0 = dktX0_heaviest_0 := by decide +kernel
theorem dX0_heaviest_0 : decode cX0_heaviest 0 = .ok (.aload_n 2, 1) := dk_44 (dk_at dksX0_heaviest_0 0 rfl rfl)
theorem dX0_heaviest_1 : decode cX0_heaviest 1 = .ok (.iconst 0, 1) := dk_3 (dk_at dksX0_heaviest_0 1 rfl rfl)
theorem dX0_heaviest_2 : decode cX0_heaviest 2 = .ok (.aload_n 0, 1) := dk_42 (dk_at dksX0_heaviest_0 2 rfl rfl)
theorem dX0_heaviest_3 : decode cX0_heaviest 3 = .ok (.iload_n 1, 1) := dk_27 (dk_at dksX0_heaviest_0 3 rfl rfl)
theorem dX0_heaviest_4 : decode cX0_heaviest 4 = .ok (.invokevirtual 67, 3) := dk_182 0 67 (dk_at dksX0_heaviest_0 4 rfl rfl)
theorem dX0_heaviest_7 : decode cX0_heaviest 7 = .ok (.i2l, 1) := dk_133 (dk_at dksX0_heaviest_0 7 rfl rfl)
theorem dX0_heaviest_8 : decode cX0_heaviest 8 = .ok (.lastore, 1) := dk_80 (dk_at dksX0_heaviest_0 8 rfl rfl)
theorem dX0_heaviest_9 : decode cX0_heaviest 9 = .ok (.goto 9, 3) := dk_167 0 9 (dk_at dksX0_heaviest_0 9 rfl rfl)
theorem dX0_heaviest_12 : decode cX0_heaviest 12 = .ok (.astore_n 3, 1) := dk_78 (dk_at dksX0_heaviest_0 12 rfl rfl)
theorem dX0_heaviest_13 : decode cX0_heaviest 13 = .ok (.iconst 1, 1) := dk_4 (dk_at dksX0_heaviest_0 13 rfl rfl)
theorem dX0_heaviest_14 : decode cX0_heaviest 14 = .ok (.ireturn, 1) := dk_172 (dk_at dksX0_heaviest_0 14 rfl rfl)
theorem dX0_heaviest_15 : decode cX0_heaviest 15 = .ok (.astore_n 3, 1) := dk_78 (dk_at dksX0_heaviest_0 15 rfl rfl)
theorem dX0_heaviest_16 : decode cX0_heaviest 16 = .ok (.iconst 2, 1) := dk_5 (dk_at dksX0_heaviest_0 16 rfl rfl)
theorem dX0_heaviest_17 : decode cX0_heaviest 17 = .ok (.ireturn, 1) := dk_172 (dk_at dksX0_heaviest_0 17 rfl rfl)
theorem dX0_heaviest_18 : decode cX0_heaviest 18 = .ok (.iconst 0, 1) := dk_3 (dk_at dksX0_heaviest_0 18 rfl rfl)
theorem dX0_heaviest_19 : decode cX0_heaviest 19 = .ok (.ireturn, 1) := dk_172 (dk_at dksX0_heaviest_0 19 rfl rfl)
abbrev cX0_harvest : ByteArray := method_19_code
def yX0_harvest : MethodName := ⟨RX0, "harvest", "(LCliffPlots;I[J)I"⟩
def dkwX0_harvest_0 : List UInt8 := [44, 3, 42, 27, 182, 0, 70, 133, 80, 167, 0, 9, 78, 4, 172, 78, 5, 172, 3, 172]
abbrev dktX0_harvest_0 : List UInt8 := dkwX0_harvest_0 ++ []
theorem dksX0_harvest_0 : cX0_harvest.data.toList.drop 0 = dktX0_harvest_0 := by decide +kernel
theorem dX0_harvest_0 : decode cX0_harvest 0 = .ok (.aload_n 2, 1) := dk_44 (dk_at dksX0_harvest_0 0 rfl rfl)
theorem dX0_harvest_1 : decode cX0_harvest 1 = .ok (.iconst 0, 1) := dk_3 (dk_at dksX0_harvest_0 1 rfl rfl)
theorem dX0_harvest_2 : decode cX0_harvest 2 = .ok (.aload_n 0, 1) := dk_42 (dk_at dksX0_harvest_0 2 rfl rfl)
theorem dX0_harvest_3 : decode cX0_harvest 3 = .ok (.iload_n 1, 1) := dk_27 (dk_at dksX0_harvest_0 3 rfl rfl)
theorem dX0_harvest_4 : decode cX0_harvest 4 = .ok (.invokevirtual 70, 3) := dk_182 0 70 (dk_at dksX0_harvest_0 4 rfl rfl)
theorem dX0_harvest_7 : decode cX0_harvest 7 = .ok (.i2l, 1) := dk_133 (dk_at dksX0_harvest_0 7 rfl rfl)
theorem dX0_harvest_8 : decode cX0_harvest 8 = .ok (.lastore, 1) := dk_80 (dk_at dksX0_harvest_0 8 rfl rfl)
theorem dX0_harvest_9 : decode cX0_harvest 9 = .ok (.goto 9, 3) := dk_167 0 9 (dk_at dksX0_harvest_0 9 rfl rfl)
theorem dX0_harvest_12 : decode cX0_harvest 12 = .ok (.astore_n 3, 1) := dk_78 (dk_at dksX0_harvest_0 12 rfl rfl)
theorem dX0_harvest_13 : decode cX0_harvest 13 = .ok (.iconst 1, 1) := dk_4 (dk_at dksX0_harvest_0 13 rfl rfl)
theorem dX0_harvest_14 : decode cX0_harvest 14 = .ok (.ireturn, 1) := dk_172 (dk_at dksX0_harvest_0 14 rfl rfl)
theorem dX0_harvest_15 : decode cX0_harvest 15 = .ok (.astore_n 3, 1) := dk_78 (dk_at dksX0_harvest_0 15 rfl rfl)
theorem dX0_harvest_16 : decode cX0_harvest 16 = .ok (.iconst 2, 1) := dk_5 (dk_at dksX0_harvest_0 16 rfl rfl)
theorem dX0_harvest_17 : decode cX0_harvest 17 = .ok (.ireturn, 1) := dk_172 (dk_at dksX0_harvest_0 17 rfl rfl)
theorem dX0_harvest_18 : decode cX0_harvest 18 = .ok (.iconst 0, 1) := dk_3 (dk_at dksX0_harvest_0 18 rfl rfl)
theorem dX0_harvest_19 : decode cX0_harvest 19 = .ok (.ireturn, 1) := dk_172 (dk_at dksX0_harvest_0 19 rfl rfl)
abbrev cX0_prize : ByteArray := method_20_code
def yX0_prize : MethodName := ⟨RX0, "prize", "(LCliffPlots;II[J)I"⟩
def dkwX0_prize_0 : List UInt8 := [45, 3, 42, 27, 28, 182, 0, 73, 133, 80, 167, 0, 11, 58, 4, 4, 172, 58, 4, 5, 172, 3, 172]
abbrev dktX0_prize_0 : List UInt8 := dkwX0_prize_0 ++ []
theorem dksX0_prize_0 : cX0_prize.data.toList.drop 0 = dktX0_prize_0 := by decide +kernel
theorem dX0_prize_0 : decode cX0_prize 0 = .ok (.aload_n 3, 1) := dk_45 (dk_at dksX0_prize_0 0 rfl rfl)
theorem dX0_prize_1 : decode cX0_prize 1 = .ok (.iconst 0, 1) := dk_3 (dk_at dksX0_prize_0 1 rfl rfl)
theorem dX0_prize_2 : decode cX0_prize 2 = .ok (.aload_n 0, 1) := dk_42 (dk_at dksX0_prize_0 2 rfl rfl)
theorem dX0_prize_3 : decode cX0_prize 3 = .ok (.iload_n 1, 1) := dk_27 (dk_at dksX0_prize_0 3 rfl rfl)
theorem dX0_prize_4 : decode cX0_prize 4 = .ok (.iload_n 2, 1) := dk_28 (dk_at dksX0_prize_0 4 rfl rfl)
theorem dX0_prize_5 : decode cX0_prize 5 = .ok (.invokevirtual 73, 3) := dk_182 0 73 (dk_at dksX0_prize_0 5 rfl rfl)
theorem dX0_prize_8 : decode cX0_prize 8 = .ok (.i2l, 1) := dk_133 (dk_at dksX0_prize_0 8 rfl rfl)
theorem dX0_prize_9 : decode cX0_prize 9 = .ok (.lastore, 1) := dk_80 (dk_at dksX0_prize_0 9 rfl rfl)
theorem dX0_prize_10 : decode cX0_prize 10 = .ok (.goto 11, 3) := dk_167 0 11 (dk_at dksX0_prize_0 10 rfl rfl)
theorem dX0_prize_13 : decode cX0_prize 13 = .ok (.astore 4, 2) := dk_58 4 (dk_at dksX0_prize_0 13 rfl rfl)
theorem dX0_prize_15 : decode cX0_prize 15 = .ok (.iconst 1, 1) := dk_4 (dk_at dksX0_prize_0 15 rfl rfl)
theorem dX0_prize_16 : decode cX0_prize 16 = .ok (.ireturn, 1) := dk_172 (dk_at dksX0_prize_0 16 rfl rfl)
theorem dX0_prize_17 : decode cX0_prize 17 = .ok (.astore 4, 2) := dk_58 4 (dk_at dksX0_prize_0 17 rfl rfl)
theorem dX0_prize_19 : decode cX0_prize 19 = .ok (.iconst 2, 1) := dk_5 (dk_at dksX0_prize_0 19 rfl rfl)
theorem dX0_prize_20 : decode cX0_prize 20 = .ok (.ireturn, 1) := dk_172 (dk_at dksX0_prize_0 20 rfl rfl)
theorem dX0_prize_21 : decode cX0_prize 21 = .ok (.iconst 0, 1) := dk_3 (dk_at dksX0_prize_0 21 rfl rfl)
theorem dX0_prize_22 : decode cX0_prize 22 = .ok (.ireturn, 1) := dk_172 (dk_at dksX0_prize_0 22 rfl rfl)
abbrev cX0_shed : ByteArray := method_21_code
def yX0_shed : MethodName := ⟨RX0, "shed", "(LCliffPlots;I[J)I"⟩
def dkwX0_shed_0 : List UInt8 := [44, 3, 42, 27, 182, 0, 76, 133, 80, 167, 0, 9, 78, 4, 172, 78, 5, 172, 3, 172]
abbrev dktX0_shed_0 : List UInt8 := dkwX0_shed_0 ++ []
theorem dksX0_shed_0 : cX0_shed.data.toList.drop 0 = dktX0_shed_0 := by decide +kernel
theorem dX0_shed_0 : decode cX0_shed 0 = .ok (.aload_n 2, 1) := dk_44 (dk_at dksX0_shed_0 0 rfl rfl)
theorem dX0_shed_1 : decode cX0_shed 1 = .ok (.iconst 0, 1) := dk_3 (dk_at dksX0_shed_0 1 rfl rfl)
theorem dX0_shed_2 : decode cX0_shed 2 = .ok (.aload_n 0, 1) := dk_42 (dk_at dksX0_shed_0 2 rfl rfl)
theorem dX0_shed_3 : decode cX0_shed 3 = .ok (.iload_n 1, 1) := dk_27 (dk_at dksX0_shed_0 3 rfl rfl)
theorem dX0_shed_4 : decode cX0_shed 4 = .ok (.invokevirtual 76, 3) := dk_182 0 76 (dk_at dksX0_shed_0 4 rfl rfl)
theorem dX0_shed_7 : decode cX0_shed 7 = .ok (.i2l, 1) := dk_133 (dk_at dksX0_shed_0 7 rfl rfl)
theorem dX0_shed_8 : decode cX0_shed 8 = .ok (.lastore, 1) := dk_80 (dk_at dksX0_shed_0 8 rfl rfl)
theorem dX0_shed_9 : decode cX0_shed 9 = .ok (.goto 9, 3) := dk_167 0 9 (dk_at dksX0_shed_0 9 rfl rfl)
theorem dX0_shed_12 : decode cX0_shed 12 = .ok (.astore_n 3, 1) := dk_78 (dk_at dksX0_shed_0 12 rfl rfl)
theorem dX0_shed_13 : decode cX0_shed 13 = .ok (.iconst 1, 1) := dk_4 (dk_at dksX0_shed_0 13 rfl rfl)
theorem dX0_shed_14 : decode cX0_shed 14 = .ok (.ireturn, 1) := dk_172 (dk_at dksX0_shed_0 14 rfl rfl)
theorem dX0_shed_15 : decode cX0_shed 15 = .ok (.astore_n 3, 1) := dk_78 (dk_at dksX0_shed_0 15 rfl rfl)
theorem dX0_shed_16 : decode cX0_shed 16 = .ok (.iconst 2, 1) := dk_5 (dk_at dksX0_shed_0 16 rfl rfl)
theorem dX0_shed_17 : decode cX0_shed 17 = .ok (.ireturn, 1) := dk_172 (dk_at dksX0_shed_0 17 rfl rfl)
theorem dX0_shed_18 : decode cX0_shed 18 = .ok (.iconst 0, 1) := dk_3 (dk_at dksX0_shed_0 18 rfl rfl)
theorem dX0_shed_19 : decode cX0_shed 19 = .ok (.ireturn, 1) := dk_172 (dk_at dksX0_shed_0 19 rfl rfl)
abbrev cX0_rope : ByteArray := method_22_code
def yX0_rope : MethodName := ⟨RX0, "rope", "(LCliffPlots;I[J)I"⟩
def dkwX0_rope_0 : List UInt8 := [44, 3, 42, 27, 182, 0, 79, 133, 80, 167, 0, 9, 78, 4, 172, 78, 5, 172, 3, 172]
abbrev dktX0_rope_0 : List UInt8 := dkwX0_rope_0 ++ []
theorem dksX0_rope_0 : cX0_rope.data.toList.drop 0 = dktX0_rope_0 := by decide +kernel
theorem dX0_rope_0 : decode cX0_rope 0 = .ok (.aload_n 2, 1) := dk_44 (dk_at dksX0_rope_0 0 rfl rfl)
theorem dX0_rope_1 : decode cX0_rope 1 = .ok (.iconst 0, 1) := dk_3 (dk_at dksX0_rope_0 1 rfl rfl)
theorem dX0_rope_2 : decode cX0_rope 2 = .ok (.aload_n 0, 1) := dk_42 (dk_at dksX0_rope_0 2 rfl rfl)
theorem dX0_rope_3 : decode cX0_rope 3 = .ok (.iload_n 1, 1) := dk_27 (dk_at dksX0_rope_0 3 rfl rfl)
theorem dX0_rope_4 : decode cX0_rope 4 = .ok (.invokevirtual 79, 3) := dk_182 0 79 (dk_at dksX0_rope_0 4 rfl rfl)
theorem dX0_rope_7 : decode cX0_rope 7 = .ok (.i2l, 1) := dk_133 (dk_at dksX0_rope_0 7 rfl rfl)
theorem dX0_rope_8 : decode cX0_rope 8 = .ok (.lastore, 1) := dk_80 (dk_at dksX0_rope_0 8 rfl rfl)
theorem dX0_rope_9 : decode cX0_rope 9 = .ok (.goto 9, 3) := dk_167 0 9 (dk_at dksX0_rope_0 9 rfl rfl)
theorem dX0_rope_12 : decode cX0_rope 12 = .ok (.astore_n 3, 1) := dk_78 (dk_at dksX0_rope_0 12 rfl rfl)
theorem dX0_rope_13 : decode cX0_rope 13 = .ok (.iconst 1, 1) := dk_4 (dk_at dksX0_rope_0 13 rfl rfl)
theorem dX0_rope_14 : decode cX0_rope 14 = .ok (.ireturn, 1) := dk_172 (dk_at dksX0_rope_0 14 rfl rfl)
theorem dX0_rope_15 : decode cX0_rope 15 = .ok (.astore_n 3, 1) := dk_78 (dk_at dksX0_rope_0 15 rfl rfl)
theorem dX0_rope_16 : decode cX0_rope 16 = .ok (.iconst 2, 1) := dk_5 (dk_at dksX0_rope_0 16 rfl rfl)
theorem dX0_rope_17 : decode cX0_rope 17 = .ok (.ireturn, 1) := dk_172 (dk_at dksX0_rope_0 17 rfl rfl)
theorem dX0_rope_18 : decode cX0_rope 18 = .ok (.iconst 0, 1) := dk_3 (dk_at dksX0_rope_0 18 rfl rfl)
theorem dX0_rope_19 : decode cX0_rope 19 = .ok (.ireturn, 1) := dk_172 (dk_at dksX0_rope_0 19 rfl rfl)
abbrev cX0_shedOf : ByteArray := method_23_code
def yX0_shedOf : MethodName := ⟨RX0, "shedOf", "(LCliffPlots;II[J)I"⟩
def dkwX0_shedOf_0 : List UInt8 := [45, 3, 42, 27, 28, 182, 0, 82, 133, 80, 167, 0, 11, 58, 4, 4, 172, 58, 4, 5, 172, 3, 172]
abbrev dktX0_shedOf_0 : List UInt8 := dkwX0_shedOf_0 ++ []
theorem dksX0_shedOf_0 : cX0_shedOf.data.toList.drop 0 = dktX0_shedOf_0 := by decide +kernel
theorem dX0_shedOf_0 : decode cX0_shedOf 0 = .ok (.aload_n 3, 1) := dk_45 (dk_at dksX0_shedOf_0 0 rfl rfl)
theorem dX0_shedOf_1 : decode cX0_shedOf 1 = .ok (.iconst 0, 1) := dk_3 (dk_at dksX0_shedOf_0 1 rfl rfl)
theorem dX0_shedOf_2 : decode cX0_shedOf 2 = .ok (.aload_n 0, 1) := dk_42 (dk_at dksX0_shedOf_0 2 rfl rfl)
theorem dX0_shedOf_3 : decode cX0_shedOf 3 = .ok (.iload_n 1, 1) := dk_27 (dk_at dksX0_shedOf_0 3 rfl rfl)
theorem dX0_shedOf_4 : decode cX0_shedOf 4 = .ok (.iload_n 2, 1) := dk_28 (dk_at dksX0_shedOf_0 4 rfl rfl)
theorem dX0_shedOf_5 : decode cX0_shedOf 5 = .ok (.invokevirtual 82, 3) := dk_182 0 82 (dk_at dksX0_shedOf_0 5 rfl rfl)
theorem dX0_shedOf_8 : decode cX0_shedOf 8 = .ok (.i2l, 1) := dk_133 (dk_at dksX0_shedOf_0 8 rfl rfl)
theorem dX0_shedOf_9 : decode cX0_shedOf 9 = .ok (.lastore, 1) := dk_80 (dk_at dksX0_shedOf_0 9 rfl rfl)
theorem dX0_shedOf_10 : decode cX0_shedOf 10 = .ok (.goto 11, 3) := dk_167 0 11 (dk_at dksX0_shedOf_0 10 rfl rfl)
theorem dX0_shedOf_13 : decode cX0_shedOf 13 = .ok (.astore 4, 2) := dk_58 4 (dk_at dksX0_shedOf_0 13 rfl rfl)
theorem dX0_shedOf_15 : decode cX0_shedOf 15 = .ok (.iconst 1, 1) := dk_4 (dk_at dksX0_shedOf_0 15 rfl rfl)
theorem dX0_shedOf_16 : decode cX0_shedOf 16 = .ok (.ireturn, 1) := dk_172 (dk_at dksX0_shedOf_0 16 rfl rfl)
theorem dX0_shedOf_17 : decode cX0_shedOf 17 = .ok (.astore 4, 2) := dk_58 4 (dk_at dksX0_shedOf_0 17 rfl rfl)
theorem dX0_shedOf_19 : decode cX0_shedOf 19 = .ok (.iconst 2, 1) := dk_5 (dk_at dksX0_shedOf_0 19 rfl rfl)
theorem dX0_shedOf_20 : decode cX0_shedOf 20 = .ok (.ireturn, 1) := dk_172 (dk_at dksX0_shedOf_0 20 rfl rfl)
theorem dX0_shedOf_21 : decode cX0_shedOf 21 = .ok (.iconst 0, 1) := dk_3 (dk_at dksX0_shedOf_0 21 rfl rfl)
theorem dX0_shedOf_22 : decode cX0_shedOf 22 = .ok (.ireturn, 1) := dk_172 (dk_at dksX0_shedOf_0 22 rfl rfl)
abbrev cX0_butt : ByteArray := method_24_code
def yX0_butt : MethodName := ⟨RX0, "butt", "(LCliffPlots;I[D)I"⟩
def dkwX0_butt_0 : List UInt8 := [44, 3, 42, 27, 182, 0, 85, 141, 82, 167, 0, 6, 78, 4, 172, 3, 172]
abbrev dktX0_butt_0 : List UInt8 := dkwX0_butt_0 ++ []
theorem dksX0_butt_0 : cX0_butt.data.toList.drop 0 = dktX0_butt_0 := by decide +kernel
theorem dX0_butt_0 : decode cX0_butt 0 = .ok (.aload_n 2, 1) := dk_44 (dk_at dksX0_butt_0 0 rfl rfl)
theorem dX0_butt_1 : decode cX0_butt 1 = .ok (.iconst 0, 1) := dk_3 (dk_at dksX0_butt_0 1 rfl rfl)
theorem dX0_butt_2 : decode cX0_butt 2 = .ok (.aload_n 0, 1) := dk_42 (dk_at dksX0_butt_0 2 rfl rfl)
theorem dX0_butt_3 : decode cX0_butt 3 = .ok (.iload_n 1, 1) := dk_27 (dk_at dksX0_butt_0 3 rfl rfl)
theorem dX0_butt_4 : decode cX0_butt 4 = .ok (.invokevirtual 85, 3) := dk_182 0 85 (dk_at dksX0_butt_0 4 rfl rfl)
theorem dX0_butt_7 : decode cX0_butt 7 = .ok (.f2d, 1) := dk_141 (dk_at dksX0_butt_0 7 rfl rfl)
theorem dX0_butt_8 : decode cX0_butt 8 = .ok (.dastore, 1) := dk_82 (dk_at dksX0_butt_0 8 rfl rfl)
theorem dX0_butt_9 : decode cX0_butt 9 = .ok (.goto 6, 3) := dk_167 0 6 (dk_at dksX0_butt_0 9 rfl rfl)
theorem dX0_butt_12 : decode cX0_butt 12 = .ok (.astore_n 3, 1) := dk_78 (dk_at dksX0_butt_0 12 rfl rfl)
theorem dX0_butt_13 : decode cX0_butt 13 = .ok (.iconst 1, 1) := dk_4 (dk_at dksX0_butt_0 13 rfl rfl)
theorem dX0_butt_14 : decode cX0_butt 14 = .ok (.ireturn, 1) := dk_172 (dk_at dksX0_butt_0 14 rfl rfl)
theorem dX0_butt_15 : decode cX0_butt 15 = .ok (.iconst 0, 1) := dk_3 (dk_at dksX0_butt_0 15 rfl rfl)
theorem dX0_butt_16 : decode cX0_butt 16 = .ok (.ireturn, 1) := dk_172 (dk_at dksX0_butt_0 16 rfl rfl)
abbrev cX0_pour : ByteArray := method_25_code
def yX0_pour : MethodName := ⟨RX0, "pour", "(LCliffPlots;III[J)I"⟩
def dkwX0_pour_1 : List UInt8 := [58, 5, 6, 172, 3, 172]
abbrev dktX0_pour_1 : List UInt8 := dkwX0_pour_1 ++ []
def dkwX0_pour_0 : List UInt8 := [25, 4, 3, 42, 27, 28, 29, 182, 0, 88, 133, 80, 167, 0, 15, 58, 5, 4, 172, 58, 5, 5, 172]
abbrev dktX0_pour_0 : List UInt8 := dkwX0_pour_0 ++ dktX0_pour_1
theorem dksX0_pour_0 : cX0_pour.data.toList.drop 0 = dktX0_pour_0 := by decide +kernel
theorem dksX0_pour_1 : cX0_pour.data.toList.drop 23 = dktX0_pour_1 := dk_seg dksX0_pour_0 23 rfl rfl
theorem dX0_pour_0 : decode cX0_pour 0 = .ok (.aload 4, 2) := dk_25 4 (dk_at dksX0_pour_0 0 rfl rfl)
theorem dX0_pour_2 : decode cX0_pour 2 = .ok (.iconst 0, 1) := dk_3 (dk_at dksX0_pour_0 2 rfl rfl)
theorem dX0_pour_3 : decode cX0_pour 3 = .ok (.aload_n 0, 1) := dk_42 (dk_at dksX0_pour_0 3 rfl rfl)
theorem dX0_pour_4 : decode cX0_pour 4 = .ok (.iload_n 1, 1) := dk_27 (dk_at dksX0_pour_0 4 rfl rfl)
theorem dX0_pour_5 : decode cX0_pour 5 = .ok (.iload_n 2, 1) := dk_28 (dk_at dksX0_pour_0 5 rfl rfl)
theorem dX0_pour_6 : decode cX0_pour 6 = .ok (.iload_n 3, 1) := dk_29 (dk_at dksX0_pour_0 6 rfl rfl)
theorem dX0_pour_7 : decode cX0_pour 7 = .ok (.invokevirtual 88, 3) := dk_182 0 88 (dk_at dksX0_pour_0 7 rfl rfl)
theorem dX0_pour_10 : decode cX0_pour 10 = .ok (.i2l, 1) := dk_133 (dk_at dksX0_pour_0 10 rfl rfl)
theorem dX0_pour_11 : decode cX0_pour 11 = .ok (.lastore, 1) := dk_80 (dk_at dksX0_pour_0 11 rfl rfl)
theorem dX0_pour_12 : decode cX0_pour 12 = .ok (.goto 15, 3) := dk_167 0 15 (dk_at dksX0_pour_0 12 rfl rfl)
theorem dX0_pour_15 : decode cX0_pour 15 = .ok (.astore 5, 2) := dk_58 5 (dk_at dksX0_pour_0 15 rfl rfl)
theorem dX0_pour_17 : decode cX0_pour 17 = .ok (.iconst 1, 1) := dk_4 (dk_at dksX0_pour_0 17 rfl rfl)
theorem dX0_pour_18 : decode cX0_pour 18 = .ok (.ireturn, 1) := dk_172 (dk_at dksX0_pour_0 18 rfl rfl)
theorem dX0_pour_19 : decode cX0_pour 19 = .ok (.astore 5, 2) := dk_58 5 (dk_at dksX0_pour_0 19 rfl rfl)
theorem dX0_pour_21 : decode cX0_pour 21 = .ok (.iconst 2, 1) := dk_5 (dk_at dksX0_pour_0 21 rfl rfl)
theorem dX0_pour_22 : decode cX0_pour 22 = .ok (.ireturn, 1) := dk_172 (dk_at dksX0_pour_0 22 rfl rfl)
theorem dX0_pour_23 : decode cX0_pour 23 = .ok (.astore 5, 2) := dk_58 5 (dk_at dksX0_pour_1 0 rfl rfl)
theorem dX0_pour_25 : decode cX0_pour 25 = .ok (.iconst 3, 1) := dk_6 (dk_at dksX0_pour_1 2 rfl rfl)
theorem dX0_pour_26 : decode cX0_pour 26 = .ok (.ireturn, 1) := dk_172 (dk_at dksX0_pour_1 3 rfl rfl)
theorem dX0_pour_27 : decode cX0_pour 27 = .ok (.iconst 0, 1) := dk_3 (dk_at dksX0_pour_1 4 rfl rfl)
theorem dX0_pour_28 : decode cX0_pour 28 = .ok (.ireturn, 1) := dk_172 (dk_at dksX0_pour_1 5 rfl rfl)
abbrev cX0_moles : ByteArray := method_26_code
def yX0_moles : MethodName := ⟨RX0, "moles", "(LCliffPlots;II[J)I"⟩
def dkwX0_moles_0 : List UInt8 := [45, 3, 42, 27, 28, 182, 0, 91, 133, 80, 167, 0, 11, 58, 4, 4, 172, 58, 4, 5, 172, 3, 172]
abbrev dktX0_moles_0 : List UInt8 := dkwX0_moles_0 ++ []
theorem dksX0_moles_0 : cX0_moles.data.toList.drop 0 = dktX0_moles_0 := by decide +kernel
theorem dX0_moles_0 : decode cX0_moles 0 = .ok (.aload_n 3, 1) := dk_45 (dk_at dksX0_moles_0 0 rfl rfl)
theorem dX0_moles_1 : decode cX0_moles 1 = .ok (.iconst 0, 1) := dk_3 (dk_at dksX0_moles_0 1 rfl rfl)
theorem dX0_moles_2 : decode cX0_moles 2 = .ok (.aload_n 0, 1) := dk_42 (dk_at dksX0_moles_0 2 rfl rfl)
theorem dX0_moles_3 : decode cX0_moles 3 = .ok (.iload_n 1, 1) := dk_27 (dk_at dksX0_moles_0 3 rfl rfl)
theorem dX0_moles_4 : decode cX0_moles 4 = .ok (.iload_n 2, 1) := dk_28 (dk_at dksX0_moles_0 4 rfl rfl)
theorem dX0_moles_5 : decode cX0_moles 5 = .ok (.invokevirtual 91, 3) := dk_182 0 91 (dk_at dksX0_moles_0 5 rfl rfl)
theorem dX0_moles_8 : decode cX0_moles 8 = .ok (.i2l, 1) := dk_133 (dk_at dksX0_moles_0 8 rfl rfl)
theorem dX0_moles_9 : decode cX0_moles 9 = .ok (.lastore, 1) := dk_80 (dk_at dksX0_moles_0 9 rfl rfl)
theorem dX0_moles_10 : decode cX0_moles 10 = .ok (.goto 11, 3) := dk_167 0 11 (dk_at dksX0_moles_0 10 rfl rfl)
theorem dX0_moles_13 : decode cX0_moles 13 = .ok (.astore 4, 2) := dk_58 4 (dk_at dksX0_moles_0 13 rfl rfl)
theorem dX0_moles_15 : decode cX0_moles 15 = .ok (.iconst 1, 1) := dk_4 (dk_at dksX0_moles_0 15 rfl rfl)
theorem dX0_moles_16 : decode cX0_moles 16 = .ok (.ireturn, 1) := dk_172 (dk_at dksX0_moles_0 16 rfl rfl)
theorem dX0_moles_17 : decode cX0_moles 17 = .ok (.astore 4, 2) := dk_58 4 (dk_at dksX0_moles_0 17 rfl rfl)
theorem dX0_moles_19 : decode cX0_moles 19 = .ok (.iconst 2, 1) := dk_5 (dk_at dksX0_moles_0 19 rfl rfl)
theorem dX0_moles_20 : decode cX0_moles 20 = .ok (.ireturn, 1) := dk_172 (dk_at dksX0_moles_0 20 rfl rfl)
theorem dX0_moles_21 : decode cX0_moles 21 = .ok (.iconst 0, 1) := dk_3 (dk_at dksX0_moles_0 21 rfl rfl)
theorem dX0_moles_22 : decode cX0_moles 22 = .ok (.ireturn, 1) := dk_172 (dk_at dksX0_moles_0 22 rfl rfl)
abbrev cX0_vote : ByteArray := method_27_code
def yX0_vote : MethodName := ⟨RX0, "vote", "(LCliffPlots;IZ[J)I"⟩
def dkwX0_vote_0 : List UInt8 := [45, 3, 42, 27, 28, 182, 0, 94, 133, 80, 167, 0, 7, 58, 4, 4, 172, 3, 172]
abbrev dktX0_vote_0 : List UInt8 := dkwX0_vote_0 ++ []
theorem dksX0_vote_0 : cX0_vote.data.toList.drop 0 = dktX0_vote_0 := by decide +kernel
theorem dX0_vote_0 : decode cX0_vote 0 = .ok (.aload_n 3, 1) := dk_45 (dk_at dksX0_vote_0 0 rfl rfl)
theorem dX0_vote_1 : decode cX0_vote 1 = .ok (.iconst 0, 1) := dk_3 (dk_at dksX0_vote_0 1 rfl rfl)
theorem dX0_vote_2 : decode cX0_vote 2 = .ok (.aload_n 0, 1) := dk_42 (dk_at dksX0_vote_0 2 rfl rfl)
theorem dX0_vote_3 : decode cX0_vote 3 = .ok (.iload_n 1, 1) := dk_27 (dk_at dksX0_vote_0 3 rfl rfl)
theorem dX0_vote_4 : decode cX0_vote 4 = .ok (.iload_n 2, 1) := dk_28 (dk_at dksX0_vote_0 4 rfl rfl)
theorem dX0_vote_5 : decode cX0_vote 5 = .ok (.invokevirtual 94, 3) := dk_182 0 94 (dk_at dksX0_vote_0 5 rfl rfl)
theorem dX0_vote_8 : decode cX0_vote 8 = .ok (.i2l, 1) := dk_133 (dk_at dksX0_vote_0 8 rfl rfl)
theorem dX0_vote_9 : decode cX0_vote 9 = .ok (.lastore, 1) := dk_80 (dk_at dksX0_vote_0 9 rfl rfl)
theorem dX0_vote_10 : decode cX0_vote 10 = .ok (.goto 7, 3) := dk_167 0 7 (dk_at dksX0_vote_0 10 rfl rfl)
theorem dX0_vote_13 : decode cX0_vote 13 = .ok (.astore 4, 2) := dk_58 4 (dk_at dksX0_vote_0 13 rfl rfl)
theorem dX0_vote_15 : decode cX0_vote 15 = .ok (.iconst 1, 1) := dk_4 (dk_at dksX0_vote_0 15 rfl rfl)
theorem dX0_vote_16 : decode cX0_vote 16 = .ok (.ireturn, 1) := dk_172 (dk_at dksX0_vote_0 16 rfl rfl)
theorem dX0_vote_17 : decode cX0_vote 17 = .ok (.iconst 0, 1) := dk_3 (dk_at dksX0_vote_0 17 rfl rfl)
theorem dX0_vote_18 : decode cX0_vote 18 = .ok (.ireturn, 1) := dk_172 (dk_at dksX0_vote_0 18 rfl rfl)
abbrev cX0_sign : ByteArray := method_28_code
def yX0_sign : MethodName := ⟨RX0, "sign", "(LCliffPlots;I[J)I"⟩
def dkwX0_sign_0 : List UInt8 := [44, 3, 42, 27, 182, 0, 98, 133, 80, 167, 0, 6, 78, 4, 172, 3, 172]
abbrev dktX0_sign_0 : List UInt8 := dkwX0_sign_0 ++ []
theorem dksX0_sign_0 : cX0_sign.data.toList.drop 0 = dktX0_sign_0 := by decide +kernel
theorem dX0_sign_0 : decode cX0_sign 0 = .ok (.aload_n 2, 1) := dk_44 (dk_at dksX0_sign_0 0 rfl rfl)
theorem dX0_sign_1 : decode cX0_sign 1 = .ok (.iconst 0, 1) := dk_3 (dk_at dksX0_sign_0 1 rfl rfl)
theorem dX0_sign_2 : decode cX0_sign 2 = .ok (.aload_n 0, 1) := dk_42 (dk_at dksX0_sign_0 2 rfl rfl)
theorem dX0_sign_3 : decode cX0_sign 3 = .ok (.iload_n 1, 1) := dk_27 (dk_at dksX0_sign_0 3 rfl rfl)
theorem dX0_sign_4 : decode cX0_sign 4 = .ok (.invokevirtual 98, 3) := dk_182 0 98 (dk_at dksX0_sign_0 4 rfl rfl)
theorem dX0_sign_7 : decode cX0_sign 7 = .ok (.i2l, 1) := dk_133 (dk_at dksX0_sign_0 7 rfl rfl)
theorem dX0_sign_8 : decode cX0_sign 8 = .ok (.lastore, 1) := dk_80 (dk_at dksX0_sign_0 8 rfl rfl)
theorem dX0_sign_9 : decode cX0_sign 9 = .ok (.goto 6, 3) := dk_167 0 6 (dk_at dksX0_sign_0 9 rfl rfl)
theorem dX0_sign_12 : decode cX0_sign 12 = .ok (.astore_n 3, 1) := dk_78 (dk_at dksX0_sign_0 12 rfl rfl)
theorem dX0_sign_13 : decode cX0_sign 13 = .ok (.iconst 1, 1) := dk_4 (dk_at dksX0_sign_0 13 rfl rfl)
theorem dX0_sign_14 : decode cX0_sign 14 = .ok (.ireturn, 1) := dk_172 (dk_at dksX0_sign_0 14 rfl rfl)
theorem dX0_sign_15 : decode cX0_sign 15 = .ok (.iconst 0, 1) := dk_3 (dk_at dksX0_sign_0 15 rfl rfl)
theorem dX0_sign_16 : decode cX0_sign 16 = .ok (.ireturn, 1) := dk_172 (dk_at dksX0_sign_0 16 rfl rfl)
abbrev cX0_pass : ByteArray := method_29_code
def yX0_pass : MethodName := ⟨RX0, "pass", "(LCliffPlots;I[J)I"⟩
def dkwX0_pass_0 : List UInt8 := [44, 3, 42, 27, 182, 0, 102, 133, 80, 167, 0, 6, 78, 4, 172, 3, 172]
abbrev dktX0_pass_0 : List UInt8 := dkwX0_pass_0 ++ []
theorem dksX0_pass_0 : cX0_pass.data.toList.drop 0 = dktX0_pass_0 := by decide +kernel
theorem dX0_pass_0 : decode cX0_pass 0 = .ok (.aload_n 2, 1) := dk_44 (dk_at dksX0_pass_0 0 rfl rfl)
theorem dX0_pass_1 : decode cX0_pass 1 = .ok (.iconst 0, 1) := dk_3 (dk_at dksX0_pass_0 1 rfl rfl)
theorem dX0_pass_2 : decode cX0_pass 2 = .ok (.aload_n 0, 1) := dk_42 (dk_at dksX0_pass_0 2 rfl rfl)
theorem dX0_pass_3 : decode cX0_pass 3 = .ok (.iload_n 1, 1) := dk_27 (dk_at dksX0_pass_0 3 rfl rfl)
theorem dX0_pass_4 : decode cX0_pass 4 = .ok (.invokevirtual 102, 3) := dk_182 0 102 (dk_at dksX0_pass_0 4 rfl rfl)
theorem dX0_pass_7 : decode cX0_pass 7 = .ok (.i2l, 1) := dk_133 (dk_at dksX0_pass_0 7 rfl rfl)
theorem dX0_pass_8 : decode cX0_pass 8 = .ok (.lastore, 1) := dk_80 (dk_at dksX0_pass_0 8 rfl rfl)
theorem dX0_pass_9 : decode cX0_pass 9 = .ok (.goto 6, 3) := dk_167 0 6 (dk_at dksX0_pass_0 9 rfl rfl)
theorem dX0_pass_12 : decode cX0_pass 12 = .ok (.astore_n 3, 1) := dk_78 (dk_at dksX0_pass_0 12 rfl rfl)
theorem dX0_pass_13 : decode cX0_pass 13 = .ok (.iconst 1, 1) := dk_4 (dk_at dksX0_pass_0 13 rfl rfl)
theorem dX0_pass_14 : decode cX0_pass 14 = .ok (.ireturn, 1) := dk_172 (dk_at dksX0_pass_0 14 rfl rfl)
theorem dX0_pass_15 : decode cX0_pass 15 = .ok (.iconst 0, 1) := dk_3 (dk_at dksX0_pass_0 15 rfl rfl)
theorem dX0_pass_16 : decode cX0_pass 16 = .ok (.ireturn, 1) := dk_172 (dk_at dksX0_pass_0 16 rfl rfl)
abbrev cX0_append : ByteArray := method_30_code
def yX0_append : MethodName := ⟨RX0, "append", "(LCliffPlots;C[J)I"⟩
def dkwX0_append_0 : List UInt8 := [44, 3, 42, 27, 182, 0, 105, 133, 80, 167, 0, 6, 78, 4, 172, 3, 172]
abbrev dktX0_append_0 : List UInt8 := dkwX0_append_0 ++ []
theorem dksX0_append_0 : cX0_append.data.toList.drop 0 = dktX0_append_0 := by decide +kernel
theorem dX0_append_0 : decode cX0_append 0 = .ok (.aload_n 2, 1) := dk_44 (dk_at dksX0_append_0 0 rfl rfl)
theorem dX0_append_1 : decode cX0_append 1 = .ok (.iconst 0, 1) := dk_3 (dk_at dksX0_append_0 1 rfl rfl)
theorem dX0_append_2 : decode cX0_append 2 = .ok (.aload_n 0, 1) := dk_42 (dk_at dksX0_append_0 2 rfl rfl)
theorem dX0_append_3 : decode cX0_append 3 = .ok (.iload_n 1, 1) := dk_27 (dk_at dksX0_append_0 3 rfl rfl)
theorem dX0_append_4 : decode cX0_append 4 = .ok (.invokevirtual 105, 3) := dk_182 0 105 (dk_at dksX0_append_0 4 rfl rfl)
theorem dX0_append_7 : decode cX0_append 7 = .ok (.i2l, 1) := dk_133 (dk_at dksX0_append_0 7 rfl rfl)
theorem dX0_append_8 : decode cX0_append 8 = .ok (.lastore, 1) := dk_80 (dk_at dksX0_append_0 8 rfl rfl)
theorem dX0_append_9 : decode cX0_append 9 = .ok (.goto 6, 3) := dk_167 0 6 (dk_at dksX0_append_0 9 rfl rfl)
theorem dX0_append_12 : decode cX0_append 12 = .ok (.astore_n 3, 1) := dk_78 (dk_at dksX0_append_0 12 rfl rfl)
theorem dX0_append_13 : decode cX0_append 13 = .ok (.iconst 1, 1) := dk_4 (dk_at dksX0_append_0 13 rfl rfl)
theorem dX0_append_14 : decode cX0_append 14 = .ok (.ireturn, 1) := dk_172 (dk_at dksX0_append_0 14 rfl rfl)
theorem dX0_append_15 : decode cX0_append 15 = .ok (.iconst 0, 1) := dk_3 (dk_at dksX0_append_0 15 rfl rfl)
theorem dX0_append_16 : decode cX0_append 16 = .ok (.ireturn, 1) := dk_172 (dk_at dksX0_append_0 16 rfl rfl)
abbrev cX0_read : ByteArray := method_31_code
def yX0_read : MethodName := ⟨RX0, "read", "(LCliffPlots;[J)I"⟩
def dkwX0_read_0 : List UInt8 := [43, 3, 42, 182, 0, 111, 133, 80, 167, 0, 9, 77, 4, 172, 77, 5, 172, 3, 172]
abbrev dktX0_read_0 : List UInt8 := dkwX0_read_0 ++ []
theorem dksX0_read_0 : cX0_read.data.toList.drop 0 = dktX0_read_0 := by decide +kernel
theorem dX0_read_0 : decode cX0_read 0 = .ok (.aload_n 1, 1) := dk_43 (dk_at dksX0_read_0 0 rfl rfl)
theorem dX0_read_1 : decode cX0_read 1 = .ok (.iconst 0, 1) := dk_3 (dk_at dksX0_read_0 1 rfl rfl)
theorem dX0_read_2 : decode cX0_read 2 = .ok (.aload_n 0, 1) := dk_42 (dk_at dksX0_read_0 2 rfl rfl)
theorem dX0_read_3 : decode cX0_read 3 = .ok (.invokevirtual 111, 3) := dk_182 0 111 (dk_at dksX0_read_0 3 rfl rfl)
theorem dX0_read_6 : decode cX0_read 6 = .ok (.i2l, 1) := dk_133 (dk_at dksX0_read_0 6 rfl rfl)
theorem dX0_read_7 : decode cX0_read 7 = .ok (.lastore, 1) := dk_80 (dk_at dksX0_read_0 7 rfl rfl)
theorem dX0_read_8 : decode cX0_read 8 = .ok (.goto 9, 3) := dk_167 0 9 (dk_at dksX0_read_0 8 rfl rfl)
theorem dX0_read_11 : decode cX0_read 11 = .ok (.astore_n 2, 1) := dk_77 (dk_at dksX0_read_0 11 rfl rfl)
theorem dX0_read_12 : decode cX0_read 12 = .ok (.iconst 1, 1) := dk_4 (dk_at dksX0_read_0 12 rfl rfl)
theorem dX0_read_13 : decode cX0_read 13 = .ok (.ireturn, 1) := dk_172 (dk_at dksX0_read_0 13 rfl rfl)
theorem dX0_read_14 : decode cX0_read 14 = .ok (.astore_n 2, 1) := dk_77 (dk_at dksX0_read_0 14 rfl rfl)
theorem dX0_read_15 : decode cX0_read 15 = .ok (.iconst 2, 1) := dk_5 (dk_at dksX0_read_0 15 rfl rfl)
theorem dX0_read_16 : decode cX0_read 16 = .ok (.ireturn, 1) := dk_172 (dk_at dksX0_read_0 16 rfl rfl)
theorem dX0_read_17 : decode cX0_read 17 = .ok (.iconst 0, 1) := dk_3 (dk_at dksX0_read_0 17 rfl rfl)
theorem dX0_read_18 : decode cX0_read 18 = .ok (.ireturn, 1) := dk_172 (dk_at dksX0_read_0 18 rfl rfl)
abbrev cX0_refusal : ByteArray := method_32_code
def yX0_refusal : MethodName := ⟨RX0, "refusal", "(LCliffPlots;Z[J)I"⟩
def dkwX0_refusal_0 : List UInt8 := [44, 3, 42, 27, 182, 0, 114, 133, 80, 167, 0, 6, 78, 4, 172, 3, 172]
abbrev dktX0_refusal_0 : List UInt8 := dkwX0_refusal_0 ++ []
theorem dksX0_refusal_0 : cX0_refusal.data.toList.drop 0 = dktX0_refusal_0 := by decide +kernel
theorem dX0_refusal_0 : decode cX0_refusal 0 = .ok (.aload_n 2, 1) := dk_44 (dk_at dksX0_refusal_0 0 rfl rfl)
theorem dX0_refusal_1 : decode cX0_refusal 1 = .ok (.iconst 0, 1) := dk_3 (dk_at dksX0_refusal_0 1 rfl rfl)
theorem dX0_refusal_2 : decode cX0_refusal 2 = .ok (.aload_n 0, 1) := dk_42 (dk_at dksX0_refusal_0 2 rfl rfl)
theorem dX0_refusal_3 : decode cX0_refusal 3 = .ok (.iload_n 1, 1) := dk_27 (dk_at dksX0_refusal_0 3 rfl rfl)
theorem dX0_refusal_4 : decode cX0_refusal 4 = .ok (.invokevirtual 114, 3) := dk_182 0 114 (dk_at dksX0_refusal_0 4 rfl rfl)
theorem dX0_refusal_7 : decode cX0_refusal 7 = .ok (.i2l, 1) := dk_133 (dk_at dksX0_refusal_0 7 rfl rfl)
theorem dX0_refusal_8 : decode cX0_refusal 8 = .ok (.lastore, 1) := dk_80 (dk_at dksX0_refusal_0 8 rfl rfl)
theorem dX0_refusal_9 : decode cX0_refusal 9 = .ok (.goto 6, 3) := dk_167 0 6 (dk_at dksX0_refusal_0 9 rfl rfl)
theorem dX0_refusal_12 : decode cX0_refusal 12 = .ok (.astore_n 3, 1) := dk_78 (dk_at dksX0_refusal_0 12 rfl rfl)
theorem dX0_refusal_13 : decode cX0_refusal 13 = .ok (.iconst 1, 1) := dk_4 (dk_at dksX0_refusal_0 13 rfl rfl)
theorem dX0_refusal_14 : decode cX0_refusal 14 = .ok (.ireturn, 1) := dk_172 (dk_at dksX0_refusal_0 14 rfl rfl)
theorem dX0_refusal_15 : decode cX0_refusal 15 = .ok (.iconst 0, 1) := dk_3 (dk_at dksX0_refusal_0 15 rfl rfl)
theorem dX0_refusal_16 : decode cX0_refusal 16 = .ok (.ireturn, 1) := dk_172 (dk_at dksX0_refusal_0 16 rfl rfl)
abbrev cX0_account : ByteArray := method_33_code
def yX0_account : MethodName := ⟨RX0, "account", "(LCliffPlots;I[J)I"⟩
def dkwX0_account_0 : List UInt8 := [44, 3, 42, 27, 182, 0, 118, 133, 80, 167, 0, 6, 78, 4, 172, 3, 172]
abbrev dktX0_account_0 : List UInt8 := dkwX0_account_0 ++ []
theorem dksX0_account_0 : cX0_account.data.toList.drop 0 = dktX0_account_0 := by decide +kernel
theorem dX0_account_0 : decode cX0_account 0 = .ok (.aload_n 2, 1) := dk_44 (dk_at dksX0_account_0 0 rfl rfl)
theorem dX0_account_1 : decode cX0_account 1 = .ok (.iconst 0, 1) := dk_3 (dk_at dksX0_account_0 1 rfl rfl)
theorem dX0_account_2 : decode cX0_account 2 = .ok (.aload_n 0, 1) := dk_42 (dk_at dksX0_account_0 2 rfl rfl)
theorem dX0_account_3 : decode cX0_account 3 = .ok (.iload_n 1, 1) := dk_27 (dk_at dksX0_account_0 3 rfl rfl)
theorem dX0_account_4 : decode cX0_account 4 = .ok (.invokevirtual 118, 3) := dk_182 0 118 (dk_at dksX0_account_0 4 rfl rfl)
theorem dX0_account_7 : decode cX0_account 7 = .ok (.i2l, 1) := dk_133 (dk_at dksX0_account_0 7 rfl rfl)
theorem dX0_account_8 : decode cX0_account 8 = .ok (.lastore, 1) := dk_80 (dk_at dksX0_account_0 8 rfl rfl)
theorem dX0_account_9 : decode cX0_account 9 = .ok (.goto 6, 3) := dk_167 0 6 (dk_at dksX0_account_0 9 rfl rfl)
theorem dX0_account_12 : decode cX0_account 12 = .ok (.astore_n 3, 1) := dk_78 (dk_at dksX0_account_0 12 rfl rfl)
theorem dX0_account_13 : decode cX0_account 13 = .ok (.iconst 1, 1) := dk_4 (dk_at dksX0_account_0 13 rfl rfl)
theorem dX0_account_14 : decode cX0_account 14 = .ok (.ireturn, 1) := dk_172 (dk_at dksX0_account_0 14 rfl rfl)
theorem dX0_account_15 : decode cX0_account 15 = .ok (.iconst 0, 1) := dk_3 (dk_at dksX0_account_0 15 rfl rfl)
theorem dX0_account_16 : decode cX0_account 16 = .ok (.ireturn, 1) := dk_172 (dk_at dksX0_account_0 16 rfl rfl)
abbrev cX0_undo : ByteArray := method_34_code
def yX0_undo : MethodName := ⟨RX0, "undo", "(LCliffPlots;[J)I"⟩
def dkwX0_undo_0 : List UInt8 := [43, 3, 42, 182, 0, 121, 133, 80, 167, 0, 6, 77, 4, 172, 3, 172]
abbrev dktX0_undo_0 : List UInt8 := dkwX0_undo_0 ++ []
theorem dksX0_undo_0 : cX0_undo.data.toList.drop 0 = dktX0_undo_0 := by decide +kernel
theorem dX0_undo_0 : decode cX0_undo 0 = .ok (.aload_n 1, 1) := dk_43 (dk_at dksX0_undo_0 0 rfl rfl)
theorem dX0_undo_1 : decode cX0_undo 1 = .ok (.iconst 0, 1) := dk_3 (dk_at dksX0_undo_0 1 rfl rfl)
theorem dX0_undo_2 : decode cX0_undo 2 = .ok (.aload_n 0, 1) := dk_42 (dk_at dksX0_undo_0 2 rfl rfl)
theorem dX0_undo_3 : decode cX0_undo 3 = .ok (.invokevirtual 121, 3) := dk_182 0 121 (dk_at dksX0_undo_0 3 rfl rfl)
theorem dX0_undo_6 : decode cX0_undo 6 = .ok (.i2l, 1) := dk_133 (dk_at dksX0_undo_0 6 rfl rfl)
theorem dX0_undo_7 : decode cX0_undo 7 = .ok (.lastore, 1) := dk_80 (dk_at dksX0_undo_0 7 rfl rfl)
theorem dX0_undo_8 : decode cX0_undo 8 = .ok (.goto 6, 3) := dk_167 0 6 (dk_at dksX0_undo_0 8 rfl rfl)
theorem dX0_undo_11 : decode cX0_undo 11 = .ok (.astore_n 2, 1) := dk_77 (dk_at dksX0_undo_0 11 rfl rfl)
theorem dX0_undo_12 : decode cX0_undo 12 = .ok (.iconst 1, 1) := dk_4 (dk_at dksX0_undo_0 12 rfl rfl)
theorem dX0_undo_13 : decode cX0_undo 13 = .ok (.ireturn, 1) := dk_172 (dk_at dksX0_undo_0 13 rfl rfl)
theorem dX0_undo_14 : decode cX0_undo 14 = .ok (.iconst 0, 1) := dk_3 (dk_at dksX0_undo_0 14 rfl rfl)
theorem dX0_undo_15 : decode cX0_undo 15 = .ok (.ireturn, 1) := dk_172 (dk_at dksX0_undo_0 15 rfl rfl)
abbrev cX0_restore : ByteArray := method_35_code
def yX0_restore : MethodName := ⟨RX0, "restore", "(LCliffPlots;[J)I"⟩
def dkwX0_restore_0 : List UInt8 := [43, 3, 42, 182, 0, 124, 133, 80, 167, 0, 6, 77, 4, 172, 3, 172]
abbrev dktX0_restore_0 : List UInt8 := dkwX0_restore_0 ++ []
theorem dksX0_restore_0 : cX0_restore.data.toList.drop 0 = dktX0_restore_0 := by decide +kernel
theorem dX0_restore_0 : decode cX0_restore 0 = .ok (.aload_n 1, 1) := dk_43 (dk_at dksX0_restore_0 0 rfl rfl)
theorem dX0_restore_1 : decode cX0_restore 1 = .ok (.iconst 0, 1) := dk_3 (dk_at dksX0_restore_0 1 rfl rfl)
theorem dX0_restore_2 : decode cX0_restore 2 = .ok (.aload_n 0, 1) := dk_42 (dk_at dksX0_restore_0 2 rfl rfl)
theorem dX0_restore_3 : decode cX0_restore 3 = .ok (.invokevirtual 124, 3) := dk_182 0 124 (dk_at dksX0_restore_0 3 rfl rfl)
theorem dX0_restore_6 : decode cX0_restore 6 = .ok (.i2l, 1) := dk_133 (dk_at dksX0_restore_0 6 rfl rfl)
theorem dX0_restore_7 : decode cX0_restore 7 = .ok (.lastore, 1) := dk_80 (dk_at dksX0_restore_0 7 rfl rfl)
theorem dX0_restore_8 : decode cX0_restore 8 = .ok (.goto 6, 3) := dk_167 0 6 (dk_at dksX0_restore_0 8 rfl rfl)
theorem dX0_restore_11 : decode cX0_restore 11 = .ok (.astore_n 2, 1) := dk_77 (dk_at dksX0_restore_0 11 rfl rfl)
theorem dX0_restore_12 : decode cX0_restore 12 = .ok (.iconst 1, 1) := dk_4 (dk_at dksX0_restore_0 12 rfl rfl)
theorem dX0_restore_13 : decode cX0_restore 13 = .ok (.ireturn, 1) := dk_172 (dk_at dksX0_restore_0 13 rfl rfl)
theorem dX0_restore_14 : decode cX0_restore 14 = .ok (.iconst 0, 1) := dk_3 (dk_at dksX0_restore_0 14 rfl rfl)
theorem dX0_restore_15 : decode cX0_restore 15 = .ok (.ireturn, 1) := dk_172 (dk_at dksX0_restore_0 15 rfl rfl)
theorem q57 : (Jvm.Cond.initialized "CliffPlotsLaw") ∈ lw_all := lw_g (lw_at lw_m1 0 rfl) rfl
theorem q97 : (Jvm.Cond.classLink "CliffPlotsLaw" (8 : Nat) "CliffPlots") ∈ lw_all := lw_g (lw_at lw_m1 40 rfl) rfl
theorem q99 : (Jvm.Cond.methodLink "CliffPlotsLaw" (127 : Nat) ({ cls := "CliffPlots", name := "<init>", desc := "()V" } : Jvm.MethodName)) ∈ lw_all := lw_g (lw_at lw_m1 42 rfl) rfl
theorem q553 : (Jvm.Cond.methodLink "CliffPlotsLaw" (217 : Nat) ({ cls := "CliffPlots", name := "count", desc := "()I" } : Jvm.MethodName)) ∈ lw_all := lw_g (lw_at lw_m3 16 rfl) rfl
theorem q639 : (Jvm.Cond.methodLink "CliffPlotsLaw" (234 : Nat) ({ cls := "CliffPlots", name := "errorPosition", desc := "()I" } : Jvm.MethodName)) ∈ lw_all := lw_g (lw_at lw_m3 102 rfl) rfl
theorem q643 : (Jvm.Cond.methodLink "CliffPlotsLaw" (245 : Nat) ({ cls := "CliffPlots", name := "isWell", desc := "()Z" } : Jvm.MethodName)) ∈ lw_all := lw_g (lw_at lw_m3 106 rfl) rfl
theorem q663 : (Jvm.Cond.methodLink "CliffPlotsLaw" (250 : Nat) ({ cls := "CliffPlots", name := "meanBits", desc := "()J" } : Jvm.MethodName)) ∈ lw_all := lw_g (lw_at lw_m3 126 rfl) rfl
theorem q678 : (Jvm.Cond.methodLink "CliffPlotsLaw" (255 : Nat) ({ cls := "CliffPlots", name := "dug", desc := "()F" } : Jvm.MethodName)) ∈ lw_all := lw_g (lw_at lw_m3 141 rfl) rfl
theorem q687 : (Jvm.Cond.methodLink "CliffPlotsLaw" (263 : Nat) ({ cls := "CliffPlots", name := "save", desc := "()I" } : Jvm.MethodName)) ∈ lw_all := lw_g (lw_at lw_m3 150 rfl) rfl
theorem q691 : (Jvm.Cond.methodLink "CliffPlotsLaw" (131 : Nat) ({ cls := "CliffPlotsLaw", name := "wind", desc := "(LCliffPlots;I[J)I" } : Jvm.MethodName)) ∈ lw_all := lw_g (lw_at lw_m3 154 rfl) rfl
theorem q692 : (Jvm.Cond.static ({ cls := "CliffPlotsLaw", name := "wind", desc := "(LCliffPlots;I[J)I" } : Jvm.MethodName)) ∈ lw_all := lw_g (lw_at lw_m3 155 rfl) rfl
theorem q693 : (Jvm.Cond.codeWith ({ cls := "CliffPlotsLaw", name := "wind", desc := "(LCliffPlots;I[J)I" } : Jvm.MethodName) method_3_code (4 : Nat) (Option.some Jvm.ClassFile.FieldType.int) [((0 : Nat), (9 : Nat), (12 : Nat), (13 : Nat))]) ∈ lw_all := lw_g (lw_at lw_m3 156 rfl) rfl
theorem q694 : (Jvm.Cond.classLink "CliffPlotsLaw" (13 : Nat) "java/lang/IllegalArgumentException") ∈ lw_all := lw_g (lw_at lw_m3 157 rfl) rfl
theorem q695 : (Jvm.Cond.methodLink "CliffPlotsLaw" (7 : Nat) ({ cls := "CliffPlots", name := "wind", desc := "(I)I" } : Jvm.MethodName)) ∈ lw_all := lw_g (lw_at lw_m3 158 rfl) rfl
theorem q726 : (Jvm.Cond.methodLink "CliffPlotsLaw" (140 : Nat) ({ cls := "CliffPlotsLaw", name := "rain", desc := "(LCliffPlots;I[J)I" } : Jvm.MethodName)) ∈ lw_all := lw_g (lw_at lw_m3 189 rfl) rfl
theorem q727 : (Jvm.Cond.static ({ cls := "CliffPlotsLaw", name := "rain", desc := "(LCliffPlots;I[J)I" } : Jvm.MethodName)) ∈ lw_all := lw_g (lw_at lw_m3 190 rfl) rfl
theorem q728 : (Jvm.Cond.codeWith ({ cls := "CliffPlotsLaw", name := "rain", desc := "(LCliffPlots;I[J)I" } : Jvm.MethodName) method_4_code (4 : Nat) (Option.some Jvm.ClassFile.FieldType.int) [((0 : Nat), (9 : Nat), (12 : Nat), (13 : Nat))]) ∈ lw_all := lw_g (lw_at lw_m3 191 rfl) rfl
theorem q729 : (Jvm.Cond.methodLink "CliffPlotsLaw" (15 : Nat) ({ cls := "CliffPlots", name := "rain", desc := "(I)I" } : Jvm.MethodName)) ∈ lw_all := lw_g (lw_at lw_m3 192 rfl) rfl
theorem q733 : (Jvm.Cond.methodLink "CliffPlotsLaw" (143 : Nat) ({ cls := "CliffPlotsLaw", name := "member", desc := "(LCliffPlots;[J)I" } : Jvm.MethodName)) ∈ lw_all := lw_g (lw_at lw_m3 196 rfl) rfl
theorem q734 : (Jvm.Cond.static ({ cls := "CliffPlotsLaw", name := "member", desc := "(LCliffPlots;[J)I" } : Jvm.MethodName)) ∈ lw_all := lw_g (lw_at lw_m3 197 rfl) rfl
theorem q735 : (Jvm.Cond.codeWith ({ cls := "CliffPlotsLaw", name := "member", desc := "(LCliffPlots;[J)I" } : Jvm.MethodName) method_5_code (3 : Nat) (Option.some Jvm.ClassFile.FieldType.int) [((0 : Nat), (8 : Nat), (11 : Nat), (22 : Nat))]) ∈ lw_all := lw_g (lw_at lw_m3 198 rfl) rfl
theorem q736 : (Jvm.Cond.classLink "CliffPlotsLaw" (22 : Nat) "java/lang/UnsupportedOperationException") ∈ lw_all := lw_g (lw_at lw_m3 199 rfl) rfl
theorem q737 : (Jvm.Cond.methodLink "CliffPlotsLaw" (18 : Nat) ({ cls := "CliffPlots", name := "member", desc := "()I" } : Jvm.MethodName)) ∈ lw_all := lw_g (lw_at lw_m3 200 rfl) rfl
theorem q802 : (Jvm.Cond.methodLink "CliffPlotsLaw" (147 : Nat) ({ cls := "CliffPlotsLaw", name := "dig", desc := "(LCliffPlots;II[J)I" } : Jvm.MethodName)) ∈ lw_all := lw_g (lw_at lw_m4 25 rfl) rfl
theorem q803 : (Jvm.Cond.static ({ cls := "CliffPlotsLaw", name := "dig", desc := "(LCliffPlots;II[J)I" } : Jvm.MethodName)) ∈ lw_all := lw_g (lw_at lw_m4 26 rfl) rfl
theorem q804 : (Jvm.Cond.codeWith ({ cls := "CliffPlotsLaw", name := "dig", desc := "(LCliffPlots;II[J)I" } : Jvm.MethodName) method_6_code (5 : Nat) (Option.some Jvm.ClassFile.FieldType.int) [((0 : Nat), (10 : Nat), (13 : Nat), (28 : Nat)), ((0 : Nat), (10 : Nat), (17 : Nat), (22 : Nat))]) ∈ lw_all := lw_g (lw_at lw_m4 27 rfl) rfl
theorem q805 : (Jvm.Cond.classLink "CliffPlotsLaw" (28 : Nat) "java/lang/IndexOutOfBoundsException") ∈ lw_all := lw_g (lw_at lw_m4 28 rfl) rfl
theorem q829 : (Jvm.Cond.methodLink "CliffPlotsLaw" (24 : Nat) ({ cls := "CliffPlots", name := "dig", desc := "(II)I" } : Jvm.MethodName)) ∈ lw_all := lw_g (lw_at lw_m4 52 rfl) rfl
theorem q864 : (Jvm.Cond.methodLink "CliffPlotsLaw" (151 : Nat) ({ cls := "CliffPlotsLaw", name := "rest", desc := "(LCliffPlots;I[J)I" } : Jvm.MethodName)) ∈ lw_all := lw_g (lw_at lw_m4 87 rfl) rfl
theorem q865 : (Jvm.Cond.static ({ cls := "CliffPlotsLaw", name := "rest", desc := "(LCliffPlots;I[J)I" } : Jvm.MethodName)) ∈ lw_all := lw_g (lw_at lw_m4 88 rfl) rfl
theorem q866 : (Jvm.Cond.codeWith ({ cls := "CliffPlotsLaw", name := "rest", desc := "(LCliffPlots;I[J)I" } : Jvm.MethodName) method_7_code (4 : Nat) (Option.some Jvm.ClassFile.FieldType.int) [((0 : Nat), (9 : Nat), (12 : Nat), (28 : Nat)), ((0 : Nat), (9 : Nat), (15 : Nat), (22 : Nat))]) ∈ lw_all := lw_g (lw_at lw_m4 89 rfl) rfl
theorem q867 : (Jvm.Cond.methodLink "CliffPlotsLaw" (30 : Nat) ({ cls := "CliffPlots", name := "rest", desc := "(I)I" } : Jvm.MethodName)) ∈ lw_all := lw_g (lw_at lw_m4 90 rfl) rfl
theorem q875 : (Jvm.Cond.methodLink "CliffPlotsLaw" (154 : Nat) ({ cls := "CliffPlotsLaw", name := "memberOf", desc := "(LCliffPlots;II[J)I" } : Jvm.MethodName)) ∈ lw_all := lw_g (lw_at lw_m4 98 rfl) rfl
theorem q876 : (Jvm.Cond.static ({ cls := "CliffPlotsLaw", name := "memberOf", desc := "(LCliffPlots;II[J)I" } : Jvm.MethodName)) ∈ lw_all := lw_g (lw_at lw_m4 99 rfl) rfl
theorem q877 : (Jvm.Cond.codeWith ({ cls := "CliffPlotsLaw", name := "memberOf", desc := "(LCliffPlots;II[J)I" } : Jvm.MethodName) method_8_code (5 : Nat) (Option.some Jvm.ClassFile.FieldType.int) [((0 : Nat), (10 : Nat), (13 : Nat), (28 : Nat)), ((0 : Nat), (10 : Nat), (17 : Nat), (13 : Nat))]) ∈ lw_all := lw_g (lw_at lw_m4 100 rfl) rfl
theorem q878 : (Jvm.Cond.methodLink "CliffPlotsLaw" (33 : Nat) ({ cls := "CliffPlots", name := "memberOf", desc := "(II)I" } : Jvm.MethodName)) ∈ lw_all := lw_g (lw_at lw_m4 101 rfl) rfl
theorem q882 : (Jvm.Cond.methodLink "CliffPlotsLaw" (157 : Nat) ({ cls := "CliffPlotsLaw", name := "plotOf", desc := "(LCliffPlots;II[J)I" } : Jvm.MethodName)) ∈ lw_all := lw_g (lw_at lw_m4 105 rfl) rfl
theorem q883 : (Jvm.Cond.static ({ cls := "CliffPlotsLaw", name := "plotOf", desc := "(LCliffPlots;II[J)I" } : Jvm.MethodName)) ∈ lw_all := lw_g (lw_at lw_m4 106 rfl) rfl
theorem q884 : (Jvm.Cond.codeWith ({ cls := "CliffPlotsLaw", name := "plotOf", desc := "(LCliffPlots;II[J)I" } : Jvm.MethodName) method_9_code (5 : Nat) (Option.some Jvm.ClassFile.FieldType.int) [((0 : Nat), (10 : Nat), (13 : Nat), (28 : Nat)), ((0 : Nat), (10 : Nat), (17 : Nat), (13 : Nat))]) ∈ lw_all := lw_g (lw_at lw_m4 107 rfl) rfl
theorem q885 : (Jvm.Cond.methodLink "CliffPlotsLaw" (36 : Nat) ({ cls := "CliffPlots", name := "plotOf", desc := "(II)I" } : Jvm.MethodName)) ∈ lw_all := lw_g (lw_at lw_m4 108 rfl) rfl
theorem q894 : (Jvm.Cond.methodLink "CliffPlotsLaw" (160 : Nat) ({ cls := "CliffPlotsLaw", name := "water", desc := "(LCliffPlots;I[D)I" } : Jvm.MethodName)) ∈ lw_all := lw_g (lw_at lw_m4 117 rfl) rfl
theorem q895 : (Jvm.Cond.static ({ cls := "CliffPlotsLaw", name := "water", desc := "(LCliffPlots;I[D)I" } : Jvm.MethodName)) ∈ lw_all := lw_g (lw_at lw_m4 118 rfl) rfl
theorem q896 : (Jvm.Cond.codeWith ({ cls := "CliffPlotsLaw", name := "water", desc := "(LCliffPlots;I[D)I" } : Jvm.MethodName) method_10_code (4 : Nat) (Option.some Jvm.ClassFile.FieldType.int) [((0 : Nat), (9 : Nat), (12 : Nat), (28 : Nat))]) ∈ lw_all := lw_g (lw_at lw_m4 119 rfl) rfl
theorem q897 : (Jvm.Cond.methodLink "CliffPlotsLaw" (39 : Nat) ({ cls := "CliffPlots", name := "water", desc := "(I)F" } : Jvm.MethodName)) ∈ lw_all := lw_g (lw_at lw_m4 120 rfl) rfl
theorem q901 : (Jvm.Cond.methodLink "CliffPlotsLaw" (164 : Nat) ({ cls := "CliffPlotsLaw", name := "waterIn", desc := "(LCliffPlots;II[J)I" } : Jvm.MethodName)) ∈ lw_all := lw_g (lw_at lw_m4 124 rfl) rfl
theorem q902 : (Jvm.Cond.static ({ cls := "CliffPlotsLaw", name := "waterIn", desc := "(LCliffPlots;II[J)I" } : Jvm.MethodName)) ∈ lw_all := lw_g (lw_at lw_m4 125 rfl) rfl
theorem q903 : (Jvm.Cond.codeWith ({ cls := "CliffPlotsLaw", name := "waterIn", desc := "(LCliffPlots;II[J)I" } : Jvm.MethodName) method_11_code (5 : Nat) (Option.some Jvm.ClassFile.FieldType.int) [((0 : Nat), (10 : Nat), (13 : Nat), (28 : Nat)), ((0 : Nat), (10 : Nat), (17 : Nat), (13 : Nat))]) ∈ lw_all := lw_g (lw_at lw_m4 126 rfl) rfl
theorem q904 : (Jvm.Cond.methodLink "CliffPlotsLaw" (43 : Nat) ({ cls := "CliffPlots", name := "waterIn", desc := "(II)I" } : Jvm.MethodName)) ∈ lw_all := lw_g (lw_at lw_m4 127 rfl) rfl
theorem q938 : (Jvm.Cond.methodLink "CliffPlotsLaw" (167 : Nat) ({ cls := "CliffPlotsLaw", name := "waterAgain", desc := "(LCliffPlots;II[J)I" } : Jvm.MethodName)) ∈ lw_all := lw_g (lw_at lw_m4 161 rfl) rfl
theorem q939 : (Jvm.Cond.static ({ cls := "CliffPlotsLaw", name := "waterAgain", desc := "(LCliffPlots;II[J)I" } : Jvm.MethodName)) ∈ lw_all := lw_g (lw_at lw_m4 162 rfl) rfl
theorem q940 : (Jvm.Cond.codeWith ({ cls := "CliffPlotsLaw", name := "waterAgain", desc := "(LCliffPlots;II[J)I" } : Jvm.MethodName) method_12_code (5 : Nat) (Option.some Jvm.ClassFile.FieldType.int) [((0 : Nat), (10 : Nat), (13 : Nat), (28 : Nat)), ((0 : Nat), (10 : Nat), (17 : Nat), (13 : Nat))]) ∈ lw_all := lw_g (lw_at lw_m4 163 rfl) rfl
theorem q941 : (Jvm.Cond.methodLink "CliffPlotsLaw" (46 : Nat) ({ cls := "CliffPlots", name := "waterAgain", desc := "(II)I" } : Jvm.MethodName)) ∈ lw_all := lw_g (lw_at lw_m4 164 rfl) rfl
theorem q997 : (Jvm.Cond.methodLink "CliffPlotsLaw" (170 : Nat) ({ cls := "CliffPlotsLaw", name := "seedling", desc := "(LCliffPlots;II[J)I" } : Jvm.MethodName)) ∈ lw_all := lw_g (lw_at lw_m4 220 rfl) rfl
theorem q998 : (Jvm.Cond.static ({ cls := "CliffPlotsLaw", name := "seedling", desc := "(LCliffPlots;II[J)I" } : Jvm.MethodName)) ∈ lw_all := lw_g (lw_at lw_m4 221 rfl) rfl
theorem q999 : (Jvm.Cond.codeWith ({ cls := "CliffPlotsLaw", name := "seedling", desc := "(LCliffPlots;II[J)I" } : Jvm.MethodName) method_13_code (5 : Nat) (Option.some Jvm.ClassFile.FieldType.int) [((0 : Nat), (10 : Nat), (13 : Nat), (28 : Nat)), ((0 : Nat), (10 : Nat), (17 : Nat), (13 : Nat)), ((0 : Nat), (10 : Nat), (21 : Nat), (22 : Nat))]) ∈ lw_all := lw_g (lw_at lw_m4 222 rfl) rfl
theorem q1000 : (Jvm.Cond.methodLink "CliffPlotsLaw" (49 : Nat) ({ cls := "CliffPlots", name := "seedling", desc := "(II)I" } : Jvm.MethodName)) ∈ lw_all := lw_g (lw_at lw_m4 223 rfl) rfl
theorem q1031 : (Jvm.Cond.methodLink "CliffPlotsLaw" (173 : Nat) ({ cls := "CliffPlotsLaw", name := "waits", desc := "(LCliffPlots;II[J)I" } : Jvm.MethodName)) ∈ lw_all := lw_g (lw_at lw_m5 14 rfl) rfl
theorem q1032 : (Jvm.Cond.static ({ cls := "CliffPlotsLaw", name := "waits", desc := "(LCliffPlots;II[J)I" } : Jvm.MethodName)) ∈ lw_all := lw_g (lw_at lw_m5 15 rfl) rfl
theorem q1033 : (Jvm.Cond.codeWith ({ cls := "CliffPlotsLaw", name := "waits", desc := "(LCliffPlots;II[J)I" } : Jvm.MethodName) method_14_code (5 : Nat) (Option.some Jvm.ClassFile.FieldType.int) [((0 : Nat), (10 : Nat), (13 : Nat), (28 : Nat)), ((0 : Nat), (10 : Nat), (17 : Nat), (55 : Nat))]) ∈ lw_all := lw_g (lw_at lw_m5 16 rfl) rfl
theorem q1034 : (Jvm.Cond.classLink "CliffPlotsLaw" (55 : Nat) "java/util/NoSuchElementException") ∈ lw_all := lw_g (lw_at lw_m5 17 rfl) rfl
theorem q1035 : (Jvm.Cond.methodLink "CliffPlotsLaw" (52 : Nat) ({ cls := "CliffPlots", name := "waits", desc := "(II)I" } : Jvm.MethodName)) ∈ lw_all := lw_g (lw_at lw_m5 18 rfl) rfl
theorem q1061 : (Jvm.Cond.methodLink "CliffPlotsLaw" (176 : Nat) ({ cls := "CliffPlotsLaw", name := "plant", desc := "(LCliffPlots;III[J)I" } : Jvm.MethodName)) ∈ lw_all := lw_g (lw_at lw_m5 44 rfl) rfl
theorem q1062 : (Jvm.Cond.static ({ cls := "CliffPlotsLaw", name := "plant", desc := "(LCliffPlots;III[J)I" } : Jvm.MethodName)) ∈ lw_all := lw_g (lw_at lw_m5 45 rfl) rfl
theorem q1063 : (Jvm.Cond.codeWith ({ cls := "CliffPlotsLaw", name := "plant", desc := "(LCliffPlots;III[J)I" } : Jvm.MethodName) method_15_code (6 : Nat) (Option.some Jvm.ClassFile.FieldType.int) [((0 : Nat), (12 : Nat), (15 : Nat), (28 : Nat)), ((0 : Nat), (12 : Nat), (19 : Nat), (55 : Nat)), ((0 : Nat), (12 : Nat), (23 : Nat), (22 : Nat))]) ∈ lw_all := lw_g (lw_at lw_m5 46 rfl) rfl
theorem q1064 : (Jvm.Cond.methodLink "CliffPlotsLaw" (57 : Nat) ({ cls := "CliffPlots", name := "plant", desc := "(III)I" } : Jvm.MethodName)) ∈ lw_all := lw_g (lw_at lw_m5 47 rfl) rfl
theorem q1088 : (Jvm.Cond.methodLink "CliffPlotsLaw" (180 : Nat) ({ cls := "CliffPlotsLaw", name := "weight", desc := "(LCliffPlots;I[J)I" } : Jvm.MethodName)) ∈ lw_all := lw_g (lw_at lw_m5 71 rfl) rfl
theorem q1089 : (Jvm.Cond.static ({ cls := "CliffPlotsLaw", name := "weight", desc := "(LCliffPlots;I[J)I" } : Jvm.MethodName)) ∈ lw_all := lw_g (lw_at lw_m5 72 rfl) rfl
theorem q1090 : (Jvm.Cond.codeWith ({ cls := "CliffPlotsLaw", name := "weight", desc := "(LCliffPlots;I[J)I" } : Jvm.MethodName) method_16_code (4 : Nat) (Option.some Jvm.ClassFile.FieldType.int) [((0 : Nat), (9 : Nat), (12 : Nat), (28 : Nat)), ((0 : Nat), (9 : Nat), (15 : Nat), (55 : Nat))]) ∈ lw_all := lw_g (lw_at lw_m5 73 rfl) rfl
theorem q1091 : (Jvm.Cond.methodLink "CliffPlotsLaw" (61 : Nat) ({ cls := "CliffPlots", name := "weight", desc := "(I)I" } : Jvm.MethodName)) ∈ lw_all := lw_g (lw_at lw_m5 74 rfl) rfl
theorem q1099 : (Jvm.Cond.methodLink "CliffPlotsLaw" (183 : Nat) ({ cls := "CliffPlotsLaw", name := "weightIn", desc := "(LCliffPlots;II[J)I" } : Jvm.MethodName)) ∈ lw_all := lw_g (lw_at lw_m5 82 rfl) rfl
theorem q1100 : (Jvm.Cond.static ({ cls := "CliffPlotsLaw", name := "weightIn", desc := "(LCliffPlots;II[J)I" } : Jvm.MethodName)) ∈ lw_all := lw_g (lw_at lw_m5 83 rfl) rfl
theorem q1101 : (Jvm.Cond.codeWith ({ cls := "CliffPlotsLaw", name := "weightIn", desc := "(LCliffPlots;II[J)I" } : Jvm.MethodName) method_17_code (5 : Nat) (Option.some Jvm.ClassFile.FieldType.int) [((0 : Nat), (10 : Nat), (13 : Nat), (28 : Nat)), ((0 : Nat), (10 : Nat), (17 : Nat), (13 : Nat)), ((0 : Nat), (10 : Nat), (21 : Nat), (55 : Nat))]) ∈ lw_all := lw_g (lw_at lw_m5 84 rfl) rfl
theorem q1102 : (Jvm.Cond.methodLink "CliffPlotsLaw" (64 : Nat) ({ cls := "CliffPlots", name := "weightIn", desc := "(II)I" } : Jvm.MethodName)) ∈ lw_all := lw_g (lw_at lw_m5 85 rfl) rfl
theorem q1106 : (Jvm.Cond.methodLink "CliffPlotsLaw" (186 : Nat) ({ cls := "CliffPlotsLaw", name := "heaviest", desc := "(LCliffPlots;I[J)I" } : Jvm.MethodName)) ∈ lw_all := lw_g (lw_at lw_m5 89 rfl) rfl
theorem q1107 : (Jvm.Cond.static ({ cls := "CliffPlotsLaw", name := "heaviest", desc := "(LCliffPlots;I[J)I" } : Jvm.MethodName)) ∈ lw_all := lw_g (lw_at lw_m5 90 rfl) rfl
theorem q1108 : (Jvm.Cond.codeWith ({ cls := "CliffPlotsLaw", name := "heaviest", desc := "(LCliffPlots;I[J)I" } : Jvm.MethodName) method_18_code (4 : Nat) (Option.some Jvm.ClassFile.FieldType.int) [((0 : Nat), (9 : Nat), (12 : Nat), (13 : Nat)), ((0 : Nat), (9 : Nat), (15 : Nat), (55 : Nat))]) ∈ lw_all := lw_g (lw_at lw_m5 91 rfl) rfl
theorem q1109 : (Jvm.Cond.methodLink "CliffPlotsLaw" (67 : Nat) ({ cls := "CliffPlots", name := "heaviest", desc := "(I)I" } : Jvm.MethodName)) ∈ lw_all := lw_g (lw_at lw_m5 92 rfl) rfl
theorem q1117 : (Jvm.Cond.methodLink "CliffPlotsLaw" (189 : Nat) ({ cls := "CliffPlotsLaw", name := "harvest", desc := "(LCliffPlots;I[J)I" } : Jvm.MethodName)) ∈ lw_all := lw_g (lw_at lw_m5 100 rfl) rfl
theorem q1118 : (Jvm.Cond.static ({ cls := "CliffPlotsLaw", name := "harvest", desc := "(LCliffPlots;I[J)I" } : Jvm.MethodName)) ∈ lw_all := lw_g (lw_at lw_m5 101 rfl) rfl
theorem q1119 : (Jvm.Cond.codeWith ({ cls := "CliffPlotsLaw", name := "harvest", desc := "(LCliffPlots;I[J)I" } : Jvm.MethodName) method_19_code (4 : Nat) (Option.some Jvm.ClassFile.FieldType.int) [((0 : Nat), (9 : Nat), (12 : Nat), (28 : Nat)), ((0 : Nat), (9 : Nat), (15 : Nat), (22 : Nat))]) ∈ lw_all := lw_g (lw_at lw_m5 102 rfl) rfl
theorem q1120 : (Jvm.Cond.methodLink "CliffPlotsLaw" (70 : Nat) ({ cls := "CliffPlots", name := "harvest", desc := "(I)I" } : Jvm.MethodName)) ∈ lw_all := lw_g (lw_at lw_m5 103 rfl) rfl
theorem q1133 : (Jvm.Cond.methodLink "CliffPlotsLaw" (192 : Nat) ({ cls := "CliffPlotsLaw", name := "prize", desc := "(LCliffPlots;II[J)I" } : Jvm.MethodName)) ∈ lw_all := lw_g (lw_at lw_m5 116 rfl) rfl
theorem q1134 : (Jvm.Cond.static ({ cls := "CliffPlotsLaw", name := "prize", desc := "(LCliffPlots;II[J)I" } : Jvm.MethodName)) ∈ lw_all := lw_g (lw_at lw_m5 117 rfl) rfl
theorem q1135 : (Jvm.Cond.codeWith ({ cls := "CliffPlotsLaw", name := "prize", desc := "(LCliffPlots;II[J)I" } : Jvm.MethodName) method_20_code (5 : Nat) (Option.some Jvm.ClassFile.FieldType.int) [((0 : Nat), (10 : Nat), (13 : Nat), (55 : Nat)), ((0 : Nat), (10 : Nat), (17 : Nat), (13 : Nat))]) ∈ lw_all := lw_g (lw_at lw_m5 118 rfl) rfl
theorem q1136 : (Jvm.Cond.methodLink "CliffPlotsLaw" (73 : Nat) ({ cls := "CliffPlots", name := "prize", desc := "(II)I" } : Jvm.MethodName)) ∈ lw_all := lw_g (lw_at lw_m5 119 rfl) rfl
theorem q1140 : (Jvm.Cond.methodLink "CliffPlotsLaw" (195 : Nat) ({ cls := "CliffPlotsLaw", name := "shed", desc := "(LCliffPlots;I[J)I" } : Jvm.MethodName)) ∈ lw_all := lw_g (lw_at lw_m5 123 rfl) rfl
theorem q1141 : (Jvm.Cond.static ({ cls := "CliffPlotsLaw", name := "shed", desc := "(LCliffPlots;I[J)I" } : Jvm.MethodName)) ∈ lw_all := lw_g (lw_at lw_m5 124 rfl) rfl
theorem q1142 : (Jvm.Cond.codeWith ({ cls := "CliffPlotsLaw", name := "shed", desc := "(LCliffPlots;I[J)I" } : Jvm.MethodName) method_21_code (4 : Nat) (Option.some Jvm.ClassFile.FieldType.int) [((0 : Nat), (9 : Nat), (12 : Nat), (28 : Nat)), ((0 : Nat), (9 : Nat), (15 : Nat), (22 : Nat))]) ∈ lw_all := lw_g (lw_at lw_m5 125 rfl) rfl
theorem q1143 : (Jvm.Cond.methodLink "CliffPlotsLaw" (76 : Nat) ({ cls := "CliffPlots", name := "shed", desc := "(I)I" } : Jvm.MethodName)) ∈ lw_all := lw_g (lw_at lw_m5 126 rfl) rfl
theorem q1156 : (Jvm.Cond.methodLink "CliffPlotsLaw" (198 : Nat) ({ cls := "CliffPlotsLaw", name := "rope", desc := "(LCliffPlots;I[J)I" } : Jvm.MethodName)) ∈ lw_all := lw_g (lw_at lw_m5 139 rfl) rfl
theorem q1157 : (Jvm.Cond.static ({ cls := "CliffPlotsLaw", name := "rope", desc := "(LCliffPlots;I[J)I" } : Jvm.MethodName)) ∈ lw_all := lw_g (lw_at lw_m5 140 rfl) rfl
theorem q1158 : (Jvm.Cond.codeWith ({ cls := "CliffPlotsLaw", name := "rope", desc := "(LCliffPlots;I[J)I" } : Jvm.MethodName) method_22_code (4 : Nat) (Option.some Jvm.ClassFile.FieldType.int) [((0 : Nat), (9 : Nat), (12 : Nat), (28 : Nat)), ((0 : Nat), (9 : Nat), (15 : Nat), (22 : Nat))]) ∈ lw_all := lw_g (lw_at lw_m5 141 rfl) rfl
theorem q1159 : (Jvm.Cond.methodLink "CliffPlotsLaw" (79 : Nat) ({ cls := "CliffPlots", name := "rope", desc := "(I)I" } : Jvm.MethodName)) ∈ lw_all := lw_g (lw_at lw_m5 142 rfl) rfl
theorem q1171 : (Jvm.Cond.methodLink "CliffPlotsLaw" (201 : Nat) ({ cls := "CliffPlotsLaw", name := "shedOf", desc := "(LCliffPlots;II[J)I" } : Jvm.MethodName)) ∈ lw_all := lw_g (lw_at lw_m5 154 rfl) rfl
theorem q1172 : (Jvm.Cond.static ({ cls := "CliffPlotsLaw", name := "shedOf", desc := "(LCliffPlots;II[J)I" } : Jvm.MethodName)) ∈ lw_all := lw_g (lw_at lw_m5 155 rfl) rfl
theorem q1173 : (Jvm.Cond.codeWith ({ cls := "CliffPlotsLaw", name := "shedOf", desc := "(LCliffPlots;II[J)I" } : Jvm.MethodName) method_23_code (5 : Nat) (Option.some Jvm.ClassFile.FieldType.int) [((0 : Nat), (10 : Nat), (13 : Nat), (28 : Nat)), ((0 : Nat), (10 : Nat), (17 : Nat), (13 : Nat))]) ∈ lw_all := lw_g (lw_at lw_m5 156 rfl) rfl
theorem q1174 : (Jvm.Cond.methodLink "CliffPlotsLaw" (82 : Nat) ({ cls := "CliffPlots", name := "shedOf", desc := "(II)I" } : Jvm.MethodName)) ∈ lw_all := lw_g (lw_at lw_m5 157 rfl) rfl
theorem q1182 : (Jvm.Cond.methodLink "CliffPlotsLaw" (204 : Nat) ({ cls := "CliffPlotsLaw", name := "butt", desc := "(LCliffPlots;I[D)I" } : Jvm.MethodName)) ∈ lw_all := lw_g (lw_at lw_m5 165 rfl) rfl
theorem q1183 : (Jvm.Cond.static ({ cls := "CliffPlotsLaw", name := "butt", desc := "(LCliffPlots;I[D)I" } : Jvm.MethodName)) ∈ lw_all := lw_g (lw_at lw_m5 166 rfl) rfl
theorem q1184 : (Jvm.Cond.codeWith ({ cls := "CliffPlotsLaw", name := "butt", desc := "(LCliffPlots;I[D)I" } : Jvm.MethodName) method_24_code (4 : Nat) (Option.some Jvm.ClassFile.FieldType.int) [((0 : Nat), (9 : Nat), (12 : Nat), (28 : Nat))]) ∈ lw_all := lw_g (lw_at lw_m5 167 rfl) rfl
theorem q1185 : (Jvm.Cond.methodLink "CliffPlotsLaw" (85 : Nat) ({ cls := "CliffPlots", name := "butt", desc := "(I)F" } : Jvm.MethodName)) ∈ lw_all := lw_g (lw_at lw_m5 168 rfl) rfl
theorem q1189 : (Jvm.Cond.methodLink "CliffPlotsLaw" (207 : Nat) ({ cls := "CliffPlotsLaw", name := "pour", desc := "(LCliffPlots;III[J)I" } : Jvm.MethodName)) ∈ lw_all := lw_g (lw_at lw_m5 172 rfl) rfl
theorem q1190 : (Jvm.Cond.static ({ cls := "CliffPlotsLaw", name := "pour", desc := "(LCliffPlots;III[J)I" } : Jvm.MethodName)) ∈ lw_all := lw_g (lw_at lw_m5 173 rfl) rfl
theorem q1191 : (Jvm.Cond.codeWith ({ cls := "CliffPlotsLaw", name := "pour", desc := "(LCliffPlots;III[J)I" } : Jvm.MethodName) method_25_code (6 : Nat) (Option.some Jvm.ClassFile.FieldType.int) [((0 : Nat), (12 : Nat), (15 : Nat), (28 : Nat)), ((0 : Nat), (12 : Nat), (19 : Nat), (13 : Nat)), ((0 : Nat), (12 : Nat), (23 : Nat), (22 : Nat))]) ∈ lw_all := lw_g (lw_at lw_m5 174 rfl) rfl
theorem q1192 : (Jvm.Cond.methodLink "CliffPlotsLaw" (88 : Nat) ({ cls := "CliffPlots", name := "pour", desc := "(III)I" } : Jvm.MethodName)) ∈ lw_all := lw_g (lw_at lw_m5 175 rfl) rfl
theorem q1200 : (Jvm.Cond.methodLink "CliffPlotsLaw" (210 : Nat) ({ cls := "CliffPlotsLaw", name := "moles", desc := "(LCliffPlots;II[J)I" } : Jvm.MethodName)) ∈ lw_all := lw_g (lw_at lw_m5 183 rfl) rfl
theorem q1201 : (Jvm.Cond.static ({ cls := "CliffPlotsLaw", name := "moles", desc := "(LCliffPlots;II[J)I" } : Jvm.MethodName)) ∈ lw_all := lw_g (lw_at lw_m5 184 rfl) rfl
theorem q1202 : (Jvm.Cond.codeWith ({ cls := "CliffPlotsLaw", name := "moles", desc := "(LCliffPlots;II[J)I" } : Jvm.MethodName) method_26_code (5 : Nat) (Option.some Jvm.ClassFile.FieldType.int) [((0 : Nat), (10 : Nat), (13 : Nat), (28 : Nat)), ((0 : Nat), (10 : Nat), (17 : Nat), (13 : Nat))]) ∈ lw_all := lw_g (lw_at lw_m5 185 rfl) rfl
theorem q1203 : (Jvm.Cond.methodLink "CliffPlotsLaw" (91 : Nat) ({ cls := "CliffPlots", name := "moles", desc := "(II)I" } : Jvm.MethodName)) ∈ lw_all := lw_g (lw_at lw_m5 186 rfl) rfl
theorem q1207 : (Jvm.Cond.methodLink "CliffPlotsLaw" (213 : Nat) ({ cls := "CliffPlotsLaw", name := "vote", desc := "(LCliffPlots;IZ[J)I" } : Jvm.MethodName)) ∈ lw_all := lw_g (lw_at lw_m5 190 rfl) rfl
theorem q1208 : (Jvm.Cond.static ({ cls := "CliffPlotsLaw", name := "vote", desc := "(LCliffPlots;IZ[J)I" } : Jvm.MethodName)) ∈ lw_all := lw_g (lw_at lw_m5 191 rfl) rfl
theorem q1209 : (Jvm.Cond.codeWith ({ cls := "CliffPlotsLaw", name := "vote", desc := "(LCliffPlots;IZ[J)I" } : Jvm.MethodName) method_27_code (5 : Nat) (Option.some Jvm.ClassFile.FieldType.int) [((0 : Nat), (10 : Nat), (13 : Nat), (28 : Nat))]) ∈ lw_all := lw_g (lw_at lw_m5 192 rfl) rfl
theorem q1210 : (Jvm.Cond.methodLink "CliffPlotsLaw" (94 : Nat) ({ cls := "CliffPlots", name := "vote", desc := "(IZ)I" } : Jvm.MethodName)) ∈ lw_all := lw_g (lw_at lw_m5 193 rfl) rfl
theorem q1218 : (Jvm.Cond.methodLink "CliffPlotsLaw" (221 : Nat) ({ cls := "CliffPlotsLaw", name := "sign", desc := "(LCliffPlots;I[J)I" } : Jvm.MethodName)) ∈ lw_all := lw_g (lw_at lw_m5 201 rfl) rfl
theorem q1219 : (Jvm.Cond.static ({ cls := "CliffPlotsLaw", name := "sign", desc := "(LCliffPlots;I[J)I" } : Jvm.MethodName)) ∈ lw_all := lw_g (lw_at lw_m5 202 rfl) rfl
theorem q1220 : (Jvm.Cond.codeWith ({ cls := "CliffPlotsLaw", name := "sign", desc := "(LCliffPlots;I[J)I" } : Jvm.MethodName) method_28_code (4 : Nat) (Option.some Jvm.ClassFile.FieldType.int) [((0 : Nat), (9 : Nat), (12 : Nat), (28 : Nat))]) ∈ lw_all := lw_g (lw_at lw_m5 203 rfl) rfl
theorem q1221 : (Jvm.Cond.methodLink "CliffPlotsLaw" (98 : Nat) ({ cls := "CliffPlots", name := "sign", desc := "(I)C" } : Jvm.MethodName)) ∈ lw_all := lw_g (lw_at lw_m5 204 rfl) rfl
theorem q1234 : (Jvm.Cond.methodLink "CliffPlotsLaw" (224 : Nat) ({ cls := "CliffPlotsLaw", name := "pass", desc := "(LCliffPlots;I[J)I" } : Jvm.MethodName)) ∈ lw_all := lw_g (lw_at lw_m5 217 rfl) rfl
theorem q1235 : (Jvm.Cond.static ({ cls := "CliffPlotsLaw", name := "pass", desc := "(LCliffPlots;I[J)I" } : Jvm.MethodName)) ∈ lw_all := lw_g (lw_at lw_m5 218 rfl) rfl
theorem q1236 : (Jvm.Cond.codeWith ({ cls := "CliffPlotsLaw", name := "pass", desc := "(LCliffPlots;I[J)I" } : Jvm.MethodName) method_29_code (4 : Nat) (Option.some Jvm.ClassFile.FieldType.int) [((0 : Nat), (9 : Nat), (12 : Nat), (13 : Nat))]) ∈ lw_all := lw_g (lw_at lw_m5 219 rfl) rfl
theorem q1237 : (Jvm.Cond.methodLink "CliffPlotsLaw" (102 : Nat) ({ cls := "CliffPlots", name := "pass", desc := "(I)I" } : Jvm.MethodName)) ∈ lw_all := lw_g (lw_at lw_m5 220 rfl) rfl
theorem q1241 : (Jvm.Cond.methodLink "CliffPlotsLaw" (227 : Nat) ({ cls := "CliffPlotsLaw", name := "append", desc := "(LCliffPlots;C[J)I" } : Jvm.MethodName)) ∈ lw_all := lw_g (lw_at lw_m5 224 rfl) rfl
theorem q1242 : (Jvm.Cond.static ({ cls := "CliffPlotsLaw", name := "append", desc := "(LCliffPlots;C[J)I" } : Jvm.MethodName)) ∈ lw_all := lw_g (lw_at lw_m5 225 rfl) rfl
theorem q1243 : (Jvm.Cond.codeWith ({ cls := "CliffPlotsLaw", name := "append", desc := "(LCliffPlots;C[J)I" } : Jvm.MethodName) method_30_code (4 : Nat) (Option.some Jvm.ClassFile.FieldType.int) [((0 : Nat), (9 : Nat), (12 : Nat), (109 : Nat))]) ∈ lw_all := lw_g (lw_at lw_m5 226 rfl) rfl
theorem q1244 : (Jvm.Cond.classLink "CliffPlotsLaw" (109 : Nat) "java/lang/IllegalStateException") ∈ lw_all := lw_g (lw_at lw_m5 227 rfl) rfl
theorem q1245 : (Jvm.Cond.methodLink "CliffPlotsLaw" (105 : Nat) ({ cls := "CliffPlots", name := "append", desc := "(C)I" } : Jvm.MethodName)) ∈ lw_all := lw_g (lw_at lw_m5 228 rfl) rfl
theorem q1349 : (Jvm.Cond.methodLink "CliffPlotsLaw" (231 : Nat) ({ cls := "CliffPlotsLaw", name := "read", desc := "(LCliffPlots;[J)I" } : Jvm.MethodName)) ∈ lw_all := lw_g (lw_at lw_m6 92 rfl) rfl
theorem q1350 : (Jvm.Cond.static ({ cls := "CliffPlotsLaw", name := "read", desc := "(LCliffPlots;[J)I" } : Jvm.MethodName)) ∈ lw_all := lw_g (lw_at lw_m6 93 rfl) rfl
theorem q1351 : (Jvm.Cond.codeWith ({ cls := "CliffPlotsLaw", name := "read", desc := "(LCliffPlots;[J)I" } : Jvm.MethodName) method_31_code (3 : Nat) (Option.some Jvm.ClassFile.FieldType.int) [((0 : Nat), (8 : Nat), (11 : Nat), (13 : Nat)), ((0 : Nat), (8 : Nat), (14 : Nat), (22 : Nat))]) ∈ lw_all := lw_g (lw_at lw_m6 94 rfl) rfl
theorem q1352 : (Jvm.Cond.methodLink "CliffPlotsLaw" (111 : Nat) ({ cls := "CliffPlots", name := "read", desc := "()I" } : Jvm.MethodName)) ∈ lw_all := lw_g (lw_at lw_m6 95 rfl) rfl
theorem q1615 : (Jvm.Cond.methodLink "CliffPlotsLaw" (238 : Nat) ({ cls := "CliffPlotsLaw", name := "refusal", desc := "(LCliffPlots;Z[J)I" } : Jvm.MethodName)) ∈ lw_all := lw_g (lw_at lw_m7 118 rfl) rfl
theorem q1616 : (Jvm.Cond.static ({ cls := "CliffPlotsLaw", name := "refusal", desc := "(LCliffPlots;Z[J)I" } : Jvm.MethodName)) ∈ lw_all := lw_g (lw_at lw_m7 119 rfl) rfl
theorem q1617 : (Jvm.Cond.codeWith ({ cls := "CliffPlotsLaw", name := "refusal", desc := "(LCliffPlots;Z[J)I" } : Jvm.MethodName) method_32_code (4 : Nat) (Option.some Jvm.ClassFile.FieldType.int) [((0 : Nat), (9 : Nat), (12 : Nat), (55 : Nat))]) ∈ lw_all := lw_g (lw_at lw_m7 120 rfl) rfl
theorem q1618 : (Jvm.Cond.methodLink "CliffPlotsLaw" (114 : Nat) ({ cls := "CliffPlots", name := "refusal", desc := "(Z)I" } : Jvm.MethodName)) ∈ lw_all := lw_g (lw_at lw_m7 121 rfl) rfl
theorem q1622 : (Jvm.Cond.methodLink "CliffPlotsLaw" (242 : Nat) ({ cls := "CliffPlotsLaw", name := "account", desc := "(LCliffPlots;I[J)I" } : Jvm.MethodName)) ∈ lw_all := lw_g (lw_at lw_m7 125 rfl) rfl
theorem q1623 : (Jvm.Cond.static ({ cls := "CliffPlotsLaw", name := "account", desc := "(LCliffPlots;I[J)I" } : Jvm.MethodName)) ∈ lw_all := lw_g (lw_at lw_m7 126 rfl) rfl
theorem q1624 : (Jvm.Cond.codeWith ({ cls := "CliffPlotsLaw", name := "account", desc := "(LCliffPlots;I[J)I" } : Jvm.MethodName) method_33_code (4 : Nat) (Option.some Jvm.ClassFile.FieldType.int) [((0 : Nat), (9 : Nat), (12 : Nat), (13 : Nat))]) ∈ lw_all := lw_g (lw_at lw_m7 127 rfl) rfl
theorem q1625 : (Jvm.Cond.methodLink "CliffPlotsLaw" (118 : Nat) ({ cls := "CliffPlots", name := "account", desc := "(I)I" } : Jvm.MethodName)) ∈ lw_all := lw_g (lw_at lw_m7 128 rfl) rfl
theorem q1646 : (Jvm.Cond.methodLink "CliffPlotsLaw" (260 : Nat) ({ cls := "CliffPlotsLaw", name := "undo", desc := "(LCliffPlots;[J)I" } : Jvm.MethodName)) ∈ lw_all := lw_g (lw_at lw_m7 149 rfl) rfl
theorem q1647 : (Jvm.Cond.static ({ cls := "CliffPlotsLaw", name := "undo", desc := "(LCliffPlots;[J)I" } : Jvm.MethodName)) ∈ lw_all := lw_g (lw_at lw_m7 150 rfl) rfl
theorem q1648 : (Jvm.Cond.codeWith ({ cls := "CliffPlotsLaw", name := "undo", desc := "(LCliffPlots;[J)I" } : Jvm.MethodName) method_34_code (3 : Nat) (Option.some Jvm.ClassFile.FieldType.int) [((0 : Nat), (8 : Nat), (11 : Nat), (109 : Nat))]) ∈ lw_all := lw_g (lw_at lw_m7 151 rfl) rfl
theorem q1649 : (Jvm.Cond.methodLink "CliffPlotsLaw" (121 : Nat) ({ cls := "CliffPlots", name := "undo", desc := "()I" } : Jvm.MethodName)) ∈ lw_all := lw_g (lw_at lw_m7 152 rfl) rfl
theorem q1660 : (Jvm.Cond.methodLink "CliffPlotsLaw" (267 : Nat) ({ cls := "CliffPlotsLaw", name := "restore", desc := "(LCliffPlots;[J)I" } : Jvm.MethodName)) ∈ lw_all := lw_g (lw_at lw_m7 163 rfl) rfl
theorem q1661 : (Jvm.Cond.static ({ cls := "CliffPlotsLaw", name := "restore", desc := "(LCliffPlots;[J)I" } : Jvm.MethodName)) ∈ lw_all := lw_g (lw_at lw_m7 164 rfl) rfl
theorem q1662 : (Jvm.Cond.codeWith ({ cls := "CliffPlotsLaw", name := "restore", desc := "(LCliffPlots;[J)I" } : Jvm.MethodName) method_35_code (3 : Nat) (Option.some Jvm.ClassFile.FieldType.int) [((0 : Nat), (8 : Nat), (11 : Nat), (109 : Nat))]) ∈ lw_all := lw_g (lw_at lw_m7 165 rfl) rfl
theorem q1663 : (Jvm.Cond.methodLink "CliffPlotsLaw" (124 : Nat) ({ cls := "CliffPlots", name := "restore", desc := "()I" } : Jvm.MethodName)) ∈ lw_all := lw_g (lw_at lw_m7 166 rfl) rfl
theorem q1667 : (Jvm.Cond.classLink "CliffPlotsLaw" (128 : Nat) "CliffPlotsModel") ∈ lw_all := lw_g (lw_at lw_m7 170 rfl) rfl
theorem q1669 : (Jvm.Cond.methodLink "CliffPlotsLaw" (130 : Nat) ({ cls := "CliffPlotsModel", name := "<init>", desc := "()V" } : Jvm.MethodName)) ∈ lw_all := lw_g (lw_at lw_m7 172 rfl) rfl
theorem q1741 : (Jvm.Cond.methodLink "CliffPlotsLaw" (137 : Nat) ({ cls := "CliffPlotsModel", name := "thrown", desc := "()I" } : Jvm.MethodName)) ∈ lw_all := lw_g (lw_at lw_m8 4 rfl) rfl
theorem q1745 : (Jvm.Cond.methodLink "CliffPlotsLaw" (136 : Nat) ({ cls := "CliffPlotsModel", name := "wind", desc := "(I)I" } : Jvm.MethodName)) ∈ lw_all := lw_g (lw_at lw_m8 8 rfl) rfl
theorem q1778 : (Jvm.Cond.methodLink "CliffPlotsLaw" (142 : Nat) ({ cls := "CliffPlotsModel", name := "rain", desc := "(I)I" } : Jvm.MethodName)) ∈ lw_all := lw_g (lw_at lw_m8 41 rfl) rfl
theorem q1786 : (Jvm.Cond.methodLink "CliffPlotsLaw" (146 : Nat) ({ cls := "CliffPlotsModel", name := "member", desc := "()I" } : Jvm.MethodName)) ∈ lw_all := lw_g (lw_at lw_m8 49 rfl) rfl
theorem q1794 : (Jvm.Cond.methodLink "CliffPlotsLaw" (150 : Nat) ({ cls := "CliffPlotsModel", name := "dig", desc := "(II)I" } : Jvm.MethodName)) ∈ lw_all := lw_g (lw_at lw_m8 57 rfl) rfl
theorem q1813 : (Jvm.Cond.methodLink "CliffPlotsLaw" (153 : Nat) ({ cls := "CliffPlotsModel", name := "rest", desc := "(I)I" } : Jvm.MethodName)) ∈ lw_all := lw_g (lw_at lw_m8 76 rfl) rfl
theorem q1821 : (Jvm.Cond.methodLink "CliffPlotsLaw" (156 : Nat) ({ cls := "CliffPlotsModel", name := "memberOf", desc := "(II)I" } : Jvm.MethodName)) ∈ lw_all := lw_g (lw_at lw_m8 84 rfl) rfl
theorem q1825 : (Jvm.Cond.methodLink "CliffPlotsLaw" (159 : Nat) ({ cls := "CliffPlotsModel", name := "plotOf", desc := "(II)I" } : Jvm.MethodName)) ∈ lw_all := lw_g (lw_at lw_m8 88 rfl) rfl
theorem q1833 : (Jvm.Cond.methodLink "CliffPlotsLaw" (163 : Nat) ({ cls := "CliffPlotsModel", name := "water", desc := "(I)F" } : Jvm.MethodName)) ∈ lw_all := lw_g (lw_at lw_m8 96 rfl) rfl
theorem q1837 : (Jvm.Cond.methodLink "CliffPlotsLaw" (166 : Nat) ({ cls := "CliffPlotsModel", name := "waterIn", desc := "(II)I" } : Jvm.MethodName)) ∈ lw_all := lw_g (lw_at lw_m8 100 rfl) rfl
theorem q1856 : (Jvm.Cond.methodLink "CliffPlotsLaw" (169 : Nat) ({ cls := "CliffPlotsModel", name := "waterAgain", desc := "(II)I" } : Jvm.MethodName)) ∈ lw_all := lw_g (lw_at lw_m8 119 rfl) rfl
theorem q1892 : (Jvm.Cond.methodLink "CliffPlotsLaw" (172 : Nat) ({ cls := "CliffPlotsModel", name := "seedling", desc := "(II)I" } : Jvm.MethodName)) ∈ lw_all := lw_g (lw_at lw_m8 155 rfl) rfl
theorem q1903 : (Jvm.Cond.methodLink "CliffPlotsLaw" (175 : Nat) ({ cls := "CliffPlotsModel", name := "waits", desc := "(II)I" } : Jvm.MethodName)) ∈ lw_all := lw_g (lw_at lw_m8 166 rfl) rfl
theorem q1910 : (Jvm.Cond.methodLink "CliffPlotsLaw" (179 : Nat) ({ cls := "CliffPlotsModel", name := "plant", desc := "(III)I" } : Jvm.MethodName)) ∈ lw_all := lw_g (lw_at lw_m8 173 rfl) rfl
theorem q1914 : (Jvm.Cond.methodLink "CliffPlotsLaw" (182 : Nat) ({ cls := "CliffPlotsModel", name := "weight", desc := "(I)I" } : Jvm.MethodName)) ∈ lw_all := lw_g (lw_at lw_m8 177 rfl) rfl
theorem q1918 : (Jvm.Cond.methodLink "CliffPlotsLaw" (185 : Nat) ({ cls := "CliffPlotsModel", name := "weightIn", desc := "(II)I" } : Jvm.MethodName)) ∈ lw_all := lw_g (lw_at lw_m8 181 rfl) rfl
theorem q1922 : (Jvm.Cond.methodLink "CliffPlotsLaw" (188 : Nat) ({ cls := "CliffPlotsModel", name := "heaviest", desc := "(I)I" } : Jvm.MethodName)) ∈ lw_all := lw_g (lw_at lw_m8 185 rfl) rfl
theorem q1926 : (Jvm.Cond.methodLink "CliffPlotsLaw" (191 : Nat) ({ cls := "CliffPlotsModel", name := "harvest", desc := "(I)I" } : Jvm.MethodName)) ∈ lw_all := lw_g (lw_at lw_m8 189 rfl) rfl
theorem q1934 : (Jvm.Cond.methodLink "CliffPlotsLaw" (194 : Nat) ({ cls := "CliffPlotsModel", name := "prize", desc := "(II)I" } : Jvm.MethodName)) ∈ lw_all := lw_g (lw_at lw_m8 197 rfl) rfl
theorem q1938 : (Jvm.Cond.methodLink "CliffPlotsLaw" (197 : Nat) ({ cls := "CliffPlotsModel", name := "shed", desc := "(I)I" } : Jvm.MethodName)) ∈ lw_all := lw_g (lw_at lw_m8 201 rfl) rfl
theorem q1942 : (Jvm.Cond.methodLink "CliffPlotsLaw" (200 : Nat) ({ cls := "CliffPlotsModel", name := "rope", desc := "(I)I" } : Jvm.MethodName)) ∈ lw_all := lw_g (lw_at lw_m8 205 rfl) rfl
theorem q1950 : (Jvm.Cond.methodLink "CliffPlotsLaw" (203 : Nat) ({ cls := "CliffPlotsModel", name := "shedOf", desc := "(II)I" } : Jvm.MethodName)) ∈ lw_all := lw_g (lw_at lw_m8 213 rfl) rfl
theorem q1958 : (Jvm.Cond.methodLink "CliffPlotsLaw" (206 : Nat) ({ cls := "CliffPlotsModel", name := "butt", desc := "(I)F" } : Jvm.MethodName)) ∈ lw_all := lw_g (lw_at lw_m8 221 rfl) rfl
theorem q1962 : (Jvm.Cond.methodLink "CliffPlotsLaw" (209 : Nat) ({ cls := "CliffPlotsModel", name := "pour", desc := "(III)I" } : Jvm.MethodName)) ∈ lw_all := lw_g (lw_at lw_m8 225 rfl) rfl
theorem q1966 : (Jvm.Cond.methodLink "CliffPlotsLaw" (212 : Nat) ({ cls := "CliffPlotsModel", name := "moles", desc := "(II)I" } : Jvm.MethodName)) ∈ lw_all := lw_g (lw_at lw_m8 229 rfl) rfl
theorem q1970 : (Jvm.Cond.methodLink "CliffPlotsLaw" (216 : Nat) ({ cls := "CliffPlotsModel", name := "vote", desc := "(IZ)I" } : Jvm.MethodName)) ∈ lw_all := lw_g (lw_at lw_m8 233 rfl) rfl
theorem q1982 : (Jvm.Cond.methodLink "CliffPlotsLaw" (220 : Nat) ({ cls := "CliffPlotsModel", name := "count", desc := "()I" } : Jvm.MethodName)) ∈ lw_all := lw_g (lw_at lw_m9 5 rfl) rfl
theorem q1990 : (Jvm.Cond.methodLink "CliffPlotsLaw" (223 : Nat) ({ cls := "CliffPlotsModel", name := "sign", desc := "(I)C" } : Jvm.MethodName)) ∈ lw_all := lw_g (lw_at lw_m9 13 rfl) rfl
theorem q1994 : (Jvm.Cond.methodLink "CliffPlotsLaw" (226 : Nat) ({ cls := "CliffPlotsModel", name := "pass", desc := "(I)I" } : Jvm.MethodName)) ∈ lw_all := lw_g (lw_at lw_m9 17 rfl) rfl
theorem q2002 : (Jvm.Cond.methodLink "CliffPlotsLaw" (230 : Nat) ({ cls := "CliffPlotsModel", name := "append", desc := "(C)I" } : Jvm.MethodName)) ∈ lw_all := lw_g (lw_at lw_m9 25 rfl) rfl
theorem q2006 : (Jvm.Cond.methodLink "CliffPlotsLaw" (233 : Nat) ({ cls := "CliffPlotsModel", name := "read", desc := "()I" } : Jvm.MethodName)) ∈ lw_all := lw_g (lw_at lw_m9 29 rfl) rfl
theorem q2041 : (Jvm.Cond.methodLink "CliffPlotsLaw" (237 : Nat) ({ cls := "CliffPlotsModel", name := "errorPosition", desc := "()I" } : Jvm.MethodName)) ∈ lw_all := lw_g (lw_at lw_m9 64 rfl) rfl
theorem q2045 : (Jvm.Cond.methodLink "CliffPlotsLaw" (241 : Nat) ({ cls := "CliffPlotsModel", name := "refusal", desc := "(Z)I" } : Jvm.MethodName)) ∈ lw_all := lw_g (lw_at lw_m9 68 rfl) rfl
theorem q2049 : (Jvm.Cond.methodLink "CliffPlotsLaw" (244 : Nat) ({ cls := "CliffPlotsModel", name := "account", desc := "(I)I" } : Jvm.MethodName)) ∈ lw_all := lw_g (lw_at lw_m9 72 rfl) rfl
theorem q2061 : (Jvm.Cond.methodLink "CliffPlotsLaw" (249 : Nat) ({ cls := "CliffPlotsModel", name := "isWell", desc := "()Z" } : Jvm.MethodName)) ∈ lw_all := lw_g (lw_at lw_m9 84 rfl) rfl
theorem q2065 : (Jvm.Cond.methodLink "CliffPlotsLaw" (254 : Nat) ({ cls := "CliffPlotsModel", name := "meanBits", desc := "()J" } : Jvm.MethodName)) ∈ lw_all := lw_g (lw_at lw_m9 88 rfl) rfl
theorem q2071 : (Jvm.Cond.methodLink "CliffPlotsLaw" (259 : Nat) ({ cls := "CliffPlotsModel", name := "dug", desc := "()F" } : Jvm.MethodName)) ∈ lw_all := lw_g (lw_at lw_m9 94 rfl) rfl
theorem q2076 : (Jvm.Cond.methodLink "CliffPlotsLaw" (262 : Nat) ({ cls := "CliffPlotsModel", name := "undo", desc := "()I" } : Jvm.MethodName)) ∈ lw_all := lw_g (lw_at lw_m9 99 rfl) rfl
theorem q2080 : (Jvm.Cond.methodLink "CliffPlotsLaw" (266 : Nat) ({ cls := "CliffPlotsModel", name := "save", desc := "()I" } : Jvm.MethodName)) ∈ lw_all := lw_g (lw_at lw_m9 103 rfl) rfl
theorem q2084 : (Jvm.Cond.methodLink "CliffPlotsLaw" (269 : Nat) ({ cls := "CliffPlotsModel", name := "restore", desc := "()I" } : Jvm.MethodName)) ∈ lw_all := lw_g (lw_at lw_m9 107 rfl) rfl
/-! the law's own entry -/
set_option maxRecDepth 100000
abbrev cL_law : ByteArray := code
def dkwL_law_96 : List UInt8 := [4, 172]
abbrev dktL_law_96 : List UInt8 := dkwL_law_96 ++ []
def dkwL_law_95 : List UInt8 := [154, 0, 15, 45, 3, 47, 21, 7, 133, 148, 153, 0, 5, 3, 172, 167, 0, 3, 132, 5, 4, 167, 246, 190]
abbrev dktL_law_95 : List UInt8 := dkwL_law_95 ++ dktL_law_96
def dkwL_law_94 : List UInt8 := [184, 1, 11, 54, 6, 44, 182, 1, 13, 54, 7, 44, 182, 0, 137, 21, 6, 159, 0, 5, 3, 172, 21, 6]
abbrev dktL_law_94 : List UInt8 := dkwL_law_94 ++ dktL_law_95
def dkwL_law_93 : List UInt8 := [153, 0, 5, 3, 172, 167, 0, 60, 43, 182, 1, 7, 44, 182, 1, 10, 159, 0, 49, 3, 172, 43, 45]
abbrev dktL_law_93 : List UInt8 := dkwL_law_93 ++ dktL_law_94
def dkwL_law_92 : List UInt8 := [182, 0, 137, 21, 6, 159, 0, 5, 3, 172, 21, 6, 154, 0, 15, 45, 3, 47, 21, 7, 133, 148]
abbrev dktL_law_92 : List UInt8 := dkwL_law_92 ++ dktL_law_93
def dkwL_law_91 : List UInt8 := [154, 0, 5, 3, 172, 167, 0, 104, 43, 45, 184, 1, 4, 54, 6, 44, 182, 1, 6, 54, 7, 44]
abbrev dktL_law_91 : List UInt8 := dkwL_law_91 ++ dktL_law_92
def dkwL_law_90 : List UInt8 := [141, 57, 8, 24, 6, 24, 8, 151, 153, 0, 21, 24, 6, 24, 6, 151, 153, 0, 11, 24, 8, 24, 8, 151]
abbrev dktL_law_90 : List UInt8 := dkwL_law_90 ++ dktL_law_91
def dkwL_law_89 : List UInt8 := [182, 0, 250, 44, 182, 0, 254, 148, 153, 0, 149, 3, 172, 43, 182, 0, 255, 141, 57, 6, 44, 182, 1, 3]
abbrev dktL_law_89 : List UInt8 := dkwL_law_89 ++ dktL_law_90
def dkwL_law_88 : List UInt8 := [153, 0, 5, 3, 172, 167, 0, 174, 43, 182, 0, 245, 44, 182, 0, 249, 159, 0, 163, 3, 172, 43]
abbrev dktL_law_88 : List UInt8 := dkwL_law_88 ++ dktL_law_89
def dkwL_law_87 : List UInt8 := [182, 0, 137, 21, 6, 159, 0, 5, 3, 172, 21, 6, 154, 0, 15, 45, 3, 47, 21, 7, 133, 148]
abbrev dktL_law_87 : List UInt8 := dkwL_law_87 ++ dktL_law_88
def dkwL_law_86 : List UInt8 := [21, 5, 4, 96, 46, 45, 184, 0, 242, 54, 6, 44, 42, 21, 5, 4, 96, 46, 182, 0, 244, 54, 7, 44]
abbrev dktL_law_86 : List UInt8 := dkwL_law_86 ++ dktL_law_87
def dkwL_law_85 : List UInt8 := [3, 172, 21, 6, 154, 0, 15, 45, 3, 47, 21, 7, 133, 148, 153, 0, 5, 3, 172, 167, 0, 230, 43, 42]
abbrev dktL_law_85 : List UInt8 := dkwL_law_85 ++ dktL_law_86
def dkwL_law_84 : List UInt8 := [96, 46, 153, 0, 7, 4, 167, 0, 4, 3, 182, 0, 241, 54, 7, 44, 182, 0, 137, 21, 6, 159, 0, 5]
abbrev dktL_law_84 : List UInt8 := dkwL_law_84 ++ dktL_law_85
def dkwL_law_83 : List UInt8 := [21, 5, 4, 96, 46, 153, 0, 7, 4, 167, 0, 4, 3, 45, 184, 0, 238, 54, 6, 44, 42, 21, 5, 4]
abbrev dktL_law_83 : List UInt8 := dkwL_law_83 ++ dktL_law_84
def dkwL_law_82 : List UInt8 := [148, 153, 0, 5, 3, 172, 167, 1, 59, 43, 182, 0, 234, 44, 182, 0, 237, 159, 1, 48, 3, 172, 43, 42]
abbrev dktL_law_82 : List UInt8 := dkwL_law_82 ++ dktL_law_83
def dkwL_law_81 : List UInt8 := [54, 7, 44, 182, 0, 137, 21, 6, 159, 0, 5, 3, 172, 21, 6, 154, 0, 15, 45, 3, 47, 21, 7, 133]
abbrev dktL_law_81 : List UInt8 := dkwL_law_81 ++ dktL_law_82
def dkwL_law_80 : List UInt8 := [47, 21, 7, 133, 148, 153, 0, 5, 3, 172, 167, 1, 103, 43, 45, 184, 0, 231, 54, 6, 44, 182, 0, 233]
abbrev dktL_law_80 : List UInt8 := dkwL_law_80 ++ dktL_law_81
def dkwL_law_79 : List UInt8 := [146, 182, 0, 230, 54, 7, 44, 182, 0, 137, 21, 6, 159, 0, 5, 3, 172, 21, 6, 154, 0, 15, 45, 3]
abbrev dktL_law_79 : List UInt8 := dkwL_law_79 ++ dktL_law_80
def dkwL_law_78 : List UInt8 := [167, 1, 161, 43, 42, 21, 5, 4, 96, 46, 146, 45, 184, 0, 227, 54, 6, 44, 42, 21, 5, 4, 96, 46]
abbrev dktL_law_78 : List UInt8 := dkwL_law_78 ++ dktL_law_79
def dkwL_law_77 : List UInt8 := [21, 6, 159, 0, 5, 3, 172, 21, 6, 154, 0, 15, 45, 3, 47, 21, 7, 133, 148, 153, 0, 5, 3, 172]
abbrev dktL_law_77 : List UInt8 := dkwL_law_77 ++ dktL_law_78
def dkwL_law_76 : List UInt8 := [46, 45, 184, 0, 224, 54, 6, 44, 42, 21, 5, 4, 96, 46, 182, 0, 226, 54, 7, 44, 182, 0, 137]
abbrev dktL_law_76 : List UInt8 := dkwL_law_76 ++ dktL_law_77
def dkwL_law_75 : List UInt8 := [154, 0, 15, 45, 3, 47, 21, 7, 133, 148, 153, 0, 5, 3, 172, 167, 1, 217, 43, 42, 21, 5, 4, 96]
abbrev dktL_law_75 : List UInt8 := dkwL_law_75 ++ dktL_law_76
def dkwL_law_74 : List UInt8 := [21, 5, 4, 96, 46, 182, 0, 223, 54, 7, 44, 182, 0, 137, 21, 6, 159, 0, 5, 3, 172, 21, 6]
abbrev dktL_law_74 : List UInt8 := dkwL_law_74 ++ dktL_law_75
def dkwL_law_73 : List UInt8 := [182, 0, 220, 159, 2, 19, 3, 172, 43, 42, 21, 5, 4, 96, 46, 45, 184, 0, 221, 54, 6, 44, 42]
abbrev dktL_law_73 : List UInt8 := dkwL_law_73 ++ dktL_law_74
def dkwL_law_72 : List UInt8 := [154, 0, 15, 45, 3, 47, 21, 7, 133, 148, 153, 0, 5, 3, 172, 167, 2, 30, 43, 182, 0, 217, 44]
abbrev dktL_law_72 : List UInt8 := dkwL_law_72 ++ dktL_law_73
def dkwL_law_71 : List UInt8 := [167, 0, 4, 3, 182, 0, 216, 54, 7, 44, 182, 0, 137, 21, 6, 159, 0, 5, 3, 172, 21, 6]
abbrev dktL_law_71 : List UInt8 := dkwL_law_71 ++ dktL_law_72
def dkwL_law_70 : List UInt8 := [45, 184, 0, 213, 54, 6, 44, 42, 21, 5, 4, 96, 46, 42, 21, 5, 5, 96, 46, 153, 0, 7, 4]
abbrev dktL_law_70 : List UInt8 := dkwL_law_70 ++ dktL_law_71
def dkwL_law_69 : List UInt8 := [167, 2, 114, 43, 42, 21, 5, 4, 96, 46, 42, 21, 5, 5, 96, 46, 153, 0, 7, 4, 167, 0, 4, 3]
abbrev dktL_law_69 : List UInt8 := dkwL_law_69 ++ dktL_law_70
def dkwL_law_68 : List UInt8 := [159, 0, 5, 3, 172, 21, 6, 154, 0, 15, 45, 3, 47, 21, 7, 133, 148, 153, 0, 5, 3, 172]
abbrev dktL_law_68 : List UInt8 := dkwL_law_68 ++ dktL_law_69
def dkwL_law_67 : List UInt8 := [21, 5, 4, 96, 46, 42, 21, 5, 5, 96, 46, 182, 0, 212, 54, 7, 44, 182, 0, 137, 21, 6]
abbrev dktL_law_67 : List UInt8 := dkwL_law_67 ++ dktL_law_68
def dkwL_law_66 : List UInt8 := [167, 2, 182, 43, 42, 21, 5, 4, 96, 46, 42, 21, 5, 5, 96, 46, 45, 184, 0, 210, 54, 6, 44, 42]
abbrev dktL_law_66 : List UInt8 := dkwL_law_66 ++ dktL_law_67
def dkwL_law_65 : List UInt8 := [159, 0, 5, 3, 172, 21, 6, 154, 0, 15, 45, 3, 47, 21, 7, 133, 148, 153, 0, 5, 3, 172]
abbrev dktL_law_65 : List UInt8 := dkwL_law_65 ++ dktL_law_66
def dkwL_law_64 : List UInt8 := [42, 21, 5, 5, 96, 46, 42, 21, 5, 6, 96, 46, 182, 0, 209, 54, 7, 44, 182, 0, 137, 21, 6]
abbrev dktL_law_64 : List UInt8 := dkwL_law_64 ++ dktL_law_65
def dkwL_law_63 : List UInt8 := [21, 5, 5, 96, 46, 42, 21, 5, 6, 96, 46, 45, 184, 0, 207, 54, 6, 44, 42, 21, 5, 4, 96, 46]
abbrev dktL_law_63 : List UInt8 := dkwL_law_63 ++ dktL_law_64
def dkwL_law_62 : List UInt8 := [153, 0, 11, 23, 7, 23, 7, 149, 154, 0, 5, 3, 172, 167, 3, 6, 43, 42, 21, 5, 4, 96, 46, 42]
abbrev dktL_law_62 : List UInt8 := dkwL_law_62 ++ dktL_law_63
def dkwL_law_61 : List UInt8 := [154, 0, 36, 25, 4, 3, 49, 23, 7, 141, 151, 153, 0, 25, 25, 4, 3, 49, 25, 4, 3, 49, 151]
abbrev dktL_law_61 : List UInt8 := dkwL_law_61 ++ dktL_law_62
def dkwL_law_60 : List UInt8 := [42, 21, 5, 4, 96, 46, 182, 0, 206, 56, 7, 44, 182, 0, 137, 21, 6, 159, 0, 5, 3, 172, 21, 6]
abbrev dktL_law_60 : List UInt8 := dkwL_law_60 ++ dktL_law_61
def dkwL_law_59 : List UInt8 := [148, 153, 0, 5, 3, 172, 167, 3, 84, 43, 42, 21, 5, 4, 96, 46, 25, 4, 184, 0, 204, 54, 6, 44]
abbrev dktL_law_59 : List UInt8 := dkwL_law_59 ++ dktL_law_60
def dkwL_law_58 : List UInt8 := [54, 7, 44, 182, 0, 137, 21, 6, 159, 0, 5, 3, 172, 21, 6, 154, 0, 15, 45, 3, 47, 21, 7, 133]
abbrev dktL_law_58 : List UInt8 := dkwL_law_58 ++ dktL_law_59
def dkwL_law_57 : List UInt8 := [46, 45, 184, 0, 201, 54, 6, 44, 42, 21, 5, 4, 96, 46, 42, 21, 5, 5, 96, 46, 182, 0, 203]
abbrev dktL_law_57 : List UInt8 := dkwL_law_57 ++ dktL_law_58
def dkwL_law_56 : List UInt8 := [21, 7, 133, 148, 153, 0, 5, 3, 172, 167, 3, 152, 43, 42, 21, 5, 4, 96, 46, 42, 21, 5, 5, 96]
abbrev dktL_law_56 : List UInt8 := dkwL_law_56 ++ dktL_law_57
def dkwL_law_55 : List UInt8 := [182, 0, 200, 54, 7, 44, 182, 0, 137, 21, 6, 159, 0, 5, 3, 172, 21, 6, 154, 0, 15, 45, 3, 47]
abbrev dktL_law_55 : List UInt8 := dkwL_law_55 ++ dktL_law_56
def dkwL_law_54 : List UInt8 := [167, 3, 208, 43, 42, 21, 5, 4, 96, 46, 45, 184, 0, 198, 54, 6, 44, 42, 21, 5, 4, 96, 46]
abbrev dktL_law_54 : List UInt8 := dkwL_law_54 ++ dktL_law_55
def dkwL_law_53 : List UInt8 := [21, 6, 159, 0, 5, 3, 172, 21, 6, 154, 0, 15, 45, 3, 47, 21, 7, 133, 148, 153, 0, 5, 3, 172]
abbrev dktL_law_53 : List UInt8 := dkwL_law_53 ++ dktL_law_54
def dkwL_law_52 : List UInt8 := [46, 45, 184, 0, 195, 54, 6, 44, 42, 21, 5, 4, 96, 46, 182, 0, 197, 54, 7, 44, 182, 0, 137]
abbrev dktL_law_52 : List UInt8 := dkwL_law_52 ++ dktL_law_53
def dkwL_law_51 : List UInt8 := [154, 0, 15, 45, 3, 47, 21, 7, 133, 148, 153, 0, 5, 3, 172, 167, 4, 8, 43, 42, 21, 5, 4, 96]
abbrev dktL_law_51 : List UInt8 := dkwL_law_51 ++ dktL_law_52
def dkwL_law_50 : List UInt8 := [42, 21, 5, 5, 96, 46, 182, 0, 194, 54, 7, 44, 182, 0, 137, 21, 6, 159, 0, 5, 3, 172, 21, 6]
abbrev dktL_law_50 : List UInt8 := dkwL_law_50 ++ dktL_law_51
def dkwL_law_49 : List UInt8 := [21, 5, 4, 96, 46, 42, 21, 5, 5, 96, 46, 45, 184, 0, 192, 54, 6, 44, 42, 21, 5, 4, 96, 46]
abbrev dktL_law_49 : List UInt8 := dkwL_law_49 ++ dktL_law_50
def dkwL_law_48 : List UInt8 := [172, 21, 6, 154, 0, 15, 45, 3, 47, 21, 7, 133, 148, 153, 0, 5, 3, 172, 167, 4, 76, 43, 42]
abbrev dktL_law_48 : List UInt8 := dkwL_law_48 ++ dktL_law_49
def dkwL_law_47 : List UInt8 := [54, 6, 44, 42, 21, 5, 4, 96, 46, 182, 0, 191, 54, 7, 44, 182, 0, 137, 21, 6, 159, 0, 5, 3]
abbrev dktL_law_47 : List UInt8 := dkwL_law_47 ++ dktL_law_48
def dkwL_law_46 : List UInt8 := [21, 7, 133, 148, 153, 0, 5, 3, 172, 167, 4, 132, 43, 42, 21, 5, 4, 96, 46, 45, 184, 0, 189]
abbrev dktL_law_46 : List UInt8 := dkwL_law_46 ++ dktL_law_47
def dkwL_law_45 : List UInt8 := [182, 0, 188, 54, 7, 44, 182, 0, 137, 21, 6, 159, 0, 5, 3, 172, 21, 6, 154, 0, 15, 45, 3, 47]
abbrev dktL_law_45 : List UInt8 := dkwL_law_45 ++ dktL_law_46
def dkwL_law_44 : List UInt8 := [167, 4, 188, 43, 42, 21, 5, 4, 96, 46, 45, 184, 0, 186, 54, 6, 44, 42, 21, 5, 4, 96, 46]
abbrev dktL_law_44 : List UInt8 := dkwL_law_44 ++ dktL_law_45
def dkwL_law_43 : List UInt8 := [159, 0, 5, 3, 172, 21, 6, 154, 0, 15, 45, 3, 47, 21, 7, 133, 148, 153, 0, 5, 3, 172]
abbrev dktL_law_43 : List UInt8 := dkwL_law_43 ++ dktL_law_44
def dkwL_law_42 : List UInt8 := [21, 5, 4, 96, 46, 42, 21, 5, 5, 96, 46, 182, 0, 185, 54, 7, 44, 182, 0, 137, 21, 6]
abbrev dktL_law_42 : List UInt8 := dkwL_law_42 ++ dktL_law_43
def dkwL_law_41 : List UInt8 := [167, 5, 0, 43, 42, 21, 5, 4, 96, 46, 42, 21, 5, 5, 96, 46, 45, 184, 0, 183, 54, 6, 44, 42]
abbrev dktL_law_41 : List UInt8 := dkwL_law_41 ++ dktL_law_42
def dkwL_law_40 : List UInt8 := [21, 6, 159, 0, 5, 3, 172, 21, 6, 154, 0, 15, 45, 3, 47, 21, 7, 133, 148, 153, 0, 5, 3, 172]
abbrev dktL_law_40 : List UInt8 := dkwL_law_40 ++ dktL_law_41
def dkwL_law_39 : List UInt8 := [46, 45, 184, 0, 180, 54, 6, 44, 42, 21, 5, 4, 96, 46, 182, 0, 182, 54, 7, 44, 182, 0, 137]
abbrev dktL_law_39 : List UInt8 := dkwL_law_39 ++ dktL_law_40
def dkwL_law_38 : List UInt8 := [154, 0, 15, 45, 3, 47, 21, 7, 133, 148, 153, 0, 5, 3, 172, 167, 5, 56, 43, 42, 21, 5, 4, 96]
abbrev dktL_law_38 : List UInt8 := dkwL_law_38 ++ dktL_law_39
def dkwL_law_37 : List UInt8 := [42, 21, 5, 6, 96, 46, 182, 0, 179, 54, 7, 44, 182, 0, 137, 21, 6, 159, 0, 5, 3, 172, 21, 6]
abbrev dktL_law_37 : List UInt8 := dkwL_law_37 ++ dktL_law_38
def dkwL_law_36 : List UInt8 := [21, 5, 6, 96, 46, 45, 184, 0, 176, 54, 6, 44, 42, 21, 5, 4, 96, 46, 42, 21, 5, 5, 96, 46]
abbrev dktL_law_36 : List UInt8 := dkwL_law_36 ++ dktL_law_37
def dkwL_law_35 : List UInt8 := [148, 153, 0, 5, 3, 172, 167, 5, 136, 43, 42, 21, 5, 4, 96, 46, 42, 21, 5, 5, 96, 46, 42]
abbrev dktL_law_35 : List UInt8 := dkwL_law_35 ++ dktL_law_36
def dkwL_law_34 : List UInt8 := [54, 7, 44, 182, 0, 137, 21, 6, 159, 0, 5, 3, 172, 21, 6, 154, 0, 15, 45, 3, 47, 21, 7, 133]
abbrev dktL_law_34 : List UInt8 := dkwL_law_34 ++ dktL_law_35
def dkwL_law_33 : List UInt8 := [46, 45, 184, 0, 173, 54, 6, 44, 42, 21, 5, 4, 96, 46, 42, 21, 5, 5, 96, 46, 182, 0, 175]
abbrev dktL_law_33 : List UInt8 := dkwL_law_33 ++ dktL_law_34
def dkwL_law_32 : List UInt8 := [21, 7, 133, 148, 153, 0, 5, 3, 172, 167, 5, 204, 43, 42, 21, 5, 4, 96, 46, 42, 21, 5, 5, 96]
abbrev dktL_law_32 : List UInt8 := dkwL_law_32 ++ dktL_law_33
def dkwL_law_31 : List UInt8 := [182, 0, 172, 54, 7, 44, 182, 0, 137, 21, 6, 159, 0, 5, 3, 172, 21, 6, 154, 0, 15, 45, 3, 47]
abbrev dktL_law_31 : List UInt8 := dkwL_law_31 ++ dktL_law_32
def dkwL_law_30 : List UInt8 := [5, 96, 46, 45, 184, 0, 170, 54, 6, 44, 42, 21, 5, 4, 96, 46, 42, 21, 5, 5, 96, 46]
abbrev dktL_law_30 : List UInt8 := dkwL_law_30 ++ dktL_law_31
def dkwL_law_29 : List UInt8 := [3, 47, 21, 7, 133, 148, 153, 0, 5, 3, 172, 167, 6, 16, 43, 42, 21, 5, 4, 96, 46, 42, 21, 5]
abbrev dktL_law_29 : List UInt8 := dkwL_law_29 ++ dktL_law_30
def dkwL_law_28 : List UInt8 := [96, 46, 182, 0, 169, 54, 7, 44, 182, 0, 137, 21, 6, 159, 0, 5, 3, 172, 21, 6, 154, 0, 15, 45]
abbrev dktL_law_28 : List UInt8 := dkwL_law_28 ++ dktL_law_29
def dkwL_law_27 : List UInt8 := [46, 42, 21, 5, 5, 96, 46, 45, 184, 0, 167, 54, 6, 44, 42, 21, 5, 4, 96, 46, 42, 21, 5, 5]
abbrev dktL_law_27 : List UInt8 := dkwL_law_27 ++ dktL_law_28
def dkwL_law_26 : List UInt8 := [154, 0, 15, 45, 3, 47, 21, 7, 133, 148, 153, 0, 5, 3, 172, 167, 6, 84, 43, 42, 21, 5, 4, 96]
abbrev dktL_law_26 : List UInt8 := dkwL_law_26 ++ dktL_law_27
def dkwL_law_25 : List UInt8 := [42, 21, 5, 5, 96, 46, 182, 0, 166, 54, 7, 44, 182, 0, 137, 21, 6, 159, 0, 5, 3, 172, 21, 6]
abbrev dktL_law_25 : List UInt8 := dkwL_law_25 ++ dktL_law_26
def dkwL_law_24 : List UInt8 := [21, 5, 4, 96, 46, 42, 21, 5, 5, 96, 46, 45, 184, 0, 164, 54, 6, 44, 42, 21, 5, 4, 96, 46]
abbrev dktL_law_24 : List UInt8 := dkwL_law_24 ++ dktL_law_25
def dkwL_law_23 : List UInt8 := [49, 25, 4, 3, 49, 151, 153, 0, 11, 23, 7, 23, 7, 149, 154, 0, 5, 3, 172, 167, 6, 152, 43, 42]
abbrev dktL_law_23 : List UInt8 := dkwL_law_23 ++ dktL_law_24
def dkwL_law_22 : List UInt8 := [159, 0, 5, 3, 172, 21, 6, 154, 0, 36, 25, 4, 3, 49, 23, 7, 141, 151, 153, 0, 25, 25, 4, 3]
abbrev dktL_law_22 : List UInt8 := dkwL_law_22 ++ dktL_law_23
def dkwL_law_21 : List UInt8 := [184, 0, 160, 54, 6, 44, 42, 21, 5, 4, 96, 46, 182, 0, 163, 56, 7, 44, 182, 0, 137, 21, 6]
abbrev dktL_law_21 : List UInt8 := dkwL_law_21 ++ dktL_law_22
def dkwL_law_20 : List UInt8 := [3, 47, 21, 7, 133, 148, 153, 0, 5, 3, 172, 167, 6, 230, 43, 42, 21, 5, 4, 96, 46, 25, 4]
abbrev dktL_law_20 : List UInt8 := dkwL_law_20 ++ dktL_law_21
def dkwL_law_19 : List UInt8 := [96, 46, 182, 0, 159, 54, 7, 44, 182, 0, 137, 21, 6, 159, 0, 5, 3, 172, 21, 6, 154, 0, 15, 45]
abbrev dktL_law_19 : List UInt8 := dkwL_law_19 ++ dktL_law_20
def dkwL_law_18 : List UInt8 := [46, 42, 21, 5, 5, 96, 46, 45, 184, 0, 157, 54, 6, 44, 42, 21, 5, 4, 96, 46, 42, 21, 5, 5]
abbrev dktL_law_18 : List UInt8 := dkwL_law_18 ++ dktL_law_19
def dkwL_law_17 : List UInt8 := [154, 0, 15, 45, 3, 47, 21, 7, 133, 148, 153, 0, 5, 3, 172, 167, 7, 42, 43, 42, 21, 5, 4, 96]
abbrev dktL_law_17 : List UInt8 := dkwL_law_17 ++ dktL_law_18
def dkwL_law_16 : List UInt8 := [42, 21, 5, 5, 96, 46, 182, 0, 156, 54, 7, 44, 182, 0, 137, 21, 6, 159, 0, 5, 3, 172, 21, 6]
abbrev dktL_law_16 : List UInt8 := dkwL_law_16 ++ dktL_law_17
def dkwL_law_15 : List UInt8 := [21, 5, 4, 96, 46, 42, 21, 5, 5, 96, 46, 45, 184, 0, 154, 54, 6, 44, 42, 21, 5, 4, 96, 46]
abbrev dktL_law_15 : List UInt8 := dkwL_law_15 ++ dktL_law_16
def dkwL_law_14 : List UInt8 := [172, 21, 6, 154, 0, 15, 45, 3, 47, 21, 7, 133, 148, 153, 0, 5, 3, 172, 167, 7, 110, 43, 42]
abbrev dktL_law_14 : List UInt8 := dkwL_law_14 ++ dktL_law_15
def dkwL_law_13 : List UInt8 := [54, 6, 44, 42, 21, 5, 4, 96, 46, 182, 0, 153, 54, 7, 44, 182, 0, 137, 21, 6, 159, 0, 5, 3]
abbrev dktL_law_13 : List UInt8 := dkwL_law_13 ++ dktL_law_14
def dkwL_law_12 : List UInt8 := [21, 7, 133, 148, 153, 0, 5, 3, 172, 167, 7, 166, 43, 42, 21, 5, 4, 96, 46, 45, 184, 0, 151]
abbrev dktL_law_12 : List UInt8 := dkwL_law_12 ++ dktL_law_13
def dkwL_law_11 : List UInt8 := [182, 0, 150, 54, 7, 44, 182, 0, 137, 21, 6, 159, 0, 5, 3, 172, 21, 6, 154, 0, 15, 45, 3, 47]
abbrev dktL_law_11 : List UInt8 := dkwL_law_11 ++ dktL_law_12
def dkwL_law_10 : List UInt8 := [21, 5, 5, 96, 46, 45, 184, 0, 147, 54, 6, 44, 42, 21, 5, 4, 96, 46, 42, 21, 5, 5, 96, 46]
abbrev dktL_law_10 : List UInt8 := dkwL_law_10 ++ dktL_law_11
def dkwL_law_9 : List UInt8 := [45, 3, 47, 21, 7, 133, 148, 153, 0, 5, 3, 172, 167, 7, 234, 43, 42, 21, 5, 4, 96, 46, 42]
abbrev dktL_law_9 : List UInt8 := dkwL_law_9 ++ dktL_law_10
def dkwL_law_8 : List UInt8 := [54, 6, 44, 182, 0, 146, 54, 7, 44, 182, 0, 137, 21, 6, 159, 0, 5, 3, 172, 21, 6, 154, 0, 15]
abbrev dktL_law_8 : List UInt8 := dkwL_law_8 ++ dktL_law_9
def dkwL_law_7 : List UInt8 := [154, 0, 15, 45, 3, 47, 21, 7, 133, 148, 153, 0, 5, 3, 172, 167, 8, 22, 43, 45, 184, 0, 143]
abbrev dktL_law_7 : List UInt8 := dkwL_law_7 ++ dktL_law_8
def dkwL_law_6 : List UInt8 := [21, 5, 4, 96, 46, 182, 0, 142, 54, 7, 44, 182, 0, 137, 21, 6, 159, 0, 5, 3, 172, 21, 6]
abbrev dktL_law_6 : List UInt8 := dkwL_law_6 ++ dktL_law_7
def dkwL_law_5 : List UInt8 := [148, 153, 0, 5, 3, 172, 167, 8, 78, 43, 42, 21, 5, 4, 96, 46, 45, 184, 0, 140, 54, 6, 44, 42]
abbrev dktL_law_5 : List UInt8 := dkwL_law_5 ++ dktL_law_6
def dkwL_law_4 : List UInt8 := [54, 7, 44, 182, 0, 137, 21, 6, 159, 0, 5, 3, 172, 21, 6, 154, 0, 15, 45, 3, 47, 21, 7, 133]
abbrev dktL_law_4 : List UInt8 := dkwL_law_4 ++ dktL_law_5
def dkwL_law_3 : List UInt8 := [43, 42, 21, 5, 4, 96, 46, 45, 184, 0, 131, 54, 6, 44, 42, 21, 5, 4, 96, 46, 182, 0, 136]
abbrev dktL_law_3 : List UInt8 := dkwL_law_3 ++ dktL_law_4
def dkwL_law_2 : List UInt8 := [170, 0, 0, 0, 0, 0, 9, 47, 0, 0, 0, 0, 0, 0, 0, 38, 0, 0, 0, 172, 0, 0, 0, 228, 0, 0, 1, 28, 0, 0, 1, 72, 0, 0, 1, 140, 0, 0, 1, 196, 0, 0, 2, 8, 0, 0, 2, 76, 0, 0, 2, 154, 0, 0, 2, 222, 0, 0, 3, 34, 0, 0, 3, 102, 0, 0, 3, 170, 0, 0, 3, 250, 0, 0, 4, 50, 0, 0, 4, 118, 0, 0, 4, 174, 0, 0, 4, 230, 0, 0, 5, 42, 0, 0, 5, 98, 0, 0, 5, 154, 0, 0, 5, 222, 0, 0, 6, 44, 0, 0, 6, 124, 0, 0, 6, 192, 0, 0, 7, 20, 0, 0, 7, 33, 0, 0, 7, 89, 0, 0, 7, 145, 0, 0, 7, 203, 0, 0, 7, 247, 0, 0, 8, 4, 0, 0, 8, 76, 0, 0, 8, 132, 0, 0, 8, 145, 0, 0, 8, 159, 0, 0, 8, 202, 0, 0, 8, 246, 0, 0, 9, 3]
abbrev dktL_law_2 : List UInt8 := dkwL_law_2 ++ dktL_law_3
def dkwL_law_1 : List UInt8 := [58, 4, 3, 54, 5, 21, 5, 42, 190, 7, 100, 163, 9, 63, 42, 21, 5, 46, 16, 63, 126]
abbrev dktL_law_1 : List UInt8 := dkwL_law_1 ++ dktL_law_2
def dkwL_law_0 : List UInt8 := [187, 0, 8, 89, 183, 0, 127, 76, 187, 0, 128, 89, 183, 0, 130, 77, 4, 188, 11, 78, 4, 188, 7]
abbrev dktL_law_0 : List UInt8 := dkwL_law_0 ++ dktL_law_1
theorem dksL_law_0 : cL_law.data.toList.drop 0 = dktL_law_0 := by decide +kernel
theorem dksL_law_1 : cL_law.data.toList.drop 23 = dktL_law_1 := dk_seg dksL_law_0 23 rfl rfl
theorem dksL_law_2 : cL_law.data.toList.drop 44 = dktL_law_2 := dk_seg dksL_law_1 21 rfl rfl
theorem dksL_law_3 : cL_law.data.toList.drop 216 = dktL_law_3 := dk_seg dksL_law_2 172 rfl rfl
theorem dksL_law_4 : cL_law.data.toList.drop 239 = dktL_law_4 := dk_seg dksL_law_3 23 rfl rfl
theorem dksL_law_5 : cL_law.data.toList.drop 263 = dktL_law_5 := dk_seg dksL_law_4 24 rfl rfl
theorem dksL_law_6 : cL_law.data.toList.drop 287 = dktL_law_6 := dk_seg dksL_law_5 24 rfl rfl
theorem dksL_law_7 : cL_law.data.toList.drop 310 = dktL_law_7 := dk_seg dksL_law_6 23 rfl rfl
theorem dksL_law_8 : cL_law.data.toList.drop 333 = dktL_law_8 := dk_seg dksL_law_7 23 rfl rfl
theorem dksL_law_9 : cL_law.data.toList.drop 357 = dktL_law_9 := dk_seg dksL_law_8 24 rfl rfl
theorem dksL_law_10 : cL_law.data.toList.drop 380 = dktL_law_10 := dk_seg dksL_law_9 23 rfl rfl
theorem dksL_law_11 : cL_law.data.toList.drop 404 = dktL_law_11 := dk_seg dksL_law_10 24 rfl rfl
theorem dksL_law_12 : cL_law.data.toList.drop 428 = dktL_law_12 := dk_seg dksL_law_11 24 rfl rfl
theorem dksL_law_13 : cL_law.data.toList.drop 451 = dktL_law_13 := dk_seg dksL_law_12 23 rfl rfl
theorem dksL_law_14 : cL_law.data.toList.drop 475 = dktL_law_14 := dk_seg dksL_law_13 24 rfl rfl
theorem dksL_law_15 : cL_law.data.toList.drop 498 = dktL_law_15 := dk_seg dksL_law_14 23 rfl rfl
theorem dksL_law_16 : cL_law.data.toList.drop 522 = dktL_law_16 := dk_seg dksL_law_15 24 rfl rfl
theorem dksL_law_17 : cL_law.data.toList.drop 546 = dktL_law_17 := dk_seg dksL_law_16 24 rfl rfl
theorem dksL_law_18 : cL_law.data.toList.drop 570 = dktL_law_18 := dk_seg dksL_law_17 24 rfl rfl
theorem dksL_law_19 : cL_law.data.toList.drop 594 = dktL_law_19 := dk_seg dksL_law_18 24 rfl rfl
theorem dksL_law_20 : cL_law.data.toList.drop 618 = dktL_law_20 := dk_seg dksL_law_19 24 rfl rfl
theorem dksL_law_21 : cL_law.data.toList.drop 641 = dktL_law_21 := dk_seg dksL_law_20 23 rfl rfl
theorem dksL_law_22 : cL_law.data.toList.drop 664 = dktL_law_22 := dk_seg dksL_law_21 23 rfl rfl
theorem dksL_law_23 : cL_law.data.toList.drop 688 = dktL_law_23 := dk_seg dksL_law_22 24 rfl rfl
theorem dksL_law_24 : cL_law.data.toList.drop 712 = dktL_law_24 := dk_seg dksL_law_23 24 rfl rfl
theorem dksL_law_25 : cL_law.data.toList.drop 736 = dktL_law_25 := dk_seg dksL_law_24 24 rfl rfl
theorem dksL_law_26 : cL_law.data.toList.drop 760 = dktL_law_26 := dk_seg dksL_law_25 24 rfl rfl
theorem dksL_law_27 : cL_law.data.toList.drop 784 = dktL_law_27 := dk_seg dksL_law_26 24 rfl rfl
theorem dksL_law_28 : cL_law.data.toList.drop 808 = dktL_law_28 := dk_seg dksL_law_27 24 rfl rfl
theorem dksL_law_29 : cL_law.data.toList.drop 832 = dktL_law_29 := dk_seg dksL_law_28 24 rfl rfl
theorem dksL_law_30 : cL_law.data.toList.drop 856 = dktL_law_30 := dk_seg dksL_law_29 24 rfl rfl
theorem dksL_law_31 : cL_law.data.toList.drop 878 = dktL_law_31 := dk_seg dksL_law_30 22 rfl rfl
theorem dksL_law_32 : cL_law.data.toList.drop 902 = dktL_law_32 := dk_seg dksL_law_31 24 rfl rfl
theorem dksL_law_33 : cL_law.data.toList.drop 926 = dktL_law_33 := dk_seg dksL_law_32 24 rfl rfl
theorem dksL_law_34 : cL_law.data.toList.drop 949 = dktL_law_34 := dk_seg dksL_law_33 23 rfl rfl
theorem dksL_law_35 : cL_law.data.toList.drop 973 = dktL_law_35 := dk_seg dksL_law_34 24 rfl rfl
theorem dksL_law_36 : cL_law.data.toList.drop 996 = dktL_law_36 := dk_seg dksL_law_35 23 rfl rfl
theorem dksL_law_37 : cL_law.data.toList.drop 1020 = dktL_law_37 := dk_seg dksL_law_36 24 rfl rfl
theorem dksL_law_38 : cL_law.data.toList.drop 1044 = dktL_law_38 := dk_seg dksL_law_37 24 rfl rfl
theorem dksL_law_39 : cL_law.data.toList.drop 1068 = dktL_law_39 := dk_seg dksL_law_38 24 rfl rfl
theorem dksL_law_40 : cL_law.data.toList.drop 1091 = dktL_law_40 := dk_seg dksL_law_39 23 rfl rfl
theorem dksL_law_41 : cL_law.data.toList.drop 1115 = dktL_law_41 := dk_seg dksL_law_40 24 rfl rfl
theorem dksL_law_42 : cL_law.data.toList.drop 1139 = dktL_law_42 := dk_seg dksL_law_41 24 rfl rfl
theorem dksL_law_43 : cL_law.data.toList.drop 1161 = dktL_law_43 := dk_seg dksL_law_42 22 rfl rfl
theorem dksL_law_44 : cL_law.data.toList.drop 1183 = dktL_law_44 := dk_seg dksL_law_43 22 rfl rfl
theorem dksL_law_45 : cL_law.data.toList.drop 1206 = dktL_law_45 := dk_seg dksL_law_44 23 rfl rfl
theorem dksL_law_46 : cL_law.data.toList.drop 1230 = dktL_law_46 := dk_seg dksL_law_45 24 rfl rfl
theorem dksL_law_47 : cL_law.data.toList.drop 1253 = dktL_law_47 := dk_seg dksL_law_46 23 rfl rfl
theorem dksL_law_48 : cL_law.data.toList.drop 1277 = dktL_law_48 := dk_seg dksL_law_47 24 rfl rfl
theorem dksL_law_49 : cL_law.data.toList.drop 1300 = dktL_law_49 := dk_seg dksL_law_48 23 rfl rfl
theorem dksL_law_50 : cL_law.data.toList.drop 1324 = dktL_law_50 := dk_seg dksL_law_49 24 rfl rfl
theorem dksL_law_51 : cL_law.data.toList.drop 1348 = dktL_law_51 := dk_seg dksL_law_50 24 rfl rfl
theorem dksL_law_52 : cL_law.data.toList.drop 1372 = dktL_law_52 := dk_seg dksL_law_51 24 rfl rfl
theorem dksL_law_53 : cL_law.data.toList.drop 1395 = dktL_law_53 := dk_seg dksL_law_52 23 rfl rfl
theorem dksL_law_54 : cL_law.data.toList.drop 1419 = dktL_law_54 := dk_seg dksL_law_53 24 rfl rfl
theorem dksL_law_55 : cL_law.data.toList.drop 1442 = dktL_law_55 := dk_seg dksL_law_54 23 rfl rfl
theorem dksL_law_56 : cL_law.data.toList.drop 1466 = dktL_law_56 := dk_seg dksL_law_55 24 rfl rfl
theorem dksL_law_57 : cL_law.data.toList.drop 1490 = dktL_law_57 := dk_seg dksL_law_56 24 rfl rfl
theorem dksL_law_58 : cL_law.data.toList.drop 1513 = dktL_law_58 := dk_seg dksL_law_57 23 rfl rfl
theorem dksL_law_59 : cL_law.data.toList.drop 1537 = dktL_law_59 := dk_seg dksL_law_58 24 rfl rfl
theorem dksL_law_60 : cL_law.data.toList.drop 1561 = dktL_law_60 := dk_seg dksL_law_59 24 rfl rfl
theorem dksL_law_61 : cL_law.data.toList.drop 1585 = dktL_law_61 := dk_seg dksL_law_60 24 rfl rfl
theorem dksL_law_62 : cL_law.data.toList.drop 1608 = dktL_law_62 := dk_seg dksL_law_61 23 rfl rfl
theorem dksL_law_63 : cL_law.data.toList.drop 1632 = dktL_law_63 := dk_seg dksL_law_62 24 rfl rfl
theorem dksL_law_64 : cL_law.data.toList.drop 1656 = dktL_law_64 := dk_seg dksL_law_63 24 rfl rfl
theorem dksL_law_65 : cL_law.data.toList.drop 1679 = dktL_law_65 := dk_seg dksL_law_64 23 rfl rfl
theorem dksL_law_66 : cL_law.data.toList.drop 1701 = dktL_law_66 := dk_seg dksL_law_65 22 rfl rfl
theorem dksL_law_67 : cL_law.data.toList.drop 1725 = dktL_law_67 := dk_seg dksL_law_66 24 rfl rfl
theorem dksL_law_68 : cL_law.data.toList.drop 1747 = dktL_law_68 := dk_seg dksL_law_67 22 rfl rfl
theorem dksL_law_69 : cL_law.data.toList.drop 1769 = dktL_law_69 := dk_seg dksL_law_68 22 rfl rfl
theorem dksL_law_70 : cL_law.data.toList.drop 1793 = dktL_law_70 := dk_seg dksL_law_69 24 rfl rfl
theorem dksL_law_71 : cL_law.data.toList.drop 1816 = dktL_law_71 := dk_seg dksL_law_70 23 rfl rfl
theorem dksL_law_72 : cL_law.data.toList.drop 1838 = dktL_law_72 := dk_seg dksL_law_71 22 rfl rfl
theorem dksL_law_73 : cL_law.data.toList.drop 1861 = dktL_law_73 := dk_seg dksL_law_72 23 rfl rfl
theorem dksL_law_74 : cL_law.data.toList.drop 1884 = dktL_law_74 := dk_seg dksL_law_73 23 rfl rfl
theorem dksL_law_75 : cL_law.data.toList.drop 1907 = dktL_law_75 := dk_seg dksL_law_74 23 rfl rfl
theorem dksL_law_76 : cL_law.data.toList.drop 1931 = dktL_law_76 := dk_seg dksL_law_75 24 rfl rfl
theorem dksL_law_77 : cL_law.data.toList.drop 1954 = dktL_law_77 := dk_seg dksL_law_76 23 rfl rfl
theorem dksL_law_78 : cL_law.data.toList.drop 1978 = dktL_law_78 := dk_seg dksL_law_77 24 rfl rfl
theorem dksL_law_79 : cL_law.data.toList.drop 2002 = dktL_law_79 := dk_seg dksL_law_78 24 rfl rfl
theorem dksL_law_80 : cL_law.data.toList.drop 2026 = dktL_law_80 := dk_seg dksL_law_79 24 rfl rfl
theorem dksL_law_81 : cL_law.data.toList.drop 2050 = dktL_law_81 := dk_seg dksL_law_80 24 rfl rfl
theorem dksL_law_82 : cL_law.data.toList.drop 2074 = dktL_law_82 := dk_seg dksL_law_81 24 rfl rfl
theorem dksL_law_83 : cL_law.data.toList.drop 2098 = dktL_law_83 := dk_seg dksL_law_82 24 rfl rfl
theorem dksL_law_84 : cL_law.data.toList.drop 2122 = dktL_law_84 := dk_seg dksL_law_83 24 rfl rfl
theorem dksL_law_85 : cL_law.data.toList.drop 2146 = dktL_law_85 := dk_seg dksL_law_84 24 rfl rfl
theorem dksL_law_86 : cL_law.data.toList.drop 2170 = dktL_law_86 := dk_seg dksL_law_85 24 rfl rfl
theorem dksL_law_87 : cL_law.data.toList.drop 2194 = dktL_law_87 := dk_seg dksL_law_86 24 rfl rfl
theorem dksL_law_88 : cL_law.data.toList.drop 2216 = dktL_law_88 := dk_seg dksL_law_87 22 rfl rfl
theorem dksL_law_89 : cL_law.data.toList.drop 2238 = dktL_law_89 := dk_seg dksL_law_88 22 rfl rfl
theorem dksL_law_90 : cL_law.data.toList.drop 2262 = dktL_law_90 := dk_seg dksL_law_89 24 rfl rfl
theorem dksL_law_91 : cL_law.data.toList.drop 2286 = dktL_law_91 := dk_seg dksL_law_90 24 rfl rfl
theorem dksL_law_92 : cL_law.data.toList.drop 2308 = dktL_law_92 := dk_seg dksL_law_91 22 rfl rfl
theorem dksL_law_93 : cL_law.data.toList.drop 2330 = dktL_law_93 := dk_seg dksL_law_92 22 rfl rfl
theorem dksL_law_94 : cL_law.data.toList.drop 2353 = dktL_law_94 := dk_seg dksL_law_93 23 rfl rfl
theorem dksL_law_95 : cL_law.data.toList.drop 2377 = dktL_law_95 := dk_seg dksL_law_94 24 rfl rfl
theorem dksL_law_96 : cL_law.data.toList.drop 2401 = dktL_law_96 := dk_seg dksL_law_95 24 rfl rfl
theorem dL_law_0 : decode cL_law 0 = .ok (.new 8, 3) := dk_187 0 8 (dk_at dksL_law_0 0 rfl rfl)
theorem dL_law_3 : decode cL_law 3 = .ok (.dup, 1) := dk_89 (dk_at dksL_law_0 3 rfl rfl)
theorem dL_law_4 : decode cL_law 4 = .ok (.invokespecial 127, 3) := dk_183 0 127 (dk_at dksL_law_0 4 rfl rfl)
theorem dL_law_7 : decode cL_law 7 = .ok (.astore_n 1, 1) := dk_76 (dk_at dksL_law_0 7 rfl rfl)
theorem dL_law_8 : decode cL_law 8 = .ok (.new 128, 3) := dk_187 0 128 (dk_at dksL_law_0 8 rfl rfl)
theorem dL_law_11 : decode cL_law 11 = .ok (.dup, 1) := dk_89 (dk_at dksL_law_0 11 rfl rfl)
theorem dL_law_12 : decode cL_law 12 = .ok (.invokespecial 130, 3) := dk_183 0 130 (dk_at dksL_law_0 12 rfl rfl)
theorem dL_law_15 : decode cL_law 15 = .ok (.astore_n 2, 1) := dk_77 (dk_at dksL_law_0 15 rfl rfl)
theorem dL_law_16 : decode cL_law 16 = .ok (.iconst 1, 1) := dk_4 (dk_at dksL_law_0 16 rfl rfl)
theorem dL_law_17 : decode cL_law 17 = .ok (.newarray .long, 2) := dk_188_11 (dk_at dksL_law_0 17 rfl rfl)
theorem dL_law_19 : decode cL_law 19 = .ok (.astore_n 3, 1) := dk_78 (dk_at dksL_law_0 19 rfl rfl)
theorem dL_law_20 : decode cL_law 20 = .ok (.iconst 1, 1) := dk_4 (dk_at dksL_law_0 20 rfl rfl)
theorem dL_law_21 : decode cL_law 21 = .ok (.newarray .double, 2) := dk_188_7 (dk_at dksL_law_0 21 rfl rfl)
theorem dL_law_23 : decode cL_law 23 = .ok (.astore 4, 2) := dk_58 4 (dk_at dksL_law_1 0 rfl rfl)
theorem dL_law_25 : decode cL_law 25 = .ok (.iconst 0, 1) := dk_3 (dk_at dksL_law_1 2 rfl rfl)
theorem dL_law_26 : decode cL_law 26 = .ok (.istore 5, 2) := dk_54 5 (dk_at dksL_law_1 3 rfl rfl)
theorem dL_law_28 : decode cL_law 28 = .ok (.iload 5, 2) := dk_21 5 (dk_at dksL_law_1 5 rfl rfl)
theorem dL_law_30 : decode cL_law 30 = .ok (.aload_n 0, 1) := dk_42 (dk_at dksL_law_1 7 rfl rfl)
theorem dL_law_31 : decode cL_law 31 = .ok (.arraylength, 1) := dk_190 (dk_at dksL_law_1 8 rfl rfl)
theorem dL_law_32 : decode cL_law 32 = .ok (.iconst 4, 1) := dk_7 (dk_at dksL_law_1 9 rfl rfl)
theorem dL_law_33 : decode cL_law 33 = .ok (.isub, 1) := dk_100 (dk_at dksL_law_1 10 rfl rfl)
theorem dL_law_34 : decode cL_law 34 = .ok (.if_icmp .gt 2367, 3) := dk_163 9 63 (dk_at dksL_law_1 11 rfl rfl)
theorem dL_law_37 : decode cL_law 37 = .ok (.aload_n 0, 1) := dk_42 (dk_at dksL_law_1 14 rfl rfl)
theorem dL_law_38 : decode cL_law 38 = .ok (.iload 5, 2) := dk_21 5 (dk_at dksL_law_1 15 rfl rfl)
theorem dL_law_40 : decode cL_law 40 = .ok (.iaload, 1) := dk_46 (dk_at dksL_law_1 17 rfl rfl)
theorem dL_law_41 : decode cL_law 41 = .ok (.bipush 63, 2) := dk_16 63 (dk_at dksL_law_1 18 rfl rfl)
theorem dL_law_43 : decode cL_law 43 = .ok (.iand, 1) := dk_126 (dk_at dksL_law_1 20 rfl rfl)
theorem dL_law_44 : decode cL_law 44 = .ok (.tableswitch 2351 0 38 #[172, 228, 284, 328, 396, 452, 520, 588, 666, 734, 802, 870, 938, 1018, 1074, 1142, 1198, 1254, 1322, 1378, 1434, 1502, 1580, 1660, 1728, 1812, 1825, 1881, 1937, 1995, 2039, 2052, 2124, 2180, 2193, 2207, 2250, 2294, 2307], 172) := by decide +kernel
theorem dL_law_216 : decode cL_law 216 = .ok (.aload_n 1, 1) := dk_43 (dk_at dksL_law_3 0 rfl rfl)
theorem dL_law_217 : decode cL_law 217 = .ok (.aload_n 0, 1) := dk_42 (dk_at dksL_law_3 1 rfl rfl)
theorem dL_law_218 : decode cL_law 218 = .ok (.iload 5, 2) := dk_21 5 (dk_at dksL_law_3 2 rfl rfl)
theorem dL_law_220 : decode cL_law 220 = .ok (.iconst 1, 1) := dk_4 (dk_at dksL_law_3 4 rfl rfl)
theorem dL_law_221 : decode cL_law 221 = .ok (.iadd, 1) := dk_96 (dk_at dksL_law_3 5 rfl rfl)
theorem dL_law_222 : decode cL_law 222 = .ok (.iaload, 1) := dk_46 (dk_at dksL_law_3 6 rfl rfl)
theorem dL_law_223 : decode cL_law 223 = .ok (.aload_n 3, 1) := dk_45 (dk_at dksL_law_3 7 rfl rfl)
theorem dL_law_224 : decode cL_law 224 = .ok (.invokestatic 131, 3) := dk_184 0 131 (dk_at dksL_law_3 8 rfl rfl)
theorem dL_law_227 : decode cL_law 227 = .ok (.istore 6, 2) := dk_54 6 (dk_at dksL_law_3 11 rfl rfl)
theorem dL_law_229 : decode cL_law 229 = .ok (.aload_n 2, 1) := dk_44 (dk_at dksL_law_3 13 rfl rfl)
theorem dL_law_230 : decode cL_law 230 = .ok (.aload_n 0, 1) := dk_42 (dk_at dksL_law_3 14 rfl rfl)
theorem dL_law_231 : decode cL_law 231 = .ok (.iload 5, 2) := dk_21 5 (dk_at dksL_law_3 15 rfl rfl)
theorem dL_law_233 : decode cL_law 233 = .ok (.iconst 1, 1) := dk_4 (dk_at dksL_law_3 17 rfl rfl)
theorem dL_law_234 : decode cL_law 234 = .ok (.iadd, 1) := dk_96 (dk_at dksL_law_3 18 rfl rfl)
theorem dL_law_235 : decode cL_law 235 = .ok (.iaload, 1) := dk_46 (dk_at dksL_law_3 19 rfl rfl)
theorem dL_law_236 : decode cL_law 236 = .ok (.invokevirtual 136, 3) := dk_182 0 136 (dk_at dksL_law_3 20 rfl rfl)
theorem dL_law_239 : decode cL_law 239 = .ok (.istore 7, 2) := dk_54 7 (dk_at dksL_law_4 0 rfl rfl)
theorem dL_law_241 : decode cL_law 241 = .ok (.aload_n 2, 1) := dk_44 (dk_at dksL_law_4 2 rfl rfl)
theorem dL_law_242 : decode cL_law 242 = .ok (.invokevirtual 137, 3) := dk_182 0 137 (dk_at dksL_law_4 3 rfl rfl)
theorem dL_law_245 : decode cL_law 245 = .ok (.iload 6, 2) := dk_21 6 (dk_at dksL_law_4 6 rfl rfl)
theorem dL_law_247 : decode cL_law 247 = .ok (.if_icmp .eq 5, 3) := dk_159 0 5 (dk_at dksL_law_4 8 rfl rfl)
theorem dL_law_250 : decode cL_law 250 = .ok (.iconst 0, 1) := dk_3 (dk_at dksL_law_4 11 rfl rfl)
theorem dL_law_251 : decode cL_law 251 = .ok (.ireturn, 1) := dk_172 (dk_at dksL_law_4 12 rfl rfl)
theorem dL_law_252 : decode cL_law 252 = .ok (.iload 6, 2) := dk_21 6 (dk_at dksL_law_4 13 rfl rfl)
theorem dL_law_254 : decode cL_law 254 = .ok (.ifCond .ne 15, 3) := dk_154 0 15 (dk_at dksL_law_4 15 rfl rfl)
theorem dL_law_257 : decode cL_law 257 = .ok (.aload_n 3, 1) := dk_45 (dk_at dksL_law_4 18 rfl rfl)
theorem dL_law_258 : decode cL_law 258 = .ok (.iconst 0, 1) := dk_3 (dk_at dksL_law_4 19 rfl rfl)
theorem dL_law_259 : decode cL_law 259 = .ok (.laload, 1) := dk_47 (dk_at dksL_law_4 20 rfl rfl)
theorem dL_law_260 : decode cL_law 260 = .ok (.iload 7, 2) := dk_21 7 (dk_at dksL_law_4 21 rfl rfl)
theorem dL_law_262 : decode cL_law 262 = .ok (.i2l, 1) := dk_133 (dk_at dksL_law_4 23 rfl rfl)
theorem dL_law_263 : decode cL_law 263 = .ok (.lcmp, 1) := dk_148 (dk_at dksL_law_5 0 rfl rfl)
theorem dL_law_264 : decode cL_law 264 = .ok (.ifCond .eq 5, 3) := dk_153 0 5 (dk_at dksL_law_5 1 rfl rfl)
theorem dL_law_267 : decode cL_law 267 = .ok (.iconst 0, 1) := dk_3 (dk_at dksL_law_5 4 rfl rfl)
theorem dL_law_268 : decode cL_law 268 = .ok (.ireturn, 1) := dk_172 (dk_at dksL_law_5 5 rfl rfl)
theorem dL_law_269 : decode cL_law 269 = .ok (.goto 2126, 3) := dk_167 8 78 (dk_at dksL_law_5 6 rfl rfl)
theorem dL_law_272 : decode cL_law 272 = .ok (.aload_n 1, 1) := dk_43 (dk_at dksL_law_5 9 rfl rfl)
theorem dL_law_273 : decode cL_law 273 = .ok (.aload_n 0, 1) := dk_42 (dk_at dksL_law_5 10 rfl rfl)
theorem dL_law_274 : decode cL_law 274 = .ok (.iload 5, 2) := dk_21 5 (dk_at dksL_law_5 11 rfl rfl)
theorem dL_law_276 : decode cL_law 276 = .ok (.iconst 1, 1) := dk_4 (dk_at dksL_law_5 13 rfl rfl)
theorem dL_law_277 : decode cL_law 277 = .ok (.iadd, 1) := dk_96 (dk_at dksL_law_5 14 rfl rfl)
theorem dL_law_278 : decode cL_law 278 = .ok (.iaload, 1) := dk_46 (dk_at dksL_law_5 15 rfl rfl)
theorem dL_law_279 : decode cL_law 279 = .ok (.aload_n 3, 1) := dk_45 (dk_at dksL_law_5 16 rfl rfl)
theorem dL_law_280 : decode cL_law 280 = .ok (.invokestatic 140, 3) := dk_184 0 140 (dk_at dksL_law_5 17 rfl rfl)
theorem dL_law_283 : decode cL_law 283 = .ok (.istore 6, 2) := dk_54 6 (dk_at dksL_law_5 20 rfl rfl)
theorem dL_law_285 : decode cL_law 285 = .ok (.aload_n 2, 1) := dk_44 (dk_at dksL_law_5 22 rfl rfl)
theorem dL_law_286 : decode cL_law 286 = .ok (.aload_n 0, 1) := dk_42 (dk_at dksL_law_5 23 rfl rfl)
theorem dL_law_287 : decode cL_law 287 = .ok (.iload 5, 2) := dk_21 5 (dk_at dksL_law_6 0 rfl rfl)
theorem dL_law_289 : decode cL_law 289 = .ok (.iconst 1, 1) := dk_4 (dk_at dksL_law_6 2 rfl rfl)
theorem dL_law_290 : decode cL_law 290 = .ok (.iadd, 1) := dk_96 (dk_at dksL_law_6 3 rfl rfl)
theorem dL_law_291 : decode cL_law 291 = .ok (.iaload, 1) := dk_46 (dk_at dksL_law_6 4 rfl rfl)
theorem dL_law_292 : decode cL_law 292 = .ok (.invokevirtual 142, 3) := dk_182 0 142 (dk_at dksL_law_6 5 rfl rfl)
theorem dL_law_295 : decode cL_law 295 = .ok (.istore 7, 2) := dk_54 7 (dk_at dksL_law_6 8 rfl rfl)
theorem dL_law_297 : decode cL_law 297 = .ok (.aload_n 2, 1) := dk_44 (dk_at dksL_law_6 10 rfl rfl)
theorem dL_law_298 : decode cL_law 298 = .ok (.invokevirtual 137, 3) := dk_182 0 137 (dk_at dksL_law_6 11 rfl rfl)
theorem dL_law_301 : decode cL_law 301 = .ok (.iload 6, 2) := dk_21 6 (dk_at dksL_law_6 14 rfl rfl)
theorem dL_law_303 : decode cL_law 303 = .ok (.if_icmp .eq 5, 3) := dk_159 0 5 (dk_at dksL_law_6 16 rfl rfl)
theorem dL_law_306 : decode cL_law 306 = .ok (.iconst 0, 1) := dk_3 (dk_at dksL_law_6 19 rfl rfl)
theorem dL_law_307 : decode cL_law 307 = .ok (.ireturn, 1) := dk_172 (dk_at dksL_law_6 20 rfl rfl)
theorem dL_law_308 : decode cL_law 308 = .ok (.iload 6, 2) := dk_21 6 (dk_at dksL_law_6 21 rfl rfl)
theorem dL_law_310 : decode cL_law 310 = .ok (.ifCond .ne 15, 3) := dk_154 0 15 (dk_at dksL_law_7 0 rfl rfl)
theorem dL_law_313 : decode cL_law 313 = .ok (.aload_n 3, 1) := dk_45 (dk_at dksL_law_7 3 rfl rfl)
theorem dL_law_314 : decode cL_law 314 = .ok (.iconst 0, 1) := dk_3 (dk_at dksL_law_7 4 rfl rfl)
theorem dL_law_315 : decode cL_law 315 = .ok (.laload, 1) := dk_47 (dk_at dksL_law_7 5 rfl rfl)
theorem dL_law_316 : decode cL_law 316 = .ok (.iload 7, 2) := dk_21 7 (dk_at dksL_law_7 6 rfl rfl)
theorem dL_law_318 : decode cL_law 318 = .ok (.i2l, 1) := dk_133 (dk_at dksL_law_7 8 rfl rfl)
theorem dL_law_319 : decode cL_law 319 = .ok (.lcmp, 1) := dk_148 (dk_at dksL_law_7 9 rfl rfl)
theorem dL_law_320 : decode cL_law 320 = .ok (.ifCond .eq 5, 3) := dk_153 0 5 (dk_at dksL_law_7 10 rfl rfl)
theorem dL_law_323 : decode cL_law 323 = .ok (.iconst 0, 1) := dk_3 (dk_at dksL_law_7 13 rfl rfl)
theorem dL_law_324 : decode cL_law 324 = .ok (.ireturn, 1) := dk_172 (dk_at dksL_law_7 14 rfl rfl)
theorem dL_law_325 : decode cL_law 325 = .ok (.goto 2070, 3) := dk_167 8 22 (dk_at dksL_law_7 15 rfl rfl)
theorem dL_law_328 : decode cL_law 328 = .ok (.aload_n 1, 1) := dk_43 (dk_at dksL_law_7 18 rfl rfl)
theorem dL_law_329 : decode cL_law 329 = .ok (.aload_n 3, 1) := dk_45 (dk_at dksL_law_7 19 rfl rfl)
theorem dL_law_330 : decode cL_law 330 = .ok (.invokestatic 143, 3) := dk_184 0 143 (dk_at dksL_law_7 20 rfl rfl)
theorem dL_law_333 : decode cL_law 333 = .ok (.istore 6, 2) := dk_54 6 (dk_at dksL_law_8 0 rfl rfl)
theorem dL_law_335 : decode cL_law 335 = .ok (.aload_n 2, 1) := dk_44 (dk_at dksL_law_8 2 rfl rfl)
theorem dL_law_336 : decode cL_law 336 = .ok (.invokevirtual 146, 3) := dk_182 0 146 (dk_at dksL_law_8 3 rfl rfl)
theorem dL_law_339 : decode cL_law 339 = .ok (.istore 7, 2) := dk_54 7 (dk_at dksL_law_8 6 rfl rfl)
theorem dL_law_341 : decode cL_law 341 = .ok (.aload_n 2, 1) := dk_44 (dk_at dksL_law_8 8 rfl rfl)
theorem dL_law_342 : decode cL_law 342 = .ok (.invokevirtual 137, 3) := dk_182 0 137 (dk_at dksL_law_8 9 rfl rfl)
theorem dL_law_345 : decode cL_law 345 = .ok (.iload 6, 2) := dk_21 6 (dk_at dksL_law_8 12 rfl rfl)
theorem dL_law_347 : decode cL_law 347 = .ok (.if_icmp .eq 5, 3) := dk_159 0 5 (dk_at dksL_law_8 14 rfl rfl)
theorem dL_law_350 : decode cL_law 350 = .ok (.iconst 0, 1) := dk_3 (dk_at dksL_law_8 17 rfl rfl)
theorem dL_law_351 : decode cL_law 351 = .ok (.ireturn, 1) := dk_172 (dk_at dksL_law_8 18 rfl rfl)
theorem dL_law_352 : decode cL_law 352 = .ok (.iload 6, 2) := dk_21 6 (dk_at dksL_law_8 19 rfl rfl)
theorem dL_law_354 : decode cL_law 354 = .ok (.ifCond .ne 15, 3) := dk_154 0 15 (dk_at dksL_law_8 21 rfl rfl)
theorem dL_law_357 : decode cL_law 357 = .ok (.aload_n 3, 1) := dk_45 (dk_at dksL_law_9 0 rfl rfl)
theorem dL_law_358 : decode cL_law 358 = .ok (.iconst 0, 1) := dk_3 (dk_at dksL_law_9 1 rfl rfl)
theorem dL_law_359 : decode cL_law 359 = .ok (.laload, 1) := dk_47 (dk_at dksL_law_9 2 rfl rfl)
theorem dL_law_360 : decode cL_law 360 = .ok (.iload 7, 2) := dk_21 7 (dk_at dksL_law_9 3 rfl rfl)
theorem dL_law_362 : decode cL_law 362 = .ok (.i2l, 1) := dk_133 (dk_at dksL_law_9 5 rfl rfl)
theorem dL_law_363 : decode cL_law 363 = .ok (.lcmp, 1) := dk_148 (dk_at dksL_law_9 6 rfl rfl)
theorem dL_law_364 : decode cL_law 364 = .ok (.ifCond .eq 5, 3) := dk_153 0 5 (dk_at dksL_law_9 7 rfl rfl)
theorem dL_law_367 : decode cL_law 367 = .ok (.iconst 0, 1) := dk_3 (dk_at dksL_law_9 10 rfl rfl)
theorem dL_law_368 : decode cL_law 368 = .ok (.ireturn, 1) := dk_172 (dk_at dksL_law_9 11 rfl rfl)
theorem dL_law_369 : decode cL_law 369 = .ok (.goto 2026, 3) := dk_167 7 234 (dk_at dksL_law_9 12 rfl rfl)
theorem dL_law_372 : decode cL_law 372 = .ok (.aload_n 1, 1) := dk_43 (dk_at dksL_law_9 15 rfl rfl)
theorem dL_law_373 : decode cL_law 373 = .ok (.aload_n 0, 1) := dk_42 (dk_at dksL_law_9 16 rfl rfl)
theorem dL_law_374 : decode cL_law 374 = .ok (.iload 5, 2) := dk_21 5 (dk_at dksL_law_9 17 rfl rfl)
theorem dL_law_376 : decode cL_law 376 = .ok (.iconst 1, 1) := dk_4 (dk_at dksL_law_9 19 rfl rfl)
theorem dL_law_377 : decode cL_law 377 = .ok (.iadd, 1) := dk_96 (dk_at dksL_law_9 20 rfl rfl)
theorem dL_law_378 : decode cL_law 378 = .ok (.iaload, 1) := dk_46 (dk_at dksL_law_9 21 rfl rfl)
theorem dL_law_379 : decode cL_law 379 = .ok (.aload_n 0, 1) := dk_42 (dk_at dksL_law_9 22 rfl rfl)
theorem dL_law_380 : decode cL_law 380 = .ok (.iload 5, 2) := dk_21 5 (dk_at dksL_law_10 0 rfl rfl)
theorem dL_law_382 : decode cL_law 382 = .ok (.iconst 2, 1) := dk_5 (dk_at dksL_law_10 2 rfl rfl)
theorem dL_law_383 : decode cL_law 383 = .ok (.iadd, 1) := dk_96 (dk_at dksL_law_10 3 rfl rfl)
theorem dL_law_384 : decode cL_law 384 = .ok (.iaload, 1) := dk_46 (dk_at dksL_law_10 4 rfl rfl)
theorem dL_law_385 : decode cL_law 385 = .ok (.aload_n 3, 1) := dk_45 (dk_at dksL_law_10 5 rfl rfl)
theorem dL_law_386 : decode cL_law 386 = .ok (.invokestatic 147, 3) := dk_184 0 147 (dk_at dksL_law_10 6 rfl rfl)
theorem dL_law_389 : decode cL_law 389 = .ok (.istore 6, 2) := dk_54 6 (dk_at dksL_law_10 9 rfl rfl)
theorem dL_law_391 : decode cL_law 391 = .ok (.aload_n 2, 1) := dk_44 (dk_at dksL_law_10 11 rfl rfl)
theorem dL_law_392 : decode cL_law 392 = .ok (.aload_n 0, 1) := dk_42 (dk_at dksL_law_10 12 rfl rfl)
theorem dL_law_393 : decode cL_law 393 = .ok (.iload 5, 2) := dk_21 5 (dk_at dksL_law_10 13 rfl rfl)
theorem dL_law_395 : decode cL_law 395 = .ok (.iconst 1, 1) := dk_4 (dk_at dksL_law_10 15 rfl rfl)
theorem dL_law_396 : decode cL_law 396 = .ok (.iadd, 1) := dk_96 (dk_at dksL_law_10 16 rfl rfl)
theorem dL_law_397 : decode cL_law 397 = .ok (.iaload, 1) := dk_46 (dk_at dksL_law_10 17 rfl rfl)
theorem dL_law_398 : decode cL_law 398 = .ok (.aload_n 0, 1) := dk_42 (dk_at dksL_law_10 18 rfl rfl)
theorem dL_law_399 : decode cL_law 399 = .ok (.iload 5, 2) := dk_21 5 (dk_at dksL_law_10 19 rfl rfl)
theorem dL_law_401 : decode cL_law 401 = .ok (.iconst 2, 1) := dk_5 (dk_at dksL_law_10 21 rfl rfl)
theorem dL_law_402 : decode cL_law 402 = .ok (.iadd, 1) := dk_96 (dk_at dksL_law_10 22 rfl rfl)
theorem dL_law_403 : decode cL_law 403 = .ok (.iaload, 1) := dk_46 (dk_at dksL_law_10 23 rfl rfl)
theorem dL_law_404 : decode cL_law 404 = .ok (.invokevirtual 150, 3) := dk_182 0 150 (dk_at dksL_law_11 0 rfl rfl)
theorem dL_law_407 : decode cL_law 407 = .ok (.istore 7, 2) := dk_54 7 (dk_at dksL_law_11 3 rfl rfl)
theorem dL_law_409 : decode cL_law 409 = .ok (.aload_n 2, 1) := dk_44 (dk_at dksL_law_11 5 rfl rfl)
theorem dL_law_410 : decode cL_law 410 = .ok (.invokevirtual 137, 3) := dk_182 0 137 (dk_at dksL_law_11 6 rfl rfl)
theorem dL_law_413 : decode cL_law 413 = .ok (.iload 6, 2) := dk_21 6 (dk_at dksL_law_11 9 rfl rfl)
theorem dL_law_415 : decode cL_law 415 = .ok (.if_icmp .eq 5, 3) := dk_159 0 5 (dk_at dksL_law_11 11 rfl rfl)
theorem dL_law_418 : decode cL_law 418 = .ok (.iconst 0, 1) := dk_3 (dk_at dksL_law_11 14 rfl rfl)
theorem dL_law_419 : decode cL_law 419 = .ok (.ireturn, 1) := dk_172 (dk_at dksL_law_11 15 rfl rfl)
theorem dL_law_420 : decode cL_law 420 = .ok (.iload 6, 2) := dk_21 6 (dk_at dksL_law_11 16 rfl rfl)
theorem dL_law_422 : decode cL_law 422 = .ok (.ifCond .ne 15, 3) := dk_154 0 15 (dk_at dksL_law_11 18 rfl rfl)
theorem dL_law_425 : decode cL_law 425 = .ok (.aload_n 3, 1) := dk_45 (dk_at dksL_law_11 21 rfl rfl)
theorem dL_law_426 : decode cL_law 426 = .ok (.iconst 0, 1) := dk_3 (dk_at dksL_law_11 22 rfl rfl)
theorem dL_law_427 : decode cL_law 427 = .ok (.laload, 1) := dk_47 (dk_at dksL_law_11 23 rfl rfl)
theorem dL_law_428 : decode cL_law 428 = .ok (.iload 7, 2) := dk_21 7 (dk_at dksL_law_12 0 rfl rfl)
theorem dL_law_430 : decode cL_law 430 = .ok (.i2l, 1) := dk_133 (dk_at dksL_law_12 2 rfl rfl)
theorem dL_law_431 : decode cL_law 431 = .ok (.lcmp, 1) := dk_148 (dk_at dksL_law_12 3 rfl rfl)
theorem dL_law_432 : decode cL_law 432 = .ok (.ifCond .eq 5, 3) := dk_153 0 5 (dk_at dksL_law_12 4 rfl rfl)
theorem dL_law_435 : decode cL_law 435 = .ok (.iconst 0, 1) := dk_3 (dk_at dksL_law_12 7 rfl rfl)
theorem dL_law_436 : decode cL_law 436 = .ok (.ireturn, 1) := dk_172 (dk_at dksL_law_12 8 rfl rfl)
theorem dL_law_437 : decode cL_law 437 = .ok (.goto 1958, 3) := dk_167 7 166 (dk_at dksL_law_12 9 rfl rfl)
theorem dL_law_440 : decode cL_law 440 = .ok (.aload_n 1, 1) := dk_43 (dk_at dksL_law_12 12 rfl rfl)
theorem dL_law_441 : decode cL_law 441 = .ok (.aload_n 0, 1) := dk_42 (dk_at dksL_law_12 13 rfl rfl)
theorem dL_law_442 : decode cL_law 442 = .ok (.iload 5, 2) := dk_21 5 (dk_at dksL_law_12 14 rfl rfl)
theorem dL_law_444 : decode cL_law 444 = .ok (.iconst 1, 1) := dk_4 (dk_at dksL_law_12 16 rfl rfl)
theorem dL_law_445 : decode cL_law 445 = .ok (.iadd, 1) := dk_96 (dk_at dksL_law_12 17 rfl rfl)
theorem dL_law_446 : decode cL_law 446 = .ok (.iaload, 1) := dk_46 (dk_at dksL_law_12 18 rfl rfl)
theorem dL_law_447 : decode cL_law 447 = .ok (.aload_n 3, 1) := dk_45 (dk_at dksL_law_12 19 rfl rfl)
theorem dL_law_448 : decode cL_law 448 = .ok (.invokestatic 151, 3) := dk_184 0 151 (dk_at dksL_law_12 20 rfl rfl)
theorem dL_law_451 : decode cL_law 451 = .ok (.istore 6, 2) := dk_54 6 (dk_at dksL_law_13 0 rfl rfl)
theorem dL_law_453 : decode cL_law 453 = .ok (.aload_n 2, 1) := dk_44 (dk_at dksL_law_13 2 rfl rfl)
theorem dL_law_454 : decode cL_law 454 = .ok (.aload_n 0, 1) := dk_42 (dk_at dksL_law_13 3 rfl rfl)
theorem dL_law_455 : decode cL_law 455 = .ok (.iload 5, 2) := dk_21 5 (dk_at dksL_law_13 4 rfl rfl)
theorem dL_law_457 : decode cL_law 457 = .ok (.iconst 1, 1) := dk_4 (dk_at dksL_law_13 6 rfl rfl)
theorem dL_law_458 : decode cL_law 458 = .ok (.iadd, 1) := dk_96 (dk_at dksL_law_13 7 rfl rfl)
theorem dL_law_459 : decode cL_law 459 = .ok (.iaload, 1) := dk_46 (dk_at dksL_law_13 8 rfl rfl)
theorem dL_law_460 : decode cL_law 460 = .ok (.invokevirtual 153, 3) := dk_182 0 153 (dk_at dksL_law_13 9 rfl rfl)
theorem dL_law_463 : decode cL_law 463 = .ok (.istore 7, 2) := dk_54 7 (dk_at dksL_law_13 12 rfl rfl)
theorem dL_law_465 : decode cL_law 465 = .ok (.aload_n 2, 1) := dk_44 (dk_at dksL_law_13 14 rfl rfl)
theorem dL_law_466 : decode cL_law 466 = .ok (.invokevirtual 137, 3) := dk_182 0 137 (dk_at dksL_law_13 15 rfl rfl)
theorem dL_law_469 : decode cL_law 469 = .ok (.iload 6, 2) := dk_21 6 (dk_at dksL_law_13 18 rfl rfl)
theorem dL_law_471 : decode cL_law 471 = .ok (.if_icmp .eq 5, 3) := dk_159 0 5 (dk_at dksL_law_13 20 rfl rfl)
theorem dL_law_474 : decode cL_law 474 = .ok (.iconst 0, 1) := dk_3 (dk_at dksL_law_13 23 rfl rfl)
theorem dL_law_475 : decode cL_law 475 = .ok (.ireturn, 1) := dk_172 (dk_at dksL_law_14 0 rfl rfl)
theorem dL_law_476 : decode cL_law 476 = .ok (.iload 6, 2) := dk_21 6 (dk_at dksL_law_14 1 rfl rfl)
theorem dL_law_478 : decode cL_law 478 = .ok (.ifCond .ne 15, 3) := dk_154 0 15 (dk_at dksL_law_14 3 rfl rfl)
theorem dL_law_481 : decode cL_law 481 = .ok (.aload_n 3, 1) := dk_45 (dk_at dksL_law_14 6 rfl rfl)
theorem dL_law_482 : decode cL_law 482 = .ok (.iconst 0, 1) := dk_3 (dk_at dksL_law_14 7 rfl rfl)
theorem dL_law_483 : decode cL_law 483 = .ok (.laload, 1) := dk_47 (dk_at dksL_law_14 8 rfl rfl)
theorem dL_law_484 : decode cL_law 484 = .ok (.iload 7, 2) := dk_21 7 (dk_at dksL_law_14 9 rfl rfl)
theorem dL_law_486 : decode cL_law 486 = .ok (.i2l, 1) := dk_133 (dk_at dksL_law_14 11 rfl rfl)
theorem dL_law_487 : decode cL_law 487 = .ok (.lcmp, 1) := dk_148 (dk_at dksL_law_14 12 rfl rfl)
theorem dL_law_488 : decode cL_law 488 = .ok (.ifCond .eq 5, 3) := dk_153 0 5 (dk_at dksL_law_14 13 rfl rfl)
theorem dL_law_491 : decode cL_law 491 = .ok (.iconst 0, 1) := dk_3 (dk_at dksL_law_14 16 rfl rfl)
theorem dL_law_492 : decode cL_law 492 = .ok (.ireturn, 1) := dk_172 (dk_at dksL_law_14 17 rfl rfl)
theorem dL_law_493 : decode cL_law 493 = .ok (.goto 1902, 3) := dk_167 7 110 (dk_at dksL_law_14 18 rfl rfl)
theorem dL_law_496 : decode cL_law 496 = .ok (.aload_n 1, 1) := dk_43 (dk_at dksL_law_14 21 rfl rfl)
theorem dL_law_497 : decode cL_law 497 = .ok (.aload_n 0, 1) := dk_42 (dk_at dksL_law_14 22 rfl rfl)
theorem dL_law_498 : decode cL_law 498 = .ok (.iload 5, 2) := dk_21 5 (dk_at dksL_law_15 0 rfl rfl)
theorem dL_law_500 : decode cL_law 500 = .ok (.iconst 1, 1) := dk_4 (dk_at dksL_law_15 2 rfl rfl)
theorem dL_law_501 : decode cL_law 501 = .ok (.iadd, 1) := dk_96 (dk_at dksL_law_15 3 rfl rfl)
theorem dL_law_502 : decode cL_law 502 = .ok (.iaload, 1) := dk_46 (dk_at dksL_law_15 4 rfl rfl)
theorem dL_law_503 : decode cL_law 503 = .ok (.aload_n 0, 1) := dk_42 (dk_at dksL_law_15 5 rfl rfl)
theorem dL_law_504 : decode cL_law 504 = .ok (.iload 5, 2) := dk_21 5 (dk_at dksL_law_15 6 rfl rfl)
theorem dL_law_506 : decode cL_law 506 = .ok (.iconst 2, 1) := dk_5 (dk_at dksL_law_15 8 rfl rfl)
theorem dL_law_507 : decode cL_law 507 = .ok (.iadd, 1) := dk_96 (dk_at dksL_law_15 9 rfl rfl)
theorem dL_law_508 : decode cL_law 508 = .ok (.iaload, 1) := dk_46 (dk_at dksL_law_15 10 rfl rfl)
theorem dL_law_509 : decode cL_law 509 = .ok (.aload_n 3, 1) := dk_45 (dk_at dksL_law_15 11 rfl rfl)
theorem dL_law_510 : decode cL_law 510 = .ok (.invokestatic 154, 3) := dk_184 0 154 (dk_at dksL_law_15 12 rfl rfl)
theorem dL_law_513 : decode cL_law 513 = .ok (.istore 6, 2) := dk_54 6 (dk_at dksL_law_15 15 rfl rfl)
theorem dL_law_515 : decode cL_law 515 = .ok (.aload_n 2, 1) := dk_44 (dk_at dksL_law_15 17 rfl rfl)
theorem dL_law_516 : decode cL_law 516 = .ok (.aload_n 0, 1) := dk_42 (dk_at dksL_law_15 18 rfl rfl)
theorem dL_law_517 : decode cL_law 517 = .ok (.iload 5, 2) := dk_21 5 (dk_at dksL_law_15 19 rfl rfl)
theorem dL_law_519 : decode cL_law 519 = .ok (.iconst 1, 1) := dk_4 (dk_at dksL_law_15 21 rfl rfl)
theorem dL_law_520 : decode cL_law 520 = .ok (.iadd, 1) := dk_96 (dk_at dksL_law_15 22 rfl rfl)
theorem dL_law_521 : decode cL_law 521 = .ok (.iaload, 1) := dk_46 (dk_at dksL_law_15 23 rfl rfl)
theorem dL_law_522 : decode cL_law 522 = .ok (.aload_n 0, 1) := dk_42 (dk_at dksL_law_16 0 rfl rfl)
theorem dL_law_523 : decode cL_law 523 = .ok (.iload 5, 2) := dk_21 5 (dk_at dksL_law_16 1 rfl rfl)
theorem dL_law_525 : decode cL_law 525 = .ok (.iconst 2, 1) := dk_5 (dk_at dksL_law_16 3 rfl rfl)
theorem dL_law_526 : decode cL_law 526 = .ok (.iadd, 1) := dk_96 (dk_at dksL_law_16 4 rfl rfl)
theorem dL_law_527 : decode cL_law 527 = .ok (.iaload, 1) := dk_46 (dk_at dksL_law_16 5 rfl rfl)
theorem dL_law_528 : decode cL_law 528 = .ok (.invokevirtual 156, 3) := dk_182 0 156 (dk_at dksL_law_16 6 rfl rfl)
theorem dL_law_531 : decode cL_law 531 = .ok (.istore 7, 2) := dk_54 7 (dk_at dksL_law_16 9 rfl rfl)
theorem dL_law_533 : decode cL_law 533 = .ok (.aload_n 2, 1) := dk_44 (dk_at dksL_law_16 11 rfl rfl)
theorem dL_law_534 : decode cL_law 534 = .ok (.invokevirtual 137, 3) := dk_182 0 137 (dk_at dksL_law_16 12 rfl rfl)
theorem dL_law_537 : decode cL_law 537 = .ok (.iload 6, 2) := dk_21 6 (dk_at dksL_law_16 15 rfl rfl)
theorem dL_law_539 : decode cL_law 539 = .ok (.if_icmp .eq 5, 3) := dk_159 0 5 (dk_at dksL_law_16 17 rfl rfl)
theorem dL_law_542 : decode cL_law 542 = .ok (.iconst 0, 1) := dk_3 (dk_at dksL_law_16 20 rfl rfl)
theorem dL_law_543 : decode cL_law 543 = .ok (.ireturn, 1) := dk_172 (dk_at dksL_law_16 21 rfl rfl)
theorem dL_law_544 : decode cL_law 544 = .ok (.iload 6, 2) := dk_21 6 (dk_at dksL_law_16 22 rfl rfl)
theorem dL_law_546 : decode cL_law 546 = .ok (.ifCond .ne 15, 3) := dk_154 0 15 (dk_at dksL_law_17 0 rfl rfl)
theorem dL_law_549 : decode cL_law 549 = .ok (.aload_n 3, 1) := dk_45 (dk_at dksL_law_17 3 rfl rfl)
theorem dL_law_550 : decode cL_law 550 = .ok (.iconst 0, 1) := dk_3 (dk_at dksL_law_17 4 rfl rfl)
theorem dL_law_551 : decode cL_law 551 = .ok (.laload, 1) := dk_47 (dk_at dksL_law_17 5 rfl rfl)
theorem dL_law_552 : decode cL_law 552 = .ok (.iload 7, 2) := dk_21 7 (dk_at dksL_law_17 6 rfl rfl)
theorem dL_law_554 : decode cL_law 554 = .ok (.i2l, 1) := dk_133 (dk_at dksL_law_17 8 rfl rfl)
theorem dL_law_555 : decode cL_law 555 = .ok (.lcmp, 1) := dk_148 (dk_at dksL_law_17 9 rfl rfl)
theorem dL_law_556 : decode cL_law 556 = .ok (.ifCond .eq 5, 3) := dk_153 0 5 (dk_at dksL_law_17 10 rfl rfl)
theorem dL_law_559 : decode cL_law 559 = .ok (.iconst 0, 1) := dk_3 (dk_at dksL_law_17 13 rfl rfl)
theorem dL_law_560 : decode cL_law 560 = .ok (.ireturn, 1) := dk_172 (dk_at dksL_law_17 14 rfl rfl)
theorem dL_law_561 : decode cL_law 561 = .ok (.goto 1834, 3) := dk_167 7 42 (dk_at dksL_law_17 15 rfl rfl)
theorem dL_law_564 : decode cL_law 564 = .ok (.aload_n 1, 1) := dk_43 (dk_at dksL_law_17 18 rfl rfl)
theorem dL_law_565 : decode cL_law 565 = .ok (.aload_n 0, 1) := dk_42 (dk_at dksL_law_17 19 rfl rfl)
theorem dL_law_566 : decode cL_law 566 = .ok (.iload 5, 2) := dk_21 5 (dk_at dksL_law_17 20 rfl rfl)
theorem dL_law_568 : decode cL_law 568 = .ok (.iconst 1, 1) := dk_4 (dk_at dksL_law_17 22 rfl rfl)
theorem dL_law_569 : decode cL_law 569 = .ok (.iadd, 1) := dk_96 (dk_at dksL_law_17 23 rfl rfl)
theorem dL_law_570 : decode cL_law 570 = .ok (.iaload, 1) := dk_46 (dk_at dksL_law_18 0 rfl rfl)
theorem dL_law_571 : decode cL_law 571 = .ok (.aload_n 0, 1) := dk_42 (dk_at dksL_law_18 1 rfl rfl)
theorem dL_law_572 : decode cL_law 572 = .ok (.iload 5, 2) := dk_21 5 (dk_at dksL_law_18 2 rfl rfl)
theorem dL_law_574 : decode cL_law 574 = .ok (.iconst 2, 1) := dk_5 (dk_at dksL_law_18 4 rfl rfl)
theorem dL_law_575 : decode cL_law 575 = .ok (.iadd, 1) := dk_96 (dk_at dksL_law_18 5 rfl rfl)
theorem dL_law_576 : decode cL_law 576 = .ok (.iaload, 1) := dk_46 (dk_at dksL_law_18 6 rfl rfl)
theorem dL_law_577 : decode cL_law 577 = .ok (.aload_n 3, 1) := dk_45 (dk_at dksL_law_18 7 rfl rfl)
theorem dL_law_578 : decode cL_law 578 = .ok (.invokestatic 157, 3) := dk_184 0 157 (dk_at dksL_law_18 8 rfl rfl)
theorem dL_law_581 : decode cL_law 581 = .ok (.istore 6, 2) := dk_54 6 (dk_at dksL_law_18 11 rfl rfl)
theorem dL_law_583 : decode cL_law 583 = .ok (.aload_n 2, 1) := dk_44 (dk_at dksL_law_18 13 rfl rfl)
theorem dL_law_584 : decode cL_law 584 = .ok (.aload_n 0, 1) := dk_42 (dk_at dksL_law_18 14 rfl rfl)
theorem dL_law_585 : decode cL_law 585 = .ok (.iload 5, 2) := dk_21 5 (dk_at dksL_law_18 15 rfl rfl)
theorem dL_law_587 : decode cL_law 587 = .ok (.iconst 1, 1) := dk_4 (dk_at dksL_law_18 17 rfl rfl)
theorem dL_law_588 : decode cL_law 588 = .ok (.iadd, 1) := dk_96 (dk_at dksL_law_18 18 rfl rfl)
theorem dL_law_589 : decode cL_law 589 = .ok (.iaload, 1) := dk_46 (dk_at dksL_law_18 19 rfl rfl)
theorem dL_law_590 : decode cL_law 590 = .ok (.aload_n 0, 1) := dk_42 (dk_at dksL_law_18 20 rfl rfl)
theorem dL_law_591 : decode cL_law 591 = .ok (.iload 5, 2) := dk_21 5 (dk_at dksL_law_18 21 rfl rfl)
theorem dL_law_593 : decode cL_law 593 = .ok (.iconst 2, 1) := dk_5 (dk_at dksL_law_18 23 rfl rfl)
theorem dL_law_594 : decode cL_law 594 = .ok (.iadd, 1) := dk_96 (dk_at dksL_law_19 0 rfl rfl)
theorem dL_law_595 : decode cL_law 595 = .ok (.iaload, 1) := dk_46 (dk_at dksL_law_19 1 rfl rfl)
theorem dL_law_596 : decode cL_law 596 = .ok (.invokevirtual 159, 3) := dk_182 0 159 (dk_at dksL_law_19 2 rfl rfl)
theorem dL_law_599 : decode cL_law 599 = .ok (.istore 7, 2) := dk_54 7 (dk_at dksL_law_19 5 rfl rfl)
theorem dL_law_601 : decode cL_law 601 = .ok (.aload_n 2, 1) := dk_44 (dk_at dksL_law_19 7 rfl rfl)
theorem dL_law_602 : decode cL_law 602 = .ok (.invokevirtual 137, 3) := dk_182 0 137 (dk_at dksL_law_19 8 rfl rfl)
theorem dL_law_605 : decode cL_law 605 = .ok (.iload 6, 2) := dk_21 6 (dk_at dksL_law_19 11 rfl rfl)
theorem dL_law_607 : decode cL_law 607 = .ok (.if_icmp .eq 5, 3) := dk_159 0 5 (dk_at dksL_law_19 13 rfl rfl)
theorem dL_law_610 : decode cL_law 610 = .ok (.iconst 0, 1) := dk_3 (dk_at dksL_law_19 16 rfl rfl)
theorem dL_law_611 : decode cL_law 611 = .ok (.ireturn, 1) := dk_172 (dk_at dksL_law_19 17 rfl rfl)
theorem dL_law_612 : decode cL_law 612 = .ok (.iload 6, 2) := dk_21 6 (dk_at dksL_law_19 18 rfl rfl)
theorem dL_law_614 : decode cL_law 614 = .ok (.ifCond .ne 15, 3) := dk_154 0 15 (dk_at dksL_law_19 20 rfl rfl)
theorem dL_law_617 : decode cL_law 617 = .ok (.aload_n 3, 1) := dk_45 (dk_at dksL_law_19 23 rfl rfl)
theorem dL_law_618 : decode cL_law 618 = .ok (.iconst 0, 1) := dk_3 (dk_at dksL_law_20 0 rfl rfl)
theorem dL_law_619 : decode cL_law 619 = .ok (.laload, 1) := dk_47 (dk_at dksL_law_20 1 rfl rfl)
theorem dL_law_620 : decode cL_law 620 = .ok (.iload 7, 2) := dk_21 7 (dk_at dksL_law_20 2 rfl rfl)
theorem dL_law_622 : decode cL_law 622 = .ok (.i2l, 1) := dk_133 (dk_at dksL_law_20 4 rfl rfl)
theorem dL_law_623 : decode cL_law 623 = .ok (.lcmp, 1) := dk_148 (dk_at dksL_law_20 5 rfl rfl)
theorem dL_law_624 : decode cL_law 624 = .ok (.ifCond .eq 5, 3) := dk_153 0 5 (dk_at dksL_law_20 6 rfl rfl)
theorem dL_law_627 : decode cL_law 627 = .ok (.iconst 0, 1) := dk_3 (dk_at dksL_law_20 9 rfl rfl)
theorem dL_law_628 : decode cL_law 628 = .ok (.ireturn, 1) := dk_172 (dk_at dksL_law_20 10 rfl rfl)
theorem dL_law_629 : decode cL_law 629 = .ok (.goto 1766, 3) := dk_167 6 230 (dk_at dksL_law_20 11 rfl rfl)
theorem dL_law_632 : decode cL_law 632 = .ok (.aload_n 1, 1) := dk_43 (dk_at dksL_law_20 14 rfl rfl)
theorem dL_law_633 : decode cL_law 633 = .ok (.aload_n 0, 1) := dk_42 (dk_at dksL_law_20 15 rfl rfl)
theorem dL_law_634 : decode cL_law 634 = .ok (.iload 5, 2) := dk_21 5 (dk_at dksL_law_20 16 rfl rfl)
theorem dL_law_636 : decode cL_law 636 = .ok (.iconst 1, 1) := dk_4 (dk_at dksL_law_20 18 rfl rfl)
theorem dL_law_637 : decode cL_law 637 = .ok (.iadd, 1) := dk_96 (dk_at dksL_law_20 19 rfl rfl)
theorem dL_law_638 : decode cL_law 638 = .ok (.iaload, 1) := dk_46 (dk_at dksL_law_20 20 rfl rfl)
theorem dL_law_639 : decode cL_law 639 = .ok (.aload 4, 2) := dk_25 4 (dk_at dksL_law_20 21 rfl rfl)
theorem dL_law_641 : decode cL_law 641 = .ok (.invokestatic 160, 3) := dk_184 0 160 (dk_at dksL_law_21 0 rfl rfl)
theorem dL_law_644 : decode cL_law 644 = .ok (.istore 6, 2) := dk_54 6 (dk_at dksL_law_21 3 rfl rfl)
theorem dL_law_646 : decode cL_law 646 = .ok (.aload_n 2, 1) := dk_44 (dk_at dksL_law_21 5 rfl rfl)
theorem dL_law_647 : decode cL_law 647 = .ok (.aload_n 0, 1) := dk_42 (dk_at dksL_law_21 6 rfl rfl)
theorem dL_law_648 : decode cL_law 648 = .ok (.iload 5, 2) := dk_21 5 (dk_at dksL_law_21 7 rfl rfl)
theorem dL_law_650 : decode cL_law 650 = .ok (.iconst 1, 1) := dk_4 (dk_at dksL_law_21 9 rfl rfl)
theorem dL_law_651 : decode cL_law 651 = .ok (.iadd, 1) := dk_96 (dk_at dksL_law_21 10 rfl rfl)
theorem dL_law_652 : decode cL_law 652 = .ok (.iaload, 1) := dk_46 (dk_at dksL_law_21 11 rfl rfl)
theorem dL_law_653 : decode cL_law 653 = .ok (.invokevirtual 163, 3) := dk_182 0 163 (dk_at dksL_law_21 12 rfl rfl)
theorem dL_law_656 : decode cL_law 656 = .ok (.fstore 7, 2) := dk_56 7 (dk_at dksL_law_21 15 rfl rfl)
theorem dL_law_658 : decode cL_law 658 = .ok (.aload_n 2, 1) := dk_44 (dk_at dksL_law_21 17 rfl rfl)
theorem dL_law_659 : decode cL_law 659 = .ok (.invokevirtual 137, 3) := dk_182 0 137 (dk_at dksL_law_21 18 rfl rfl)
theorem dL_law_662 : decode cL_law 662 = .ok (.iload 6, 2) := dk_21 6 (dk_at dksL_law_21 21 rfl rfl)
theorem dL_law_664 : decode cL_law 664 = .ok (.if_icmp .eq 5, 3) := dk_159 0 5 (dk_at dksL_law_22 0 rfl rfl)
theorem dL_law_667 : decode cL_law 667 = .ok (.iconst 0, 1) := dk_3 (dk_at dksL_law_22 3 rfl rfl)
theorem dL_law_668 : decode cL_law 668 = .ok (.ireturn, 1) := dk_172 (dk_at dksL_law_22 4 rfl rfl)
theorem dL_law_669 : decode cL_law 669 = .ok (.iload 6, 2) := dk_21 6 (dk_at dksL_law_22 5 rfl rfl)
theorem dL_law_671 : decode cL_law 671 = .ok (.ifCond .ne 36, 3) := dk_154 0 36 (dk_at dksL_law_22 7 rfl rfl)
theorem dL_law_674 : decode cL_law 674 = .ok (.aload 4, 2) := dk_25 4 (dk_at dksL_law_22 10 rfl rfl)
theorem dL_law_676 : decode cL_law 676 = .ok (.iconst 0, 1) := dk_3 (dk_at dksL_law_22 12 rfl rfl)
theorem dL_law_677 : decode cL_law 677 = .ok (.daload, 1) := dk_49 (dk_at dksL_law_22 13 rfl rfl)
theorem dL_law_678 : decode cL_law 678 = .ok (.fload 7, 2) := dk_23 7 (dk_at dksL_law_22 14 rfl rfl)
theorem dL_law_680 : decode cL_law 680 = .ok (.f2d, 1) := dk_141 (dk_at dksL_law_22 16 rfl rfl)
theorem dL_law_681 : decode cL_law 681 = .ok (.dcmp .l, 1) := dk_151 (dk_at dksL_law_22 17 rfl rfl)
theorem dL_law_682 : decode cL_law 682 = .ok (.ifCond .eq 25, 3) := dk_153 0 25 (dk_at dksL_law_22 18 rfl rfl)
theorem dL_law_685 : decode cL_law 685 = .ok (.aload 4, 2) := dk_25 4 (dk_at dksL_law_22 21 rfl rfl)
theorem dL_law_687 : decode cL_law 687 = .ok (.iconst 0, 1) := dk_3 (dk_at dksL_law_22 23 rfl rfl)
theorem dL_law_688 : decode cL_law 688 = .ok (.daload, 1) := dk_49 (dk_at dksL_law_23 0 rfl rfl)
theorem dL_law_689 : decode cL_law 689 = .ok (.aload 4, 2) := dk_25 4 (dk_at dksL_law_23 1 rfl rfl)
theorem dL_law_691 : decode cL_law 691 = .ok (.iconst 0, 1) := dk_3 (dk_at dksL_law_23 3 rfl rfl)
theorem dL_law_692 : decode cL_law 692 = .ok (.daload, 1) := dk_49 (dk_at dksL_law_23 4 rfl rfl)
theorem dL_law_693 : decode cL_law 693 = .ok (.dcmp .l, 1) := dk_151 (dk_at dksL_law_23 5 rfl rfl)
theorem dL_law_694 : decode cL_law 694 = .ok (.ifCond .eq 11, 3) := dk_153 0 11 (dk_at dksL_law_23 6 rfl rfl)
theorem dL_law_697 : decode cL_law 697 = .ok (.fload 7, 2) := dk_23 7 (dk_at dksL_law_23 9 rfl rfl)
theorem dL_law_699 : decode cL_law 699 = .ok (.fload 7, 2) := dk_23 7 (dk_at dksL_law_23 11 rfl rfl)
theorem dL_law_701 : decode cL_law 701 = .ok (.fcmp .l, 1) := dk_149 (dk_at dksL_law_23 13 rfl rfl)
theorem dL_law_702 : decode cL_law 702 = .ok (.ifCond .ne 5, 3) := dk_154 0 5 (dk_at dksL_law_23 14 rfl rfl)
theorem dL_law_705 : decode cL_law 705 = .ok (.iconst 0, 1) := dk_3 (dk_at dksL_law_23 17 rfl rfl)
theorem dL_law_706 : decode cL_law 706 = .ok (.ireturn, 1) := dk_172 (dk_at dksL_law_23 18 rfl rfl)
theorem dL_law_707 : decode cL_law 707 = .ok (.goto 1688, 3) := dk_167 6 152 (dk_at dksL_law_23 19 rfl rfl)
theorem dL_law_710 : decode cL_law 710 = .ok (.aload_n 1, 1) := dk_43 (dk_at dksL_law_23 22 rfl rfl)
theorem dL_law_711 : decode cL_law 711 = .ok (.aload_n 0, 1) := dk_42 (dk_at dksL_law_23 23 rfl rfl)
theorem dL_law_712 : decode cL_law 712 = .ok (.iload 5, 2) := dk_21 5 (dk_at dksL_law_24 0 rfl rfl)
theorem dL_law_714 : decode cL_law 714 = .ok (.iconst 1, 1) := dk_4 (dk_at dksL_law_24 2 rfl rfl)
theorem dL_law_715 : decode cL_law 715 = .ok (.iadd, 1) := dk_96 (dk_at dksL_law_24 3 rfl rfl)
theorem dL_law_716 : decode cL_law 716 = .ok (.iaload, 1) := dk_46 (dk_at dksL_law_24 4 rfl rfl)
theorem dL_law_717 : decode cL_law 717 = .ok (.aload_n 0, 1) := dk_42 (dk_at dksL_law_24 5 rfl rfl)
theorem dL_law_718 : decode cL_law 718 = .ok (.iload 5, 2) := dk_21 5 (dk_at dksL_law_24 6 rfl rfl)
theorem dL_law_720 : decode cL_law 720 = .ok (.iconst 2, 1) := dk_5 (dk_at dksL_law_24 8 rfl rfl)
theorem dL_law_721 : decode cL_law 721 = .ok (.iadd, 1) := dk_96 (dk_at dksL_law_24 9 rfl rfl)
theorem dL_law_722 : decode cL_law 722 = .ok (.iaload, 1) := dk_46 (dk_at dksL_law_24 10 rfl rfl)
theorem dL_law_723 : decode cL_law 723 = .ok (.aload_n 3, 1) := dk_45 (dk_at dksL_law_24 11 rfl rfl)
theorem dL_law_724 : decode cL_law 724 = .ok (.invokestatic 164, 3) := dk_184 0 164 (dk_at dksL_law_24 12 rfl rfl)
theorem dL_law_727 : decode cL_law 727 = .ok (.istore 6, 2) := dk_54 6 (dk_at dksL_law_24 15 rfl rfl)
theorem dL_law_729 : decode cL_law 729 = .ok (.aload_n 2, 1) := dk_44 (dk_at dksL_law_24 17 rfl rfl)
theorem dL_law_730 : decode cL_law 730 = .ok (.aload_n 0, 1) := dk_42 (dk_at dksL_law_24 18 rfl rfl)
theorem dL_law_731 : decode cL_law 731 = .ok (.iload 5, 2) := dk_21 5 (dk_at dksL_law_24 19 rfl rfl)
theorem dL_law_733 : decode cL_law 733 = .ok (.iconst 1, 1) := dk_4 (dk_at dksL_law_24 21 rfl rfl)
theorem dL_law_734 : decode cL_law 734 = .ok (.iadd, 1) := dk_96 (dk_at dksL_law_24 22 rfl rfl)
theorem dL_law_735 : decode cL_law 735 = .ok (.iaload, 1) := dk_46 (dk_at dksL_law_24 23 rfl rfl)
theorem dL_law_736 : decode cL_law 736 = .ok (.aload_n 0, 1) := dk_42 (dk_at dksL_law_25 0 rfl rfl)
theorem dL_law_737 : decode cL_law 737 = .ok (.iload 5, 2) := dk_21 5 (dk_at dksL_law_25 1 rfl rfl)
theorem dL_law_739 : decode cL_law 739 = .ok (.iconst 2, 1) := dk_5 (dk_at dksL_law_25 3 rfl rfl)
theorem dL_law_740 : decode cL_law 740 = .ok (.iadd, 1) := dk_96 (dk_at dksL_law_25 4 rfl rfl)
theorem dL_law_741 : decode cL_law 741 = .ok (.iaload, 1) := dk_46 (dk_at dksL_law_25 5 rfl rfl)
theorem dL_law_742 : decode cL_law 742 = .ok (.invokevirtual 166, 3) := dk_182 0 166 (dk_at dksL_law_25 6 rfl rfl)
theorem dL_law_745 : decode cL_law 745 = .ok (.istore 7, 2) := dk_54 7 (dk_at dksL_law_25 9 rfl rfl)
theorem dL_law_747 : decode cL_law 747 = .ok (.aload_n 2, 1) := dk_44 (dk_at dksL_law_25 11 rfl rfl)
theorem dL_law_748 : decode cL_law 748 = .ok (.invokevirtual 137, 3) := dk_182 0 137 (dk_at dksL_law_25 12 rfl rfl)
theorem dL_law_751 : decode cL_law 751 = .ok (.iload 6, 2) := dk_21 6 (dk_at dksL_law_25 15 rfl rfl)
theorem dL_law_753 : decode cL_law 753 = .ok (.if_icmp .eq 5, 3) := dk_159 0 5 (dk_at dksL_law_25 17 rfl rfl)
theorem dL_law_756 : decode cL_law 756 = .ok (.iconst 0, 1) := dk_3 (dk_at dksL_law_25 20 rfl rfl)
theorem dL_law_757 : decode cL_law 757 = .ok (.ireturn, 1) := dk_172 (dk_at dksL_law_25 21 rfl rfl)
theorem dL_law_758 : decode cL_law 758 = .ok (.iload 6, 2) := dk_21 6 (dk_at dksL_law_25 22 rfl rfl)
theorem dL_law_760 : decode cL_law 760 = .ok (.ifCond .ne 15, 3) := dk_154 0 15 (dk_at dksL_law_26 0 rfl rfl)
theorem dL_law_763 : decode cL_law 763 = .ok (.aload_n 3, 1) := dk_45 (dk_at dksL_law_26 3 rfl rfl)
theorem dL_law_764 : decode cL_law 764 = .ok (.iconst 0, 1) := dk_3 (dk_at dksL_law_26 4 rfl rfl)
theorem dL_law_765 : decode cL_law 765 = .ok (.laload, 1) := dk_47 (dk_at dksL_law_26 5 rfl rfl)
theorem dL_law_766 : decode cL_law 766 = .ok (.iload 7, 2) := dk_21 7 (dk_at dksL_law_26 6 rfl rfl)
theorem dL_law_768 : decode cL_law 768 = .ok (.i2l, 1) := dk_133 (dk_at dksL_law_26 8 rfl rfl)
theorem dL_law_769 : decode cL_law 769 = .ok (.lcmp, 1) := dk_148 (dk_at dksL_law_26 9 rfl rfl)
theorem dL_law_770 : decode cL_law 770 = .ok (.ifCond .eq 5, 3) := dk_153 0 5 (dk_at dksL_law_26 10 rfl rfl)
theorem dL_law_773 : decode cL_law 773 = .ok (.iconst 0, 1) := dk_3 (dk_at dksL_law_26 13 rfl rfl)
theorem dL_law_774 : decode cL_law 774 = .ok (.ireturn, 1) := dk_172 (dk_at dksL_law_26 14 rfl rfl)
theorem dL_law_775 : decode cL_law 775 = .ok (.goto 1620, 3) := dk_167 6 84 (dk_at dksL_law_26 15 rfl rfl)
theorem dL_law_778 : decode cL_law 778 = .ok (.aload_n 1, 1) := dk_43 (dk_at dksL_law_26 18 rfl rfl)
theorem dL_law_779 : decode cL_law 779 = .ok (.aload_n 0, 1) := dk_42 (dk_at dksL_law_26 19 rfl rfl)
theorem dL_law_780 : decode cL_law 780 = .ok (.iload 5, 2) := dk_21 5 (dk_at dksL_law_26 20 rfl rfl)
theorem dL_law_782 : decode cL_law 782 = .ok (.iconst 1, 1) := dk_4 (dk_at dksL_law_26 22 rfl rfl)
theorem dL_law_783 : decode cL_law 783 = .ok (.iadd, 1) := dk_96 (dk_at dksL_law_26 23 rfl rfl)
theorem dL_law_784 : decode cL_law 784 = .ok (.iaload, 1) := dk_46 (dk_at dksL_law_27 0 rfl rfl)
theorem dL_law_785 : decode cL_law 785 = .ok (.aload_n 0, 1) := dk_42 (dk_at dksL_law_27 1 rfl rfl)
theorem dL_law_786 : decode cL_law 786 = .ok (.iload 5, 2) := dk_21 5 (dk_at dksL_law_27 2 rfl rfl)
theorem dL_law_788 : decode cL_law 788 = .ok (.iconst 2, 1) := dk_5 (dk_at dksL_law_27 4 rfl rfl)
theorem dL_law_789 : decode cL_law 789 = .ok (.iadd, 1) := dk_96 (dk_at dksL_law_27 5 rfl rfl)
theorem dL_law_790 : decode cL_law 790 = .ok (.iaload, 1) := dk_46 (dk_at dksL_law_27 6 rfl rfl)
theorem dL_law_791 : decode cL_law 791 = .ok (.aload_n 3, 1) := dk_45 (dk_at dksL_law_27 7 rfl rfl)
theorem dL_law_792 : decode cL_law 792 = .ok (.invokestatic 167, 3) := dk_184 0 167 (dk_at dksL_law_27 8 rfl rfl)
theorem dL_law_795 : decode cL_law 795 = .ok (.istore 6, 2) := dk_54 6 (dk_at dksL_law_27 11 rfl rfl)
theorem dL_law_797 : decode cL_law 797 = .ok (.aload_n 2, 1) := dk_44 (dk_at dksL_law_27 13 rfl rfl)
theorem dL_law_798 : decode cL_law 798 = .ok (.aload_n 0, 1) := dk_42 (dk_at dksL_law_27 14 rfl rfl)
theorem dL_law_799 : decode cL_law 799 = .ok (.iload 5, 2) := dk_21 5 (dk_at dksL_law_27 15 rfl rfl)
theorem dL_law_801 : decode cL_law 801 = .ok (.iconst 1, 1) := dk_4 (dk_at dksL_law_27 17 rfl rfl)
theorem dL_law_802 : decode cL_law 802 = .ok (.iadd, 1) := dk_96 (dk_at dksL_law_27 18 rfl rfl)
theorem dL_law_803 : decode cL_law 803 = .ok (.iaload, 1) := dk_46 (dk_at dksL_law_27 19 rfl rfl)
theorem dL_law_804 : decode cL_law 804 = .ok (.aload_n 0, 1) := dk_42 (dk_at dksL_law_27 20 rfl rfl)
theorem dL_law_805 : decode cL_law 805 = .ok (.iload 5, 2) := dk_21 5 (dk_at dksL_law_27 21 rfl rfl)
theorem dL_law_807 : decode cL_law 807 = .ok (.iconst 2, 1) := dk_5 (dk_at dksL_law_27 23 rfl rfl)
theorem dL_law_808 : decode cL_law 808 = .ok (.iadd, 1) := dk_96 (dk_at dksL_law_28 0 rfl rfl)
theorem dL_law_809 : decode cL_law 809 = .ok (.iaload, 1) := dk_46 (dk_at dksL_law_28 1 rfl rfl)
theorem dL_law_810 : decode cL_law 810 = .ok (.invokevirtual 169, 3) := dk_182 0 169 (dk_at dksL_law_28 2 rfl rfl)
theorem dL_law_813 : decode cL_law 813 = .ok (.istore 7, 2) := dk_54 7 (dk_at dksL_law_28 5 rfl rfl)
theorem dL_law_815 : decode cL_law 815 = .ok (.aload_n 2, 1) := dk_44 (dk_at dksL_law_28 7 rfl rfl)
theorem dL_law_816 : decode cL_law 816 = .ok (.invokevirtual 137, 3) := dk_182 0 137 (dk_at dksL_law_28 8 rfl rfl)
theorem dL_law_819 : decode cL_law 819 = .ok (.iload 6, 2) := dk_21 6 (dk_at dksL_law_28 11 rfl rfl)
theorem dL_law_821 : decode cL_law 821 = .ok (.if_icmp .eq 5, 3) := dk_159 0 5 (dk_at dksL_law_28 13 rfl rfl)
theorem dL_law_824 : decode cL_law 824 = .ok (.iconst 0, 1) := dk_3 (dk_at dksL_law_28 16 rfl rfl)
theorem dL_law_825 : decode cL_law 825 = .ok (.ireturn, 1) := dk_172 (dk_at dksL_law_28 17 rfl rfl)
theorem dL_law_826 : decode cL_law 826 = .ok (.iload 6, 2) := dk_21 6 (dk_at dksL_law_28 18 rfl rfl)
theorem dL_law_828 : decode cL_law 828 = .ok (.ifCond .ne 15, 3) := dk_154 0 15 (dk_at dksL_law_28 20 rfl rfl)
theorem dL_law_831 : decode cL_law 831 = .ok (.aload_n 3, 1) := dk_45 (dk_at dksL_law_28 23 rfl rfl)
theorem dL_law_832 : decode cL_law 832 = .ok (.iconst 0, 1) := dk_3 (dk_at dksL_law_29 0 rfl rfl)
theorem dL_law_833 : decode cL_law 833 = .ok (.laload, 1) := dk_47 (dk_at dksL_law_29 1 rfl rfl)
theorem dL_law_834 : decode cL_law 834 = .ok (.iload 7, 2) := dk_21 7 (dk_at dksL_law_29 2 rfl rfl)
theorem dL_law_836 : decode cL_law 836 = .ok (.i2l, 1) := dk_133 (dk_at dksL_law_29 4 rfl rfl)
theorem dL_law_837 : decode cL_law 837 = .ok (.lcmp, 1) := dk_148 (dk_at dksL_law_29 5 rfl rfl)
theorem dL_law_838 : decode cL_law 838 = .ok (.ifCond .eq 5, 3) := dk_153 0 5 (dk_at dksL_law_29 6 rfl rfl)
theorem dL_law_841 : decode cL_law 841 = .ok (.iconst 0, 1) := dk_3 (dk_at dksL_law_29 9 rfl rfl)
theorem dL_law_842 : decode cL_law 842 = .ok (.ireturn, 1) := dk_172 (dk_at dksL_law_29 10 rfl rfl)
theorem dL_law_843 : decode cL_law 843 = .ok (.goto 1552, 3) := dk_167 6 16 (dk_at dksL_law_29 11 rfl rfl)
theorem dL_law_846 : decode cL_law 846 = .ok (.aload_n 1, 1) := dk_43 (dk_at dksL_law_29 14 rfl rfl)
theorem dL_law_847 : decode cL_law 847 = .ok (.aload_n 0, 1) := dk_42 (dk_at dksL_law_29 15 rfl rfl)
theorem dL_law_848 : decode cL_law 848 = .ok (.iload 5, 2) := dk_21 5 (dk_at dksL_law_29 16 rfl rfl)
theorem dL_law_850 : decode cL_law 850 = .ok (.iconst 1, 1) := dk_4 (dk_at dksL_law_29 18 rfl rfl)
theorem dL_law_851 : decode cL_law 851 = .ok (.iadd, 1) := dk_96 (dk_at dksL_law_29 19 rfl rfl)
theorem dL_law_852 : decode cL_law 852 = .ok (.iaload, 1) := dk_46 (dk_at dksL_law_29 20 rfl rfl)
theorem dL_law_853 : decode cL_law 853 = .ok (.aload_n 0, 1) := dk_42 (dk_at dksL_law_29 21 rfl rfl)
theorem dL_law_854 : decode cL_law 854 = .ok (.iload 5, 2) := dk_21 5 (dk_at dksL_law_29 22 rfl rfl)
theorem dL_law_856 : decode cL_law 856 = .ok (.iconst 2, 1) := dk_5 (dk_at dksL_law_30 0 rfl rfl)
theorem dL_law_857 : decode cL_law 857 = .ok (.iadd, 1) := dk_96 (dk_at dksL_law_30 1 rfl rfl)
theorem dL_law_858 : decode cL_law 858 = .ok (.iaload, 1) := dk_46 (dk_at dksL_law_30 2 rfl rfl)
theorem dL_law_859 : decode cL_law 859 = .ok (.aload_n 3, 1) := dk_45 (dk_at dksL_law_30 3 rfl rfl)
theorem dL_law_860 : decode cL_law 860 = .ok (.invokestatic 170, 3) := dk_184 0 170 (dk_at dksL_law_30 4 rfl rfl)
theorem dL_law_863 : decode cL_law 863 = .ok (.istore 6, 2) := dk_54 6 (dk_at dksL_law_30 7 rfl rfl)
theorem dL_law_865 : decode cL_law 865 = .ok (.aload_n 2, 1) := dk_44 (dk_at dksL_law_30 9 rfl rfl)
theorem dL_law_866 : decode cL_law 866 = .ok (.aload_n 0, 1) := dk_42 (dk_at dksL_law_30 10 rfl rfl)
theorem dL_law_867 : decode cL_law 867 = .ok (.iload 5, 2) := dk_21 5 (dk_at dksL_law_30 11 rfl rfl)
theorem dL_law_869 : decode cL_law 869 = .ok (.iconst 1, 1) := dk_4 (dk_at dksL_law_30 13 rfl rfl)
theorem dL_law_870 : decode cL_law 870 = .ok (.iadd, 1) := dk_96 (dk_at dksL_law_30 14 rfl rfl)
theorem dL_law_871 : decode cL_law 871 = .ok (.iaload, 1) := dk_46 (dk_at dksL_law_30 15 rfl rfl)
theorem dL_law_872 : decode cL_law 872 = .ok (.aload_n 0, 1) := dk_42 (dk_at dksL_law_30 16 rfl rfl)
theorem dL_law_873 : decode cL_law 873 = .ok (.iload 5, 2) := dk_21 5 (dk_at dksL_law_30 17 rfl rfl)
theorem dL_law_875 : decode cL_law 875 = .ok (.iconst 2, 1) := dk_5 (dk_at dksL_law_30 19 rfl rfl)
theorem dL_law_876 : decode cL_law 876 = .ok (.iadd, 1) := dk_96 (dk_at dksL_law_30 20 rfl rfl)
theorem dL_law_877 : decode cL_law 877 = .ok (.iaload, 1) := dk_46 (dk_at dksL_law_30 21 rfl rfl)
theorem dL_law_878 : decode cL_law 878 = .ok (.invokevirtual 172, 3) := dk_182 0 172 (dk_at dksL_law_31 0 rfl rfl)
theorem dL_law_881 : decode cL_law 881 = .ok (.istore 7, 2) := dk_54 7 (dk_at dksL_law_31 3 rfl rfl)
theorem dL_law_883 : decode cL_law 883 = .ok (.aload_n 2, 1) := dk_44 (dk_at dksL_law_31 5 rfl rfl)
theorem dL_law_884 : decode cL_law 884 = .ok (.invokevirtual 137, 3) := dk_182 0 137 (dk_at dksL_law_31 6 rfl rfl)
theorem dL_law_887 : decode cL_law 887 = .ok (.iload 6, 2) := dk_21 6 (dk_at dksL_law_31 9 rfl rfl)
theorem dL_law_889 : decode cL_law 889 = .ok (.if_icmp .eq 5, 3) := dk_159 0 5 (dk_at dksL_law_31 11 rfl rfl)
theorem dL_law_892 : decode cL_law 892 = .ok (.iconst 0, 1) := dk_3 (dk_at dksL_law_31 14 rfl rfl)
theorem dL_law_893 : decode cL_law 893 = .ok (.ireturn, 1) := dk_172 (dk_at dksL_law_31 15 rfl rfl)
theorem dL_law_894 : decode cL_law 894 = .ok (.iload 6, 2) := dk_21 6 (dk_at dksL_law_31 16 rfl rfl)
theorem dL_law_896 : decode cL_law 896 = .ok (.ifCond .ne 15, 3) := dk_154 0 15 (dk_at dksL_law_31 18 rfl rfl)
theorem dL_law_899 : decode cL_law 899 = .ok (.aload_n 3, 1) := dk_45 (dk_at dksL_law_31 21 rfl rfl)
theorem dL_law_900 : decode cL_law 900 = .ok (.iconst 0, 1) := dk_3 (dk_at dksL_law_31 22 rfl rfl)
theorem dL_law_901 : decode cL_law 901 = .ok (.laload, 1) := dk_47 (dk_at dksL_law_31 23 rfl rfl)
theorem dL_law_902 : decode cL_law 902 = .ok (.iload 7, 2) := dk_21 7 (dk_at dksL_law_32 0 rfl rfl)
theorem dL_law_904 : decode cL_law 904 = .ok (.i2l, 1) := dk_133 (dk_at dksL_law_32 2 rfl rfl)
theorem dL_law_905 : decode cL_law 905 = .ok (.lcmp, 1) := dk_148 (dk_at dksL_law_32 3 rfl rfl)
theorem dL_law_906 : decode cL_law 906 = .ok (.ifCond .eq 5, 3) := dk_153 0 5 (dk_at dksL_law_32 4 rfl rfl)
theorem dL_law_909 : decode cL_law 909 = .ok (.iconst 0, 1) := dk_3 (dk_at dksL_law_32 7 rfl rfl)
theorem dL_law_910 : decode cL_law 910 = .ok (.ireturn, 1) := dk_172 (dk_at dksL_law_32 8 rfl rfl)
theorem dL_law_911 : decode cL_law 911 = .ok (.goto 1484, 3) := dk_167 5 204 (dk_at dksL_law_32 9 rfl rfl)
theorem dL_law_914 : decode cL_law 914 = .ok (.aload_n 1, 1) := dk_43 (dk_at dksL_law_32 12 rfl rfl)
theorem dL_law_915 : decode cL_law 915 = .ok (.aload_n 0, 1) := dk_42 (dk_at dksL_law_32 13 rfl rfl)
theorem dL_law_916 : decode cL_law 916 = .ok (.iload 5, 2) := dk_21 5 (dk_at dksL_law_32 14 rfl rfl)
theorem dL_law_918 : decode cL_law 918 = .ok (.iconst 1, 1) := dk_4 (dk_at dksL_law_32 16 rfl rfl)
theorem dL_law_919 : decode cL_law 919 = .ok (.iadd, 1) := dk_96 (dk_at dksL_law_32 17 rfl rfl)
theorem dL_law_920 : decode cL_law 920 = .ok (.iaload, 1) := dk_46 (dk_at dksL_law_32 18 rfl rfl)
theorem dL_law_921 : decode cL_law 921 = .ok (.aload_n 0, 1) := dk_42 (dk_at dksL_law_32 19 rfl rfl)
theorem dL_law_922 : decode cL_law 922 = .ok (.iload 5, 2) := dk_21 5 (dk_at dksL_law_32 20 rfl rfl)
theorem dL_law_924 : decode cL_law 924 = .ok (.iconst 2, 1) := dk_5 (dk_at dksL_law_32 22 rfl rfl)
theorem dL_law_925 : decode cL_law 925 = .ok (.iadd, 1) := dk_96 (dk_at dksL_law_32 23 rfl rfl)
theorem dL_law_926 : decode cL_law 926 = .ok (.iaload, 1) := dk_46 (dk_at dksL_law_33 0 rfl rfl)
theorem dL_law_927 : decode cL_law 927 = .ok (.aload_n 3, 1) := dk_45 (dk_at dksL_law_33 1 rfl rfl)
theorem dL_law_928 : decode cL_law 928 = .ok (.invokestatic 173, 3) := dk_184 0 173 (dk_at dksL_law_33 2 rfl rfl)
theorem dL_law_931 : decode cL_law 931 = .ok (.istore 6, 2) := dk_54 6 (dk_at dksL_law_33 5 rfl rfl)
theorem dL_law_933 : decode cL_law 933 = .ok (.aload_n 2, 1) := dk_44 (dk_at dksL_law_33 7 rfl rfl)
theorem dL_law_934 : decode cL_law 934 = .ok (.aload_n 0, 1) := dk_42 (dk_at dksL_law_33 8 rfl rfl)
theorem dL_law_935 : decode cL_law 935 = .ok (.iload 5, 2) := dk_21 5 (dk_at dksL_law_33 9 rfl rfl)
theorem dL_law_937 : decode cL_law 937 = .ok (.iconst 1, 1) := dk_4 (dk_at dksL_law_33 11 rfl rfl)
theorem dL_law_938 : decode cL_law 938 = .ok (.iadd, 1) := dk_96 (dk_at dksL_law_33 12 rfl rfl)
theorem dL_law_939 : decode cL_law 939 = .ok (.iaload, 1) := dk_46 (dk_at dksL_law_33 13 rfl rfl)
theorem dL_law_940 : decode cL_law 940 = .ok (.aload_n 0, 1) := dk_42 (dk_at dksL_law_33 14 rfl rfl)
theorem dL_law_941 : decode cL_law 941 = .ok (.iload 5, 2) := dk_21 5 (dk_at dksL_law_33 15 rfl rfl)
theorem dL_law_943 : decode cL_law 943 = .ok (.iconst 2, 1) := dk_5 (dk_at dksL_law_33 17 rfl rfl)
theorem dL_law_944 : decode cL_law 944 = .ok (.iadd, 1) := dk_96 (dk_at dksL_law_33 18 rfl rfl)
theorem dL_law_945 : decode cL_law 945 = .ok (.iaload, 1) := dk_46 (dk_at dksL_law_33 19 rfl rfl)
theorem dL_law_946 : decode cL_law 946 = .ok (.invokevirtual 175, 3) := dk_182 0 175 (dk_at dksL_law_33 20 rfl rfl)
theorem dL_law_949 : decode cL_law 949 = .ok (.istore 7, 2) := dk_54 7 (dk_at dksL_law_34 0 rfl rfl)
theorem dL_law_951 : decode cL_law 951 = .ok (.aload_n 2, 1) := dk_44 (dk_at dksL_law_34 2 rfl rfl)
theorem dL_law_952 : decode cL_law 952 = .ok (.invokevirtual 137, 3) := dk_182 0 137 (dk_at dksL_law_34 3 rfl rfl)
theorem dL_law_955 : decode cL_law 955 = .ok (.iload 6, 2) := dk_21 6 (dk_at dksL_law_34 6 rfl rfl)
theorem dL_law_957 : decode cL_law 957 = .ok (.if_icmp .eq 5, 3) := dk_159 0 5 (dk_at dksL_law_34 8 rfl rfl)
theorem dL_law_960 : decode cL_law 960 = .ok (.iconst 0, 1) := dk_3 (dk_at dksL_law_34 11 rfl rfl)
theorem dL_law_961 : decode cL_law 961 = .ok (.ireturn, 1) := dk_172 (dk_at dksL_law_34 12 rfl rfl)
theorem dL_law_962 : decode cL_law 962 = .ok (.iload 6, 2) := dk_21 6 (dk_at dksL_law_34 13 rfl rfl)
theorem dL_law_964 : decode cL_law 964 = .ok (.ifCond .ne 15, 3) := dk_154 0 15 (dk_at dksL_law_34 15 rfl rfl)
theorem dL_law_967 : decode cL_law 967 = .ok (.aload_n 3, 1) := dk_45 (dk_at dksL_law_34 18 rfl rfl)
theorem dL_law_968 : decode cL_law 968 = .ok (.iconst 0, 1) := dk_3 (dk_at dksL_law_34 19 rfl rfl)
theorem dL_law_969 : decode cL_law 969 = .ok (.laload, 1) := dk_47 (dk_at dksL_law_34 20 rfl rfl)
theorem dL_law_970 : decode cL_law 970 = .ok (.iload 7, 2) := dk_21 7 (dk_at dksL_law_34 21 rfl rfl)
theorem dL_law_972 : decode cL_law 972 = .ok (.i2l, 1) := dk_133 (dk_at dksL_law_34 23 rfl rfl)
theorem dL_law_973 : decode cL_law 973 = .ok (.lcmp, 1) := dk_148 (dk_at dksL_law_35 0 rfl rfl)
theorem dL_law_974 : decode cL_law 974 = .ok (.ifCond .eq 5, 3) := dk_153 0 5 (dk_at dksL_law_35 1 rfl rfl)
theorem dL_law_977 : decode cL_law 977 = .ok (.iconst 0, 1) := dk_3 (dk_at dksL_law_35 4 rfl rfl)
theorem dL_law_978 : decode cL_law 978 = .ok (.ireturn, 1) := dk_172 (dk_at dksL_law_35 5 rfl rfl)
theorem dL_law_979 : decode cL_law 979 = .ok (.goto 1416, 3) := dk_167 5 136 (dk_at dksL_law_35 6 rfl rfl)
theorem dL_law_982 : decode cL_law 982 = .ok (.aload_n 1, 1) := dk_43 (dk_at dksL_law_35 9 rfl rfl)
theorem dL_law_983 : decode cL_law 983 = .ok (.aload_n 0, 1) := dk_42 (dk_at dksL_law_35 10 rfl rfl)
theorem dL_law_984 : decode cL_law 984 = .ok (.iload 5, 2) := dk_21 5 (dk_at dksL_law_35 11 rfl rfl)
theorem dL_law_986 : decode cL_law 986 = .ok (.iconst 1, 1) := dk_4 (dk_at dksL_law_35 13 rfl rfl)
theorem dL_law_987 : decode cL_law 987 = .ok (.iadd, 1) := dk_96 (dk_at dksL_law_35 14 rfl rfl)
theorem dL_law_988 : decode cL_law 988 = .ok (.iaload, 1) := dk_46 (dk_at dksL_law_35 15 rfl rfl)
theorem dL_law_989 : decode cL_law 989 = .ok (.aload_n 0, 1) := dk_42 (dk_at dksL_law_35 16 rfl rfl)
theorem dL_law_990 : decode cL_law 990 = .ok (.iload 5, 2) := dk_21 5 (dk_at dksL_law_35 17 rfl rfl)
theorem dL_law_992 : decode cL_law 992 = .ok (.iconst 2, 1) := dk_5 (dk_at dksL_law_35 19 rfl rfl)
theorem dL_law_993 : decode cL_law 993 = .ok (.iadd, 1) := dk_96 (dk_at dksL_law_35 20 rfl rfl)
theorem dL_law_994 : decode cL_law 994 = .ok (.iaload, 1) := dk_46 (dk_at dksL_law_35 21 rfl rfl)
theorem dL_law_995 : decode cL_law 995 = .ok (.aload_n 0, 1) := dk_42 (dk_at dksL_law_35 22 rfl rfl)
theorem dL_law_996 : decode cL_law 996 = .ok (.iload 5, 2) := dk_21 5 (dk_at dksL_law_36 0 rfl rfl)
theorem dL_law_998 : decode cL_law 998 = .ok (.iconst 3, 1) := dk_6 (dk_at dksL_law_36 2 rfl rfl)
theorem dL_law_999 : decode cL_law 999 = .ok (.iadd, 1) := dk_96 (dk_at dksL_law_36 3 rfl rfl)
theorem dL_law_1000 : decode cL_law 1000 = .ok (.iaload, 1) := dk_46 (dk_at dksL_law_36 4 rfl rfl)
theorem dL_law_1001 : decode cL_law 1001 = .ok (.aload_n 3, 1) := dk_45 (dk_at dksL_law_36 5 rfl rfl)
theorem dL_law_1002 : decode cL_law 1002 = .ok (.invokestatic 176, 3) := dk_184 0 176 (dk_at dksL_law_36 6 rfl rfl)
theorem dL_law_1005 : decode cL_law 1005 = .ok (.istore 6, 2) := dk_54 6 (dk_at dksL_law_36 9 rfl rfl)
theorem dL_law_1007 : decode cL_law 1007 = .ok (.aload_n 2, 1) := dk_44 (dk_at dksL_law_36 11 rfl rfl)
theorem dL_law_1008 : decode cL_law 1008 = .ok (.aload_n 0, 1) := dk_42 (dk_at dksL_law_36 12 rfl rfl)
theorem dL_law_1009 : decode cL_law 1009 = .ok (.iload 5, 2) := dk_21 5 (dk_at dksL_law_36 13 rfl rfl)
theorem dL_law_1011 : decode cL_law 1011 = .ok (.iconst 1, 1) := dk_4 (dk_at dksL_law_36 15 rfl rfl)
theorem dL_law_1012 : decode cL_law 1012 = .ok (.iadd, 1) := dk_96 (dk_at dksL_law_36 16 rfl rfl)
theorem dL_law_1013 : decode cL_law 1013 = .ok (.iaload, 1) := dk_46 (dk_at dksL_law_36 17 rfl rfl)
theorem dL_law_1014 : decode cL_law 1014 = .ok (.aload_n 0, 1) := dk_42 (dk_at dksL_law_36 18 rfl rfl)
theorem dL_law_1015 : decode cL_law 1015 = .ok (.iload 5, 2) := dk_21 5 (dk_at dksL_law_36 19 rfl rfl)
theorem dL_law_1017 : decode cL_law 1017 = .ok (.iconst 2, 1) := dk_5 (dk_at dksL_law_36 21 rfl rfl)
theorem dL_law_1018 : decode cL_law 1018 = .ok (.iadd, 1) := dk_96 (dk_at dksL_law_36 22 rfl rfl)
theorem dL_law_1019 : decode cL_law 1019 = .ok (.iaload, 1) := dk_46 (dk_at dksL_law_36 23 rfl rfl)
theorem dL_law_1020 : decode cL_law 1020 = .ok (.aload_n 0, 1) := dk_42 (dk_at dksL_law_37 0 rfl rfl)
theorem dL_law_1021 : decode cL_law 1021 = .ok (.iload 5, 2) := dk_21 5 (dk_at dksL_law_37 1 rfl rfl)
theorem dL_law_1023 : decode cL_law 1023 = .ok (.iconst 3, 1) := dk_6 (dk_at dksL_law_37 3 rfl rfl)
theorem dL_law_1024 : decode cL_law 1024 = .ok (.iadd, 1) := dk_96 (dk_at dksL_law_37 4 rfl rfl)
theorem dL_law_1025 : decode cL_law 1025 = .ok (.iaload, 1) := dk_46 (dk_at dksL_law_37 5 rfl rfl)
theorem dL_law_1026 : decode cL_law 1026 = .ok (.invokevirtual 179, 3) := dk_182 0 179 (dk_at dksL_law_37 6 rfl rfl)
theorem dL_law_1029 : decode cL_law 1029 = .ok (.istore 7, 2) := dk_54 7 (dk_at dksL_law_37 9 rfl rfl)
theorem dL_law_1031 : decode cL_law 1031 = .ok (.aload_n 2, 1) := dk_44 (dk_at dksL_law_37 11 rfl rfl)
theorem dL_law_1032 : decode cL_law 1032 = .ok (.invokevirtual 137, 3) := dk_182 0 137 (dk_at dksL_law_37 12 rfl rfl)
theorem dL_law_1035 : decode cL_law 1035 = .ok (.iload 6, 2) := dk_21 6 (dk_at dksL_law_37 15 rfl rfl)
theorem dL_law_1037 : decode cL_law 1037 = .ok (.if_icmp .eq 5, 3) := dk_159 0 5 (dk_at dksL_law_37 17 rfl rfl)
theorem dL_law_1040 : decode cL_law 1040 = .ok (.iconst 0, 1) := dk_3 (dk_at dksL_law_37 20 rfl rfl)
theorem dL_law_1041 : decode cL_law 1041 = .ok (.ireturn, 1) := dk_172 (dk_at dksL_law_37 21 rfl rfl)
theorem dL_law_1042 : decode cL_law 1042 = .ok (.iload 6, 2) := dk_21 6 (dk_at dksL_law_37 22 rfl rfl)
theorem dL_law_1044 : decode cL_law 1044 = .ok (.ifCond .ne 15, 3) := dk_154 0 15 (dk_at dksL_law_38 0 rfl rfl)
theorem dL_law_1047 : decode cL_law 1047 = .ok (.aload_n 3, 1) := dk_45 (dk_at dksL_law_38 3 rfl rfl)
theorem dL_law_1048 : decode cL_law 1048 = .ok (.iconst 0, 1) := dk_3 (dk_at dksL_law_38 4 rfl rfl)
theorem dL_law_1049 : decode cL_law 1049 = .ok (.laload, 1) := dk_47 (dk_at dksL_law_38 5 rfl rfl)
theorem dL_law_1050 : decode cL_law 1050 = .ok (.iload 7, 2) := dk_21 7 (dk_at dksL_law_38 6 rfl rfl)
theorem dL_law_1052 : decode cL_law 1052 = .ok (.i2l, 1) := dk_133 (dk_at dksL_law_38 8 rfl rfl)
theorem dL_law_1053 : decode cL_law 1053 = .ok (.lcmp, 1) := dk_148 (dk_at dksL_law_38 9 rfl rfl)
theorem dL_law_1054 : decode cL_law 1054 = .ok (.ifCond .eq 5, 3) := dk_153 0 5 (dk_at dksL_law_38 10 rfl rfl)
theorem dL_law_1057 : decode cL_law 1057 = .ok (.iconst 0, 1) := dk_3 (dk_at dksL_law_38 13 rfl rfl)
theorem dL_law_1058 : decode cL_law 1058 = .ok (.ireturn, 1) := dk_172 (dk_at dksL_law_38 14 rfl rfl)
theorem dL_law_1059 : decode cL_law 1059 = .ok (.goto 1336, 3) := dk_167 5 56 (dk_at dksL_law_38 15 rfl rfl)
theorem dL_law_1062 : decode cL_law 1062 = .ok (.aload_n 1, 1) := dk_43 (dk_at dksL_law_38 18 rfl rfl)
theorem dL_law_1063 : decode cL_law 1063 = .ok (.aload_n 0, 1) := dk_42 (dk_at dksL_law_38 19 rfl rfl)
theorem dL_law_1064 : decode cL_law 1064 = .ok (.iload 5, 2) := dk_21 5 (dk_at dksL_law_38 20 rfl rfl)
theorem dL_law_1066 : decode cL_law 1066 = .ok (.iconst 1, 1) := dk_4 (dk_at dksL_law_38 22 rfl rfl)
theorem dL_law_1067 : decode cL_law 1067 = .ok (.iadd, 1) := dk_96 (dk_at dksL_law_38 23 rfl rfl)
theorem dL_law_1068 : decode cL_law 1068 = .ok (.iaload, 1) := dk_46 (dk_at dksL_law_39 0 rfl rfl)
theorem dL_law_1069 : decode cL_law 1069 = .ok (.aload_n 3, 1) := dk_45 (dk_at dksL_law_39 1 rfl rfl)
theorem dL_law_1070 : decode cL_law 1070 = .ok (.invokestatic 180, 3) := dk_184 0 180 (dk_at dksL_law_39 2 rfl rfl)
theorem dL_law_1073 : decode cL_law 1073 = .ok (.istore 6, 2) := dk_54 6 (dk_at dksL_law_39 5 rfl rfl)
theorem dL_law_1075 : decode cL_law 1075 = .ok (.aload_n 2, 1) := dk_44 (dk_at dksL_law_39 7 rfl rfl)
theorem dL_law_1076 : decode cL_law 1076 = .ok (.aload_n 0, 1) := dk_42 (dk_at dksL_law_39 8 rfl rfl)
theorem dL_law_1077 : decode cL_law 1077 = .ok (.iload 5, 2) := dk_21 5 (dk_at dksL_law_39 9 rfl rfl)
theorem dL_law_1079 : decode cL_law 1079 = .ok (.iconst 1, 1) := dk_4 (dk_at dksL_law_39 11 rfl rfl)
theorem dL_law_1080 : decode cL_law 1080 = .ok (.iadd, 1) := dk_96 (dk_at dksL_law_39 12 rfl rfl)
theorem dL_law_1081 : decode cL_law 1081 = .ok (.iaload, 1) := dk_46 (dk_at dksL_law_39 13 rfl rfl)
theorem dL_law_1082 : decode cL_law 1082 = .ok (.invokevirtual 182, 3) := dk_182 0 182 (dk_at dksL_law_39 14 rfl rfl)
theorem dL_law_1085 : decode cL_law 1085 = .ok (.istore 7, 2) := dk_54 7 (dk_at dksL_law_39 17 rfl rfl)
theorem dL_law_1087 : decode cL_law 1087 = .ok (.aload_n 2, 1) := dk_44 (dk_at dksL_law_39 19 rfl rfl)
theorem dL_law_1088 : decode cL_law 1088 = .ok (.invokevirtual 137, 3) := dk_182 0 137 (dk_at dksL_law_39 20 rfl rfl)
theorem dL_law_1091 : decode cL_law 1091 = .ok (.iload 6, 2) := dk_21 6 (dk_at dksL_law_40 0 rfl rfl)
theorem dL_law_1093 : decode cL_law 1093 = .ok (.if_icmp .eq 5, 3) := dk_159 0 5 (dk_at dksL_law_40 2 rfl rfl)
theorem dL_law_1096 : decode cL_law 1096 = .ok (.iconst 0, 1) := dk_3 (dk_at dksL_law_40 5 rfl rfl)
theorem dL_law_1097 : decode cL_law 1097 = .ok (.ireturn, 1) := dk_172 (dk_at dksL_law_40 6 rfl rfl)
theorem dL_law_1098 : decode cL_law 1098 = .ok (.iload 6, 2) := dk_21 6 (dk_at dksL_law_40 7 rfl rfl)
theorem dL_law_1100 : decode cL_law 1100 = .ok (.ifCond .ne 15, 3) := dk_154 0 15 (dk_at dksL_law_40 9 rfl rfl)
theorem dL_law_1103 : decode cL_law 1103 = .ok (.aload_n 3, 1) := dk_45 (dk_at dksL_law_40 12 rfl rfl)
theorem dL_law_1104 : decode cL_law 1104 = .ok (.iconst 0, 1) := dk_3 (dk_at dksL_law_40 13 rfl rfl)
theorem dL_law_1105 : decode cL_law 1105 = .ok (.laload, 1) := dk_47 (dk_at dksL_law_40 14 rfl rfl)
theorem dL_law_1106 : decode cL_law 1106 = .ok (.iload 7, 2) := dk_21 7 (dk_at dksL_law_40 15 rfl rfl)
theorem dL_law_1108 : decode cL_law 1108 = .ok (.i2l, 1) := dk_133 (dk_at dksL_law_40 17 rfl rfl)
theorem dL_law_1109 : decode cL_law 1109 = .ok (.lcmp, 1) := dk_148 (dk_at dksL_law_40 18 rfl rfl)
theorem dL_law_1110 : decode cL_law 1110 = .ok (.ifCond .eq 5, 3) := dk_153 0 5 (dk_at dksL_law_40 19 rfl rfl)
theorem dL_law_1113 : decode cL_law 1113 = .ok (.iconst 0, 1) := dk_3 (dk_at dksL_law_40 22 rfl rfl)
theorem dL_law_1114 : decode cL_law 1114 = .ok (.ireturn, 1) := dk_172 (dk_at dksL_law_40 23 rfl rfl)
theorem dL_law_1115 : decode cL_law 1115 = .ok (.goto 1280, 3) := dk_167 5 0 (dk_at dksL_law_41 0 rfl rfl)
theorem dL_law_1118 : decode cL_law 1118 = .ok (.aload_n 1, 1) := dk_43 (dk_at dksL_law_41 3 rfl rfl)
theorem dL_law_1119 : decode cL_law 1119 = .ok (.aload_n 0, 1) := dk_42 (dk_at dksL_law_41 4 rfl rfl)
theorem dL_law_1120 : decode cL_law 1120 = .ok (.iload 5, 2) := dk_21 5 (dk_at dksL_law_41 5 rfl rfl)
theorem dL_law_1122 : decode cL_law 1122 = .ok (.iconst 1, 1) := dk_4 (dk_at dksL_law_41 7 rfl rfl)
theorem dL_law_1123 : decode cL_law 1123 = .ok (.iadd, 1) := dk_96 (dk_at dksL_law_41 8 rfl rfl)
theorem dL_law_1124 : decode cL_law 1124 = .ok (.iaload, 1) := dk_46 (dk_at dksL_law_41 9 rfl rfl)
theorem dL_law_1125 : decode cL_law 1125 = .ok (.aload_n 0, 1) := dk_42 (dk_at dksL_law_41 10 rfl rfl)
theorem dL_law_1126 : decode cL_law 1126 = .ok (.iload 5, 2) := dk_21 5 (dk_at dksL_law_41 11 rfl rfl)
theorem dL_law_1128 : decode cL_law 1128 = .ok (.iconst 2, 1) := dk_5 (dk_at dksL_law_41 13 rfl rfl)
theorem dL_law_1129 : decode cL_law 1129 = .ok (.iadd, 1) := dk_96 (dk_at dksL_law_41 14 rfl rfl)
theorem dL_law_1130 : decode cL_law 1130 = .ok (.iaload, 1) := dk_46 (dk_at dksL_law_41 15 rfl rfl)
theorem dL_law_1131 : decode cL_law 1131 = .ok (.aload_n 3, 1) := dk_45 (dk_at dksL_law_41 16 rfl rfl)
theorem dL_law_1132 : decode cL_law 1132 = .ok (.invokestatic 183, 3) := dk_184 0 183 (dk_at dksL_law_41 17 rfl rfl)
theorem dL_law_1135 : decode cL_law 1135 = .ok (.istore 6, 2) := dk_54 6 (dk_at dksL_law_41 20 rfl rfl)
theorem dL_law_1137 : decode cL_law 1137 = .ok (.aload_n 2, 1) := dk_44 (dk_at dksL_law_41 22 rfl rfl)
theorem dL_law_1138 : decode cL_law 1138 = .ok (.aload_n 0, 1) := dk_42 (dk_at dksL_law_41 23 rfl rfl)
theorem dL_law_1139 : decode cL_law 1139 = .ok (.iload 5, 2) := dk_21 5 (dk_at dksL_law_42 0 rfl rfl)
theorem dL_law_1141 : decode cL_law 1141 = .ok (.iconst 1, 1) := dk_4 (dk_at dksL_law_42 2 rfl rfl)
theorem dL_law_1142 : decode cL_law 1142 = .ok (.iadd, 1) := dk_96 (dk_at dksL_law_42 3 rfl rfl)
theorem dL_law_1143 : decode cL_law 1143 = .ok (.iaload, 1) := dk_46 (dk_at dksL_law_42 4 rfl rfl)
theorem dL_law_1144 : decode cL_law 1144 = .ok (.aload_n 0, 1) := dk_42 (dk_at dksL_law_42 5 rfl rfl)
theorem dL_law_1145 : decode cL_law 1145 = .ok (.iload 5, 2) := dk_21 5 (dk_at dksL_law_42 6 rfl rfl)
theorem dL_law_1147 : decode cL_law 1147 = .ok (.iconst 2, 1) := dk_5 (dk_at dksL_law_42 8 rfl rfl)
theorem dL_law_1148 : decode cL_law 1148 = .ok (.iadd, 1) := dk_96 (dk_at dksL_law_42 9 rfl rfl)
theorem dL_law_1149 : decode cL_law 1149 = .ok (.iaload, 1) := dk_46 (dk_at dksL_law_42 10 rfl rfl)
theorem dL_law_1150 : decode cL_law 1150 = .ok (.invokevirtual 185, 3) := dk_182 0 185 (dk_at dksL_law_42 11 rfl rfl)
theorem dL_law_1153 : decode cL_law 1153 = .ok (.istore 7, 2) := dk_54 7 (dk_at dksL_law_42 14 rfl rfl)
theorem dL_law_1155 : decode cL_law 1155 = .ok (.aload_n 2, 1) := dk_44 (dk_at dksL_law_42 16 rfl rfl)
theorem dL_law_1156 : decode cL_law 1156 = .ok (.invokevirtual 137, 3) := dk_182 0 137 (dk_at dksL_law_42 17 rfl rfl)
theorem dL_law_1159 : decode cL_law 1159 = .ok (.iload 6, 2) := dk_21 6 (dk_at dksL_law_42 20 rfl rfl)
theorem dL_law_1161 : decode cL_law 1161 = .ok (.if_icmp .eq 5, 3) := dk_159 0 5 (dk_at dksL_law_43 0 rfl rfl)
theorem dL_law_1164 : decode cL_law 1164 = .ok (.iconst 0, 1) := dk_3 (dk_at dksL_law_43 3 rfl rfl)
theorem dL_law_1165 : decode cL_law 1165 = .ok (.ireturn, 1) := dk_172 (dk_at dksL_law_43 4 rfl rfl)
theorem dL_law_1166 : decode cL_law 1166 = .ok (.iload 6, 2) := dk_21 6 (dk_at dksL_law_43 5 rfl rfl)
theorem dL_law_1168 : decode cL_law 1168 = .ok (.ifCond .ne 15, 3) := dk_154 0 15 (dk_at dksL_law_43 7 rfl rfl)
theorem dL_law_1171 : decode cL_law 1171 = .ok (.aload_n 3, 1) := dk_45 (dk_at dksL_law_43 10 rfl rfl)
theorem dL_law_1172 : decode cL_law 1172 = .ok (.iconst 0, 1) := dk_3 (dk_at dksL_law_43 11 rfl rfl)
theorem dL_law_1173 : decode cL_law 1173 = .ok (.laload, 1) := dk_47 (dk_at dksL_law_43 12 rfl rfl)
theorem dL_law_1174 : decode cL_law 1174 = .ok (.iload 7, 2) := dk_21 7 (dk_at dksL_law_43 13 rfl rfl)
theorem dL_law_1176 : decode cL_law 1176 = .ok (.i2l, 1) := dk_133 (dk_at dksL_law_43 15 rfl rfl)
theorem dL_law_1177 : decode cL_law 1177 = .ok (.lcmp, 1) := dk_148 (dk_at dksL_law_43 16 rfl rfl)
theorem dL_law_1178 : decode cL_law 1178 = .ok (.ifCond .eq 5, 3) := dk_153 0 5 (dk_at dksL_law_43 17 rfl rfl)
theorem dL_law_1181 : decode cL_law 1181 = .ok (.iconst 0, 1) := dk_3 (dk_at dksL_law_43 20 rfl rfl)
theorem dL_law_1182 : decode cL_law 1182 = .ok (.ireturn, 1) := dk_172 (dk_at dksL_law_43 21 rfl rfl)
theorem dL_law_1183 : decode cL_law 1183 = .ok (.goto 1212, 3) := dk_167 4 188 (dk_at dksL_law_44 0 rfl rfl)
theorem dL_law_1186 : decode cL_law 1186 = .ok (.aload_n 1, 1) := dk_43 (dk_at dksL_law_44 3 rfl rfl)
theorem dL_law_1187 : decode cL_law 1187 = .ok (.aload_n 0, 1) := dk_42 (dk_at dksL_law_44 4 rfl rfl)
theorem dL_law_1188 : decode cL_law 1188 = .ok (.iload 5, 2) := dk_21 5 (dk_at dksL_law_44 5 rfl rfl)
theorem dL_law_1190 : decode cL_law 1190 = .ok (.iconst 1, 1) := dk_4 (dk_at dksL_law_44 7 rfl rfl)
theorem dL_law_1191 : decode cL_law 1191 = .ok (.iadd, 1) := dk_96 (dk_at dksL_law_44 8 rfl rfl)
theorem dL_law_1192 : decode cL_law 1192 = .ok (.iaload, 1) := dk_46 (dk_at dksL_law_44 9 rfl rfl)
theorem dL_law_1193 : decode cL_law 1193 = .ok (.aload_n 3, 1) := dk_45 (dk_at dksL_law_44 10 rfl rfl)
theorem dL_law_1194 : decode cL_law 1194 = .ok (.invokestatic 186, 3) := dk_184 0 186 (dk_at dksL_law_44 11 rfl rfl)
theorem dL_law_1197 : decode cL_law 1197 = .ok (.istore 6, 2) := dk_54 6 (dk_at dksL_law_44 14 rfl rfl)
theorem dL_law_1199 : decode cL_law 1199 = .ok (.aload_n 2, 1) := dk_44 (dk_at dksL_law_44 16 rfl rfl)
theorem dL_law_1200 : decode cL_law 1200 = .ok (.aload_n 0, 1) := dk_42 (dk_at dksL_law_44 17 rfl rfl)
theorem dL_law_1201 : decode cL_law 1201 = .ok (.iload 5, 2) := dk_21 5 (dk_at dksL_law_44 18 rfl rfl)
theorem dL_law_1203 : decode cL_law 1203 = .ok (.iconst 1, 1) := dk_4 (dk_at dksL_law_44 20 rfl rfl)
theorem dL_law_1204 : decode cL_law 1204 = .ok (.iadd, 1) := dk_96 (dk_at dksL_law_44 21 rfl rfl)
theorem dL_law_1205 : decode cL_law 1205 = .ok (.iaload, 1) := dk_46 (dk_at dksL_law_44 22 rfl rfl)
theorem dL_law_1206 : decode cL_law 1206 = .ok (.invokevirtual 188, 3) := dk_182 0 188 (dk_at dksL_law_45 0 rfl rfl)
theorem dL_law_1209 : decode cL_law 1209 = .ok (.istore 7, 2) := dk_54 7 (dk_at dksL_law_45 3 rfl rfl)
theorem dL_law_1211 : decode cL_law 1211 = .ok (.aload_n 2, 1) := dk_44 (dk_at dksL_law_45 5 rfl rfl)
theorem dL_law_1212 : decode cL_law 1212 = .ok (.invokevirtual 137, 3) := dk_182 0 137 (dk_at dksL_law_45 6 rfl rfl)
theorem dL_law_1215 : decode cL_law 1215 = .ok (.iload 6, 2) := dk_21 6 (dk_at dksL_law_45 9 rfl rfl)
theorem dL_law_1217 : decode cL_law 1217 = .ok (.if_icmp .eq 5, 3) := dk_159 0 5 (dk_at dksL_law_45 11 rfl rfl)
theorem dL_law_1220 : decode cL_law 1220 = .ok (.iconst 0, 1) := dk_3 (dk_at dksL_law_45 14 rfl rfl)
theorem dL_law_1221 : decode cL_law 1221 = .ok (.ireturn, 1) := dk_172 (dk_at dksL_law_45 15 rfl rfl)
theorem dL_law_1222 : decode cL_law 1222 = .ok (.iload 6, 2) := dk_21 6 (dk_at dksL_law_45 16 rfl rfl)
theorem dL_law_1224 : decode cL_law 1224 = .ok (.ifCond .ne 15, 3) := dk_154 0 15 (dk_at dksL_law_45 18 rfl rfl)
theorem dL_law_1227 : decode cL_law 1227 = .ok (.aload_n 3, 1) := dk_45 (dk_at dksL_law_45 21 rfl rfl)
theorem dL_law_1228 : decode cL_law 1228 = .ok (.iconst 0, 1) := dk_3 (dk_at dksL_law_45 22 rfl rfl)
theorem dL_law_1229 : decode cL_law 1229 = .ok (.laload, 1) := dk_47 (dk_at dksL_law_45 23 rfl rfl)
theorem dL_law_1230 : decode cL_law 1230 = .ok (.iload 7, 2) := dk_21 7 (dk_at dksL_law_46 0 rfl rfl)
theorem dL_law_1232 : decode cL_law 1232 = .ok (.i2l, 1) := dk_133 (dk_at dksL_law_46 2 rfl rfl)
theorem dL_law_1233 : decode cL_law 1233 = .ok (.lcmp, 1) := dk_148 (dk_at dksL_law_46 3 rfl rfl)
theorem dL_law_1234 : decode cL_law 1234 = .ok (.ifCond .eq 5, 3) := dk_153 0 5 (dk_at dksL_law_46 4 rfl rfl)
theorem dL_law_1237 : decode cL_law 1237 = .ok (.iconst 0, 1) := dk_3 (dk_at dksL_law_46 7 rfl rfl)
theorem dL_law_1238 : decode cL_law 1238 = .ok (.ireturn, 1) := dk_172 (dk_at dksL_law_46 8 rfl rfl)
theorem dL_law_1239 : decode cL_law 1239 = .ok (.goto 1156, 3) := dk_167 4 132 (dk_at dksL_law_46 9 rfl rfl)
theorem dL_law_1242 : decode cL_law 1242 = .ok (.aload_n 1, 1) := dk_43 (dk_at dksL_law_46 12 rfl rfl)
theorem dL_law_1243 : decode cL_law 1243 = .ok (.aload_n 0, 1) := dk_42 (dk_at dksL_law_46 13 rfl rfl)
theorem dL_law_1244 : decode cL_law 1244 = .ok (.iload 5, 2) := dk_21 5 (dk_at dksL_law_46 14 rfl rfl)
theorem dL_law_1246 : decode cL_law 1246 = .ok (.iconst 1, 1) := dk_4 (dk_at dksL_law_46 16 rfl rfl)
theorem dL_law_1247 : decode cL_law 1247 = .ok (.iadd, 1) := dk_96 (dk_at dksL_law_46 17 rfl rfl)
theorem dL_law_1248 : decode cL_law 1248 = .ok (.iaload, 1) := dk_46 (dk_at dksL_law_46 18 rfl rfl)
theorem dL_law_1249 : decode cL_law 1249 = .ok (.aload_n 3, 1) := dk_45 (dk_at dksL_law_46 19 rfl rfl)
theorem dL_law_1250 : decode cL_law 1250 = .ok (.invokestatic 189, 3) := dk_184 0 189 (dk_at dksL_law_46 20 rfl rfl)
theorem dL_law_1253 : decode cL_law 1253 = .ok (.istore 6, 2) := dk_54 6 (dk_at dksL_law_47 0 rfl rfl)
theorem dL_law_1255 : decode cL_law 1255 = .ok (.aload_n 2, 1) := dk_44 (dk_at dksL_law_47 2 rfl rfl)
theorem dL_law_1256 : decode cL_law 1256 = .ok (.aload_n 0, 1) := dk_42 (dk_at dksL_law_47 3 rfl rfl)
theorem dL_law_1257 : decode cL_law 1257 = .ok (.iload 5, 2) := dk_21 5 (dk_at dksL_law_47 4 rfl rfl)
theorem dL_law_1259 : decode cL_law 1259 = .ok (.iconst 1, 1) := dk_4 (dk_at dksL_law_47 6 rfl rfl)
theorem dL_law_1260 : decode cL_law 1260 = .ok (.iadd, 1) := dk_96 (dk_at dksL_law_47 7 rfl rfl)
theorem dL_law_1261 : decode cL_law 1261 = .ok (.iaload, 1) := dk_46 (dk_at dksL_law_47 8 rfl rfl)
theorem dL_law_1262 : decode cL_law 1262 = .ok (.invokevirtual 191, 3) := dk_182 0 191 (dk_at dksL_law_47 9 rfl rfl)
theorem dL_law_1265 : decode cL_law 1265 = .ok (.istore 7, 2) := dk_54 7 (dk_at dksL_law_47 12 rfl rfl)
theorem dL_law_1267 : decode cL_law 1267 = .ok (.aload_n 2, 1) := dk_44 (dk_at dksL_law_47 14 rfl rfl)
theorem dL_law_1268 : decode cL_law 1268 = .ok (.invokevirtual 137, 3) := dk_182 0 137 (dk_at dksL_law_47 15 rfl rfl)
theorem dL_law_1271 : decode cL_law 1271 = .ok (.iload 6, 2) := dk_21 6 (dk_at dksL_law_47 18 rfl rfl)
theorem dL_law_1273 : decode cL_law 1273 = .ok (.if_icmp .eq 5, 3) := dk_159 0 5 (dk_at dksL_law_47 20 rfl rfl)
theorem dL_law_1276 : decode cL_law 1276 = .ok (.iconst 0, 1) := dk_3 (dk_at dksL_law_47 23 rfl rfl)
theorem dL_law_1277 : decode cL_law 1277 = .ok (.ireturn, 1) := dk_172 (dk_at dksL_law_48 0 rfl rfl)
theorem dL_law_1278 : decode cL_law 1278 = .ok (.iload 6, 2) := dk_21 6 (dk_at dksL_law_48 1 rfl rfl)
theorem dL_law_1280 : decode cL_law 1280 = .ok (.ifCond .ne 15, 3) := dk_154 0 15 (dk_at dksL_law_48 3 rfl rfl)
theorem dL_law_1283 : decode cL_law 1283 = .ok (.aload_n 3, 1) := dk_45 (dk_at dksL_law_48 6 rfl rfl)
theorem dL_law_1284 : decode cL_law 1284 = .ok (.iconst 0, 1) := dk_3 (dk_at dksL_law_48 7 rfl rfl)
theorem dL_law_1285 : decode cL_law 1285 = .ok (.laload, 1) := dk_47 (dk_at dksL_law_48 8 rfl rfl)
theorem dL_law_1286 : decode cL_law 1286 = .ok (.iload 7, 2) := dk_21 7 (dk_at dksL_law_48 9 rfl rfl)
theorem dL_law_1288 : decode cL_law 1288 = .ok (.i2l, 1) := dk_133 (dk_at dksL_law_48 11 rfl rfl)
theorem dL_law_1289 : decode cL_law 1289 = .ok (.lcmp, 1) := dk_148 (dk_at dksL_law_48 12 rfl rfl)
theorem dL_law_1290 : decode cL_law 1290 = .ok (.ifCond .eq 5, 3) := dk_153 0 5 (dk_at dksL_law_48 13 rfl rfl)
theorem dL_law_1293 : decode cL_law 1293 = .ok (.iconst 0, 1) := dk_3 (dk_at dksL_law_48 16 rfl rfl)
theorem dL_law_1294 : decode cL_law 1294 = .ok (.ireturn, 1) := dk_172 (dk_at dksL_law_48 17 rfl rfl)
theorem dL_law_1295 : decode cL_law 1295 = .ok (.goto 1100, 3) := dk_167 4 76 (dk_at dksL_law_48 18 rfl rfl)
theorem dL_law_1298 : decode cL_law 1298 = .ok (.aload_n 1, 1) := dk_43 (dk_at dksL_law_48 21 rfl rfl)
theorem dL_law_1299 : decode cL_law 1299 = .ok (.aload_n 0, 1) := dk_42 (dk_at dksL_law_48 22 rfl rfl)
theorem dL_law_1300 : decode cL_law 1300 = .ok (.iload 5, 2) := dk_21 5 (dk_at dksL_law_49 0 rfl rfl)
theorem dL_law_1302 : decode cL_law 1302 = .ok (.iconst 1, 1) := dk_4 (dk_at dksL_law_49 2 rfl rfl)
theorem dL_law_1303 : decode cL_law 1303 = .ok (.iadd, 1) := dk_96 (dk_at dksL_law_49 3 rfl rfl)
theorem dL_law_1304 : decode cL_law 1304 = .ok (.iaload, 1) := dk_46 (dk_at dksL_law_49 4 rfl rfl)
theorem dL_law_1305 : decode cL_law 1305 = .ok (.aload_n 0, 1) := dk_42 (dk_at dksL_law_49 5 rfl rfl)
theorem dL_law_1306 : decode cL_law 1306 = .ok (.iload 5, 2) := dk_21 5 (dk_at dksL_law_49 6 rfl rfl)
theorem dL_law_1308 : decode cL_law 1308 = .ok (.iconst 2, 1) := dk_5 (dk_at dksL_law_49 8 rfl rfl)
theorem dL_law_1309 : decode cL_law 1309 = .ok (.iadd, 1) := dk_96 (dk_at dksL_law_49 9 rfl rfl)
theorem dL_law_1310 : decode cL_law 1310 = .ok (.iaload, 1) := dk_46 (dk_at dksL_law_49 10 rfl rfl)
theorem dL_law_1311 : decode cL_law 1311 = .ok (.aload_n 3, 1) := dk_45 (dk_at dksL_law_49 11 rfl rfl)
theorem dL_law_1312 : decode cL_law 1312 = .ok (.invokestatic 192, 3) := dk_184 0 192 (dk_at dksL_law_49 12 rfl rfl)
theorem dL_law_1315 : decode cL_law 1315 = .ok (.istore 6, 2) := dk_54 6 (dk_at dksL_law_49 15 rfl rfl)
theorem dL_law_1317 : decode cL_law 1317 = .ok (.aload_n 2, 1) := dk_44 (dk_at dksL_law_49 17 rfl rfl)
theorem dL_law_1318 : decode cL_law 1318 = .ok (.aload_n 0, 1) := dk_42 (dk_at dksL_law_49 18 rfl rfl)
theorem dL_law_1319 : decode cL_law 1319 = .ok (.iload 5, 2) := dk_21 5 (dk_at dksL_law_49 19 rfl rfl)
theorem dL_law_1321 : decode cL_law 1321 = .ok (.iconst 1, 1) := dk_4 (dk_at dksL_law_49 21 rfl rfl)
theorem dL_law_1322 : decode cL_law 1322 = .ok (.iadd, 1) := dk_96 (dk_at dksL_law_49 22 rfl rfl)
theorem dL_law_1323 : decode cL_law 1323 = .ok (.iaload, 1) := dk_46 (dk_at dksL_law_49 23 rfl rfl)
theorem dL_law_1324 : decode cL_law 1324 = .ok (.aload_n 0, 1) := dk_42 (dk_at dksL_law_50 0 rfl rfl)
theorem dL_law_1325 : decode cL_law 1325 = .ok (.iload 5, 2) := dk_21 5 (dk_at dksL_law_50 1 rfl rfl)
theorem dL_law_1327 : decode cL_law 1327 = .ok (.iconst 2, 1) := dk_5 (dk_at dksL_law_50 3 rfl rfl)
theorem dL_law_1328 : decode cL_law 1328 = .ok (.iadd, 1) := dk_96 (dk_at dksL_law_50 4 rfl rfl)
theorem dL_law_1329 : decode cL_law 1329 = .ok (.iaload, 1) := dk_46 (dk_at dksL_law_50 5 rfl rfl)
theorem dL_law_1330 : decode cL_law 1330 = .ok (.invokevirtual 194, 3) := dk_182 0 194 (dk_at dksL_law_50 6 rfl rfl)
theorem dL_law_1333 : decode cL_law 1333 = .ok (.istore 7, 2) := dk_54 7 (dk_at dksL_law_50 9 rfl rfl)
theorem dL_law_1335 : decode cL_law 1335 = .ok (.aload_n 2, 1) := dk_44 (dk_at dksL_law_50 11 rfl rfl)
theorem dL_law_1336 : decode cL_law 1336 = .ok (.invokevirtual 137, 3) := dk_182 0 137 (dk_at dksL_law_50 12 rfl rfl)
theorem dL_law_1339 : decode cL_law 1339 = .ok (.iload 6, 2) := dk_21 6 (dk_at dksL_law_50 15 rfl rfl)
theorem dL_law_1341 : decode cL_law 1341 = .ok (.if_icmp .eq 5, 3) := dk_159 0 5 (dk_at dksL_law_50 17 rfl rfl)
theorem dL_law_1344 : decode cL_law 1344 = .ok (.iconst 0, 1) := dk_3 (dk_at dksL_law_50 20 rfl rfl)
theorem dL_law_1345 : decode cL_law 1345 = .ok (.ireturn, 1) := dk_172 (dk_at dksL_law_50 21 rfl rfl)
theorem dL_law_1346 : decode cL_law 1346 = .ok (.iload 6, 2) := dk_21 6 (dk_at dksL_law_50 22 rfl rfl)
theorem dL_law_1348 : decode cL_law 1348 = .ok (.ifCond .ne 15, 3) := dk_154 0 15 (dk_at dksL_law_51 0 rfl rfl)
theorem dL_law_1351 : decode cL_law 1351 = .ok (.aload_n 3, 1) := dk_45 (dk_at dksL_law_51 3 rfl rfl)
theorem dL_law_1352 : decode cL_law 1352 = .ok (.iconst 0, 1) := dk_3 (dk_at dksL_law_51 4 rfl rfl)
theorem dL_law_1353 : decode cL_law 1353 = .ok (.laload, 1) := dk_47 (dk_at dksL_law_51 5 rfl rfl)
theorem dL_law_1354 : decode cL_law 1354 = .ok (.iload 7, 2) := dk_21 7 (dk_at dksL_law_51 6 rfl rfl)
theorem dL_law_1356 : decode cL_law 1356 = .ok (.i2l, 1) := dk_133 (dk_at dksL_law_51 8 rfl rfl)
theorem dL_law_1357 : decode cL_law 1357 = .ok (.lcmp, 1) := dk_148 (dk_at dksL_law_51 9 rfl rfl)
theorem dL_law_1358 : decode cL_law 1358 = .ok (.ifCond .eq 5, 3) := dk_153 0 5 (dk_at dksL_law_51 10 rfl rfl)
theorem dL_law_1361 : decode cL_law 1361 = .ok (.iconst 0, 1) := dk_3 (dk_at dksL_law_51 13 rfl rfl)
theorem dL_law_1362 : decode cL_law 1362 = .ok (.ireturn, 1) := dk_172 (dk_at dksL_law_51 14 rfl rfl)
theorem dL_law_1363 : decode cL_law 1363 = .ok (.goto 1032, 3) := dk_167 4 8 (dk_at dksL_law_51 15 rfl rfl)
theorem dL_law_1366 : decode cL_law 1366 = .ok (.aload_n 1, 1) := dk_43 (dk_at dksL_law_51 18 rfl rfl)
theorem dL_law_1367 : decode cL_law 1367 = .ok (.aload_n 0, 1) := dk_42 (dk_at dksL_law_51 19 rfl rfl)
theorem dL_law_1368 : decode cL_law 1368 = .ok (.iload 5, 2) := dk_21 5 (dk_at dksL_law_51 20 rfl rfl)
theorem dL_law_1370 : decode cL_law 1370 = .ok (.iconst 1, 1) := dk_4 (dk_at dksL_law_51 22 rfl rfl)
theorem dL_law_1371 : decode cL_law 1371 = .ok (.iadd, 1) := dk_96 (dk_at dksL_law_51 23 rfl rfl)
theorem dL_law_1372 : decode cL_law 1372 = .ok (.iaload, 1) := dk_46 (dk_at dksL_law_52 0 rfl rfl)
theorem dL_law_1373 : decode cL_law 1373 = .ok (.aload_n 3, 1) := dk_45 (dk_at dksL_law_52 1 rfl rfl)
theorem dL_law_1374 : decode cL_law 1374 = .ok (.invokestatic 195, 3) := dk_184 0 195 (dk_at dksL_law_52 2 rfl rfl)
theorem dL_law_1377 : decode cL_law 1377 = .ok (.istore 6, 2) := dk_54 6 (dk_at dksL_law_52 5 rfl rfl)
theorem dL_law_1379 : decode cL_law 1379 = .ok (.aload_n 2, 1) := dk_44 (dk_at dksL_law_52 7 rfl rfl)
theorem dL_law_1380 : decode cL_law 1380 = .ok (.aload_n 0, 1) := dk_42 (dk_at dksL_law_52 8 rfl rfl)
theorem dL_law_1381 : decode cL_law 1381 = .ok (.iload 5, 2) := dk_21 5 (dk_at dksL_law_52 9 rfl rfl)
theorem dL_law_1383 : decode cL_law 1383 = .ok (.iconst 1, 1) := dk_4 (dk_at dksL_law_52 11 rfl rfl)
theorem dL_law_1384 : decode cL_law 1384 = .ok (.iadd, 1) := dk_96 (dk_at dksL_law_52 12 rfl rfl)
theorem dL_law_1385 : decode cL_law 1385 = .ok (.iaload, 1) := dk_46 (dk_at dksL_law_52 13 rfl rfl)
theorem dL_law_1386 : decode cL_law 1386 = .ok (.invokevirtual 197, 3) := dk_182 0 197 (dk_at dksL_law_52 14 rfl rfl)
theorem dL_law_1389 : decode cL_law 1389 = .ok (.istore 7, 2) := dk_54 7 (dk_at dksL_law_52 17 rfl rfl)
theorem dL_law_1391 : decode cL_law 1391 = .ok (.aload_n 2, 1) := dk_44 (dk_at dksL_law_52 19 rfl rfl)
theorem dL_law_1392 : decode cL_law 1392 = .ok (.invokevirtual 137, 3) := dk_182 0 137 (dk_at dksL_law_52 20 rfl rfl)
theorem dL_law_1395 : decode cL_law 1395 = .ok (.iload 6, 2) := dk_21 6 (dk_at dksL_law_53 0 rfl rfl)
theorem dL_law_1397 : decode cL_law 1397 = .ok (.if_icmp .eq 5, 3) := dk_159 0 5 (dk_at dksL_law_53 2 rfl rfl)
theorem dL_law_1400 : decode cL_law 1400 = .ok (.iconst 0, 1) := dk_3 (dk_at dksL_law_53 5 rfl rfl)
theorem dL_law_1401 : decode cL_law 1401 = .ok (.ireturn, 1) := dk_172 (dk_at dksL_law_53 6 rfl rfl)
theorem dL_law_1402 : decode cL_law 1402 = .ok (.iload 6, 2) := dk_21 6 (dk_at dksL_law_53 7 rfl rfl)
theorem dL_law_1404 : decode cL_law 1404 = .ok (.ifCond .ne 15, 3) := dk_154 0 15 (dk_at dksL_law_53 9 rfl rfl)
theorem dL_law_1407 : decode cL_law 1407 = .ok (.aload_n 3, 1) := dk_45 (dk_at dksL_law_53 12 rfl rfl)
theorem dL_law_1408 : decode cL_law 1408 = .ok (.iconst 0, 1) := dk_3 (dk_at dksL_law_53 13 rfl rfl)
theorem dL_law_1409 : decode cL_law 1409 = .ok (.laload, 1) := dk_47 (dk_at dksL_law_53 14 rfl rfl)
theorem dL_law_1410 : decode cL_law 1410 = .ok (.iload 7, 2) := dk_21 7 (dk_at dksL_law_53 15 rfl rfl)
theorem dL_law_1412 : decode cL_law 1412 = .ok (.i2l, 1) := dk_133 (dk_at dksL_law_53 17 rfl rfl)
theorem dL_law_1413 : decode cL_law 1413 = .ok (.lcmp, 1) := dk_148 (dk_at dksL_law_53 18 rfl rfl)
theorem dL_law_1414 : decode cL_law 1414 = .ok (.ifCond .eq 5, 3) := dk_153 0 5 (dk_at dksL_law_53 19 rfl rfl)
theorem dL_law_1417 : decode cL_law 1417 = .ok (.iconst 0, 1) := dk_3 (dk_at dksL_law_53 22 rfl rfl)
theorem dL_law_1418 : decode cL_law 1418 = .ok (.ireturn, 1) := dk_172 (dk_at dksL_law_53 23 rfl rfl)
theorem dL_law_1419 : decode cL_law 1419 = .ok (.goto 976, 3) := dk_167 3 208 (dk_at dksL_law_54 0 rfl rfl)
theorem dL_law_1422 : decode cL_law 1422 = .ok (.aload_n 1, 1) := dk_43 (dk_at dksL_law_54 3 rfl rfl)
theorem dL_law_1423 : decode cL_law 1423 = .ok (.aload_n 0, 1) := dk_42 (dk_at dksL_law_54 4 rfl rfl)
theorem dL_law_1424 : decode cL_law 1424 = .ok (.iload 5, 2) := dk_21 5 (dk_at dksL_law_54 5 rfl rfl)
theorem dL_law_1426 : decode cL_law 1426 = .ok (.iconst 1, 1) := dk_4 (dk_at dksL_law_54 7 rfl rfl)
theorem dL_law_1427 : decode cL_law 1427 = .ok (.iadd, 1) := dk_96 (dk_at dksL_law_54 8 rfl rfl)
theorem dL_law_1428 : decode cL_law 1428 = .ok (.iaload, 1) := dk_46 (dk_at dksL_law_54 9 rfl rfl)
theorem dL_law_1429 : decode cL_law 1429 = .ok (.aload_n 3, 1) := dk_45 (dk_at dksL_law_54 10 rfl rfl)
theorem dL_law_1430 : decode cL_law 1430 = .ok (.invokestatic 198, 3) := dk_184 0 198 (dk_at dksL_law_54 11 rfl rfl)
theorem dL_law_1433 : decode cL_law 1433 = .ok (.istore 6, 2) := dk_54 6 (dk_at dksL_law_54 14 rfl rfl)
theorem dL_law_1435 : decode cL_law 1435 = .ok (.aload_n 2, 1) := dk_44 (dk_at dksL_law_54 16 rfl rfl)
theorem dL_law_1436 : decode cL_law 1436 = .ok (.aload_n 0, 1) := dk_42 (dk_at dksL_law_54 17 rfl rfl)
theorem dL_law_1437 : decode cL_law 1437 = .ok (.iload 5, 2) := dk_21 5 (dk_at dksL_law_54 18 rfl rfl)
theorem dL_law_1439 : decode cL_law 1439 = .ok (.iconst 1, 1) := dk_4 (dk_at dksL_law_54 20 rfl rfl)
theorem dL_law_1440 : decode cL_law 1440 = .ok (.iadd, 1) := dk_96 (dk_at dksL_law_54 21 rfl rfl)
theorem dL_law_1441 : decode cL_law 1441 = .ok (.iaload, 1) := dk_46 (dk_at dksL_law_54 22 rfl rfl)
theorem dL_law_1442 : decode cL_law 1442 = .ok (.invokevirtual 200, 3) := dk_182 0 200 (dk_at dksL_law_55 0 rfl rfl)
theorem dL_law_1445 : decode cL_law 1445 = .ok (.istore 7, 2) := dk_54 7 (dk_at dksL_law_55 3 rfl rfl)
theorem dL_law_1447 : decode cL_law 1447 = .ok (.aload_n 2, 1) := dk_44 (dk_at dksL_law_55 5 rfl rfl)
theorem dL_law_1448 : decode cL_law 1448 = .ok (.invokevirtual 137, 3) := dk_182 0 137 (dk_at dksL_law_55 6 rfl rfl)
theorem dL_law_1451 : decode cL_law 1451 = .ok (.iload 6, 2) := dk_21 6 (dk_at dksL_law_55 9 rfl rfl)
theorem dL_law_1453 : decode cL_law 1453 = .ok (.if_icmp .eq 5, 3) := dk_159 0 5 (dk_at dksL_law_55 11 rfl rfl)
theorem dL_law_1456 : decode cL_law 1456 = .ok (.iconst 0, 1) := dk_3 (dk_at dksL_law_55 14 rfl rfl)
theorem dL_law_1457 : decode cL_law 1457 = .ok (.ireturn, 1) := dk_172 (dk_at dksL_law_55 15 rfl rfl)
theorem dL_law_1458 : decode cL_law 1458 = .ok (.iload 6, 2) := dk_21 6 (dk_at dksL_law_55 16 rfl rfl)
theorem dL_law_1460 : decode cL_law 1460 = .ok (.ifCond .ne 15, 3) := dk_154 0 15 (dk_at dksL_law_55 18 rfl rfl)
theorem dL_law_1463 : decode cL_law 1463 = .ok (.aload_n 3, 1) := dk_45 (dk_at dksL_law_55 21 rfl rfl)
theorem dL_law_1464 : decode cL_law 1464 = .ok (.iconst 0, 1) := dk_3 (dk_at dksL_law_55 22 rfl rfl)
theorem dL_law_1465 : decode cL_law 1465 = .ok (.laload, 1) := dk_47 (dk_at dksL_law_55 23 rfl rfl)
theorem dL_law_1466 : decode cL_law 1466 = .ok (.iload 7, 2) := dk_21 7 (dk_at dksL_law_56 0 rfl rfl)
theorem dL_law_1468 : decode cL_law 1468 = .ok (.i2l, 1) := dk_133 (dk_at dksL_law_56 2 rfl rfl)
theorem dL_law_1469 : decode cL_law 1469 = .ok (.lcmp, 1) := dk_148 (dk_at dksL_law_56 3 rfl rfl)
theorem dL_law_1470 : decode cL_law 1470 = .ok (.ifCond .eq 5, 3) := dk_153 0 5 (dk_at dksL_law_56 4 rfl rfl)
theorem dL_law_1473 : decode cL_law 1473 = .ok (.iconst 0, 1) := dk_3 (dk_at dksL_law_56 7 rfl rfl)
theorem dL_law_1474 : decode cL_law 1474 = .ok (.ireturn, 1) := dk_172 (dk_at dksL_law_56 8 rfl rfl)
theorem dL_law_1475 : decode cL_law 1475 = .ok (.goto 920, 3) := dk_167 3 152 (dk_at dksL_law_56 9 rfl rfl)
theorem dL_law_1478 : decode cL_law 1478 = .ok (.aload_n 1, 1) := dk_43 (dk_at dksL_law_56 12 rfl rfl)
theorem dL_law_1479 : decode cL_law 1479 = .ok (.aload_n 0, 1) := dk_42 (dk_at dksL_law_56 13 rfl rfl)
theorem dL_law_1480 : decode cL_law 1480 = .ok (.iload 5, 2) := dk_21 5 (dk_at dksL_law_56 14 rfl rfl)
theorem dL_law_1482 : decode cL_law 1482 = .ok (.iconst 1, 1) := dk_4 (dk_at dksL_law_56 16 rfl rfl)
theorem dL_law_1483 : decode cL_law 1483 = .ok (.iadd, 1) := dk_96 (dk_at dksL_law_56 17 rfl rfl)
theorem dL_law_1484 : decode cL_law 1484 = .ok (.iaload, 1) := dk_46 (dk_at dksL_law_56 18 rfl rfl)
theorem dL_law_1485 : decode cL_law 1485 = .ok (.aload_n 0, 1) := dk_42 (dk_at dksL_law_56 19 rfl rfl)
theorem dL_law_1486 : decode cL_law 1486 = .ok (.iload 5, 2) := dk_21 5 (dk_at dksL_law_56 20 rfl rfl)
theorem dL_law_1488 : decode cL_law 1488 = .ok (.iconst 2, 1) := dk_5 (dk_at dksL_law_56 22 rfl rfl)
theorem dL_law_1489 : decode cL_law 1489 = .ok (.iadd, 1) := dk_96 (dk_at dksL_law_56 23 rfl rfl)
theorem dL_law_1490 : decode cL_law 1490 = .ok (.iaload, 1) := dk_46 (dk_at dksL_law_57 0 rfl rfl)
theorem dL_law_1491 : decode cL_law 1491 = .ok (.aload_n 3, 1) := dk_45 (dk_at dksL_law_57 1 rfl rfl)
theorem dL_law_1492 : decode cL_law 1492 = .ok (.invokestatic 201, 3) := dk_184 0 201 (dk_at dksL_law_57 2 rfl rfl)
theorem dL_law_1495 : decode cL_law 1495 = .ok (.istore 6, 2) := dk_54 6 (dk_at dksL_law_57 5 rfl rfl)
theorem dL_law_1497 : decode cL_law 1497 = .ok (.aload_n 2, 1) := dk_44 (dk_at dksL_law_57 7 rfl rfl)
theorem dL_law_1498 : decode cL_law 1498 = .ok (.aload_n 0, 1) := dk_42 (dk_at dksL_law_57 8 rfl rfl)
theorem dL_law_1499 : decode cL_law 1499 = .ok (.iload 5, 2) := dk_21 5 (dk_at dksL_law_57 9 rfl rfl)
theorem dL_law_1501 : decode cL_law 1501 = .ok (.iconst 1, 1) := dk_4 (dk_at dksL_law_57 11 rfl rfl)
theorem dL_law_1502 : decode cL_law 1502 = .ok (.iadd, 1) := dk_96 (dk_at dksL_law_57 12 rfl rfl)
theorem dL_law_1503 : decode cL_law 1503 = .ok (.iaload, 1) := dk_46 (dk_at dksL_law_57 13 rfl rfl)
theorem dL_law_1504 : decode cL_law 1504 = .ok (.aload_n 0, 1) := dk_42 (dk_at dksL_law_57 14 rfl rfl)
theorem dL_law_1505 : decode cL_law 1505 = .ok (.iload 5, 2) := dk_21 5 (dk_at dksL_law_57 15 rfl rfl)
theorem dL_law_1507 : decode cL_law 1507 = .ok (.iconst 2, 1) := dk_5 (dk_at dksL_law_57 17 rfl rfl)
theorem dL_law_1508 : decode cL_law 1508 = .ok (.iadd, 1) := dk_96 (dk_at dksL_law_57 18 rfl rfl)
theorem dL_law_1509 : decode cL_law 1509 = .ok (.iaload, 1) := dk_46 (dk_at dksL_law_57 19 rfl rfl)
theorem dL_law_1510 : decode cL_law 1510 = .ok (.invokevirtual 203, 3) := dk_182 0 203 (dk_at dksL_law_57 20 rfl rfl)
theorem dL_law_1513 : decode cL_law 1513 = .ok (.istore 7, 2) := dk_54 7 (dk_at dksL_law_58 0 rfl rfl)
theorem dL_law_1515 : decode cL_law 1515 = .ok (.aload_n 2, 1) := dk_44 (dk_at dksL_law_58 2 rfl rfl)
theorem dL_law_1516 : decode cL_law 1516 = .ok (.invokevirtual 137, 3) := dk_182 0 137 (dk_at dksL_law_58 3 rfl rfl)
theorem dL_law_1519 : decode cL_law 1519 = .ok (.iload 6, 2) := dk_21 6 (dk_at dksL_law_58 6 rfl rfl)
theorem dL_law_1521 : decode cL_law 1521 = .ok (.if_icmp .eq 5, 3) := dk_159 0 5 (dk_at dksL_law_58 8 rfl rfl)
theorem dL_law_1524 : decode cL_law 1524 = .ok (.iconst 0, 1) := dk_3 (dk_at dksL_law_58 11 rfl rfl)
theorem dL_law_1525 : decode cL_law 1525 = .ok (.ireturn, 1) := dk_172 (dk_at dksL_law_58 12 rfl rfl)
theorem dL_law_1526 : decode cL_law 1526 = .ok (.iload 6, 2) := dk_21 6 (dk_at dksL_law_58 13 rfl rfl)
theorem dL_law_1528 : decode cL_law 1528 = .ok (.ifCond .ne 15, 3) := dk_154 0 15 (dk_at dksL_law_58 15 rfl rfl)
theorem dL_law_1531 : decode cL_law 1531 = .ok (.aload_n 3, 1) := dk_45 (dk_at dksL_law_58 18 rfl rfl)
theorem dL_law_1532 : decode cL_law 1532 = .ok (.iconst 0, 1) := dk_3 (dk_at dksL_law_58 19 rfl rfl)
theorem dL_law_1533 : decode cL_law 1533 = .ok (.laload, 1) := dk_47 (dk_at dksL_law_58 20 rfl rfl)
theorem dL_law_1534 : decode cL_law 1534 = .ok (.iload 7, 2) := dk_21 7 (dk_at dksL_law_58 21 rfl rfl)
theorem dL_law_1536 : decode cL_law 1536 = .ok (.i2l, 1) := dk_133 (dk_at dksL_law_58 23 rfl rfl)
theorem dL_law_1537 : decode cL_law 1537 = .ok (.lcmp, 1) := dk_148 (dk_at dksL_law_59 0 rfl rfl)
theorem dL_law_1538 : decode cL_law 1538 = .ok (.ifCond .eq 5, 3) := dk_153 0 5 (dk_at dksL_law_59 1 rfl rfl)
theorem dL_law_1541 : decode cL_law 1541 = .ok (.iconst 0, 1) := dk_3 (dk_at dksL_law_59 4 rfl rfl)
theorem dL_law_1542 : decode cL_law 1542 = .ok (.ireturn, 1) := dk_172 (dk_at dksL_law_59 5 rfl rfl)
theorem dL_law_1543 : decode cL_law 1543 = .ok (.goto 852, 3) := dk_167 3 84 (dk_at dksL_law_59 6 rfl rfl)
theorem dL_law_1546 : decode cL_law 1546 = .ok (.aload_n 1, 1) := dk_43 (dk_at dksL_law_59 9 rfl rfl)
theorem dL_law_1547 : decode cL_law 1547 = .ok (.aload_n 0, 1) := dk_42 (dk_at dksL_law_59 10 rfl rfl)
theorem dL_law_1548 : decode cL_law 1548 = .ok (.iload 5, 2) := dk_21 5 (dk_at dksL_law_59 11 rfl rfl)
theorem dL_law_1550 : decode cL_law 1550 = .ok (.iconst 1, 1) := dk_4 (dk_at dksL_law_59 13 rfl rfl)
theorem dL_law_1551 : decode cL_law 1551 = .ok (.iadd, 1) := dk_96 (dk_at dksL_law_59 14 rfl rfl)
theorem dL_law_1552 : decode cL_law 1552 = .ok (.iaload, 1) := dk_46 (dk_at dksL_law_59 15 rfl rfl)
theorem dL_law_1553 : decode cL_law 1553 = .ok (.aload 4, 2) := dk_25 4 (dk_at dksL_law_59 16 rfl rfl)
theorem dL_law_1555 : decode cL_law 1555 = .ok (.invokestatic 204, 3) := dk_184 0 204 (dk_at dksL_law_59 18 rfl rfl)
theorem dL_law_1558 : decode cL_law 1558 = .ok (.istore 6, 2) := dk_54 6 (dk_at dksL_law_59 21 rfl rfl)
theorem dL_law_1560 : decode cL_law 1560 = .ok (.aload_n 2, 1) := dk_44 (dk_at dksL_law_59 23 rfl rfl)
theorem dL_law_1561 : decode cL_law 1561 = .ok (.aload_n 0, 1) := dk_42 (dk_at dksL_law_60 0 rfl rfl)
theorem dL_law_1562 : decode cL_law 1562 = .ok (.iload 5, 2) := dk_21 5 (dk_at dksL_law_60 1 rfl rfl)
theorem dL_law_1564 : decode cL_law 1564 = .ok (.iconst 1, 1) := dk_4 (dk_at dksL_law_60 3 rfl rfl)
theorem dL_law_1565 : decode cL_law 1565 = .ok (.iadd, 1) := dk_96 (dk_at dksL_law_60 4 rfl rfl)
theorem dL_law_1566 : decode cL_law 1566 = .ok (.iaload, 1) := dk_46 (dk_at dksL_law_60 5 rfl rfl)
theorem dL_law_1567 : decode cL_law 1567 = .ok (.invokevirtual 206, 3) := dk_182 0 206 (dk_at dksL_law_60 6 rfl rfl)
theorem dL_law_1570 : decode cL_law 1570 = .ok (.fstore 7, 2) := dk_56 7 (dk_at dksL_law_60 9 rfl rfl)
theorem dL_law_1572 : decode cL_law 1572 = .ok (.aload_n 2, 1) := dk_44 (dk_at dksL_law_60 11 rfl rfl)
theorem dL_law_1573 : decode cL_law 1573 = .ok (.invokevirtual 137, 3) := dk_182 0 137 (dk_at dksL_law_60 12 rfl rfl)
theorem dL_law_1576 : decode cL_law 1576 = .ok (.iload 6, 2) := dk_21 6 (dk_at dksL_law_60 15 rfl rfl)
theorem dL_law_1578 : decode cL_law 1578 = .ok (.if_icmp .eq 5, 3) := dk_159 0 5 (dk_at dksL_law_60 17 rfl rfl)
theorem dL_law_1581 : decode cL_law 1581 = .ok (.iconst 0, 1) := dk_3 (dk_at dksL_law_60 20 rfl rfl)
theorem dL_law_1582 : decode cL_law 1582 = .ok (.ireturn, 1) := dk_172 (dk_at dksL_law_60 21 rfl rfl)
theorem dL_law_1583 : decode cL_law 1583 = .ok (.iload 6, 2) := dk_21 6 (dk_at dksL_law_60 22 rfl rfl)
theorem dL_law_1585 : decode cL_law 1585 = .ok (.ifCond .ne 36, 3) := dk_154 0 36 (dk_at dksL_law_61 0 rfl rfl)
theorem dL_law_1588 : decode cL_law 1588 = .ok (.aload 4, 2) := dk_25 4 (dk_at dksL_law_61 3 rfl rfl)
theorem dL_law_1590 : decode cL_law 1590 = .ok (.iconst 0, 1) := dk_3 (dk_at dksL_law_61 5 rfl rfl)
theorem dL_law_1591 : decode cL_law 1591 = .ok (.daload, 1) := dk_49 (dk_at dksL_law_61 6 rfl rfl)
theorem dL_law_1592 : decode cL_law 1592 = .ok (.fload 7, 2) := dk_23 7 (dk_at dksL_law_61 7 rfl rfl)
theorem dL_law_1594 : decode cL_law 1594 = .ok (.f2d, 1) := dk_141 (dk_at dksL_law_61 9 rfl rfl)
theorem dL_law_1595 : decode cL_law 1595 = .ok (.dcmp .l, 1) := dk_151 (dk_at dksL_law_61 10 rfl rfl)
theorem dL_law_1596 : decode cL_law 1596 = .ok (.ifCond .eq 25, 3) := dk_153 0 25 (dk_at dksL_law_61 11 rfl rfl)
theorem dL_law_1599 : decode cL_law 1599 = .ok (.aload 4, 2) := dk_25 4 (dk_at dksL_law_61 14 rfl rfl)
theorem dL_law_1601 : decode cL_law 1601 = .ok (.iconst 0, 1) := dk_3 (dk_at dksL_law_61 16 rfl rfl)
theorem dL_law_1602 : decode cL_law 1602 = .ok (.daload, 1) := dk_49 (dk_at dksL_law_61 17 rfl rfl)
theorem dL_law_1603 : decode cL_law 1603 = .ok (.aload 4, 2) := dk_25 4 (dk_at dksL_law_61 18 rfl rfl)
theorem dL_law_1605 : decode cL_law 1605 = .ok (.iconst 0, 1) := dk_3 (dk_at dksL_law_61 20 rfl rfl)
theorem dL_law_1606 : decode cL_law 1606 = .ok (.daload, 1) := dk_49 (dk_at dksL_law_61 21 rfl rfl)
theorem dL_law_1607 : decode cL_law 1607 = .ok (.dcmp .l, 1) := dk_151 (dk_at dksL_law_61 22 rfl rfl)
theorem dL_law_1608 : decode cL_law 1608 = .ok (.ifCond .eq 11, 3) := dk_153 0 11 (dk_at dksL_law_62 0 rfl rfl)
theorem dL_law_1611 : decode cL_law 1611 = .ok (.fload 7, 2) := dk_23 7 (dk_at dksL_law_62 3 rfl rfl)
theorem dL_law_1613 : decode cL_law 1613 = .ok (.fload 7, 2) := dk_23 7 (dk_at dksL_law_62 5 rfl rfl)
theorem dL_law_1615 : decode cL_law 1615 = .ok (.fcmp .l, 1) := dk_149 (dk_at dksL_law_62 7 rfl rfl)
theorem dL_law_1616 : decode cL_law 1616 = .ok (.ifCond .ne 5, 3) := dk_154 0 5 (dk_at dksL_law_62 8 rfl rfl)
theorem dL_law_1619 : decode cL_law 1619 = .ok (.iconst 0, 1) := dk_3 (dk_at dksL_law_62 11 rfl rfl)
theorem dL_law_1620 : decode cL_law 1620 = .ok (.ireturn, 1) := dk_172 (dk_at dksL_law_62 12 rfl rfl)
theorem dL_law_1621 : decode cL_law 1621 = .ok (.goto 774, 3) := dk_167 3 6 (dk_at dksL_law_62 13 rfl rfl)
theorem dL_law_1624 : decode cL_law 1624 = .ok (.aload_n 1, 1) := dk_43 (dk_at dksL_law_62 16 rfl rfl)
theorem dL_law_1625 : decode cL_law 1625 = .ok (.aload_n 0, 1) := dk_42 (dk_at dksL_law_62 17 rfl rfl)
theorem dL_law_1626 : decode cL_law 1626 = .ok (.iload 5, 2) := dk_21 5 (dk_at dksL_law_62 18 rfl rfl)
theorem dL_law_1628 : decode cL_law 1628 = .ok (.iconst 1, 1) := dk_4 (dk_at dksL_law_62 20 rfl rfl)
theorem dL_law_1629 : decode cL_law 1629 = .ok (.iadd, 1) := dk_96 (dk_at dksL_law_62 21 rfl rfl)
theorem dL_law_1630 : decode cL_law 1630 = .ok (.iaload, 1) := dk_46 (dk_at dksL_law_62 22 rfl rfl)
theorem dL_law_1631 : decode cL_law 1631 = .ok (.aload_n 0, 1) := dk_42 (dk_at dksL_law_62 23 rfl rfl)
theorem dL_law_1632 : decode cL_law 1632 = .ok (.iload 5, 2) := dk_21 5 (dk_at dksL_law_63 0 rfl rfl)
theorem dL_law_1634 : decode cL_law 1634 = .ok (.iconst 2, 1) := dk_5 (dk_at dksL_law_63 2 rfl rfl)
theorem dL_law_1635 : decode cL_law 1635 = .ok (.iadd, 1) := dk_96 (dk_at dksL_law_63 3 rfl rfl)
theorem dL_law_1636 : decode cL_law 1636 = .ok (.iaload, 1) := dk_46 (dk_at dksL_law_63 4 rfl rfl)
theorem dL_law_1637 : decode cL_law 1637 = .ok (.aload_n 0, 1) := dk_42 (dk_at dksL_law_63 5 rfl rfl)
theorem dL_law_1638 : decode cL_law 1638 = .ok (.iload 5, 2) := dk_21 5 (dk_at dksL_law_63 6 rfl rfl)
theorem dL_law_1640 : decode cL_law 1640 = .ok (.iconst 3, 1) := dk_6 (dk_at dksL_law_63 8 rfl rfl)
theorem dL_law_1641 : decode cL_law 1641 = .ok (.iadd, 1) := dk_96 (dk_at dksL_law_63 9 rfl rfl)
theorem dL_law_1642 : decode cL_law 1642 = .ok (.iaload, 1) := dk_46 (dk_at dksL_law_63 10 rfl rfl)
theorem dL_law_1643 : decode cL_law 1643 = .ok (.aload_n 3, 1) := dk_45 (dk_at dksL_law_63 11 rfl rfl)
theorem dL_law_1644 : decode cL_law 1644 = .ok (.invokestatic 207, 3) := dk_184 0 207 (dk_at dksL_law_63 12 rfl rfl)
theorem dL_law_1647 : decode cL_law 1647 = .ok (.istore 6, 2) := dk_54 6 (dk_at dksL_law_63 15 rfl rfl)
theorem dL_law_1649 : decode cL_law 1649 = .ok (.aload_n 2, 1) := dk_44 (dk_at dksL_law_63 17 rfl rfl)
theorem dL_law_1650 : decode cL_law 1650 = .ok (.aload_n 0, 1) := dk_42 (dk_at dksL_law_63 18 rfl rfl)
theorem dL_law_1651 : decode cL_law 1651 = .ok (.iload 5, 2) := dk_21 5 (dk_at dksL_law_63 19 rfl rfl)
theorem dL_law_1653 : decode cL_law 1653 = .ok (.iconst 1, 1) := dk_4 (dk_at dksL_law_63 21 rfl rfl)
theorem dL_law_1654 : decode cL_law 1654 = .ok (.iadd, 1) := dk_96 (dk_at dksL_law_63 22 rfl rfl)
theorem dL_law_1655 : decode cL_law 1655 = .ok (.iaload, 1) := dk_46 (dk_at dksL_law_63 23 rfl rfl)
theorem dL_law_1656 : decode cL_law 1656 = .ok (.aload_n 0, 1) := dk_42 (dk_at dksL_law_64 0 rfl rfl)
theorem dL_law_1657 : decode cL_law 1657 = .ok (.iload 5, 2) := dk_21 5 (dk_at dksL_law_64 1 rfl rfl)
theorem dL_law_1659 : decode cL_law 1659 = .ok (.iconst 2, 1) := dk_5 (dk_at dksL_law_64 3 rfl rfl)
theorem dL_law_1660 : decode cL_law 1660 = .ok (.iadd, 1) := dk_96 (dk_at dksL_law_64 4 rfl rfl)
theorem dL_law_1661 : decode cL_law 1661 = .ok (.iaload, 1) := dk_46 (dk_at dksL_law_64 5 rfl rfl)
theorem dL_law_1662 : decode cL_law 1662 = .ok (.aload_n 0, 1) := dk_42 (dk_at dksL_law_64 6 rfl rfl)
theorem dL_law_1663 : decode cL_law 1663 = .ok (.iload 5, 2) := dk_21 5 (dk_at dksL_law_64 7 rfl rfl)
theorem dL_law_1665 : decode cL_law 1665 = .ok (.iconst 3, 1) := dk_6 (dk_at dksL_law_64 9 rfl rfl)
theorem dL_law_1666 : decode cL_law 1666 = .ok (.iadd, 1) := dk_96 (dk_at dksL_law_64 10 rfl rfl)
theorem dL_law_1667 : decode cL_law 1667 = .ok (.iaload, 1) := dk_46 (dk_at dksL_law_64 11 rfl rfl)
theorem dL_law_1668 : decode cL_law 1668 = .ok (.invokevirtual 209, 3) := dk_182 0 209 (dk_at dksL_law_64 12 rfl rfl)
theorem dL_law_1671 : decode cL_law 1671 = .ok (.istore 7, 2) := dk_54 7 (dk_at dksL_law_64 15 rfl rfl)
theorem dL_law_1673 : decode cL_law 1673 = .ok (.aload_n 2, 1) := dk_44 (dk_at dksL_law_64 17 rfl rfl)
theorem dL_law_1674 : decode cL_law 1674 = .ok (.invokevirtual 137, 3) := dk_182 0 137 (dk_at dksL_law_64 18 rfl rfl)
theorem dL_law_1677 : decode cL_law 1677 = .ok (.iload 6, 2) := dk_21 6 (dk_at dksL_law_64 21 rfl rfl)
theorem dL_law_1679 : decode cL_law 1679 = .ok (.if_icmp .eq 5, 3) := dk_159 0 5 (dk_at dksL_law_65 0 rfl rfl)
theorem dL_law_1682 : decode cL_law 1682 = .ok (.iconst 0, 1) := dk_3 (dk_at dksL_law_65 3 rfl rfl)
theorem dL_law_1683 : decode cL_law 1683 = .ok (.ireturn, 1) := dk_172 (dk_at dksL_law_65 4 rfl rfl)
theorem dL_law_1684 : decode cL_law 1684 = .ok (.iload 6, 2) := dk_21 6 (dk_at dksL_law_65 5 rfl rfl)
theorem dL_law_1686 : decode cL_law 1686 = .ok (.ifCond .ne 15, 3) := dk_154 0 15 (dk_at dksL_law_65 7 rfl rfl)
theorem dL_law_1689 : decode cL_law 1689 = .ok (.aload_n 3, 1) := dk_45 (dk_at dksL_law_65 10 rfl rfl)
theorem dL_law_1690 : decode cL_law 1690 = .ok (.iconst 0, 1) := dk_3 (dk_at dksL_law_65 11 rfl rfl)
theorem dL_law_1691 : decode cL_law 1691 = .ok (.laload, 1) := dk_47 (dk_at dksL_law_65 12 rfl rfl)
theorem dL_law_1692 : decode cL_law 1692 = .ok (.iload 7, 2) := dk_21 7 (dk_at dksL_law_65 13 rfl rfl)
theorem dL_law_1694 : decode cL_law 1694 = .ok (.i2l, 1) := dk_133 (dk_at dksL_law_65 15 rfl rfl)
theorem dL_law_1695 : decode cL_law 1695 = .ok (.lcmp, 1) := dk_148 (dk_at dksL_law_65 16 rfl rfl)
theorem dL_law_1696 : decode cL_law 1696 = .ok (.ifCond .eq 5, 3) := dk_153 0 5 (dk_at dksL_law_65 17 rfl rfl)
theorem dL_law_1699 : decode cL_law 1699 = .ok (.iconst 0, 1) := dk_3 (dk_at dksL_law_65 20 rfl rfl)
theorem dL_law_1700 : decode cL_law 1700 = .ok (.ireturn, 1) := dk_172 (dk_at dksL_law_65 21 rfl rfl)
theorem dL_law_1701 : decode cL_law 1701 = .ok (.goto 694, 3) := dk_167 2 182 (dk_at dksL_law_66 0 rfl rfl)
theorem dL_law_1704 : decode cL_law 1704 = .ok (.aload_n 1, 1) := dk_43 (dk_at dksL_law_66 3 rfl rfl)
theorem dL_law_1705 : decode cL_law 1705 = .ok (.aload_n 0, 1) := dk_42 (dk_at dksL_law_66 4 rfl rfl)
theorem dL_law_1706 : decode cL_law 1706 = .ok (.iload 5, 2) := dk_21 5 (dk_at dksL_law_66 5 rfl rfl)
theorem dL_law_1708 : decode cL_law 1708 = .ok (.iconst 1, 1) := dk_4 (dk_at dksL_law_66 7 rfl rfl)
theorem dL_law_1709 : decode cL_law 1709 = .ok (.iadd, 1) := dk_96 (dk_at dksL_law_66 8 rfl rfl)
theorem dL_law_1710 : decode cL_law 1710 = .ok (.iaload, 1) := dk_46 (dk_at dksL_law_66 9 rfl rfl)
theorem dL_law_1711 : decode cL_law 1711 = .ok (.aload_n 0, 1) := dk_42 (dk_at dksL_law_66 10 rfl rfl)
theorem dL_law_1712 : decode cL_law 1712 = .ok (.iload 5, 2) := dk_21 5 (dk_at dksL_law_66 11 rfl rfl)
theorem dL_law_1714 : decode cL_law 1714 = .ok (.iconst 2, 1) := dk_5 (dk_at dksL_law_66 13 rfl rfl)
theorem dL_law_1715 : decode cL_law 1715 = .ok (.iadd, 1) := dk_96 (dk_at dksL_law_66 14 rfl rfl)
theorem dL_law_1716 : decode cL_law 1716 = .ok (.iaload, 1) := dk_46 (dk_at dksL_law_66 15 rfl rfl)
theorem dL_law_1717 : decode cL_law 1717 = .ok (.aload_n 3, 1) := dk_45 (dk_at dksL_law_66 16 rfl rfl)
theorem dL_law_1718 : decode cL_law 1718 = .ok (.invokestatic 210, 3) := dk_184 0 210 (dk_at dksL_law_66 17 rfl rfl)
theorem dL_law_1721 : decode cL_law 1721 = .ok (.istore 6, 2) := dk_54 6 (dk_at dksL_law_66 20 rfl rfl)
theorem dL_law_1723 : decode cL_law 1723 = .ok (.aload_n 2, 1) := dk_44 (dk_at dksL_law_66 22 rfl rfl)
theorem dL_law_1724 : decode cL_law 1724 = .ok (.aload_n 0, 1) := dk_42 (dk_at dksL_law_66 23 rfl rfl)
theorem dL_law_1725 : decode cL_law 1725 = .ok (.iload 5, 2) := dk_21 5 (dk_at dksL_law_67 0 rfl rfl)
theorem dL_law_1727 : decode cL_law 1727 = .ok (.iconst 1, 1) := dk_4 (dk_at dksL_law_67 2 rfl rfl)
theorem dL_law_1728 : decode cL_law 1728 = .ok (.iadd, 1) := dk_96 (dk_at dksL_law_67 3 rfl rfl)
theorem dL_law_1729 : decode cL_law 1729 = .ok (.iaload, 1) := dk_46 (dk_at dksL_law_67 4 rfl rfl)
theorem dL_law_1730 : decode cL_law 1730 = .ok (.aload_n 0, 1) := dk_42 (dk_at dksL_law_67 5 rfl rfl)
theorem dL_law_1731 : decode cL_law 1731 = .ok (.iload 5, 2) := dk_21 5 (dk_at dksL_law_67 6 rfl rfl)
theorem dL_law_1733 : decode cL_law 1733 = .ok (.iconst 2, 1) := dk_5 (dk_at dksL_law_67 8 rfl rfl)
theorem dL_law_1734 : decode cL_law 1734 = .ok (.iadd, 1) := dk_96 (dk_at dksL_law_67 9 rfl rfl)
theorem dL_law_1735 : decode cL_law 1735 = .ok (.iaload, 1) := dk_46 (dk_at dksL_law_67 10 rfl rfl)
theorem dL_law_1736 : decode cL_law 1736 = .ok (.invokevirtual 212, 3) := dk_182 0 212 (dk_at dksL_law_67 11 rfl rfl)
theorem dL_law_1739 : decode cL_law 1739 = .ok (.istore 7, 2) := dk_54 7 (dk_at dksL_law_67 14 rfl rfl)
theorem dL_law_1741 : decode cL_law 1741 = .ok (.aload_n 2, 1) := dk_44 (dk_at dksL_law_67 16 rfl rfl)
theorem dL_law_1742 : decode cL_law 1742 = .ok (.invokevirtual 137, 3) := dk_182 0 137 (dk_at dksL_law_67 17 rfl rfl)
theorem dL_law_1745 : decode cL_law 1745 = .ok (.iload 6, 2) := dk_21 6 (dk_at dksL_law_67 20 rfl rfl)
theorem dL_law_1747 : decode cL_law 1747 = .ok (.if_icmp .eq 5, 3) := dk_159 0 5 (dk_at dksL_law_68 0 rfl rfl)
theorem dL_law_1750 : decode cL_law 1750 = .ok (.iconst 0, 1) := dk_3 (dk_at dksL_law_68 3 rfl rfl)
theorem dL_law_1751 : decode cL_law 1751 = .ok (.ireturn, 1) := dk_172 (dk_at dksL_law_68 4 rfl rfl)
theorem dL_law_1752 : decode cL_law 1752 = .ok (.iload 6, 2) := dk_21 6 (dk_at dksL_law_68 5 rfl rfl)
theorem dL_law_1754 : decode cL_law 1754 = .ok (.ifCond .ne 15, 3) := dk_154 0 15 (dk_at dksL_law_68 7 rfl rfl)
theorem dL_law_1757 : decode cL_law 1757 = .ok (.aload_n 3, 1) := dk_45 (dk_at dksL_law_68 10 rfl rfl)
theorem dL_law_1758 : decode cL_law 1758 = .ok (.iconst 0, 1) := dk_3 (dk_at dksL_law_68 11 rfl rfl)
theorem dL_law_1759 : decode cL_law 1759 = .ok (.laload, 1) := dk_47 (dk_at dksL_law_68 12 rfl rfl)
theorem dL_law_1760 : decode cL_law 1760 = .ok (.iload 7, 2) := dk_21 7 (dk_at dksL_law_68 13 rfl rfl)
theorem dL_law_1762 : decode cL_law 1762 = .ok (.i2l, 1) := dk_133 (dk_at dksL_law_68 15 rfl rfl)
theorem dL_law_1763 : decode cL_law 1763 = .ok (.lcmp, 1) := dk_148 (dk_at dksL_law_68 16 rfl rfl)
theorem dL_law_1764 : decode cL_law 1764 = .ok (.ifCond .eq 5, 3) := dk_153 0 5 (dk_at dksL_law_68 17 rfl rfl)
theorem dL_law_1767 : decode cL_law 1767 = .ok (.iconst 0, 1) := dk_3 (dk_at dksL_law_68 20 rfl rfl)
theorem dL_law_1768 : decode cL_law 1768 = .ok (.ireturn, 1) := dk_172 (dk_at dksL_law_68 21 rfl rfl)
theorem dL_law_1769 : decode cL_law 1769 = .ok (.goto 626, 3) := dk_167 2 114 (dk_at dksL_law_69 0 rfl rfl)
theorem dL_law_1772 : decode cL_law 1772 = .ok (.aload_n 1, 1) := dk_43 (dk_at dksL_law_69 3 rfl rfl)
theorem dL_law_1773 : decode cL_law 1773 = .ok (.aload_n 0, 1) := dk_42 (dk_at dksL_law_69 4 rfl rfl)
theorem dL_law_1774 : decode cL_law 1774 = .ok (.iload 5, 2) := dk_21 5 (dk_at dksL_law_69 5 rfl rfl)
theorem dL_law_1776 : decode cL_law 1776 = .ok (.iconst 1, 1) := dk_4 (dk_at dksL_law_69 7 rfl rfl)
theorem dL_law_1777 : decode cL_law 1777 = .ok (.iadd, 1) := dk_96 (dk_at dksL_law_69 8 rfl rfl)
theorem dL_law_1778 : decode cL_law 1778 = .ok (.iaload, 1) := dk_46 (dk_at dksL_law_69 9 rfl rfl)
theorem dL_law_1779 : decode cL_law 1779 = .ok (.aload_n 0, 1) := dk_42 (dk_at dksL_law_69 10 rfl rfl)
theorem dL_law_1780 : decode cL_law 1780 = .ok (.iload 5, 2) := dk_21 5 (dk_at dksL_law_69 11 rfl rfl)
theorem dL_law_1782 : decode cL_law 1782 = .ok (.iconst 2, 1) := dk_5 (dk_at dksL_law_69 13 rfl rfl)
theorem dL_law_1783 : decode cL_law 1783 = .ok (.iadd, 1) := dk_96 (dk_at dksL_law_69 14 rfl rfl)
theorem dL_law_1784 : decode cL_law 1784 = .ok (.iaload, 1) := dk_46 (dk_at dksL_law_69 15 rfl rfl)
theorem dL_law_1785 : decode cL_law 1785 = .ok (.ifCond .eq 7, 3) := dk_153 0 7 (dk_at dksL_law_69 16 rfl rfl)
theorem dL_law_1788 : decode cL_law 1788 = .ok (.iconst 1, 1) := dk_4 (dk_at dksL_law_69 19 rfl rfl)
theorem dL_law_1789 : decode cL_law 1789 = .ok (.goto 4, 3) := dk_167 0 4 (dk_at dksL_law_69 20 rfl rfl)
theorem dL_law_1792 : decode cL_law 1792 = .ok (.iconst 0, 1) := dk_3 (dk_at dksL_law_69 23 rfl rfl)
theorem dL_law_1793 : decode cL_law 1793 = .ok (.aload_n 3, 1) := dk_45 (dk_at dksL_law_70 0 rfl rfl)
theorem dL_law_1794 : decode cL_law 1794 = .ok (.invokestatic 213, 3) := dk_184 0 213 (dk_at dksL_law_70 1 rfl rfl)
theorem dL_law_1797 : decode cL_law 1797 = .ok (.istore 6, 2) := dk_54 6 (dk_at dksL_law_70 4 rfl rfl)
theorem dL_law_1799 : decode cL_law 1799 = .ok (.aload_n 2, 1) := dk_44 (dk_at dksL_law_70 6 rfl rfl)
theorem dL_law_1800 : decode cL_law 1800 = .ok (.aload_n 0, 1) := dk_42 (dk_at dksL_law_70 7 rfl rfl)
theorem dL_law_1801 : decode cL_law 1801 = .ok (.iload 5, 2) := dk_21 5 (dk_at dksL_law_70 8 rfl rfl)
theorem dL_law_1803 : decode cL_law 1803 = .ok (.iconst 1, 1) := dk_4 (dk_at dksL_law_70 10 rfl rfl)
theorem dL_law_1804 : decode cL_law 1804 = .ok (.iadd, 1) := dk_96 (dk_at dksL_law_70 11 rfl rfl)
theorem dL_law_1805 : decode cL_law 1805 = .ok (.iaload, 1) := dk_46 (dk_at dksL_law_70 12 rfl rfl)
theorem dL_law_1806 : decode cL_law 1806 = .ok (.aload_n 0, 1) := dk_42 (dk_at dksL_law_70 13 rfl rfl)
theorem dL_law_1807 : decode cL_law 1807 = .ok (.iload 5, 2) := dk_21 5 (dk_at dksL_law_70 14 rfl rfl)
theorem dL_law_1809 : decode cL_law 1809 = .ok (.iconst 2, 1) := dk_5 (dk_at dksL_law_70 16 rfl rfl)
theorem dL_law_1810 : decode cL_law 1810 = .ok (.iadd, 1) := dk_96 (dk_at dksL_law_70 17 rfl rfl)
theorem dL_law_1811 : decode cL_law 1811 = .ok (.iaload, 1) := dk_46 (dk_at dksL_law_70 18 rfl rfl)
theorem dL_law_1812 : decode cL_law 1812 = .ok (.ifCond .eq 7, 3) := dk_153 0 7 (dk_at dksL_law_70 19 rfl rfl)
theorem dL_law_1815 : decode cL_law 1815 = .ok (.iconst 1, 1) := dk_4 (dk_at dksL_law_70 22 rfl rfl)
theorem dL_law_1816 : decode cL_law 1816 = .ok (.goto 4, 3) := dk_167 0 4 (dk_at dksL_law_71 0 rfl rfl)
theorem dL_law_1819 : decode cL_law 1819 = .ok (.iconst 0, 1) := dk_3 (dk_at dksL_law_71 3 rfl rfl)
theorem dL_law_1820 : decode cL_law 1820 = .ok (.invokevirtual 216, 3) := dk_182 0 216 (dk_at dksL_law_71 4 rfl rfl)
theorem dL_law_1823 : decode cL_law 1823 = .ok (.istore 7, 2) := dk_54 7 (dk_at dksL_law_71 7 rfl rfl)
theorem dL_law_1825 : decode cL_law 1825 = .ok (.aload_n 2, 1) := dk_44 (dk_at dksL_law_71 9 rfl rfl)
theorem dL_law_1826 : decode cL_law 1826 = .ok (.invokevirtual 137, 3) := dk_182 0 137 (dk_at dksL_law_71 10 rfl rfl)
theorem dL_law_1829 : decode cL_law 1829 = .ok (.iload 6, 2) := dk_21 6 (dk_at dksL_law_71 13 rfl rfl)
theorem dL_law_1831 : decode cL_law 1831 = .ok (.if_icmp .eq 5, 3) := dk_159 0 5 (dk_at dksL_law_71 15 rfl rfl)
theorem dL_law_1834 : decode cL_law 1834 = .ok (.iconst 0, 1) := dk_3 (dk_at dksL_law_71 18 rfl rfl)
theorem dL_law_1835 : decode cL_law 1835 = .ok (.ireturn, 1) := dk_172 (dk_at dksL_law_71 19 rfl rfl)
theorem dL_law_1836 : decode cL_law 1836 = .ok (.iload 6, 2) := dk_21 6 (dk_at dksL_law_71 20 rfl rfl)
theorem dL_law_1838 : decode cL_law 1838 = .ok (.ifCond .ne 15, 3) := dk_154 0 15 (dk_at dksL_law_72 0 rfl rfl)
theorem dL_law_1841 : decode cL_law 1841 = .ok (.aload_n 3, 1) := dk_45 (dk_at dksL_law_72 3 rfl rfl)
theorem dL_law_1842 : decode cL_law 1842 = .ok (.iconst 0, 1) := dk_3 (dk_at dksL_law_72 4 rfl rfl)
theorem dL_law_1843 : decode cL_law 1843 = .ok (.laload, 1) := dk_47 (dk_at dksL_law_72 5 rfl rfl)
theorem dL_law_1844 : decode cL_law 1844 = .ok (.iload 7, 2) := dk_21 7 (dk_at dksL_law_72 6 rfl rfl)
theorem dL_law_1846 : decode cL_law 1846 = .ok (.i2l, 1) := dk_133 (dk_at dksL_law_72 8 rfl rfl)
theorem dL_law_1847 : decode cL_law 1847 = .ok (.lcmp, 1) := dk_148 (dk_at dksL_law_72 9 rfl rfl)
theorem dL_law_1848 : decode cL_law 1848 = .ok (.ifCond .eq 5, 3) := dk_153 0 5 (dk_at dksL_law_72 10 rfl rfl)
theorem dL_law_1851 : decode cL_law 1851 = .ok (.iconst 0, 1) := dk_3 (dk_at dksL_law_72 13 rfl rfl)
theorem dL_law_1852 : decode cL_law 1852 = .ok (.ireturn, 1) := dk_172 (dk_at dksL_law_72 14 rfl rfl)
theorem dL_law_1853 : decode cL_law 1853 = .ok (.goto 542, 3) := dk_167 2 30 (dk_at dksL_law_72 15 rfl rfl)
theorem dL_law_1856 : decode cL_law 1856 = .ok (.aload_n 1, 1) := dk_43 (dk_at dksL_law_72 18 rfl rfl)
theorem dL_law_1857 : decode cL_law 1857 = .ok (.invokevirtual 217, 3) := dk_182 0 217 (dk_at dksL_law_72 19 rfl rfl)
theorem dL_law_1860 : decode cL_law 1860 = .ok (.aload_n 2, 1) := dk_44 (dk_at dksL_law_72 22 rfl rfl)
theorem dL_law_1861 : decode cL_law 1861 = .ok (.invokevirtual 220, 3) := dk_182 0 220 (dk_at dksL_law_73 0 rfl rfl)
theorem dL_law_1864 : decode cL_law 1864 = .ok (.if_icmp .eq 531, 3) := dk_159 2 19 (dk_at dksL_law_73 3 rfl rfl)
theorem dL_law_1867 : decode cL_law 1867 = .ok (.iconst 0, 1) := dk_3 (dk_at dksL_law_73 6 rfl rfl)
theorem dL_law_1868 : decode cL_law 1868 = .ok (.ireturn, 1) := dk_172 (dk_at dksL_law_73 7 rfl rfl)
theorem dL_law_1869 : decode cL_law 1869 = .ok (.aload_n 1, 1) := dk_43 (dk_at dksL_law_73 8 rfl rfl)
theorem dL_law_1870 : decode cL_law 1870 = .ok (.aload_n 0, 1) := dk_42 (dk_at dksL_law_73 9 rfl rfl)
theorem dL_law_1871 : decode cL_law 1871 = .ok (.iload 5, 2) := dk_21 5 (dk_at dksL_law_73 10 rfl rfl)
theorem dL_law_1873 : decode cL_law 1873 = .ok (.iconst 1, 1) := dk_4 (dk_at dksL_law_73 12 rfl rfl)
theorem dL_law_1874 : decode cL_law 1874 = .ok (.iadd, 1) := dk_96 (dk_at dksL_law_73 13 rfl rfl)
theorem dL_law_1875 : decode cL_law 1875 = .ok (.iaload, 1) := dk_46 (dk_at dksL_law_73 14 rfl rfl)
theorem dL_law_1876 : decode cL_law 1876 = .ok (.aload_n 3, 1) := dk_45 (dk_at dksL_law_73 15 rfl rfl)
theorem dL_law_1877 : decode cL_law 1877 = .ok (.invokestatic 221, 3) := dk_184 0 221 (dk_at dksL_law_73 16 rfl rfl)
theorem dL_law_1880 : decode cL_law 1880 = .ok (.istore 6, 2) := dk_54 6 (dk_at dksL_law_73 19 rfl rfl)
theorem dL_law_1882 : decode cL_law 1882 = .ok (.aload_n 2, 1) := dk_44 (dk_at dksL_law_73 21 rfl rfl)
theorem dL_law_1883 : decode cL_law 1883 = .ok (.aload_n 0, 1) := dk_42 (dk_at dksL_law_73 22 rfl rfl)
theorem dL_law_1884 : decode cL_law 1884 = .ok (.iload 5, 2) := dk_21 5 (dk_at dksL_law_74 0 rfl rfl)
theorem dL_law_1886 : decode cL_law 1886 = .ok (.iconst 1, 1) := dk_4 (dk_at dksL_law_74 2 rfl rfl)
theorem dL_law_1887 : decode cL_law 1887 = .ok (.iadd, 1) := dk_96 (dk_at dksL_law_74 3 rfl rfl)
theorem dL_law_1888 : decode cL_law 1888 = .ok (.iaload, 1) := dk_46 (dk_at dksL_law_74 4 rfl rfl)
theorem dL_law_1889 : decode cL_law 1889 = .ok (.invokevirtual 223, 3) := dk_182 0 223 (dk_at dksL_law_74 5 rfl rfl)
theorem dL_law_1892 : decode cL_law 1892 = .ok (.istore 7, 2) := dk_54 7 (dk_at dksL_law_74 8 rfl rfl)
theorem dL_law_1894 : decode cL_law 1894 = .ok (.aload_n 2, 1) := dk_44 (dk_at dksL_law_74 10 rfl rfl)
theorem dL_law_1895 : decode cL_law 1895 = .ok (.invokevirtual 137, 3) := dk_182 0 137 (dk_at dksL_law_74 11 rfl rfl)
theorem dL_law_1898 : decode cL_law 1898 = .ok (.iload 6, 2) := dk_21 6 (dk_at dksL_law_74 14 rfl rfl)
theorem dL_law_1900 : decode cL_law 1900 = .ok (.if_icmp .eq 5, 3) := dk_159 0 5 (dk_at dksL_law_74 16 rfl rfl)
theorem dL_law_1903 : decode cL_law 1903 = .ok (.iconst 0, 1) := dk_3 (dk_at dksL_law_74 19 rfl rfl)
theorem dL_law_1904 : decode cL_law 1904 = .ok (.ireturn, 1) := dk_172 (dk_at dksL_law_74 20 rfl rfl)
theorem dL_law_1905 : decode cL_law 1905 = .ok (.iload 6, 2) := dk_21 6 (dk_at dksL_law_74 21 rfl rfl)
theorem dL_law_1907 : decode cL_law 1907 = .ok (.ifCond .ne 15, 3) := dk_154 0 15 (dk_at dksL_law_75 0 rfl rfl)
theorem dL_law_1910 : decode cL_law 1910 = .ok (.aload_n 3, 1) := dk_45 (dk_at dksL_law_75 3 rfl rfl)
theorem dL_law_1911 : decode cL_law 1911 = .ok (.iconst 0, 1) := dk_3 (dk_at dksL_law_75 4 rfl rfl)
theorem dL_law_1912 : decode cL_law 1912 = .ok (.laload, 1) := dk_47 (dk_at dksL_law_75 5 rfl rfl)
theorem dL_law_1913 : decode cL_law 1913 = .ok (.iload 7, 2) := dk_21 7 (dk_at dksL_law_75 6 rfl rfl)
theorem dL_law_1915 : decode cL_law 1915 = .ok (.i2l, 1) := dk_133 (dk_at dksL_law_75 8 rfl rfl)
theorem dL_law_1916 : decode cL_law 1916 = .ok (.lcmp, 1) := dk_148 (dk_at dksL_law_75 9 rfl rfl)
theorem dL_law_1917 : decode cL_law 1917 = .ok (.ifCond .eq 5, 3) := dk_153 0 5 (dk_at dksL_law_75 10 rfl rfl)
theorem dL_law_1920 : decode cL_law 1920 = .ok (.iconst 0, 1) := dk_3 (dk_at dksL_law_75 13 rfl rfl)
theorem dL_law_1921 : decode cL_law 1921 = .ok (.ireturn, 1) := dk_172 (dk_at dksL_law_75 14 rfl rfl)
theorem dL_law_1922 : decode cL_law 1922 = .ok (.goto 473, 3) := dk_167 1 217 (dk_at dksL_law_75 15 rfl rfl)
theorem dL_law_1925 : decode cL_law 1925 = .ok (.aload_n 1, 1) := dk_43 (dk_at dksL_law_75 18 rfl rfl)
theorem dL_law_1926 : decode cL_law 1926 = .ok (.aload_n 0, 1) := dk_42 (dk_at dksL_law_75 19 rfl rfl)
theorem dL_law_1927 : decode cL_law 1927 = .ok (.iload 5, 2) := dk_21 5 (dk_at dksL_law_75 20 rfl rfl)
theorem dL_law_1929 : decode cL_law 1929 = .ok (.iconst 1, 1) := dk_4 (dk_at dksL_law_75 22 rfl rfl)
theorem dL_law_1930 : decode cL_law 1930 = .ok (.iadd, 1) := dk_96 (dk_at dksL_law_75 23 rfl rfl)
theorem dL_law_1931 : decode cL_law 1931 = .ok (.iaload, 1) := dk_46 (dk_at dksL_law_76 0 rfl rfl)
theorem dL_law_1932 : decode cL_law 1932 = .ok (.aload_n 3, 1) := dk_45 (dk_at dksL_law_76 1 rfl rfl)
theorem dL_law_1933 : decode cL_law 1933 = .ok (.invokestatic 224, 3) := dk_184 0 224 (dk_at dksL_law_76 2 rfl rfl)
theorem dL_law_1936 : decode cL_law 1936 = .ok (.istore 6, 2) := dk_54 6 (dk_at dksL_law_76 5 rfl rfl)
theorem dL_law_1938 : decode cL_law 1938 = .ok (.aload_n 2, 1) := dk_44 (dk_at dksL_law_76 7 rfl rfl)
theorem dL_law_1939 : decode cL_law 1939 = .ok (.aload_n 0, 1) := dk_42 (dk_at dksL_law_76 8 rfl rfl)
theorem dL_law_1940 : decode cL_law 1940 = .ok (.iload 5, 2) := dk_21 5 (dk_at dksL_law_76 9 rfl rfl)
theorem dL_law_1942 : decode cL_law 1942 = .ok (.iconst 1, 1) := dk_4 (dk_at dksL_law_76 11 rfl rfl)
theorem dL_law_1943 : decode cL_law 1943 = .ok (.iadd, 1) := dk_96 (dk_at dksL_law_76 12 rfl rfl)
theorem dL_law_1944 : decode cL_law 1944 = .ok (.iaload, 1) := dk_46 (dk_at dksL_law_76 13 rfl rfl)
theorem dL_law_1945 : decode cL_law 1945 = .ok (.invokevirtual 226, 3) := dk_182 0 226 (dk_at dksL_law_76 14 rfl rfl)
theorem dL_law_1948 : decode cL_law 1948 = .ok (.istore 7, 2) := dk_54 7 (dk_at dksL_law_76 17 rfl rfl)
theorem dL_law_1950 : decode cL_law 1950 = .ok (.aload_n 2, 1) := dk_44 (dk_at dksL_law_76 19 rfl rfl)
theorem dL_law_1951 : decode cL_law 1951 = .ok (.invokevirtual 137, 3) := dk_182 0 137 (dk_at dksL_law_76 20 rfl rfl)
theorem dL_law_1954 : decode cL_law 1954 = .ok (.iload 6, 2) := dk_21 6 (dk_at dksL_law_77 0 rfl rfl)
theorem dL_law_1956 : decode cL_law 1956 = .ok (.if_icmp .eq 5, 3) := dk_159 0 5 (dk_at dksL_law_77 2 rfl rfl)
theorem dL_law_1959 : decode cL_law 1959 = .ok (.iconst 0, 1) := dk_3 (dk_at dksL_law_77 5 rfl rfl)
theorem dL_law_1960 : decode cL_law 1960 = .ok (.ireturn, 1) := dk_172 (dk_at dksL_law_77 6 rfl rfl)
theorem dL_law_1961 : decode cL_law 1961 = .ok (.iload 6, 2) := dk_21 6 (dk_at dksL_law_77 7 rfl rfl)
theorem dL_law_1963 : decode cL_law 1963 = .ok (.ifCond .ne 15, 3) := dk_154 0 15 (dk_at dksL_law_77 9 rfl rfl)
theorem dL_law_1966 : decode cL_law 1966 = .ok (.aload_n 3, 1) := dk_45 (dk_at dksL_law_77 12 rfl rfl)
theorem dL_law_1967 : decode cL_law 1967 = .ok (.iconst 0, 1) := dk_3 (dk_at dksL_law_77 13 rfl rfl)
theorem dL_law_1968 : decode cL_law 1968 = .ok (.laload, 1) := dk_47 (dk_at dksL_law_77 14 rfl rfl)
theorem dL_law_1969 : decode cL_law 1969 = .ok (.iload 7, 2) := dk_21 7 (dk_at dksL_law_77 15 rfl rfl)
theorem dL_law_1971 : decode cL_law 1971 = .ok (.i2l, 1) := dk_133 (dk_at dksL_law_77 17 rfl rfl)
theorem dL_law_1972 : decode cL_law 1972 = .ok (.lcmp, 1) := dk_148 (dk_at dksL_law_77 18 rfl rfl)
theorem dL_law_1973 : decode cL_law 1973 = .ok (.ifCond .eq 5, 3) := dk_153 0 5 (dk_at dksL_law_77 19 rfl rfl)
theorem dL_law_1976 : decode cL_law 1976 = .ok (.iconst 0, 1) := dk_3 (dk_at dksL_law_77 22 rfl rfl)
theorem dL_law_1977 : decode cL_law 1977 = .ok (.ireturn, 1) := dk_172 (dk_at dksL_law_77 23 rfl rfl)
theorem dL_law_1978 : decode cL_law 1978 = .ok (.goto 417, 3) := dk_167 1 161 (dk_at dksL_law_78 0 rfl rfl)
theorem dL_law_1981 : decode cL_law 1981 = .ok (.aload_n 1, 1) := dk_43 (dk_at dksL_law_78 3 rfl rfl)
theorem dL_law_1982 : decode cL_law 1982 = .ok (.aload_n 0, 1) := dk_42 (dk_at dksL_law_78 4 rfl rfl)
theorem dL_law_1983 : decode cL_law 1983 = .ok (.iload 5, 2) := dk_21 5 (dk_at dksL_law_78 5 rfl rfl)
theorem dL_law_1985 : decode cL_law 1985 = .ok (.iconst 1, 1) := dk_4 (dk_at dksL_law_78 7 rfl rfl)
theorem dL_law_1986 : decode cL_law 1986 = .ok (.iadd, 1) := dk_96 (dk_at dksL_law_78 8 rfl rfl)
theorem dL_law_1987 : decode cL_law 1987 = .ok (.iaload, 1) := dk_46 (dk_at dksL_law_78 9 rfl rfl)
theorem dL_law_1988 : decode cL_law 1988 = .ok (.i2c, 1) := dk_146 (dk_at dksL_law_78 10 rfl rfl)
theorem dL_law_1989 : decode cL_law 1989 = .ok (.aload_n 3, 1) := dk_45 (dk_at dksL_law_78 11 rfl rfl)
theorem dL_law_1990 : decode cL_law 1990 = .ok (.invokestatic 227, 3) := dk_184 0 227 (dk_at dksL_law_78 12 rfl rfl)
theorem dL_law_1993 : decode cL_law 1993 = .ok (.istore 6, 2) := dk_54 6 (dk_at dksL_law_78 15 rfl rfl)
theorem dL_law_1995 : decode cL_law 1995 = .ok (.aload_n 2, 1) := dk_44 (dk_at dksL_law_78 17 rfl rfl)
theorem dL_law_1996 : decode cL_law 1996 = .ok (.aload_n 0, 1) := dk_42 (dk_at dksL_law_78 18 rfl rfl)
theorem dL_law_1997 : decode cL_law 1997 = .ok (.iload 5, 2) := dk_21 5 (dk_at dksL_law_78 19 rfl rfl)
theorem dL_law_1999 : decode cL_law 1999 = .ok (.iconst 1, 1) := dk_4 (dk_at dksL_law_78 21 rfl rfl)
theorem dL_law_2000 : decode cL_law 2000 = .ok (.iadd, 1) := dk_96 (dk_at dksL_law_78 22 rfl rfl)
theorem dL_law_2001 : decode cL_law 2001 = .ok (.iaload, 1) := dk_46 (dk_at dksL_law_78 23 rfl rfl)
theorem dL_law_2002 : decode cL_law 2002 = .ok (.i2c, 1) := dk_146 (dk_at dksL_law_79 0 rfl rfl)
theorem dL_law_2003 : decode cL_law 2003 = .ok (.invokevirtual 230, 3) := dk_182 0 230 (dk_at dksL_law_79 1 rfl rfl)
theorem dL_law_2006 : decode cL_law 2006 = .ok (.istore 7, 2) := dk_54 7 (dk_at dksL_law_79 4 rfl rfl)
theorem dL_law_2008 : decode cL_law 2008 = .ok (.aload_n 2, 1) := dk_44 (dk_at dksL_law_79 6 rfl rfl)
theorem dL_law_2009 : decode cL_law 2009 = .ok (.invokevirtual 137, 3) := dk_182 0 137 (dk_at dksL_law_79 7 rfl rfl)
theorem dL_law_2012 : decode cL_law 2012 = .ok (.iload 6, 2) := dk_21 6 (dk_at dksL_law_79 10 rfl rfl)
theorem dL_law_2014 : decode cL_law 2014 = .ok (.if_icmp .eq 5, 3) := dk_159 0 5 (dk_at dksL_law_79 12 rfl rfl)
theorem dL_law_2017 : decode cL_law 2017 = .ok (.iconst 0, 1) := dk_3 (dk_at dksL_law_79 15 rfl rfl)
theorem dL_law_2018 : decode cL_law 2018 = .ok (.ireturn, 1) := dk_172 (dk_at dksL_law_79 16 rfl rfl)
theorem dL_law_2019 : decode cL_law 2019 = .ok (.iload 6, 2) := dk_21 6 (dk_at dksL_law_79 17 rfl rfl)
theorem dL_law_2021 : decode cL_law 2021 = .ok (.ifCond .ne 15, 3) := dk_154 0 15 (dk_at dksL_law_79 19 rfl rfl)
theorem dL_law_2024 : decode cL_law 2024 = .ok (.aload_n 3, 1) := dk_45 (dk_at dksL_law_79 22 rfl rfl)
theorem dL_law_2025 : decode cL_law 2025 = .ok (.iconst 0, 1) := dk_3 (dk_at dksL_law_79 23 rfl rfl)
theorem dL_law_2026 : decode cL_law 2026 = .ok (.laload, 1) := dk_47 (dk_at dksL_law_80 0 rfl rfl)
theorem dL_law_2027 : decode cL_law 2027 = .ok (.iload 7, 2) := dk_21 7 (dk_at dksL_law_80 1 rfl rfl)
theorem dL_law_2029 : decode cL_law 2029 = .ok (.i2l, 1) := dk_133 (dk_at dksL_law_80 3 rfl rfl)
theorem dL_law_2030 : decode cL_law 2030 = .ok (.lcmp, 1) := dk_148 (dk_at dksL_law_80 4 rfl rfl)
theorem dL_law_2031 : decode cL_law 2031 = .ok (.ifCond .eq 5, 3) := dk_153 0 5 (dk_at dksL_law_80 5 rfl rfl)
theorem dL_law_2034 : decode cL_law 2034 = .ok (.iconst 0, 1) := dk_3 (dk_at dksL_law_80 8 rfl rfl)
theorem dL_law_2035 : decode cL_law 2035 = .ok (.ireturn, 1) := dk_172 (dk_at dksL_law_80 9 rfl rfl)
theorem dL_law_2036 : decode cL_law 2036 = .ok (.goto 359, 3) := dk_167 1 103 (dk_at dksL_law_80 10 rfl rfl)
theorem dL_law_2039 : decode cL_law 2039 = .ok (.aload_n 1, 1) := dk_43 (dk_at dksL_law_80 13 rfl rfl)
theorem dL_law_2040 : decode cL_law 2040 = .ok (.aload_n 3, 1) := dk_45 (dk_at dksL_law_80 14 rfl rfl)
theorem dL_law_2041 : decode cL_law 2041 = .ok (.invokestatic 231, 3) := dk_184 0 231 (dk_at dksL_law_80 15 rfl rfl)
theorem dL_law_2044 : decode cL_law 2044 = .ok (.istore 6, 2) := dk_54 6 (dk_at dksL_law_80 18 rfl rfl)
theorem dL_law_2046 : decode cL_law 2046 = .ok (.aload_n 2, 1) := dk_44 (dk_at dksL_law_80 20 rfl rfl)
theorem dL_law_2047 : decode cL_law 2047 = .ok (.invokevirtual 233, 3) := dk_182 0 233 (dk_at dksL_law_80 21 rfl rfl)
theorem dL_law_2050 : decode cL_law 2050 = .ok (.istore 7, 2) := dk_54 7 (dk_at dksL_law_81 0 rfl rfl)
theorem dL_law_2052 : decode cL_law 2052 = .ok (.aload_n 2, 1) := dk_44 (dk_at dksL_law_81 2 rfl rfl)
theorem dL_law_2053 : decode cL_law 2053 = .ok (.invokevirtual 137, 3) := dk_182 0 137 (dk_at dksL_law_81 3 rfl rfl)
theorem dL_law_2056 : decode cL_law 2056 = .ok (.iload 6, 2) := dk_21 6 (dk_at dksL_law_81 6 rfl rfl)
theorem dL_law_2058 : decode cL_law 2058 = .ok (.if_icmp .eq 5, 3) := dk_159 0 5 (dk_at dksL_law_81 8 rfl rfl)
theorem dL_law_2061 : decode cL_law 2061 = .ok (.iconst 0, 1) := dk_3 (dk_at dksL_law_81 11 rfl rfl)
theorem dL_law_2062 : decode cL_law 2062 = .ok (.ireturn, 1) := dk_172 (dk_at dksL_law_81 12 rfl rfl)
theorem dL_law_2063 : decode cL_law 2063 = .ok (.iload 6, 2) := dk_21 6 (dk_at dksL_law_81 13 rfl rfl)
theorem dL_law_2065 : decode cL_law 2065 = .ok (.ifCond .ne 15, 3) := dk_154 0 15 (dk_at dksL_law_81 15 rfl rfl)
theorem dL_law_2068 : decode cL_law 2068 = .ok (.aload_n 3, 1) := dk_45 (dk_at dksL_law_81 18 rfl rfl)
theorem dL_law_2069 : decode cL_law 2069 = .ok (.iconst 0, 1) := dk_3 (dk_at dksL_law_81 19 rfl rfl)
theorem dL_law_2070 : decode cL_law 2070 = .ok (.laload, 1) := dk_47 (dk_at dksL_law_81 20 rfl rfl)
theorem dL_law_2071 : decode cL_law 2071 = .ok (.iload 7, 2) := dk_21 7 (dk_at dksL_law_81 21 rfl rfl)
theorem dL_law_2073 : decode cL_law 2073 = .ok (.i2l, 1) := dk_133 (dk_at dksL_law_81 23 rfl rfl)
theorem dL_law_2074 : decode cL_law 2074 = .ok (.lcmp, 1) := dk_148 (dk_at dksL_law_82 0 rfl rfl)
theorem dL_law_2075 : decode cL_law 2075 = .ok (.ifCond .eq 5, 3) := dk_153 0 5 (dk_at dksL_law_82 1 rfl rfl)
theorem dL_law_2078 : decode cL_law 2078 = .ok (.iconst 0, 1) := dk_3 (dk_at dksL_law_82 4 rfl rfl)
theorem dL_law_2079 : decode cL_law 2079 = .ok (.ireturn, 1) := dk_172 (dk_at dksL_law_82 5 rfl rfl)
theorem dL_law_2080 : decode cL_law 2080 = .ok (.goto 315, 3) := dk_167 1 59 (dk_at dksL_law_82 6 rfl rfl)
theorem dL_law_2083 : decode cL_law 2083 = .ok (.aload_n 1, 1) := dk_43 (dk_at dksL_law_82 9 rfl rfl)
theorem dL_law_2084 : decode cL_law 2084 = .ok (.invokevirtual 234, 3) := dk_182 0 234 (dk_at dksL_law_82 10 rfl rfl)
theorem dL_law_2087 : decode cL_law 2087 = .ok (.aload_n 2, 1) := dk_44 (dk_at dksL_law_82 13 rfl rfl)
theorem dL_law_2088 : decode cL_law 2088 = .ok (.invokevirtual 237, 3) := dk_182 0 237 (dk_at dksL_law_82 14 rfl rfl)
theorem dL_law_2091 : decode cL_law 2091 = .ok (.if_icmp .eq 304, 3) := dk_159 1 48 (dk_at dksL_law_82 17 rfl rfl)
theorem dL_law_2094 : decode cL_law 2094 = .ok (.iconst 0, 1) := dk_3 (dk_at dksL_law_82 20 rfl rfl)
theorem dL_law_2095 : decode cL_law 2095 = .ok (.ireturn, 1) := dk_172 (dk_at dksL_law_82 21 rfl rfl)
theorem dL_law_2096 : decode cL_law 2096 = .ok (.aload_n 1, 1) := dk_43 (dk_at dksL_law_82 22 rfl rfl)
theorem dL_law_2097 : decode cL_law 2097 = .ok (.aload_n 0, 1) := dk_42 (dk_at dksL_law_82 23 rfl rfl)
theorem dL_law_2098 : decode cL_law 2098 = .ok (.iload 5, 2) := dk_21 5 (dk_at dksL_law_83 0 rfl rfl)
theorem dL_law_2100 : decode cL_law 2100 = .ok (.iconst 1, 1) := dk_4 (dk_at dksL_law_83 2 rfl rfl)
theorem dL_law_2101 : decode cL_law 2101 = .ok (.iadd, 1) := dk_96 (dk_at dksL_law_83 3 rfl rfl)
theorem dL_law_2102 : decode cL_law 2102 = .ok (.iaload, 1) := dk_46 (dk_at dksL_law_83 4 rfl rfl)
theorem dL_law_2103 : decode cL_law 2103 = .ok (.ifCond .eq 7, 3) := dk_153 0 7 (dk_at dksL_law_83 5 rfl rfl)
theorem dL_law_2106 : decode cL_law 2106 = .ok (.iconst 1, 1) := dk_4 (dk_at dksL_law_83 8 rfl rfl)
theorem dL_law_2107 : decode cL_law 2107 = .ok (.goto 4, 3) := dk_167 0 4 (dk_at dksL_law_83 9 rfl rfl)
theorem dL_law_2110 : decode cL_law 2110 = .ok (.iconst 0, 1) := dk_3 (dk_at dksL_law_83 12 rfl rfl)
theorem dL_law_2111 : decode cL_law 2111 = .ok (.aload_n 3, 1) := dk_45 (dk_at dksL_law_83 13 rfl rfl)
theorem dL_law_2112 : decode cL_law 2112 = .ok (.invokestatic 238, 3) := dk_184 0 238 (dk_at dksL_law_83 14 rfl rfl)
theorem dL_law_2115 : decode cL_law 2115 = .ok (.istore 6, 2) := dk_54 6 (dk_at dksL_law_83 17 rfl rfl)
theorem dL_law_2117 : decode cL_law 2117 = .ok (.aload_n 2, 1) := dk_44 (dk_at dksL_law_83 19 rfl rfl)
theorem dL_law_2118 : decode cL_law 2118 = .ok (.aload_n 0, 1) := dk_42 (dk_at dksL_law_83 20 rfl rfl)
theorem dL_law_2119 : decode cL_law 2119 = .ok (.iload 5, 2) := dk_21 5 (dk_at dksL_law_83 21 rfl rfl)
theorem dL_law_2121 : decode cL_law 2121 = .ok (.iconst 1, 1) := dk_4 (dk_at dksL_law_83 23 rfl rfl)
theorem dL_law_2122 : decode cL_law 2122 = .ok (.iadd, 1) := dk_96 (dk_at dksL_law_84 0 rfl rfl)
theorem dL_law_2123 : decode cL_law 2123 = .ok (.iaload, 1) := dk_46 (dk_at dksL_law_84 1 rfl rfl)
theorem dL_law_2124 : decode cL_law 2124 = .ok (.ifCond .eq 7, 3) := dk_153 0 7 (dk_at dksL_law_84 2 rfl rfl)
theorem dL_law_2127 : decode cL_law 2127 = .ok (.iconst 1, 1) := dk_4 (dk_at dksL_law_84 5 rfl rfl)
theorem dL_law_2128 : decode cL_law 2128 = .ok (.goto 4, 3) := dk_167 0 4 (dk_at dksL_law_84 6 rfl rfl)
theorem dL_law_2131 : decode cL_law 2131 = .ok (.iconst 0, 1) := dk_3 (dk_at dksL_law_84 9 rfl rfl)
theorem dL_law_2132 : decode cL_law 2132 = .ok (.invokevirtual 241, 3) := dk_182 0 241 (dk_at dksL_law_84 10 rfl rfl)
theorem dL_law_2135 : decode cL_law 2135 = .ok (.istore 7, 2) := dk_54 7 (dk_at dksL_law_84 13 rfl rfl)
theorem dL_law_2137 : decode cL_law 2137 = .ok (.aload_n 2, 1) := dk_44 (dk_at dksL_law_84 15 rfl rfl)
theorem dL_law_2138 : decode cL_law 2138 = .ok (.invokevirtual 137, 3) := dk_182 0 137 (dk_at dksL_law_84 16 rfl rfl)
theorem dL_law_2141 : decode cL_law 2141 = .ok (.iload 6, 2) := dk_21 6 (dk_at dksL_law_84 19 rfl rfl)
theorem dL_law_2143 : decode cL_law 2143 = .ok (.if_icmp .eq 5, 3) := dk_159 0 5 (dk_at dksL_law_84 21 rfl rfl)
theorem dL_law_2146 : decode cL_law 2146 = .ok (.iconst 0, 1) := dk_3 (dk_at dksL_law_85 0 rfl rfl)
theorem dL_law_2147 : decode cL_law 2147 = .ok (.ireturn, 1) := dk_172 (dk_at dksL_law_85 1 rfl rfl)
theorem dL_law_2148 : decode cL_law 2148 = .ok (.iload 6, 2) := dk_21 6 (dk_at dksL_law_85 2 rfl rfl)
theorem dL_law_2150 : decode cL_law 2150 = .ok (.ifCond .ne 15, 3) := dk_154 0 15 (dk_at dksL_law_85 4 rfl rfl)
theorem dL_law_2153 : decode cL_law 2153 = .ok (.aload_n 3, 1) := dk_45 (dk_at dksL_law_85 7 rfl rfl)
theorem dL_law_2154 : decode cL_law 2154 = .ok (.iconst 0, 1) := dk_3 (dk_at dksL_law_85 8 rfl rfl)
theorem dL_law_2155 : decode cL_law 2155 = .ok (.laload, 1) := dk_47 (dk_at dksL_law_85 9 rfl rfl)
theorem dL_law_2156 : decode cL_law 2156 = .ok (.iload 7, 2) := dk_21 7 (dk_at dksL_law_85 10 rfl rfl)
theorem dL_law_2158 : decode cL_law 2158 = .ok (.i2l, 1) := dk_133 (dk_at dksL_law_85 12 rfl rfl)
theorem dL_law_2159 : decode cL_law 2159 = .ok (.lcmp, 1) := dk_148 (dk_at dksL_law_85 13 rfl rfl)
theorem dL_law_2160 : decode cL_law 2160 = .ok (.ifCond .eq 5, 3) := dk_153 0 5 (dk_at dksL_law_85 14 rfl rfl)
theorem dL_law_2163 : decode cL_law 2163 = .ok (.iconst 0, 1) := dk_3 (dk_at dksL_law_85 17 rfl rfl)
theorem dL_law_2164 : decode cL_law 2164 = .ok (.ireturn, 1) := dk_172 (dk_at dksL_law_85 18 rfl rfl)
theorem dL_law_2165 : decode cL_law 2165 = .ok (.goto 230, 3) := dk_167 0 230 (dk_at dksL_law_85 19 rfl rfl)
theorem dL_law_2168 : decode cL_law 2168 = .ok (.aload_n 1, 1) := dk_43 (dk_at dksL_law_85 22 rfl rfl)
theorem dL_law_2169 : decode cL_law 2169 = .ok (.aload_n 0, 1) := dk_42 (dk_at dksL_law_85 23 rfl rfl)
theorem dL_law_2170 : decode cL_law 2170 = .ok (.iload 5, 2) := dk_21 5 (dk_at dksL_law_86 0 rfl rfl)
theorem dL_law_2172 : decode cL_law 2172 = .ok (.iconst 1, 1) := dk_4 (dk_at dksL_law_86 2 rfl rfl)
theorem dL_law_2173 : decode cL_law 2173 = .ok (.iadd, 1) := dk_96 (dk_at dksL_law_86 3 rfl rfl)
theorem dL_law_2174 : decode cL_law 2174 = .ok (.iaload, 1) := dk_46 (dk_at dksL_law_86 4 rfl rfl)
theorem dL_law_2175 : decode cL_law 2175 = .ok (.aload_n 3, 1) := dk_45 (dk_at dksL_law_86 5 rfl rfl)
theorem dL_law_2176 : decode cL_law 2176 = .ok (.invokestatic 242, 3) := dk_184 0 242 (dk_at dksL_law_86 6 rfl rfl)
theorem dL_law_2179 : decode cL_law 2179 = .ok (.istore 6, 2) := dk_54 6 (dk_at dksL_law_86 9 rfl rfl)
theorem dL_law_2181 : decode cL_law 2181 = .ok (.aload_n 2, 1) := dk_44 (dk_at dksL_law_86 11 rfl rfl)
theorem dL_law_2182 : decode cL_law 2182 = .ok (.aload_n 0, 1) := dk_42 (dk_at dksL_law_86 12 rfl rfl)
theorem dL_law_2183 : decode cL_law 2183 = .ok (.iload 5, 2) := dk_21 5 (dk_at dksL_law_86 13 rfl rfl)
theorem dL_law_2185 : decode cL_law 2185 = .ok (.iconst 1, 1) := dk_4 (dk_at dksL_law_86 15 rfl rfl)
theorem dL_law_2186 : decode cL_law 2186 = .ok (.iadd, 1) := dk_96 (dk_at dksL_law_86 16 rfl rfl)
theorem dL_law_2187 : decode cL_law 2187 = .ok (.iaload, 1) := dk_46 (dk_at dksL_law_86 17 rfl rfl)
theorem dL_law_2188 : decode cL_law 2188 = .ok (.invokevirtual 244, 3) := dk_182 0 244 (dk_at dksL_law_86 18 rfl rfl)
theorem dL_law_2191 : decode cL_law 2191 = .ok (.istore 7, 2) := dk_54 7 (dk_at dksL_law_86 21 rfl rfl)
theorem dL_law_2193 : decode cL_law 2193 = .ok (.aload_n 2, 1) := dk_44 (dk_at dksL_law_86 23 rfl rfl)
theorem dL_law_2194 : decode cL_law 2194 = .ok (.invokevirtual 137, 3) := dk_182 0 137 (dk_at dksL_law_87 0 rfl rfl)
theorem dL_law_2197 : decode cL_law 2197 = .ok (.iload 6, 2) := dk_21 6 (dk_at dksL_law_87 3 rfl rfl)
theorem dL_law_2199 : decode cL_law 2199 = .ok (.if_icmp .eq 5, 3) := dk_159 0 5 (dk_at dksL_law_87 5 rfl rfl)
theorem dL_law_2202 : decode cL_law 2202 = .ok (.iconst 0, 1) := dk_3 (dk_at dksL_law_87 8 rfl rfl)
theorem dL_law_2203 : decode cL_law 2203 = .ok (.ireturn, 1) := dk_172 (dk_at dksL_law_87 9 rfl rfl)
theorem dL_law_2204 : decode cL_law 2204 = .ok (.iload 6, 2) := dk_21 6 (dk_at dksL_law_87 10 rfl rfl)
theorem dL_law_2206 : decode cL_law 2206 = .ok (.ifCond .ne 15, 3) := dk_154 0 15 (dk_at dksL_law_87 12 rfl rfl)
theorem dL_law_2209 : decode cL_law 2209 = .ok (.aload_n 3, 1) := dk_45 (dk_at dksL_law_87 15 rfl rfl)
theorem dL_law_2210 : decode cL_law 2210 = .ok (.iconst 0, 1) := dk_3 (dk_at dksL_law_87 16 rfl rfl)
theorem dL_law_2211 : decode cL_law 2211 = .ok (.laload, 1) := dk_47 (dk_at dksL_law_87 17 rfl rfl)
theorem dL_law_2212 : decode cL_law 2212 = .ok (.iload 7, 2) := dk_21 7 (dk_at dksL_law_87 18 rfl rfl)
theorem dL_law_2214 : decode cL_law 2214 = .ok (.i2l, 1) := dk_133 (dk_at dksL_law_87 20 rfl rfl)
theorem dL_law_2215 : decode cL_law 2215 = .ok (.lcmp, 1) := dk_148 (dk_at dksL_law_87 21 rfl rfl)
theorem dL_law_2216 : decode cL_law 2216 = .ok (.ifCond .eq 5, 3) := dk_153 0 5 (dk_at dksL_law_88 0 rfl rfl)
theorem dL_law_2219 : decode cL_law 2219 = .ok (.iconst 0, 1) := dk_3 (dk_at dksL_law_88 3 rfl rfl)
theorem dL_law_2220 : decode cL_law 2220 = .ok (.ireturn, 1) := dk_172 (dk_at dksL_law_88 4 rfl rfl)
theorem dL_law_2221 : decode cL_law 2221 = .ok (.goto 174, 3) := dk_167 0 174 (dk_at dksL_law_88 5 rfl rfl)
theorem dL_law_2224 : decode cL_law 2224 = .ok (.aload_n 1, 1) := dk_43 (dk_at dksL_law_88 8 rfl rfl)
theorem dL_law_2225 : decode cL_law 2225 = .ok (.invokevirtual 245, 3) := dk_182 0 245 (dk_at dksL_law_88 9 rfl rfl)
theorem dL_law_2228 : decode cL_law 2228 = .ok (.aload_n 2, 1) := dk_44 (dk_at dksL_law_88 12 rfl rfl)
theorem dL_law_2229 : decode cL_law 2229 = .ok (.invokevirtual 249, 3) := dk_182 0 249 (dk_at dksL_law_88 13 rfl rfl)
theorem dL_law_2232 : decode cL_law 2232 = .ok (.if_icmp .eq 163, 3) := dk_159 0 163 (dk_at dksL_law_88 16 rfl rfl)
theorem dL_law_2235 : decode cL_law 2235 = .ok (.iconst 0, 1) := dk_3 (dk_at dksL_law_88 19 rfl rfl)
theorem dL_law_2236 : decode cL_law 2236 = .ok (.ireturn, 1) := dk_172 (dk_at dksL_law_88 20 rfl rfl)
theorem dL_law_2237 : decode cL_law 2237 = .ok (.aload_n 1, 1) := dk_43 (dk_at dksL_law_88 21 rfl rfl)
theorem dL_law_2238 : decode cL_law 2238 = .ok (.invokevirtual 250, 3) := dk_182 0 250 (dk_at dksL_law_89 0 rfl rfl)
theorem dL_law_2241 : decode cL_law 2241 = .ok (.aload_n 2, 1) := dk_44 (dk_at dksL_law_89 3 rfl rfl)
theorem dL_law_2242 : decode cL_law 2242 = .ok (.invokevirtual 254, 3) := dk_182 0 254 (dk_at dksL_law_89 4 rfl rfl)
theorem dL_law_2245 : decode cL_law 2245 = .ok (.lcmp, 1) := dk_148 (dk_at dksL_law_89 7 rfl rfl)
theorem dL_law_2246 : decode cL_law 2246 = .ok (.ifCond .eq 149, 3) := dk_153 0 149 (dk_at dksL_law_89 8 rfl rfl)
theorem dL_law_2249 : decode cL_law 2249 = .ok (.iconst 0, 1) := dk_3 (dk_at dksL_law_89 11 rfl rfl)
theorem dL_law_2250 : decode cL_law 2250 = .ok (.ireturn, 1) := dk_172 (dk_at dksL_law_89 12 rfl rfl)
theorem dL_law_2251 : decode cL_law 2251 = .ok (.aload_n 1, 1) := dk_43 (dk_at dksL_law_89 13 rfl rfl)
theorem dL_law_2252 : decode cL_law 2252 = .ok (.invokevirtual 255, 3) := dk_182 0 255 (dk_at dksL_law_89 14 rfl rfl)
theorem dL_law_2255 : decode cL_law 2255 = .ok (.f2d, 1) := dk_141 (dk_at dksL_law_89 17 rfl rfl)
theorem dL_law_2256 : decode cL_law 2256 = .ok (.dstore 6, 2) := dk_57 6 (dk_at dksL_law_89 18 rfl rfl)
theorem dL_law_2258 : decode cL_law 2258 = .ok (.aload_n 2, 1) := dk_44 (dk_at dksL_law_89 20 rfl rfl)
theorem dL_law_2259 : decode cL_law 2259 = .ok (.invokevirtual 259, 3) := dk_182 1 3 (dk_at dksL_law_89 21 rfl rfl)
theorem dL_law_2262 : decode cL_law 2262 = .ok (.f2d, 1) := dk_141 (dk_at dksL_law_90 0 rfl rfl)
theorem dL_law_2263 : decode cL_law 2263 = .ok (.dstore 8, 2) := dk_57 8 (dk_at dksL_law_90 1 rfl rfl)
theorem dL_law_2265 : decode cL_law 2265 = .ok (.dload 6, 2) := dk_24 6 (dk_at dksL_law_90 3 rfl rfl)
theorem dL_law_2267 : decode cL_law 2267 = .ok (.dload 8, 2) := dk_24 8 (dk_at dksL_law_90 5 rfl rfl)
theorem dL_law_2269 : decode cL_law 2269 = .ok (.dcmp .l, 1) := dk_151 (dk_at dksL_law_90 7 rfl rfl)
theorem dL_law_2270 : decode cL_law 2270 = .ok (.ifCond .eq 21, 3) := dk_153 0 21 (dk_at dksL_law_90 8 rfl rfl)
theorem dL_law_2273 : decode cL_law 2273 = .ok (.dload 6, 2) := dk_24 6 (dk_at dksL_law_90 11 rfl rfl)
theorem dL_law_2275 : decode cL_law 2275 = .ok (.dload 6, 2) := dk_24 6 (dk_at dksL_law_90 13 rfl rfl)
theorem dL_law_2277 : decode cL_law 2277 = .ok (.dcmp .l, 1) := dk_151 (dk_at dksL_law_90 15 rfl rfl)
theorem dL_law_2278 : decode cL_law 2278 = .ok (.ifCond .eq 11, 3) := dk_153 0 11 (dk_at dksL_law_90 16 rfl rfl)
theorem dL_law_2281 : decode cL_law 2281 = .ok (.dload 8, 2) := dk_24 8 (dk_at dksL_law_90 19 rfl rfl)
theorem dL_law_2283 : decode cL_law 2283 = .ok (.dload 8, 2) := dk_24 8 (dk_at dksL_law_90 21 rfl rfl)
theorem dL_law_2285 : decode cL_law 2285 = .ok (.dcmp .l, 1) := dk_151 (dk_at dksL_law_90 23 rfl rfl)
theorem dL_law_2286 : decode cL_law 2286 = .ok (.ifCond .ne 5, 3) := dk_154 0 5 (dk_at dksL_law_91 0 rfl rfl)
theorem dL_law_2289 : decode cL_law 2289 = .ok (.iconst 0, 1) := dk_3 (dk_at dksL_law_91 3 rfl rfl)
theorem dL_law_2290 : decode cL_law 2290 = .ok (.ireturn, 1) := dk_172 (dk_at dksL_law_91 4 rfl rfl)
theorem dL_law_2291 : decode cL_law 2291 = .ok (.goto 104, 3) := dk_167 0 104 (dk_at dksL_law_91 5 rfl rfl)
theorem dL_law_2294 : decode cL_law 2294 = .ok (.aload_n 1, 1) := dk_43 (dk_at dksL_law_91 8 rfl rfl)
theorem dL_law_2295 : decode cL_law 2295 = .ok (.aload_n 3, 1) := dk_45 (dk_at dksL_law_91 9 rfl rfl)
theorem dL_law_2296 : decode cL_law 2296 = .ok (.invokestatic 260, 3) := dk_184 1 4 (dk_at dksL_law_91 10 rfl rfl)
theorem dL_law_2299 : decode cL_law 2299 = .ok (.istore 6, 2) := dk_54 6 (dk_at dksL_law_91 13 rfl rfl)
theorem dL_law_2301 : decode cL_law 2301 = .ok (.aload_n 2, 1) := dk_44 (dk_at dksL_law_91 15 rfl rfl)
theorem dL_law_2302 : decode cL_law 2302 = .ok (.invokevirtual 262, 3) := dk_182 1 6 (dk_at dksL_law_91 16 rfl rfl)
theorem dL_law_2305 : decode cL_law 2305 = .ok (.istore 7, 2) := dk_54 7 (dk_at dksL_law_91 19 rfl rfl)
theorem dL_law_2307 : decode cL_law 2307 = .ok (.aload_n 2, 1) := dk_44 (dk_at dksL_law_91 21 rfl rfl)
theorem dL_law_2308 : decode cL_law 2308 = .ok (.invokevirtual 137, 3) := dk_182 0 137 (dk_at dksL_law_92 0 rfl rfl)
theorem dL_law_2311 : decode cL_law 2311 = .ok (.iload 6, 2) := dk_21 6 (dk_at dksL_law_92 3 rfl rfl)
theorem dL_law_2313 : decode cL_law 2313 = .ok (.if_icmp .eq 5, 3) := dk_159 0 5 (dk_at dksL_law_92 5 rfl rfl)
theorem dL_law_2316 : decode cL_law 2316 = .ok (.iconst 0, 1) := dk_3 (dk_at dksL_law_92 8 rfl rfl)
theorem dL_law_2317 : decode cL_law 2317 = .ok (.ireturn, 1) := dk_172 (dk_at dksL_law_92 9 rfl rfl)
theorem dL_law_2318 : decode cL_law 2318 = .ok (.iload 6, 2) := dk_21 6 (dk_at dksL_law_92 10 rfl rfl)
theorem dL_law_2320 : decode cL_law 2320 = .ok (.ifCond .ne 15, 3) := dk_154 0 15 (dk_at dksL_law_92 12 rfl rfl)
theorem dL_law_2323 : decode cL_law 2323 = .ok (.aload_n 3, 1) := dk_45 (dk_at dksL_law_92 15 rfl rfl)
theorem dL_law_2324 : decode cL_law 2324 = .ok (.iconst 0, 1) := dk_3 (dk_at dksL_law_92 16 rfl rfl)
theorem dL_law_2325 : decode cL_law 2325 = .ok (.laload, 1) := dk_47 (dk_at dksL_law_92 17 rfl rfl)
theorem dL_law_2326 : decode cL_law 2326 = .ok (.iload 7, 2) := dk_21 7 (dk_at dksL_law_92 18 rfl rfl)
theorem dL_law_2328 : decode cL_law 2328 = .ok (.i2l, 1) := dk_133 (dk_at dksL_law_92 20 rfl rfl)
theorem dL_law_2329 : decode cL_law 2329 = .ok (.lcmp, 1) := dk_148 (dk_at dksL_law_92 21 rfl rfl)
theorem dL_law_2330 : decode cL_law 2330 = .ok (.ifCond .eq 5, 3) := dk_153 0 5 (dk_at dksL_law_93 0 rfl rfl)
theorem dL_law_2333 : decode cL_law 2333 = .ok (.iconst 0, 1) := dk_3 (dk_at dksL_law_93 3 rfl rfl)
theorem dL_law_2334 : decode cL_law 2334 = .ok (.ireturn, 1) := dk_172 (dk_at dksL_law_93 4 rfl rfl)
theorem dL_law_2335 : decode cL_law 2335 = .ok (.goto 60, 3) := dk_167 0 60 (dk_at dksL_law_93 5 rfl rfl)
theorem dL_law_2338 : decode cL_law 2338 = .ok (.aload_n 1, 1) := dk_43 (dk_at dksL_law_93 8 rfl rfl)
theorem dL_law_2339 : decode cL_law 2339 = .ok (.invokevirtual 263, 3) := dk_182 1 7 (dk_at dksL_law_93 9 rfl rfl)
theorem dL_law_2342 : decode cL_law 2342 = .ok (.aload_n 2, 1) := dk_44 (dk_at dksL_law_93 12 rfl rfl)
theorem dL_law_2343 : decode cL_law 2343 = .ok (.invokevirtual 266, 3) := dk_182 1 10 (dk_at dksL_law_93 13 rfl rfl)
theorem dL_law_2346 : decode cL_law 2346 = .ok (.if_icmp .eq 49, 3) := dk_159 0 49 (dk_at dksL_law_93 16 rfl rfl)
theorem dL_law_2349 : decode cL_law 2349 = .ok (.iconst 0, 1) := dk_3 (dk_at dksL_law_93 19 rfl rfl)
theorem dL_law_2350 : decode cL_law 2350 = .ok (.ireturn, 1) := dk_172 (dk_at dksL_law_93 20 rfl rfl)
theorem dL_law_2351 : decode cL_law 2351 = .ok (.aload_n 1, 1) := dk_43 (dk_at dksL_law_93 21 rfl rfl)
theorem dL_law_2352 : decode cL_law 2352 = .ok (.aload_n 3, 1) := dk_45 (dk_at dksL_law_93 22 rfl rfl)
theorem dL_law_2353 : decode cL_law 2353 = .ok (.invokestatic 267, 3) := dk_184 1 11 (dk_at dksL_law_94 0 rfl rfl)
theorem dL_law_2356 : decode cL_law 2356 = .ok (.istore 6, 2) := dk_54 6 (dk_at dksL_law_94 3 rfl rfl)
theorem dL_law_2358 : decode cL_law 2358 = .ok (.aload_n 2, 1) := dk_44 (dk_at dksL_law_94 5 rfl rfl)
theorem dL_law_2359 : decode cL_law 2359 = .ok (.invokevirtual 269, 3) := dk_182 1 13 (dk_at dksL_law_94 6 rfl rfl)
theorem dL_law_2362 : decode cL_law 2362 = .ok (.istore 7, 2) := dk_54 7 (dk_at dksL_law_94 9 rfl rfl)
theorem dL_law_2364 : decode cL_law 2364 = .ok (.aload_n 2, 1) := dk_44 (dk_at dksL_law_94 11 rfl rfl)
theorem dL_law_2365 : decode cL_law 2365 = .ok (.invokevirtual 137, 3) := dk_182 0 137 (dk_at dksL_law_94 12 rfl rfl)
theorem dL_law_2368 : decode cL_law 2368 = .ok (.iload 6, 2) := dk_21 6 (dk_at dksL_law_94 15 rfl rfl)
theorem dL_law_2370 : decode cL_law 2370 = .ok (.if_icmp .eq 5, 3) := dk_159 0 5 (dk_at dksL_law_94 17 rfl rfl)
theorem dL_law_2373 : decode cL_law 2373 = .ok (.iconst 0, 1) := dk_3 (dk_at dksL_law_94 20 rfl rfl)
theorem dL_law_2374 : decode cL_law 2374 = .ok (.ireturn, 1) := dk_172 (dk_at dksL_law_94 21 rfl rfl)
theorem dL_law_2375 : decode cL_law 2375 = .ok (.iload 6, 2) := dk_21 6 (dk_at dksL_law_94 22 rfl rfl)
theorem dL_law_2377 : decode cL_law 2377 = .ok (.ifCond .ne 15, 3) := dk_154 0 15 (dk_at dksL_law_95 0 rfl rfl)
theorem dL_law_2380 : decode cL_law 2380 = .ok (.aload_n 3, 1) := dk_45 (dk_at dksL_law_95 3 rfl rfl)
theorem dL_law_2381 : decode cL_law 2381 = .ok (.iconst 0, 1) := dk_3 (dk_at dksL_law_95 4 rfl rfl)
theorem dL_law_2382 : decode cL_law 2382 = .ok (.laload, 1) := dk_47 (dk_at dksL_law_95 5 rfl rfl)
theorem dL_law_2383 : decode cL_law 2383 = .ok (.iload 7, 2) := dk_21 7 (dk_at dksL_law_95 6 rfl rfl)
theorem dL_law_2385 : decode cL_law 2385 = .ok (.i2l, 1) := dk_133 (dk_at dksL_law_95 8 rfl rfl)
theorem dL_law_2386 : decode cL_law 2386 = .ok (.lcmp, 1) := dk_148 (dk_at dksL_law_95 9 rfl rfl)
theorem dL_law_2387 : decode cL_law 2387 = .ok (.ifCond .eq 5, 3) := dk_153 0 5 (dk_at dksL_law_95 10 rfl rfl)
theorem dL_law_2390 : decode cL_law 2390 = .ok (.iconst 0, 1) := dk_3 (dk_at dksL_law_95 13 rfl rfl)
theorem dL_law_2391 : decode cL_law 2391 = .ok (.ireturn, 1) := dk_172 (dk_at dksL_law_95 14 rfl rfl)
theorem dL_law_2392 : decode cL_law 2392 = .ok (.goto 3, 3) := dk_167 0 3 (dk_at dksL_law_95 15 rfl rfl)
theorem dL_law_2395 : decode cL_law 2395 = .ok (.iinc 5 4, 3) := dk_132 5 4 (dk_at dksL_law_95 18 rfl rfl)
theorem dL_law_2398 : decode cL_law 2398 = .ok (.goto (-2370), 3) := dk_167 246 190 (dk_at dksL_law_95 21 rfl rfl)
theorem dL_law_2401 : decode cL_law 2401 = .ok (.iconst 1, 1) := dk_4 (dk_at dksL_law_96 0 rfl rfl)
theorem dL_law_2402 : decode cL_law 2402 = .ok (.ireturn, 1) := dk_172 (dk_at dksL_law_96 1 rfl rfl)
