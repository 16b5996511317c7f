/-! WakegroundLaw -/
set_option maxRecDepth 100000
def RX0 : String := "WakegroundLaw"
abbrev cX0_ground : ByteArray := method_3_code
def yX0_ground : MethodName := ⟨RX0, "ground", "(LWakeground;IIIIII)I"⟩
def dkwX0_ground_1 : List UInt8 := [3, 172]
abbrev dktX0_ground_1 : List UInt8 := dkwX0_ground_1 ++ []
def dkwX0_ground_0 : List UInt8 := [42, 27, 28, 29, 21, 4, 21, 5, 21, 6, 182, 0, 7, 167, 0, 11, 58, 7, 4, 172, 58, 7, 5, 172]
abbrev dktX0_ground_0 : List UInt8 := dkwX0_ground_0 ++ dktX0_ground_1
theorem dksX0_ground_0 : cX0_ground.data.toList.drop 0 = dktX0_ground_0 := by decide +kernel
theorem dksX0_ground_1 : cX0_ground.data.toList.drop 24 = dktX0_ground_1 := dk_seg dksX0_ground_0 24 rfl rfl
theorem dX0_ground_0 : decode cX0_ground 0 = .ok (.aload_n 0, 1) := dk_42 (dk_at dksX0_ground_0 0 rfl rfl)
theorem dX0_ground_1 : decode cX0_ground 1 = .ok (.iload_n 1, 1) := dk_27 (dk_at dksX0_ground_0 1 rfl rfl)
theorem dX0_ground_2 : decode cX0_ground 2 = .ok (.iload_n 2, 1) := dk_28 (dk_at dksX0_ground_0 2 rfl rfl)
theorem dX0_ground_3 : decode cX0_ground 3 = .ok (.iload_n 3, 1) := dk_29 (dk_at dksX0_ground_0 3 rfl rfl)
theorem dX0_ground_4 : decode cX0_ground 4 = .ok (.iload 4, 2) := dk_21 4 (dk_at dksX0_ground_0 4 rfl rfl)
theorem dX0_ground_6 : decode cX0_ground 6 = .ok (.iload 5, 2) := dk_21 5 (dk_at dksX0_ground_0 6 rfl rfl)
theorem dX0_ground_8 : decode cX0_ground 8 = .ok (.iload 6, 2) := dk_21 6 (dk_at dksX0_ground_0 8 rfl rfl)
theorem dX0_ground_10 : decode cX0_ground 10 = .ok (.invokevirtual 7, 3) := dk_182 0 7 (dk_at dksX0_ground_0 10 rfl rfl)
theorem dX0_ground_13 : decode cX0_ground 13 = .ok (.goto 11, 3) := dk_167 0 11 (dk_at dksX0_ground_0 13 rfl rfl)
theorem dX0_ground_16 : decode cX0_ground 16 = .ok (.astore 7, 2) := dk_58 7 (dk_at dksX0_ground_0 16 rfl rfl)
theorem dX0_ground_18 : decode cX0_ground 18 = .ok (.iconst 1, 1) := dk_4 (dk_at dksX0_ground_0 18 rfl rfl)
theorem dX0_ground_19 : decode cX0_ground 19 = .ok (.ireturn, 1) := dk_172 (dk_at dksX0_ground_0 19 rfl rfl)
theorem dX0_ground_20 : decode cX0_ground 20 = .ok (.astore 7, 2) := dk_58 7 (dk_at dksX0_ground_0 20 rfl rfl)
theorem dX0_ground_22 : decode cX0_ground 22 = .ok (.iconst 2, 1) := dk_5 (dk_at dksX0_ground_0 22 rfl rfl)
theorem dX0_ground_23 : decode cX0_ground 23 = .ok (.ireturn, 1) := dk_172 (dk_at dksX0_ground_0 23 rfl rfl)
theorem dX0_ground_24 : decode cX0_ground 24 = .ok (.iconst 0, 1) := dk_3 (dk_at dksX0_ground_1 0 rfl rfl)
theorem dX0_ground_25 : decode cX0_ground 25 = .ok (.ireturn, 1) := dk_172 (dk_at dksX0_ground_1 1 rfl rfl)
abbrev cX0_moss : ByteArray := method_4_code
def yX0_moss : MethodName := ⟨RX0, "moss", "(LWakeground;II[J)I"⟩
def dkwX0_moss_0 : List UInt8 := [45, 3, 42, 27, 28, 182, 0, 17, 133, 80, 167, 0, 11, 58, 4, 4, 172, 58, 4, 5, 172, 3, 172]
abbrev dktX0_moss_0 : List UInt8 := dkwX0_moss_0 ++ []
theorem dksX0_moss_0 : cX0_moss.data.toList.drop 0 = dktX0_moss_0 := by decide +kernel
theorem dX0_moss_0 : decode cX0_moss 0 = .ok (.aload_n 3, 1) := dk_45 (dk_at dksX0_moss_0 0 rfl rfl)
theorem dX0_moss_1 : decode cX0_moss 1 = .ok (.iconst 0, 1) := dk_3 (dk_at dksX0_moss_0 1 rfl rfl)
theorem dX0_moss_2 : decode cX0_moss 2 = .ok (.aload_n 0, 1) := dk_42 (dk_at dksX0_moss_0 2 rfl rfl)
theorem dX0_moss_3 : decode cX0_moss 3 = .ok (.iload_n 1, 1) := dk_27 (dk_at dksX0_moss_0 3 rfl rfl)
theorem dX0_moss_4 : decode cX0_moss 4 = .ok (.iload_n 2, 1) := dk_28 (dk_at dksX0_moss_0 4 rfl rfl)
theorem dX0_moss_5 : decode cX0_moss 5 = .ok (.invokevirtual 17, 3) := dk_182 0 17 (dk_at dksX0_moss_0 5 rfl rfl)
theorem dX0_moss_8 : decode cX0_moss 8 = .ok (.i2l, 1) := dk_133 (dk_at dksX0_moss_0 8 rfl rfl)
theorem dX0_moss_9 : decode cX0_moss 9 = .ok (.lastore, 1) := dk_80 (dk_at dksX0_moss_0 9 rfl rfl)
theorem dX0_moss_10 : decode cX0_moss 10 = .ok (.goto 11, 3) := dk_167 0 11 (dk_at dksX0_moss_0 10 rfl rfl)
theorem dX0_moss_13 : decode cX0_moss 13 = .ok (.astore 4, 2) := dk_58 4 (dk_at dksX0_moss_0 13 rfl rfl)
theorem dX0_moss_15 : decode cX0_moss 15 = .ok (.iconst 1, 1) := dk_4 (dk_at dksX0_moss_0 15 rfl rfl)
theorem dX0_moss_16 : decode cX0_moss 16 = .ok (.ireturn, 1) := dk_172 (dk_at dksX0_moss_0 16 rfl rfl)
theorem dX0_moss_17 : decode cX0_moss 17 = .ok (.astore 4, 2) := dk_58 4 (dk_at dksX0_moss_0 17 rfl rfl)
theorem dX0_moss_19 : decode cX0_moss 19 = .ok (.iconst 2, 1) := dk_5 (dk_at dksX0_moss_0 19 rfl rfl)
theorem dX0_moss_20 : decode cX0_moss 20 = .ok (.ireturn, 1) := dk_172 (dk_at dksX0_moss_0 20 rfl rfl)
theorem dX0_moss_21 : decode cX0_moss 21 = .ok (.iconst 0, 1) := dk_3 (dk_at dksX0_moss_0 21 rfl rfl)
theorem dX0_moss_22 : decode cX0_moss 22 = .ok (.ireturn, 1) := dk_172 (dk_at dksX0_moss_0 22 rfl rfl)
abbrev cX0_pass : ByteArray := method_5_code
def yX0_pass : MethodName := ⟨RX0, "pass", "(LWakeground;III[J)I"⟩
def dkwX0_pass_1 : List UInt8 := [172]
abbrev dktX0_pass_1 : List UInt8 := dkwX0_pass_1 ++ []
def dkwX0_pass_0 : List UInt8 := [25, 4, 3, 42, 27, 28, 29, 182, 0, 21, 133, 80, 167, 0, 11, 58, 5, 4, 172, 58, 5, 5, 172, 3]
abbrev dktX0_pass_0 : List UInt8 := dkwX0_pass_0 ++ dktX0_pass_1
theorem dksX0_pass_0 : cX0_pass.data.toList.drop 0 = dktX0_pass_0 := by decide +kernel
theorem dksX0_pass_1 : cX0_pass.data.toList.drop 24 = dktX0_pass_1 := dk_seg dksX0_pass_0 24 rfl rfl
theorem dX0_pass_0 : decode cX0_pass 0 = .ok (.aload 4, 2) := dk_25 4 (dk_at dksX0_pass_0 0 rfl rfl)
theorem dX0_pass_2 : decode cX0_pass 2 = .ok (.iconst 0, 1) := dk_3 (dk_at dksX0_pass_0 2 rfl rfl)
theorem dX0_pass_3 : decode cX0_pass 3 = .ok (.aload_n 0, 1) := dk_42 (dk_at dksX0_pass_0 3 rfl rfl)
theorem dX0_pass_4 : decode cX0_pass 4 = .ok (.iload_n 1, 1) := dk_27 (dk_at dksX0_pass_0 4 rfl rfl)
theorem dX0_pass_5 : decode cX0_pass 5 = .ok (.iload_n 2, 1) := dk_28 (dk_at dksX0_pass_0 5 rfl rfl)
theorem dX0_pass_6 : decode cX0_pass 6 = .ok (.iload_n 3, 1) := dk_29 (dk_at dksX0_pass_0 6 rfl rfl)
theorem dX0_pass_7 : decode cX0_pass 7 = .ok (.invokevirtual 21, 3) := dk_182 0 21 (dk_at dksX0_pass_0 7 rfl rfl)
theorem dX0_pass_10 : decode cX0_pass 10 = .ok (.i2l, 1) := dk_133 (dk_at dksX0_pass_0 10 rfl rfl)
theorem dX0_pass_11 : decode cX0_pass 11 = .ok (.lastore, 1) := dk_80 (dk_at dksX0_pass_0 11 rfl rfl)
theorem dX0_pass_12 : decode cX0_pass 12 = .ok (.goto 11, 3) := dk_167 0 11 (dk_at dksX0_pass_0 12 rfl rfl)
theorem dX0_pass_15 : decode cX0_pass 15 = .ok (.astore 5, 2) := dk_58 5 (dk_at dksX0_pass_0 15 rfl rfl)
theorem dX0_pass_17 : decode cX0_pass 17 = .ok (.iconst 1, 1) := dk_4 (dk_at dksX0_pass_0 17 rfl rfl)
theorem dX0_pass_18 : decode cX0_pass 18 = .ok (.ireturn, 1) := dk_172 (dk_at dksX0_pass_0 18 rfl rfl)
theorem dX0_pass_19 : decode cX0_pass 19 = .ok (.astore 5, 2) := dk_58 5 (dk_at dksX0_pass_0 19 rfl rfl)
theorem dX0_pass_21 : decode cX0_pass 21 = .ok (.iconst 2, 1) := dk_5 (dk_at dksX0_pass_0 21 rfl rfl)
theorem dX0_pass_22 : decode cX0_pass 22 = .ok (.ireturn, 1) := dk_172 (dk_at dksX0_pass_0 22 rfl rfl)
theorem dX0_pass_23 : decode cX0_pass 23 = .ok (.iconst 0, 1) := dk_3 (dk_at dksX0_pass_0 23 rfl rfl)
theorem dX0_pass_24 : decode cX0_pass 24 = .ok (.ireturn, 1) := dk_172 (dk_at dksX0_pass_1 0 rfl rfl)
abbrev cX0_fire : ByteArray := method_6_code
def yX0_fire : MethodName := ⟨RX0, "fire", "(LWakeground;I[J)I"⟩
def dkwX0_fire_0 : List UInt8 := [44, 3, 42, 27, 182, 0, 27, 133, 80, 167, 0, 9, 78, 4, 172, 78, 5, 172, 3, 172]
abbrev dktX0_fire_0 : List UInt8 := dkwX0_fire_0 ++ []
theorem dksX0_fire_0 : cX0_fire.data.toList.drop 0 = dktX0_fire_0 := by decide +kernel
theorem dX0_fire_0 : decode cX0_fire 0 = .ok (.aload_n 2, 1) := dk_44 (dk_at dksX0_fire_0 0 rfl rfl)
theorem dX0_fire_1 : decode cX0_fire 1 = .ok (.iconst 0, 1) := dk_3 (dk_at dksX0_fire_0 1 rfl rfl)
theorem dX0_fire_2 : decode cX0_fire 2 = .ok (.aload_n 0, 1) := dk_42 (dk_at dksX0_fire_0 2 rfl rfl)
theorem dX0_fire_3 : decode cX0_fire 3 = .ok (.iload_n 1, 1) := dk_27 (dk_at dksX0_fire_0 3 rfl rfl)
theorem dX0_fire_4 : decode cX0_fire 4 = .ok (.invokevirtual 27, 3) := dk_182 0 27 (dk_at dksX0_fire_0 4 rfl rfl)
theorem dX0_fire_7 : decode cX0_fire 7 = .ok (.i2l, 1) := dk_133 (dk_at dksX0_fire_0 7 rfl rfl)
theorem dX0_fire_8 : decode cX0_fire 8 = .ok (.lastore, 1) := dk_80 (dk_at dksX0_fire_0 8 rfl rfl)
theorem dX0_fire_9 : decode cX0_fire 9 = .ok (.goto 9, 3) := dk_167 0 9 (dk_at dksX0_fire_0 9 rfl rfl)
theorem dX0_fire_12 : decode cX0_fire 12 = .ok (.astore_n 3, 1) := dk_78 (dk_at dksX0_fire_0 12 rfl rfl)
theorem dX0_fire_13 : decode cX0_fire 13 = .ok (.iconst 1, 1) := dk_4 (dk_at dksX0_fire_0 13 rfl rfl)
theorem dX0_fire_14 : decode cX0_fire 14 = .ok (.ireturn, 1) := dk_172 (dk_at dksX0_fire_0 14 rfl rfl)
theorem dX0_fire_15 : decode cX0_fire 15 = .ok (.astore_n 3, 1) := dk_78 (dk_at dksX0_fire_0 15 rfl rfl)
theorem dX0_fire_16 : decode cX0_fire 16 = .ok (.iconst 2, 1) := dk_5 (dk_at dksX0_fire_0 16 rfl rfl)
theorem dX0_fire_17 : decode cX0_fire 17 = .ok (.ireturn, 1) := dk_172 (dk_at dksX0_fire_0 17 rfl rfl)
theorem dX0_fire_18 : decode cX0_fire 18 = .ok (.iconst 0, 1) := dk_3 (dk_at dksX0_fire_0 18 rfl rfl)
theorem dX0_fire_19 : decode cX0_fire 19 = .ok (.ireturn, 1) := dk_172 (dk_at dksX0_fire_0 19 rfl rfl)
abbrev cX0_breach : ByteArray := method_7_code
def yX0_breach : MethodName := ⟨RX0, "breach", "(LWakeground;I[J)I"⟩
def dkwX0_breach_0 : List UInt8 := [44, 3, 42, 27, 182, 0, 31, 133, 80, 167, 0, 9, 78, 4, 172, 78, 5, 172, 3, 172]
abbrev dktX0_breach_0 : List UInt8 := dkwX0_breach_0 ++ []
theorem dksX0_breach_0 : cX0_breach.data.toList.drop 0 = dktX0_breach_0 := by decide +kernel
theorem dX0_breach_0 : decode cX0_breach 0 = .ok (.aload_n 2, 1) := dk_44 (dk_at dksX0_breach_0 0 rfl rfl)
theorem dX0_breach_1 : decode cX0_breach 1 = .ok (.iconst 0, 1) := dk_3 (dk_at dksX0_breach_0 1 rfl rfl)
theorem dX0_breach_2 : decode cX0_breach 2 = .ok (.aload_n 0, 1) := dk_42 (dk_at dksX0_breach_0 2 rfl rfl)
theorem dX0_breach_3 : decode cX0_breach 3 = .ok (.iload_n 1, 1) := dk_27 (dk_at dksX0_breach_0 3 rfl rfl)
theorem dX0_breach_4 : decode cX0_breach 4 = .ok (.invokevirtual 31, 3) := dk_182 0 31 (dk_at dksX0_breach_0 4 rfl rfl)
theorem dX0_breach_7 : decode cX0_breach 7 = .ok (.i2l, 1) := dk_133 (dk_at dksX0_breach_0 7 rfl rfl)
theorem dX0_breach_8 : decode cX0_breach 8 = .ok (.lastore, 1) := dk_80 (dk_at dksX0_breach_0 8 rfl rfl)
theorem dX0_breach_9 : decode cX0_breach 9 = .ok (.goto 9, 3) := dk_167 0 9 (dk_at dksX0_breach_0 9 rfl rfl)
theorem dX0_breach_12 : decode cX0_breach 12 = .ok (.astore_n 3, 1) := dk_78 (dk_at dksX0_breach_0 12 rfl rfl)
theorem dX0_breach_13 : decode cX0_breach 13 = .ok (.iconst 1, 1) := dk_4 (dk_at dksX0_breach_0 13 rfl rfl)
theorem dX0_breach_14 : decode cX0_breach 14 = .ok (.ireturn, 1) := dk_172 (dk_at dksX0_breach_0 14 rfl rfl)
theorem dX0_breach_15 : decode cX0_breach 15 = .ok (.astore_n 3, 1) := dk_78 (dk_at dksX0_breach_0 15 rfl rfl)
theorem dX0_breach_16 : decode cX0_breach 16 = .ok (.iconst 2, 1) := dk_5 (dk_at dksX0_breach_0 16 rfl rfl)
theorem dX0_breach_17 : decode cX0_breach 17 = .ok (.ireturn, 1) := dk_172 (dk_at dksX0_breach_0 17 rfl rfl)
theorem dX0_breach_18 : decode cX0_breach 18 = .ok (.iconst 0, 1) := dk_3 (dk_at dksX0_breach_0 18 rfl rfl)
theorem dX0_breach_19 : decode cX0_breach 19 = .ok (.ireturn, 1) := dk_172 (dk_at dksX0_breach_0 19 rfl rfl)
abbrev cX0_house : ByteArray := method_8_code
def yX0_house : MethodName := ⟨RX0, "house", "(LWakeground;IIZ[J)I"⟩
def dkwX0_house_1 : List UInt8 := [172]
abbrev dktX0_house_1 : List UInt8 := dkwX0_house_1 ++ []
def dkwX0_house_0 : List UInt8 := [25, 4, 3, 42, 27, 28, 29, 182, 0, 34, 133, 80, 167, 0, 11, 58, 5, 4, 172, 58, 5, 5, 172, 3]
abbrev dktX0_house_0 : List UInt8 := dkwX0_house_0 ++ dktX0_house_1
theorem dksX0_house_0 : cX0_house.data.toList.drop 0 = dktX0_house_0 := by decide +kernel
theorem dksX0_house_1 : cX0_house.data.toList.drop 24 = dktX0_house_1 := dk_seg dksX0_house_0 24 rfl rfl
theorem dX0_house_0 : decode cX0_house 0 = .ok (.aload 4, 2) := dk_25 4 (dk_at dksX0_house_0 0 rfl rfl)
theorem dX0_house_2 : decode cX0_house 2 = .ok (.iconst 0, 1) := dk_3 (dk_at dksX0_house_0 2 rfl rfl)
theorem dX0_house_3 : decode cX0_house 3 = .ok (.aload_n 0, 1) := dk_42 (dk_at dksX0_house_0 3 rfl rfl)
theorem dX0_house_4 : decode cX0_house 4 = .ok (.iload_n 1, 1) := dk_27 (dk_at dksX0_house_0 4 rfl rfl)
theorem dX0_house_5 : decode cX0_house 5 = .ok (.iload_n 2, 1) := dk_28 (dk_at dksX0_house_0 5 rfl rfl)
theorem dX0_house_6 : decode cX0_house 6 = .ok (.iload_n 3, 1) := dk_29 (dk_at dksX0_house_0 6 rfl rfl)
theorem dX0_house_7 : decode cX0_house 7 = .ok (.invokevirtual 34, 3) := dk_182 0 34 (dk_at dksX0_house_0 7 rfl rfl)
theorem dX0_house_10 : decode cX0_house 10 = .ok (.i2l, 1) := dk_133 (dk_at dksX0_house_0 10 rfl rfl)
theorem dX0_house_11 : decode cX0_house 11 = .ok (.lastore, 1) := dk_80 (dk_at dksX0_house_0 11 rfl rfl)
theorem dX0_house_12 : decode cX0_house 12 = .ok (.goto 11, 3) := dk_167 0 11 (dk_at dksX0_house_0 12 rfl rfl)
theorem dX0_house_15 : decode cX0_house 15 = .ok (.astore 5, 2) := dk_58 5 (dk_at dksX0_house_0 15 rfl rfl)
theorem dX0_house_17 : decode cX0_house 17 = .ok (.iconst 1, 1) := dk_4 (dk_at dksX0_house_0 17 rfl rfl)
theorem dX0_house_18 : decode cX0_house 18 = .ok (.ireturn, 1) := dk_172 (dk_at dksX0_house_0 18 rfl rfl)
theorem dX0_house_19 : decode cX0_house 19 = .ok (.astore 5, 2) := dk_58 5 (dk_at dksX0_house_0 19 rfl rfl)
theorem dX0_house_21 : decode cX0_house 21 = .ok (.iconst 2, 1) := dk_5 (dk_at dksX0_house_0 21 rfl rfl)
theorem dX0_house_22 : decode cX0_house 22 = .ok (.ireturn, 1) := dk_172 (dk_at dksX0_house_0 22 rfl rfl)
theorem dX0_house_23 : decode cX0_house 23 = .ok (.iconst 0, 1) := dk_3 (dk_at dksX0_house_0 23 rfl rfl)
theorem dX0_house_24 : decode cX0_house 24 = .ok (.ireturn, 1) := dk_172 (dk_at dksX0_house_1 0 rfl rfl)
abbrev cX0_borehole : ByteArray := method_9_code
def yX0_borehole : MethodName := ⟨RX0, "borehole", "(LWakeground;II[J)I"⟩
def dkwX0_borehole_1 : List UInt8 := [172, 3, 172]
abbrev dktX0_borehole_1 : List UInt8 := dkwX0_borehole_1 ++ []
def dkwX0_borehole_0 : List UInt8 := [45, 3, 42, 27, 28, 182, 0, 38, 133, 80, 167, 0, 15, 58, 4, 4, 172, 58, 4, 5, 172, 58, 4, 6]
abbrev dktX0_borehole_0 : List UInt8 := dkwX0_borehole_0 ++ dktX0_borehole_1
theorem dksX0_borehole_0 : cX0_borehole.data.toList.drop 0 = dktX0_borehole_0 := by decide +kernel
theorem dksX0_borehole_1 : cX0_borehole.data.toList.drop 24 = dktX0_borehole_1 := dk_seg dksX0_borehole_0 24 rfl rfl
theorem dX0_borehole_0 : decode cX0_borehole 0 = .ok (.aload_n 3, 1) := dk_45 (dk_at dksX0_borehole_0 0 rfl rfl)
theorem dX0_borehole_1 : decode cX0_borehole 1 = .ok (.iconst 0, 1) := dk_3 (dk_at dksX0_borehole_0 1 rfl rfl)
theorem dX0_borehole_2 : decode cX0_borehole 2 = .ok (.aload_n 0, 1) := dk_42 (dk_at dksX0_borehole_0 2 rfl rfl)
theorem dX0_borehole_3 : decode cX0_borehole 3 = .ok (.iload_n 1, 1) := dk_27 (dk_at dksX0_borehole_0 3 rfl rfl)
theorem dX0_borehole_4 : decode cX0_borehole 4 = .ok (.iload_n 2, 1) := dk_28 (dk_at dksX0_borehole_0 4 rfl rfl)
theorem dX0_borehole_5 : decode cX0_borehole 5 = .ok (.invokevirtual 38, 3) := dk_182 0 38 (dk_at dksX0_borehole_0 5 rfl rfl)
theorem dX0_borehole_8 : decode cX0_borehole 8 = .ok (.i2l, 1) := dk_133 (dk_at dksX0_borehole_0 8 rfl rfl)
theorem dX0_borehole_9 : decode cX0_borehole 9 = .ok (.lastore, 1) := dk_80 (dk_at dksX0_borehole_0 9 rfl rfl)
theorem dX0_borehole_10 : decode cX0_borehole 10 = .ok (.goto 15, 3) := dk_167 0 15 (dk_at dksX0_borehole_0 10 rfl rfl)
theorem dX0_borehole_13 : decode cX0_borehole 13 = .ok (.astore 4, 2) := dk_58 4 (dk_at dksX0_borehole_0 13 rfl rfl)
theorem dX0_borehole_15 : decode cX0_borehole 15 = .ok (.iconst 1, 1) := dk_4 (dk_at dksX0_borehole_0 15 rfl rfl)
theorem dX0_borehole_16 : decode cX0_borehole 16 = .ok (.ireturn, 1) := dk_172 (dk_at dksX0_borehole_0 16 rfl rfl)
theorem dX0_borehole_17 : decode cX0_borehole 17 = .ok (.astore 4, 2) := dk_58 4 (dk_at dksX0_borehole_0 17 rfl rfl)
theorem dX0_borehole_19 : decode cX0_borehole 19 = .ok (.iconst 2, 1) := dk_5 (dk_at dksX0_borehole_0 19 rfl rfl)
theorem dX0_borehole_20 : decode cX0_borehole 20 = .ok (.ireturn, 1) := dk_172 (dk_at dksX0_borehole_0 20 rfl rfl)
theorem dX0_borehole_21 : decode cX0_borehole 21 = .ok (.astore 4, 2) := dk_58 4 (dk_at dksX0_borehole_0 21 rfl rfl)
theorem dX0_borehole_23 : decode cX0_borehole 23 = .ok (.iconst 3, 1) := dk_6 (dk_at dksX0_borehole_0 23 rfl rfl)
theorem dX0_borehole_24 : decode cX0_borehole 24 = .ok (.ireturn, 1) := dk_172 (dk_at dksX0_borehole_1 0 rfl rfl)
theorem dX0_borehole_25 : decode cX0_borehole 25 = .ok (.iconst 0, 1) := dk_3 (dk_at dksX0_borehole_1 1 rfl rfl)
theorem dX0_borehole_26 : decode cX0_borehole 26 = .ok (.ireturn, 1) := dk_172 (dk_at dksX0_borehole_1 2 rfl rfl)
abbrev cX0_claim : ByteArray := method_10_code
def yX0_claim : MethodName := ⟨RX0, "claim", "(LWakeground;I[J)I"⟩
def dkwX0_claim_0 : List UInt8 := [44, 3, 42, 27, 182, 0, 41, 133, 80, 167, 0, 9, 78, 4, 172, 78, 5, 172, 3, 172]
abbrev dktX0_claim_0 : List UInt8 := dkwX0_claim_0 ++ []
theorem dksX0_claim_0 : cX0_claim.data.toList.drop 0 = dktX0_claim_0 := by decide +kernel
theorem dX0_claim_0 : decode cX0_claim 0 = .ok (.aload_n 2, 1) := dk_44 (dk_at dksX0_claim_0 0 rfl rfl)
theorem dX0_claim_1 : decode cX0_claim 1 = .ok (.iconst 0, 1) := dk_3 (dk_at dksX0_claim_0 1 rfl rfl)
theorem dX0_claim_2 : decode cX0_claim 2 = .ok (.aload_n 0, 1) := dk_42 (dk_at dksX0_claim_0 2 rfl rfl)
theorem dX0_claim_3 : decode cX0_claim 3 = .ok (.iload_n 1, 1) := dk_27 (dk_at dksX0_claim_0 3 rfl rfl)
theorem dX0_claim_4 : decode cX0_claim 4 = .ok (.invokevirtual 41, 3) := dk_182 0 41 (dk_at dksX0_claim_0 4 rfl rfl)
theorem dX0_claim_7 : decode cX0_claim 7 = .ok (.i2l, 1) := dk_133 (dk_at dksX0_claim_0 7 rfl rfl)
theorem dX0_claim_8 : decode cX0_claim 8 = .ok (.lastore, 1) := dk_80 (dk_at dksX0_claim_0 8 rfl rfl)
theorem dX0_claim_9 : decode cX0_claim 9 = .ok (.goto 9, 3) := dk_167 0 9 (dk_at dksX0_claim_0 9 rfl rfl)
theorem dX0_claim_12 : decode cX0_claim 12 = .ok (.astore_n 3, 1) := dk_78 (dk_at dksX0_claim_0 12 rfl rfl)
theorem dX0_claim_13 : decode cX0_claim 13 = .ok (.iconst 1, 1) := dk_4 (dk_at dksX0_claim_0 13 rfl rfl)
theorem dX0_claim_14 : decode cX0_claim 14 = .ok (.ireturn, 1) := dk_172 (dk_at dksX0_claim_0 14 rfl rfl)
theorem dX0_claim_15 : decode cX0_claim 15 = .ok (.astore_n 3, 1) := dk_78 (dk_at dksX0_claim_0 15 rfl rfl)
theorem dX0_claim_16 : decode cX0_claim 16 = .ok (.iconst 2, 1) := dk_5 (dk_at dksX0_claim_0 16 rfl rfl)
theorem dX0_claim_17 : decode cX0_claim 17 = .ok (.ireturn, 1) := dk_172 (dk_at dksX0_claim_0 17 rfl rfl)
theorem dX0_claim_18 : decode cX0_claim 18 = .ok (.iconst 0, 1) := dk_3 (dk_at dksX0_claim_0 18 rfl rfl)
theorem dX0_claim_19 : decode cX0_claim 19 = .ok (.ireturn, 1) := dk_172 (dk_at dksX0_claim_0 19 rfl rfl)
abbrev cX0_cellOf : ByteArray := method_11_code
def yX0_cellOf : MethodName := ⟨RX0, "cellOf", "(LWakeground;II[J)I"⟩
def dkwX0_cellOf_0 : List UInt8 := [45, 3, 42, 27, 28, 182, 0, 44, 133, 80, 167, 0, 11, 58, 4, 4, 172, 58, 4, 5, 172, 3, 172]
abbrev dktX0_cellOf_0 : List UInt8 := dkwX0_cellOf_0 ++ []
theorem dksX0_cellOf_0 : cX0_cellOf.data.toList.drop 0 = dktX0_cellOf_0 := by decide +kernel
theorem dX0_cellOf_0 : decode cX0_cellOf 0 = .ok (.aload_n 3, 1) := dk_45 (dk_at dksX0_cellOf_0 0 rfl rfl)
theorem dX0_cellOf_1 : decode cX0_cellOf 1 = .ok (.iconst 0, 1) := dk_3 (dk_at dksX0_cellOf_0 1 rfl rfl)
theorem dX0_cellOf_2 : decode cX0_cellOf 2 = .ok (.aload_n 0, 1) := dk_42 (dk_at dksX0_cellOf_0 2 rfl rfl)
theorem dX0_cellOf_3 : decode cX0_cellOf 3 = .ok (.iload_n 1, 1) := dk_27 (dk_at dksX0_cellOf_0 3 rfl rfl)
theorem dX0_cellOf_4 : decode cX0_cellOf 4 = .ok (.iload_n 2, 1) := dk_28 (dk_at dksX0_cellOf_0 4 rfl rfl)
theorem dX0_cellOf_5 : decode cX0_cellOf 5 = .ok (.invokevirtual 44, 3) := dk_182 0 44 (dk_at dksX0_cellOf_0 5 rfl rfl)
theorem dX0_cellOf_8 : decode cX0_cellOf 8 = .ok (.i2l, 1) := dk_133 (dk_at dksX0_cellOf_0 8 rfl rfl)
theorem dX0_cellOf_9 : decode cX0_cellOf 9 = .ok (.lastore, 1) := dk_80 (dk_at dksX0_cellOf_0 9 rfl rfl)
theorem dX0_cellOf_10 : decode cX0_cellOf 10 = .ok (.goto 11, 3) := dk_167 0 11 (dk_at dksX0_cellOf_0 10 rfl rfl)
theorem dX0_cellOf_13 : decode cX0_cellOf 13 = .ok (.astore 4, 2) := dk_58 4 (dk_at dksX0_cellOf_0 13 rfl rfl)
theorem dX0_cellOf_15 : decode cX0_cellOf 15 = .ok (.iconst 1, 1) := dk_4 (dk_at dksX0_cellOf_0 15 rfl rfl)
theorem dX0_cellOf_16 : decode cX0_cellOf 16 = .ok (.ireturn, 1) := dk_172 (dk_at dksX0_cellOf_0 16 rfl rfl)
theorem dX0_cellOf_17 : decode cX0_cellOf 17 = .ok (.astore 4, 2) := dk_58 4 (dk_at dksX0_cellOf_0 17 rfl rfl)
theorem dX0_cellOf_19 : decode cX0_cellOf 19 = .ok (.iconst 2, 1) := dk_5 (dk_at dksX0_cellOf_0 19 rfl rfl)
theorem dX0_cellOf_20 : decode cX0_cellOf 20 = .ok (.ireturn, 1) := dk_172 (dk_at dksX0_cellOf_0 20 rfl rfl)
theorem dX0_cellOf_21 : decode cX0_cellOf 21 = .ok (.iconst 0, 1) := dk_3 (dk_at dksX0_cellOf_0 21 rfl rfl)
theorem dX0_cellOf_22 : decode cX0_cellOf 22 = .ok (.ireturn, 1) := dk_172 (dk_at dksX0_cellOf_0 22 rfl rfl)
abbrev cX0_layerOf : ByteArray := method_12_code
def yX0_layerOf : MethodName := ⟨RX0, "layerOf", "(LWakeground;III[J)I"⟩
def dkwX0_layerOf_1 : List UInt8 := [172]
abbrev dktX0_layerOf_1 : List UInt8 := dkwX0_layerOf_1 ++ []
def dkwX0_layerOf_0 : List UInt8 := [25, 4, 3, 42, 27, 28, 29, 182, 0, 47, 133, 80, 167, 0, 11, 58, 5, 4, 172, 58, 5, 5, 172, 3]
abbrev dktX0_layerOf_0 : List UInt8 := dkwX0_layerOf_0 ++ dktX0_layerOf_1
theorem dksX0_layerOf_0 : cX0_layerOf.data.toList.drop 0 = dktX0_layerOf_0 := by decide +kernel
theorem dksX0_layerOf_1 : cX0_layerOf.data.toList.drop 24 = dktX0_layerOf_1 := dk_seg dksX0_layerOf_0 24 rfl rfl
theorem dX0_layerOf_0 : decode cX0_layerOf 0 = .ok (.aload 4, 2) := dk_25 4 (dk_at dksX0_layerOf_0 0 rfl rfl)
theorem dX0_layerOf_2 : decode cX0_layerOf 2 = .ok (.iconst 0, 1) := dk_3 (dk_at dksX0_layerOf_0 2 rfl rfl)
theorem dX0_layerOf_3 : decode cX0_layerOf 3 = .ok (.aload_n 0, 1) := dk_42 (dk_at dksX0_layerOf_0 3 rfl rfl)
theorem dX0_layerOf_4 : decode cX0_layerOf 4 = .ok (.iload_n 1, 1) := dk_27 (dk_at dksX0_layerOf_0 4 rfl rfl)
theorem dX0_layerOf_5 : decode cX0_layerOf 5 = .ok (.iload_n 2, 1) := dk_28 (dk_at dksX0_layerOf_0 5 rfl rfl)
theorem dX0_layerOf_6 : decode cX0_layerOf 6 = .ok (.iload_n 3, 1) := dk_29 (dk_at dksX0_layerOf_0 6 rfl rfl)
theorem dX0_layerOf_7 : decode cX0_layerOf 7 = .ok (.invokevirtual 47, 3) := dk_182 0 47 (dk_at dksX0_layerOf_0 7 rfl rfl)
theorem dX0_layerOf_10 : decode cX0_layerOf 10 = .ok (.i2l, 1) := dk_133 (dk_at dksX0_layerOf_0 10 rfl rfl)
theorem dX0_layerOf_11 : decode cX0_layerOf 11 = .ok (.lastore, 1) := dk_80 (dk_at dksX0_layerOf_0 11 rfl rfl)
theorem dX0_layerOf_12 : decode cX0_layerOf 12 = .ok (.goto 11, 3) := dk_167 0 11 (dk_at dksX0_layerOf_0 12 rfl rfl)
theorem dX0_layerOf_15 : decode cX0_layerOf 15 = .ok (.astore 5, 2) := dk_58 5 (dk_at dksX0_layerOf_0 15 rfl rfl)
theorem dX0_layerOf_17 : decode cX0_layerOf 17 = .ok (.iconst 1, 1) := dk_4 (dk_at dksX0_layerOf_0 17 rfl rfl)
theorem dX0_layerOf_18 : decode cX0_layerOf 18 = .ok (.ireturn, 1) := dk_172 (dk_at dksX0_layerOf_0 18 rfl rfl)
theorem dX0_layerOf_19 : decode cX0_layerOf 19 = .ok (.astore 5, 2) := dk_58 5 (dk_at dksX0_layerOf_0 19 rfl rfl)
theorem dX0_layerOf_21 : decode cX0_layerOf 21 = .ok (.iconst 2, 1) := dk_5 (dk_at dksX0_layerOf_0 21 rfl rfl)
theorem dX0_layerOf_22 : decode cX0_layerOf 22 = .ok (.ireturn, 1) := dk_172 (dk_at dksX0_layerOf_0 22 rfl rfl)
theorem dX0_layerOf_23 : decode cX0_layerOf 23 = .ok (.iconst 0, 1) := dk_3 (dk_at dksX0_layerOf_0 23 rfl rfl)
theorem dX0_layerOf_24 : decode cX0_layerOf 24 = .ok (.ireturn, 1) := dk_172 (dk_at dksX0_layerOf_1 0 rfl rfl)
abbrev cX0_neighbour : ByteArray := method_13_code
def yX0_neighbour : MethodName := ⟨RX0, "neighbour", "(LWakeground;II[J)I"⟩
def dkwX0_neighbour_0 : List UInt8 := [45, 3, 42, 27, 28, 182, 0, 50, 133, 80, 167, 0, 7, 58, 4, 4, 172, 3, 172]
abbrev dktX0_neighbour_0 : List UInt8 := dkwX0_neighbour_0 ++ []
theorem dksX0_neighbour_0 : cX0_neighbour.data.toList.drop 0 = dktX0_neighbour_0 := by decide +kernel
theorem dX0_neighbour_0 : decode cX0_neighbour 0 = .ok (.aload_n 3, 1) := dk_45 (dk_at dksX0_neighbour_0 0 rfl rfl)
theorem dX0_neighbour_1 : decode cX0_neighbour 1 = .ok (.iconst 0, 1) := dk_3 (dk_at dksX0_neighbour_0 1 rfl rfl)
theorem dX0_neighbour_2 : decode cX0_neighbour 2 = .ok (.aload_n 0, 1) := dk_42 (dk_at dksX0_neighbour_0 2 rfl rfl)
theorem dX0_neighbour_3 : decode cX0_neighbour 3 = .ok (.iload_n 1, 1) := dk_27 (dk_at dksX0_neighbour_0 3 rfl rfl)
theorem dX0_neighbour_4 : decode cX0_neighbour 4 = .ok (.iload_n 2, 1) := dk_28 (dk_at dksX0_neighbour_0 4 rfl rfl)
theorem dX0_neighbour_5 : decode cX0_neighbour 5 = .ok (.invokevirtual 50, 3) := dk_182 0 50 (dk_at dksX0_neighbour_0 5 rfl rfl)
theorem dX0_neighbour_8 : decode cX0_neighbour 8 = .ok (.i2l, 1) := dk_133 (dk_at dksX0_neighbour_0 8 rfl rfl)
theorem dX0_neighbour_9 : decode cX0_neighbour 9 = .ok (.lastore, 1) := dk_80 (dk_at dksX0_neighbour_0 9 rfl rfl)
theorem dX0_neighbour_10 : decode cX0_neighbour 10 = .ok (.goto 7, 3) := dk_167 0 7 (dk_at dksX0_neighbour_0 10 rfl rfl)
theorem dX0_neighbour_13 : decode cX0_neighbour 13 = .ok (.astore 4, 2) := dk_58 4 (dk_at dksX0_neighbour_0 13 rfl rfl)
theorem dX0_neighbour_15 : decode cX0_neighbour 15 = .ok (.iconst 1, 1) := dk_4 (dk_at dksX0_neighbour_0 15 rfl rfl)
theorem dX0_neighbour_16 : decode cX0_neighbour 16 = .ok (.ireturn, 1) := dk_172 (dk_at dksX0_neighbour_0 16 rfl rfl)
theorem dX0_neighbour_17 : decode cX0_neighbour 17 = .ok (.iconst 0, 1) := dk_3 (dk_at dksX0_neighbour_0 17 rfl rfl)
theorem dX0_neighbour_18 : decode cX0_neighbour 18 = .ok (.ireturn, 1) := dk_172 (dk_at dksX0_neighbour_0 18 rfl rfl)
abbrev cX0_houseOf : ByteArray := method_14_code
def yX0_houseOf : MethodName := ⟨RX0, "houseOf", "(LWakeground;II[J)I"⟩
def dkwX0_houseOf_0 : List UInt8 := [45, 3, 42, 27, 28, 182, 0, 53, 133, 80, 167, 0, 11, 58, 4, 4, 172, 58, 4, 5, 172, 3, 172]
abbrev dktX0_houseOf_0 : List UInt8 := dkwX0_houseOf_0 ++ []
theorem dksX0_houseOf_0 : cX0_houseOf.data.toList.drop 0 = dktX0_houseOf_0 := by decide +kernel
theorem dX0_houseOf_0 : decode cX0_houseOf 0 = .ok (.aload_n 3, 1) := dk_45 (dk_at dksX0_houseOf_0 0 rfl rfl)
theorem dX0_houseOf_1 : decode cX0_houseOf 1 = .ok (.iconst 0, 1) := dk_3 (dk_at dksX0_houseOf_0 1 rfl rfl)
theorem dX0_houseOf_2 : decode cX0_houseOf 2 = .ok (.aload_n 0, 1) := dk_42 (dk_at dksX0_houseOf_0 2 rfl rfl)
theorem dX0_houseOf_3 : decode cX0_houseOf 3 = .ok (.iload_n 1, 1) := dk_27 (dk_at dksX0_houseOf_0 3 rfl rfl)
theorem dX0_houseOf_4 : decode cX0_houseOf 4 = .ok (.iload_n 2, 1) := dk_28 (dk_at dksX0_houseOf_0 4 rfl rfl)
theorem dX0_houseOf_5 : decode cX0_houseOf 5 = .ok (.invokevirtual 53, 3) := dk_182 0 53 (dk_at dksX0_houseOf_0 5 rfl rfl)
theorem dX0_houseOf_8 : decode cX0_houseOf 8 = .ok (.i2l, 1) := dk_133 (dk_at dksX0_houseOf_0 8 rfl rfl)
theorem dX0_houseOf_9 : decode cX0_houseOf 9 = .ok (.lastore, 1) := dk_80 (dk_at dksX0_houseOf_0 9 rfl rfl)
theorem dX0_houseOf_10 : decode cX0_houseOf 10 = .ok (.goto 11, 3) := dk_167 0 11 (dk_at dksX0_houseOf_0 10 rfl rfl)
theorem dX0_houseOf_13 : decode cX0_houseOf 13 = .ok (.astore 4, 2) := dk_58 4 (dk_at dksX0_houseOf_0 13 rfl rfl)
theorem dX0_houseOf_15 : decode cX0_houseOf 15 = .ok (.iconst 1, 1) := dk_4 (dk_at dksX0_houseOf_0 15 rfl rfl)
theorem dX0_houseOf_16 : decode cX0_houseOf 16 = .ok (.ireturn, 1) := dk_172 (dk_at dksX0_houseOf_0 16 rfl rfl)
theorem dX0_houseOf_17 : decode cX0_houseOf 17 = .ok (.astore 4, 2) := dk_58 4 (dk_at dksX0_houseOf_0 17 rfl rfl)
theorem dX0_houseOf_19 : decode cX0_houseOf 19 = .ok (.iconst 2, 1) := dk_5 (dk_at dksX0_houseOf_0 19 rfl rfl)
theorem dX0_houseOf_20 : decode cX0_houseOf 20 = .ok (.ireturn, 1) := dk_172 (dk_at dksX0_houseOf_0 20 rfl rfl)
theorem dX0_houseOf_21 : decode cX0_houseOf 21 = .ok (.iconst 0, 1) := dk_3 (dk_at dksX0_houseOf_0 21 rfl rfl)
theorem dX0_houseOf_22 : decode cX0_houseOf 22 = .ok (.ireturn, 1) := dk_172 (dk_at dksX0_houseOf_0 22 rfl rfl)
abbrev cX0_reading : ByteArray := method_15_code
def yX0_reading : MethodName := ⟨RX0, "reading", "(LWakeground;III[J)I"⟩
def dkwX0_reading_0 : List UInt8 := [25, 4, 3, 42, 27, 28, 29, 182, 0, 56, 133, 80, 167, 0, 7, 58, 5, 4, 172, 3, 172]
abbrev dktX0_reading_0 : List UInt8 := dkwX0_reading_0 ++ []
theorem dksX0_reading_0 : cX0_reading.data.toList.drop 0 = dktX0_reading_0 := by decide +kernel
theorem dX0_reading_0 : decode cX0_reading 0 = .ok (.aload 4, 2) := dk_25 4 (dk_at dksX0_reading_0 0 rfl rfl)
theorem dX0_reading_2 : decode cX0_reading 2 = .ok (.iconst 0, 1) := dk_3 (dk_at dksX0_reading_0 2 rfl rfl)
theorem dX0_reading_3 : decode cX0_reading 3 = .ok (.aload_n 0, 1) := dk_42 (dk_at dksX0_reading_0 3 rfl rfl)
theorem dX0_reading_4 : decode cX0_reading 4 = .ok (.iload_n 1, 1) := dk_27 (dk_at dksX0_reading_0 4 rfl rfl)
theorem dX0_reading_5 : decode cX0_reading 5 = .ok (.iload_n 2, 1) := dk_28 (dk_at dksX0_reading_0 5 rfl rfl)
theorem dX0_reading_6 : decode cX0_reading 6 = .ok (.iload_n 3, 1) := dk_29 (dk_at dksX0_reading_0 6 rfl rfl)
theorem dX0_reading_7 : decode cX0_reading 7 = .ok (.invokevirtual 56, 3) := dk_182 0 56 (dk_at dksX0_reading_0 7 rfl rfl)
theorem dX0_reading_10 : decode cX0_reading 10 = .ok (.i2l, 1) := dk_133 (dk_at dksX0_reading_0 10 rfl rfl)
theorem dX0_reading_11 : decode cX0_reading 11 = .ok (.lastore, 1) := dk_80 (dk_at dksX0_reading_0 11 rfl rfl)
theorem dX0_reading_12 : decode cX0_reading 12 = .ok (.goto 7, 3) := dk_167 0 7 (dk_at dksX0_reading_0 12 rfl rfl)
theorem dX0_reading_15 : decode cX0_reading 15 = .ok (.astore 5, 2) := dk_58 5 (dk_at dksX0_reading_0 15 rfl rfl)
theorem dX0_reading_17 : decode cX0_reading 17 = .ok (.iconst 1, 1) := dk_4 (dk_at dksX0_reading_0 17 rfl rfl)
theorem dX0_reading_18 : decode cX0_reading 18 = .ok (.ireturn, 1) := dk_172 (dk_at dksX0_reading_0 18 rfl rfl)
theorem dX0_reading_19 : decode cX0_reading 19 = .ok (.iconst 0, 1) := dk_3 (dk_at dksX0_reading_0 19 rfl rfl)
theorem dX0_reading_20 : decode cX0_reading 20 = .ok (.ireturn, 1) := dk_172 (dk_at dksX0_reading_0 20 rfl rfl)
abbrev cX0_claimOf : ByteArray := method_16_code
def yX0_claimOf : MethodName := ⟨RX0, "claimOf", "(LWakeground;I[J)I"⟩
def dkwX0_claimOf_0 : List UInt8 := [44, 3, 42, 27, 182, 0, 59, 133, 80, 167, 0, 6, 78, 4, 172, 3, 172]
abbrev dktX0_claimOf_0 : List UInt8 := dkwX0_claimOf_0 ++ []
theorem dksX0_claimOf_0 : cX0_claimOf.data.toList.drop 0 = dktX0_claimOf_0 := by decide +kernel
theorem dX0_claimOf_0 : decode cX0_claimOf 0 = .ok (.aload_n 2, 1) := dk_44 (dk_at dksX0_claimOf_0 0 rfl rfl)
theorem dX0_claimOf_1 : decode cX0_claimOf 1 = .ok (.iconst 0, 1) := dk_3 (dk_at dksX0_claimOf_0 1 rfl rfl)
theorem dX0_claimOf_2 : decode cX0_claimOf 2 = .ok (.aload_n 0, 1) := dk_42 (dk_at dksX0_claimOf_0 2 rfl rfl)
theorem dX0_claimOf_3 : decode cX0_claimOf 3 = .ok (.iload_n 1, 1) := dk_27 (dk_at dksX0_claimOf_0 3 rfl rfl)
theorem dX0_claimOf_4 : decode cX0_claimOf 4 = .ok (.invokevirtual 59, 3) := dk_182 0 59 (dk_at dksX0_claimOf_0 4 rfl rfl)
theorem dX0_claimOf_7 : decode cX0_claimOf 7 = .ok (.i2l, 1) := dk_133 (dk_at dksX0_claimOf_0 7 rfl rfl)
theorem dX0_claimOf_8 : decode cX0_claimOf 8 = .ok (.lastore, 1) := dk_80 (dk_at dksX0_claimOf_0 8 rfl rfl)
theorem dX0_claimOf_9 : decode cX0_claimOf 9 = .ok (.goto 6, 3) := dk_167 0 6 (dk_at dksX0_claimOf_0 9 rfl rfl)
theorem dX0_claimOf_12 : decode cX0_claimOf 12 = .ok (.astore_n 3, 1) := dk_78 (dk_at dksX0_claimOf_0 12 rfl rfl)
theorem dX0_claimOf_13 : decode cX0_claimOf 13 = .ok (.iconst 1, 1) := dk_4 (dk_at dksX0_claimOf_0 13 rfl rfl)
theorem dX0_claimOf_14 : decode cX0_claimOf 14 = .ok (.ireturn, 1) := dk_172 (dk_at dksX0_claimOf_0 14 rfl rfl)
theorem dX0_claimOf_15 : decode cX0_claimOf 15 = .ok (.iconst 0, 1) := dk_3 (dk_at dksX0_claimOf_0 15 rfl rfl)
theorem dX0_claimOf_16 : decode cX0_claimOf 16 = .ok (.ireturn, 1) := dk_172 (dk_at dksX0_claimOf_0 16 rfl rfl)
abbrev cX0_claimAnew : ByteArray := method_17_code
def yX0_claimAnew : MethodName := ⟨RX0, "claimAnew", "(LWakeground;I[J)I"⟩
def dkwX0_claimAnew_0 : List UInt8 := [44, 3, 42, 27, 182, 0, 62, 133, 80, 167, 0, 6, 78, 4, 172, 3, 172]
abbrev dktX0_claimAnew_0 : List UInt8 := dkwX0_claimAnew_0 ++ []
theorem dksX0_claimAnew_0 : cX0_claimAnew.data.toList.drop 0 = dktX0_claimAnew_0 := by decide +kernel
theorem dX0_claimAnew_0 : decode cX0_claimAnew 0 = .ok (.aload_n 2, 1) := dk_44 (dk_at dksX0_claimAnew_0 0 rfl rfl)
theorem dX0_claimAnew_1 : decode cX0_claimAnew 1 = .ok (.iconst 0, 1) := dk_3 (dk_at dksX0_claimAnew_0 1 rfl rfl)
theorem dX0_claimAnew_2 : decode cX0_claimAnew 2 = .ok (.aload_n 0, 1) := dk_42 (dk_at dksX0_claimAnew_0 2 rfl rfl)
theorem dX0_claimAnew_3 : decode cX0_claimAnew 3 = .ok (.iload_n 1, 1) := dk_27 (dk_at dksX0_claimAnew_0 3 rfl rfl)
theorem dX0_claimAnew_4 : decode cX0_claimAnew 4 = .ok (.invokevirtual 62, 3) := dk_182 0 62 (dk_at dksX0_claimAnew_0 4 rfl rfl)
theorem dX0_claimAnew_7 : decode cX0_claimAnew 7 = .ok (.i2l, 1) := dk_133 (dk_at dksX0_claimAnew_0 7 rfl rfl)
theorem dX0_claimAnew_8 : decode cX0_claimAnew 8 = .ok (.lastore, 1) := dk_80 (dk_at dksX0_claimAnew_0 8 rfl rfl)
theorem dX0_claimAnew_9 : decode cX0_claimAnew 9 = .ok (.goto 6, 3) := dk_167 0 6 (dk_at dksX0_claimAnew_0 9 rfl rfl)
theorem dX0_claimAnew_12 : decode cX0_claimAnew 12 = .ok (.astore_n 3, 1) := dk_78 (dk_at dksX0_claimAnew_0 12 rfl rfl)
theorem dX0_claimAnew_13 : decode cX0_claimAnew 13 = .ok (.iconst 1, 1) := dk_4 (dk_at dksX0_claimAnew_0 13 rfl rfl)
theorem dX0_claimAnew_14 : decode cX0_claimAnew 14 = .ok (.ireturn, 1) := dk_172 (dk_at dksX0_claimAnew_0 14 rfl rfl)
theorem dX0_claimAnew_15 : decode cX0_claimAnew 15 = .ok (.iconst 0, 1) := dk_3 (dk_at dksX0_claimAnew_0 15 rfl rfl)
theorem dX0_claimAnew_16 : decode cX0_claimAnew 16 = .ok (.ireturn, 1) := dk_172 (dk_at dksX0_claimAnew_0 16 rfl rfl)
abbrev cX0_balance : ByteArray := method_18_code
def yX0_balance : MethodName := ⟨RX0, "balance", "(LWakeground;II[J)I"⟩
def dkwX0_balance_0 : List UInt8 := [45, 3, 42, 27, 28, 182, 0, 65, 80, 167, 0, 7, 58, 4, 4, 172, 3, 172]
abbrev dktX0_balance_0 : List UInt8 := dkwX0_balance_0 ++ []
theorem dksX0_balance_0 : cX0_balance.data.toList.drop 0 = dktX0_balance_0 := by decide +kernel
theorem dX0_balance_0 : decode cX0_balance 0 = .ok (.aload_n 3, 1) := dk_45 (dk_at dksX0_balance_0 0 rfl rfl)
theorem dX0_balance_1 : decode cX0_balance 1 = .ok (.iconst 0, 1) := dk_3 (dk_at dksX0_balance_0 1 rfl rfl)
theorem dX0_balance_2 : decode cX0_balance 2 = .ok (.aload_n 0, 1) := dk_42 (dk_at dksX0_balance_0 2 rfl rfl)
theorem dX0_balance_3 : decode cX0_balance 3 = .ok (.iload_n 1, 1) := dk_27 (dk_at dksX0_balance_0 3 rfl rfl)
theorem dX0_balance_4 : decode cX0_balance 4 = .ok (.iload_n 2, 1) := dk_28 (dk_at dksX0_balance_0 4 rfl rfl)
theorem dX0_balance_5 : decode cX0_balance 5 = .ok (.invokevirtual 65, 3) := dk_182 0 65 (dk_at dksX0_balance_0 5 rfl rfl)
theorem dX0_balance_8 : decode cX0_balance 8 = .ok (.lastore, 1) := dk_80 (dk_at dksX0_balance_0 8 rfl rfl)
theorem dX0_balance_9 : decode cX0_balance 9 = .ok (.goto 7, 3) := dk_167 0 7 (dk_at dksX0_balance_0 9 rfl rfl)
theorem dX0_balance_12 : decode cX0_balance 12 = .ok (.astore 4, 2) := dk_58 4 (dk_at dksX0_balance_0 12 rfl rfl)
theorem dX0_balance_14 : decode cX0_balance 14 = .ok (.iconst 1, 1) := dk_4 (dk_at dksX0_balance_0 14 rfl rfl)
theorem dX0_balance_15 : decode cX0_balance 15 = .ok (.ireturn, 1) := dk_172 (dk_at dksX0_balance_0 15 rfl rfl)
theorem dX0_balance_16 : decode cX0_balance 16 = .ok (.iconst 0, 1) := dk_3 (dk_at dksX0_balance_0 16 rfl rfl)
theorem dX0_balance_17 : decode cX0_balance 17 = .ok (.ireturn, 1) := dk_172 (dk_at dksX0_balance_0 17 rfl rfl)
abbrev cX0_air : ByteArray := method_19_code
def yX0_air : MethodName := ⟨RX0, "air", "(LWakeground;I[J)I"⟩
def dkwX0_air_0 : List UInt8 := [44, 3, 42, 27, 182, 0, 69, 80, 167, 0, 6, 78, 4, 172, 3, 172]
abbrev dktX0_air_0 : List UInt8 := dkwX0_air_0 ++ []
theorem dksX0_air_0 : cX0_air.data.toList.drop 0 = dktX0_air_0 := by decide +kernel
theorem dX0_air_0 : decode cX0_air 0 = .ok (.aload_n 2, 1) := dk_44 (dk_at dksX0_air_0 0 rfl rfl)
theorem dX0_air_1 : decode cX0_air 1 = .ok (.iconst 0, 1) := dk_3 (dk_at dksX0_air_0 1 rfl rfl)
theorem dX0_air_2 : decode cX0_air 2 = .ok (.aload_n 0, 1) := dk_42 (dk_at dksX0_air_0 2 rfl rfl)
theorem dX0_air_3 : decode cX0_air 3 = .ok (.iload_n 1, 1) := dk_27 (dk_at dksX0_air_0 3 rfl rfl)
theorem dX0_air_4 : decode cX0_air 4 = .ok (.invokevirtual 69, 3) := dk_182 0 69 (dk_at dksX0_air_0 4 rfl rfl)
theorem dX0_air_7 : decode cX0_air 7 = .ok (.lastore, 1) := dk_80 (dk_at dksX0_air_0 7 rfl rfl)
theorem dX0_air_8 : decode cX0_air 8 = .ok (.goto 6, 3) := dk_167 0 6 (dk_at dksX0_air_0 8 rfl rfl)
theorem dX0_air_11 : decode cX0_air 11 = .ok (.astore_n 3, 1) := dk_78 (dk_at dksX0_air_0 11 rfl rfl)
theorem dX0_air_12 : decode cX0_air 12 = .ok (.iconst 1, 1) := dk_4 (dk_at dksX0_air_0 12 rfl rfl)
theorem dX0_air_13 : decode cX0_air 13 = .ok (.ireturn, 1) := dk_172 (dk_at dksX0_air_0 13 rfl rfl)
theorem dX0_air_14 : decode cX0_air 14 = .ok (.iconst 0, 1) := dk_3 (dk_at dksX0_air_0 14 rfl rfl)
theorem dX0_air_15 : decode cX0_air 15 = .ok (.ireturn, 1) := dk_172 (dk_at dksX0_air_0 15 rfl rfl)
theorem q34 : (Jvm.Cond.initialized "WakegroundLaw") ∈ lw_all := lw_g (lw_at lw_m1 0 rfl) rfl
theorem q65 : (Jvm.Cond.classLink "WakegroundLaw" (8 : Nat) "Wakeground") ∈ lw_all := lw_g (lw_at lw_m1 31 rfl) rfl
theorem q67 : (Jvm.Cond.methodLink "WakegroundLaw" (73 : Nat) ({ cls := "Wakeground", name := "<init>", desc := "()V" } : Jvm.MethodName)) ∈ lw_all := lw_g (lw_at lw_m1 33 rfl) rfl
theorem q211 : (Jvm.Cond.methodLink "WakegroundLaw" (112 : Nat) ({ cls := "Wakeground", name := "month", desc := "()I" } : Jvm.MethodName)) ∈ lw_all := lw_g (lw_at lw_m1 177 rfl) rfl
theorem q215 : (Jvm.Cond.methodLink "WakegroundLaw" (125 : Nat) ({ cls := "Wakeground", name := "lakes", desc := "()I" } : Jvm.MethodName)) ∈ lw_all := lw_g (lw_at lw_m1 181 rfl) rfl
theorem q371 : (Jvm.Cond.methodLink "WakegroundLaw" (77 : Nat) ({ cls := "WakegroundLaw", name := "ground", desc := "(LWakeground;IIIIII)I" } : Jvm.MethodName)) ∈ lw_all := lw_g (lw_at lw_m2 97 rfl) rfl
theorem q372 : (Jvm.Cond.static ({ cls := "WakegroundLaw", name := "ground", desc := "(LWakeground;IIIIII)I" } : Jvm.MethodName)) ∈ lw_all := lw_g (lw_at lw_m2 98 rfl) rfl
theorem q373 : (Jvm.Cond.codeWith ({ cls := "WakegroundLaw", name := "ground", desc := "(LWakeground;IIIIII)I" } : Jvm.MethodName) method_3_code (8 : Nat) (Option.some Jvm.ClassFile.FieldType.int) [((0 : Nat), (13 : Nat), (16 : Nat), (13 : Nat)), ((0 : Nat), (13 : Nat), (20 : Nat), (15 : Nat))]) ∈ lw_all := lw_g (lw_at lw_m2 99 rfl) rfl
theorem q374 : (Jvm.Cond.classLink "WakegroundLaw" (13 : Nat) "java/lang/IndexOutOfBoundsException") ∈ lw_all := lw_g (lw_at lw_m2 100 rfl) rfl
theorem q407 : (Jvm.Cond.classLink "WakegroundLaw" (15 : Nat) "java/lang/IllegalArgumentException") ∈ lw_all := lw_g (lw_at lw_m2 133 rfl) rfl
theorem q408 : (Jvm.Cond.methodLink "WakegroundLaw" (7 : Nat) ({ cls := "Wakeground", name := "ground", desc := "(IIIIII)V" } : Jvm.MethodName)) ∈ lw_all := lw_g (lw_at lw_m2 134 rfl) rfl
theorem q458 : (Jvm.Cond.methodLink "WakegroundLaw" (87 : Nat) ({ cls := "WakegroundLaw", name := "moss", desc := "(LWakeground;II[J)I" } : Jvm.MethodName)) ∈ lw_all := lw_g (lw_at lw_m2 184 rfl) rfl
theorem q459 : (Jvm.Cond.static ({ cls := "WakegroundLaw", name := "moss", desc := "(LWakeground;II[J)I" } : Jvm.MethodName)) ∈ lw_all := lw_g (lw_at lw_m2 185 rfl) rfl
theorem q460 : (Jvm.Cond.codeWith ({ cls := "WakegroundLaw", name := "moss", desc := "(LWakeground;II[J)I" } : Jvm.MethodName) method_4_code (5 : Nat) (Option.some Jvm.ClassFile.FieldType.int) [((0 : Nat), (10 : Nat), (13 : Nat), (13 : Nat)), ((0 : Nat), (10 : Nat), (17 : Nat), (15 : Nat))]) ∈ lw_all := lw_g (lw_at lw_m2 186 rfl) rfl
theorem q461 : (Jvm.Cond.methodLink "WakegroundLaw" (17 : Nat) ({ cls := "Wakeground", name := "moss", desc := "(II)I" } : Jvm.MethodName)) ∈ lw_all := lw_g (lw_at lw_m2 187 rfl) rfl
theorem q465 : (Jvm.Cond.methodLink "WakegroundLaw" (91 : Nat) ({ cls := "WakegroundLaw", name := "pass", desc := "(LWakeground;III[J)I" } : Jvm.MethodName)) ∈ lw_all := lw_g (lw_at lw_m2 191 rfl) rfl
theorem q466 : (Jvm.Cond.static ({ cls := "WakegroundLaw", name := "pass", desc := "(LWakeground;III[J)I" } : Jvm.MethodName)) ∈ lw_all := lw_g (lw_at lw_m2 192 rfl) rfl
theorem q467 : (Jvm.Cond.codeWith ({ cls := "WakegroundLaw", name := "pass", desc := "(LWakeground;III[J)I" } : Jvm.MethodName) method_5_code (6 : Nat) (Option.some Jvm.ClassFile.FieldType.int) [((0 : Nat), (12 : Nat), (15 : Nat), (15 : Nat)), ((0 : Nat), (12 : Nat), (19 : Nat), (25 : Nat))]) ∈ lw_all := lw_g (lw_at lw_m2 193 rfl) rfl
theorem q468 : (Jvm.Cond.classLink "WakegroundLaw" (25 : Nat) "java/lang/IllegalStateException") ∈ lw_all := lw_g (lw_at lw_m2 194 rfl) rfl
theorem q469 : (Jvm.Cond.methodLink "WakegroundLaw" (21 : Nat) ({ cls := "Wakeground", name := "pass", desc := "(III)I" } : Jvm.MethodName)) ∈ lw_all := lw_g (lw_at lw_m2 195 rfl) rfl
theorem q636 : (Jvm.Cond.methodLink "WakegroundLaw" (95 : Nat) ({ cls := "WakegroundLaw", name := "fire", desc := "(LWakeground;I[J)I" } : Jvm.MethodName)) ∈ lw_all := lw_g (lw_at lw_m3 122 rfl) rfl
theorem q637 : (Jvm.Cond.static ({ cls := "WakegroundLaw", name := "fire", desc := "(LWakeground;I[J)I" } : Jvm.MethodName)) ∈ lw_all := lw_g (lw_at lw_m3 123 rfl) rfl
theorem q638 : (Jvm.Cond.codeWith ({ cls := "WakegroundLaw", name := "fire", desc := "(LWakeground;I[J)I" } : Jvm.MethodName) method_6_code (4 : Nat) (Option.some Jvm.ClassFile.FieldType.int) [((0 : Nat), (9 : Nat), (12 : Nat), (13 : Nat)), ((0 : Nat), (9 : Nat), (15 : Nat), (25 : Nat))]) ∈ lw_all := lw_g (lw_at lw_m3 124 rfl) rfl
theorem q639 : (Jvm.Cond.methodLink "WakegroundLaw" (27 : Nat) ({ cls := "Wakeground", name := "fire", desc := "(I)I" } : Jvm.MethodName)) ∈ lw_all := lw_g (lw_at lw_m3 125 rfl) rfl
theorem q643 : (Jvm.Cond.methodLink "WakegroundLaw" (99 : Nat) ({ cls := "WakegroundLaw", name := "breach", desc := "(LWakeground;I[J)I" } : Jvm.MethodName)) ∈ lw_all := lw_g (lw_at lw_m3 129 rfl) rfl
theorem q644 : (Jvm.Cond.static ({ cls := "WakegroundLaw", name := "breach", desc := "(LWakeground;I[J)I" } : Jvm.MethodName)) ∈ lw_all := lw_g (lw_at lw_m3 130 rfl) rfl
theorem q645 : (Jvm.Cond.codeWith ({ cls := "WakegroundLaw", name := "breach", desc := "(LWakeground;I[J)I" } : Jvm.MethodName) method_7_code (4 : Nat) (Option.some Jvm.ClassFile.FieldType.int) [((0 : Nat), (9 : Nat), (12 : Nat), (13 : Nat)), ((0 : Nat), (9 : Nat), (15 : Nat), (25 : Nat))]) ∈ lw_all := lw_g (lw_at lw_m3 131 rfl) rfl
theorem q646 : (Jvm.Cond.methodLink "WakegroundLaw" (31 : Nat) ({ cls := "Wakeground", name := "breach", desc := "(I)I" } : Jvm.MethodName)) ∈ lw_all := lw_g (lw_at lw_m3 132 rfl) rfl
theorem q650 : (Jvm.Cond.methodLink "WakegroundLaw" (102 : Nat) ({ cls := "WakegroundLaw", name := "house", desc := "(LWakeground;IIZ[J)I" } : Jvm.MethodName)) ∈ lw_all := lw_g (lw_at lw_m3 136 rfl) rfl
theorem q651 : (Jvm.Cond.static ({ cls := "WakegroundLaw", name := "house", desc := "(LWakeground;IIZ[J)I" } : Jvm.MethodName)) ∈ lw_all := lw_g (lw_at lw_m3 137 rfl) rfl
theorem q652 : (Jvm.Cond.codeWith ({ cls := "WakegroundLaw", name := "house", desc := "(LWakeground;IIZ[J)I" } : Jvm.MethodName) method_8_code (6 : Nat) (Option.some Jvm.ClassFile.FieldType.int) [((0 : Nat), (12 : Nat), (15 : Nat), (13 : Nat)), ((0 : Nat), (12 : Nat), (19 : Nat), (25 : Nat))]) ∈ lw_all := lw_g (lw_at lw_m3 138 rfl) rfl
theorem q653 : (Jvm.Cond.methodLink "WakegroundLaw" (34 : Nat) ({ cls := "Wakeground", name := "house", desc := "(IIZ)I" } : Jvm.MethodName)) ∈ lw_all := lw_g (lw_at lw_m3 139 rfl) rfl
theorem q739 : (Jvm.Cond.methodLink "WakegroundLaw" (106 : Nat) ({ cls := "WakegroundLaw", name := "borehole", desc := "(LWakeground;II[J)I" } : Jvm.MethodName)) ∈ lw_all := lw_g (lw_at lw_m3 225 rfl) rfl
theorem q740 : (Jvm.Cond.static ({ cls := "WakegroundLaw", name := "borehole", desc := "(LWakeground;II[J)I" } : Jvm.MethodName)) ∈ lw_all := lw_g (lw_at lw_m3 226 rfl) rfl
theorem q741 : (Jvm.Cond.codeWith ({ cls := "WakegroundLaw", name := "borehole", desc := "(LWakeground;II[J)I" } : Jvm.MethodName) method_9_code (5 : Nat) (Option.some Jvm.ClassFile.FieldType.int) [((0 : Nat), (10 : Nat), (13 : Nat), (13 : Nat)), ((0 : Nat), (10 : Nat), (17 : Nat), (15 : Nat)), ((0 : Nat), (10 : Nat), (21 : Nat), (25 : Nat))]) ∈ lw_all := lw_g (lw_at lw_m3 227 rfl) rfl
theorem q742 : (Jvm.Cond.methodLink "WakegroundLaw" (38 : Nat) ({ cls := "Wakeground", name := "borehole", desc := "(II)I" } : Jvm.MethodName)) ∈ lw_all := lw_g (lw_at lw_m3 228 rfl) rfl
theorem q763 : (Jvm.Cond.methodLink "WakegroundLaw" (109 : Nat) ({ cls := "WakegroundLaw", name := "claim", desc := "(LWakeground;I[J)I" } : Jvm.MethodName)) ∈ lw_all := lw_g (lw_at lw_m4 9 rfl) rfl
theorem q764 : (Jvm.Cond.static ({ cls := "WakegroundLaw", name := "claim", desc := "(LWakeground;I[J)I" } : Jvm.MethodName)) ∈ lw_all := lw_g (lw_at lw_m4 10 rfl) rfl
theorem q765 : (Jvm.Cond.codeWith ({ cls := "WakegroundLaw", name := "claim", desc := "(LWakeground;I[J)I" } : Jvm.MethodName) method_10_code (4 : Nat) (Option.some Jvm.ClassFile.FieldType.int) [((0 : Nat), (9 : Nat), (12 : Nat), (13 : Nat)), ((0 : Nat), (9 : Nat), (15 : Nat), (25 : Nat))]) ∈ lw_all := lw_g (lw_at lw_m4 11 rfl) rfl
theorem q766 : (Jvm.Cond.methodLink "WakegroundLaw" (41 : Nat) ({ cls := "Wakeground", name := "claim", desc := "(I)I" } : Jvm.MethodName)) ∈ lw_all := lw_g (lw_at lw_m4 12 rfl) rfl
theorem q814 : (Jvm.Cond.methodLink "WakegroundLaw" (116 : Nat) ({ cls := "WakegroundLaw", name := "cellOf", desc := "(LWakeground;II[J)I" } : Jvm.MethodName)) ∈ lw_all := lw_g (lw_at lw_m4 60 rfl) rfl
theorem q815 : (Jvm.Cond.static ({ cls := "WakegroundLaw", name := "cellOf", desc := "(LWakeground;II[J)I" } : Jvm.MethodName)) ∈ lw_all := lw_g (lw_at lw_m4 61 rfl) rfl
theorem q816 : (Jvm.Cond.codeWith ({ cls := "WakegroundLaw", name := "cellOf", desc := "(LWakeground;II[J)I" } : Jvm.MethodName) method_11_code (5 : Nat) (Option.some Jvm.ClassFile.FieldType.int) [((0 : Nat), (10 : Nat), (13 : Nat), (13 : Nat)), ((0 : Nat), (10 : Nat), (17 : Nat), (15 : Nat))]) ∈ lw_all := lw_g (lw_at lw_m4 62 rfl) rfl
theorem q817 : (Jvm.Cond.methodLink "WakegroundLaw" (44 : Nat) ({ cls := "Wakeground", name := "cellOf", desc := "(II)I" } : Jvm.MethodName)) ∈ lw_all := lw_g (lw_at lw_m4 63 rfl) rfl
theorem q864 : (Jvm.Cond.methodLink "WakegroundLaw" (119 : Nat) ({ cls := "WakegroundLaw", name := "layerOf", desc := "(LWakeground;III[J)I" } : Jvm.MethodName)) ∈ lw_all := lw_g (lw_at lw_m4 110 rfl) rfl
theorem q865 : (Jvm.Cond.static ({ cls := "WakegroundLaw", name := "layerOf", desc := "(LWakeground;III[J)I" } : Jvm.MethodName)) ∈ lw_all := lw_g (lw_at lw_m4 111 rfl) rfl
theorem q866 : (Jvm.Cond.codeWith ({ cls := "WakegroundLaw", name := "layerOf", desc := "(LWakeground;III[J)I" } : Jvm.MethodName) method_12_code (6 : Nat) (Option.some Jvm.ClassFile.FieldType.int) [((0 : Nat), (12 : Nat), (15 : Nat), (13 : Nat)), ((0 : Nat), (12 : Nat), (19 : Nat), (15 : Nat))]) ∈ lw_all := lw_g (lw_at lw_m4 112 rfl) rfl
theorem q867 : (Jvm.Cond.methodLink "WakegroundLaw" (47 : Nat) ({ cls := "Wakeground", name := "layerOf", desc := "(III)I" } : Jvm.MethodName)) ∈ lw_all := lw_g (lw_at lw_m4 113 rfl) rfl
theorem q873 : (Jvm.Cond.methodLink "WakegroundLaw" (122 : Nat) ({ cls := "WakegroundLaw", name := "neighbour", desc := "(LWakeground;II[J)I" } : Jvm.MethodName)) ∈ lw_all := lw_g (lw_at lw_m4 119 rfl) rfl
theorem q874 : (Jvm.Cond.static ({ cls := "WakegroundLaw", name := "neighbour", desc := "(LWakeground;II[J)I" } : Jvm.MethodName)) ∈ lw_all := lw_g (lw_at lw_m4 120 rfl) rfl
theorem q875 : (Jvm.Cond.codeWith ({ cls := "WakegroundLaw", name := "neighbour", desc := "(LWakeground;II[J)I" } : Jvm.MethodName) method_13_code (5 : Nat) (Option.some Jvm.ClassFile.FieldType.int) [((0 : Nat), (10 : Nat), (13 : Nat), (13 : Nat))]) ∈ lw_all := lw_g (lw_at lw_m4 121 rfl) rfl
theorem q876 : (Jvm.Cond.methodLink "WakegroundLaw" (50 : Nat) ({ cls := "Wakeground", name := "neighbour", desc := "(II)I" } : Jvm.MethodName)) ∈ lw_all := lw_g (lw_at lw_m4 122 rfl) rfl
theorem q880 : (Jvm.Cond.methodLink "WakegroundLaw" (129 : Nat) ({ cls := "WakegroundLaw", name := "houseOf", desc := "(LWakeground;II[J)I" } : Jvm.MethodName)) ∈ lw_all := lw_g (lw_at lw_m4 126 rfl) rfl
theorem q881 : (Jvm.Cond.static ({ cls := "WakegroundLaw", name := "houseOf", desc := "(LWakeground;II[J)I" } : Jvm.MethodName)) ∈ lw_all := lw_g (lw_at lw_m4 127 rfl) rfl
theorem q882 : (Jvm.Cond.codeWith ({ cls := "WakegroundLaw", name := "houseOf", desc := "(LWakeground;II[J)I" } : Jvm.MethodName) method_14_code (5 : Nat) (Option.some Jvm.ClassFile.FieldType.int) [((0 : Nat), (10 : Nat), (13 : Nat), (13 : Nat)), ((0 : Nat), (10 : Nat), (17 : Nat), (15 : Nat))]) ∈ lw_all := lw_g (lw_at lw_m4 128 rfl) rfl
theorem q883 : (Jvm.Cond.methodLink "WakegroundLaw" (53 : Nat) ({ cls := "Wakeground", name := "houseOf", desc := "(II)I" } : Jvm.MethodName)) ∈ lw_all := lw_g (lw_at lw_m4 129 rfl) rfl
theorem q888 : (Jvm.Cond.methodLink "WakegroundLaw" (132 : Nat) ({ cls := "WakegroundLaw", name := "reading", desc := "(LWakeground;III[J)I" } : Jvm.MethodName)) ∈ lw_all := lw_g (lw_at lw_m4 134 rfl) rfl
theorem q889 : (Jvm.Cond.static ({ cls := "WakegroundLaw", name := "reading", desc := "(LWakeground;III[J)I" } : Jvm.MethodName)) ∈ lw_all := lw_g (lw_at lw_m4 135 rfl) rfl
theorem q890 : (Jvm.Cond.codeWith ({ cls := "WakegroundLaw", name := "reading", desc := "(LWakeground;III[J)I" } : Jvm.MethodName) method_15_code (6 : Nat) (Option.some Jvm.ClassFile.FieldType.int) [((0 : Nat), (12 : Nat), (15 : Nat), (13 : Nat))]) ∈ lw_all := lw_g (lw_at lw_m4 136 rfl) rfl
theorem q891 : (Jvm.Cond.methodLink "WakegroundLaw" (56 : Nat) ({ cls := "Wakeground", name := "reading", desc := "(III)I" } : Jvm.MethodName)) ∈ lw_all := lw_g (lw_at lw_m4 137 rfl) rfl
theorem q895 : (Jvm.Cond.methodLink "WakegroundLaw" (135 : Nat) ({ cls := "WakegroundLaw", name := "claimOf", desc := "(LWakeground;I[J)I" } : Jvm.MethodName)) ∈ lw_all := lw_g (lw_at lw_m4 141 rfl) rfl
theorem q896 : (Jvm.Cond.static ({ cls := "WakegroundLaw", name := "claimOf", desc := "(LWakeground;I[J)I" } : Jvm.MethodName)) ∈ lw_all := lw_g (lw_at lw_m4 142 rfl) rfl
theorem q897 : (Jvm.Cond.codeWith ({ cls := "WakegroundLaw", name := "claimOf", desc := "(LWakeground;I[J)I" } : Jvm.MethodName) method_16_code (4 : Nat) (Option.some Jvm.ClassFile.FieldType.int) [((0 : Nat), (9 : Nat), (12 : Nat), (13 : Nat))]) ∈ lw_all := lw_g (lw_at lw_m4 143 rfl) rfl
theorem q898 : (Jvm.Cond.methodLink "WakegroundLaw" (59 : Nat) ({ cls := "Wakeground", name := "claimOf", desc := "(I)I" } : Jvm.MethodName)) ∈ lw_all := lw_g (lw_at lw_m4 144 rfl) rfl
theorem q906 : (Jvm.Cond.methodLink "WakegroundLaw" (138 : Nat) ({ cls := "WakegroundLaw", name := "claimAnew", desc := "(LWakeground;I[J)I" } : Jvm.MethodName)) ∈ lw_all := lw_g (lw_at lw_m4 152 rfl) rfl
theorem q907 : (Jvm.Cond.static ({ cls := "WakegroundLaw", name := "claimAnew", desc := "(LWakeground;I[J)I" } : Jvm.MethodName)) ∈ lw_all := lw_g (lw_at lw_m4 153 rfl) rfl
theorem q908 : (Jvm.Cond.codeWith ({ cls := "WakegroundLaw", name := "claimAnew", desc := "(LWakeground;I[J)I" } : Jvm.MethodName) method_17_code (4 : Nat) (Option.some Jvm.ClassFile.FieldType.int) [((0 : Nat), (9 : Nat), (12 : Nat), (13 : Nat))]) ∈ lw_all := lw_g (lw_at lw_m4 154 rfl) rfl
theorem q909 : (Jvm.Cond.methodLink "WakegroundLaw" (62 : Nat) ({ cls := "Wakeground", name := "claimAnew", desc := "(I)I" } : Jvm.MethodName)) ∈ lw_all := lw_g (lw_at lw_m4 155 rfl) rfl
theorem q913 : (Jvm.Cond.methodLink "WakegroundLaw" (141 : Nat) ({ cls := "WakegroundLaw", name := "balance", desc := "(LWakeground;II[J)I" } : Jvm.MethodName)) ∈ lw_all := lw_g (lw_at lw_m4 159 rfl) rfl
theorem q914 : (Jvm.Cond.static ({ cls := "WakegroundLaw", name := "balance", desc := "(LWakeground;II[J)I" } : Jvm.MethodName)) ∈ lw_all := lw_g (lw_at lw_m4 160 rfl) rfl
theorem q915 : (Jvm.Cond.codeWith ({ cls := "WakegroundLaw", name := "balance", desc := "(LWakeground;II[J)I" } : Jvm.MethodName) method_18_code (5 : Nat) (Option.some Jvm.ClassFile.FieldType.int) [((0 : Nat), (9 : Nat), (12 : Nat), (15 : Nat))]) ∈ lw_all := lw_g (lw_at lw_m4 161 rfl) rfl
theorem q916 : (Jvm.Cond.methodLink "WakegroundLaw" (65 : Nat) ({ cls := "Wakeground", name := "balance", desc := "(II)J" } : Jvm.MethodName)) ∈ lw_all := lw_g (lw_at lw_m4 162 rfl) rfl
theorem q920 : (Jvm.Cond.methodLink "WakegroundLaw" (144 : Nat) ({ cls := "WakegroundLaw", name := "air", desc := "(LWakeground;I[J)I" } : Jvm.MethodName)) ∈ lw_all := lw_g (lw_at lw_m4 166 rfl) rfl
theorem q921 : (Jvm.Cond.static ({ cls := "WakegroundLaw", name := "air", desc := "(LWakeground;I[J)I" } : Jvm.MethodName)) ∈ lw_all := lw_g (lw_at lw_m4 167 rfl) rfl
theorem q922 : (Jvm.Cond.codeWith ({ cls := "WakegroundLaw", name := "air", desc := "(LWakeground;I[J)I" } : Jvm.MethodName) method_19_code (4 : Nat) (Option.some Jvm.ClassFile.FieldType.int) [((0 : Nat), (8 : Nat), (11 : Nat), (15 : Nat))]) ∈ lw_all := lw_g (lw_at lw_m4 168 rfl) rfl
theorem q923 : (Jvm.Cond.methodLink "WakegroundLaw" (69 : Nat) ({ cls := "Wakeground", name := "air", desc := "(I)J" } : Jvm.MethodName)) ∈ lw_all := lw_g (lw_at lw_m4 169 rfl) rfl
theorem q927 : (Jvm.Cond.classLink "WakegroundLaw" (74 : Nat) "WakegroundModel") ∈ lw_all := lw_g (lw_at lw_m4 173 rfl) rfl
theorem q929 : (Jvm.Cond.methodLink "WakegroundLaw" (76 : Nat) ({ cls := "WakegroundModel", name := "<init>", desc := "()V" } : Jvm.MethodName)) ∈ lw_all := lw_g (lw_at lw_m4 175 rfl) rfl
theorem q1033 : (Jvm.Cond.methodLink "WakegroundLaw" (83 : Nat) ({ cls := "WakegroundModel", name := "thrown", desc := "()I" } : Jvm.MethodName)) ∈ lw_all := lw_g (lw_at lw_m5 39 rfl) rfl
theorem q1037 : (Jvm.Cond.methodLink "WakegroundLaw" (82 : Nat) ({ cls := "WakegroundModel", name := "ground", desc := "(IIIIII)V" } : Jvm.MethodName)) ∈ lw_all := lw_g (lw_at lw_m5 43 rfl) rfl
theorem q1051 : (Jvm.Cond.methodLink "WakegroundLaw" (90 : Nat) ({ cls := "WakegroundModel", name := "moss", desc := "(II)I" } : Jvm.MethodName)) ∈ lw_all := lw_g (lw_at lw_m5 57 rfl) rfl
theorem q1055 : (Jvm.Cond.methodLink "WakegroundLaw" (94 : Nat) ({ cls := "WakegroundModel", name := "pass", desc := "(III)I" } : Jvm.MethodName)) ∈ lw_all := lw_g (lw_at lw_m5 61 rfl) rfl
theorem q1109 : (Jvm.Cond.methodLink "WakegroundLaw" (98 : Nat) ({ cls := "WakegroundModel", name := "fire", desc := "(I)I" } : Jvm.MethodName)) ∈ lw_all := lw_g (lw_at lw_m5 115 rfl) rfl
theorem q1113 : (Jvm.Cond.methodLink "WakegroundLaw" (101 : Nat) ({ cls := "WakegroundModel", name := "breach", desc := "(I)I" } : Jvm.MethodName)) ∈ lw_all := lw_g (lw_at lw_m5 119 rfl) rfl
theorem q1121 : (Jvm.Cond.methodLink "WakegroundLaw" (105 : Nat) ({ cls := "WakegroundModel", name := "house", desc := "(IIZ)I" } : Jvm.MethodName)) ∈ lw_all := lw_g (lw_at lw_m5 127 rfl) rfl
theorem q1129 : (Jvm.Cond.methodLink "WakegroundLaw" (108 : Nat) ({ cls := "WakegroundModel", name := "borehole", desc := "(II)I" } : Jvm.MethodName)) ∈ lw_all := lw_g (lw_at lw_m5 135 rfl) rfl
theorem q1133 : (Jvm.Cond.methodLink "WakegroundLaw" (111 : Nat) ({ cls := "WakegroundModel", name := "claim", desc := "(I)I" } : Jvm.MethodName)) ∈ lw_all := lw_g (lw_at lw_m5 139 rfl) rfl
theorem q1145 : (Jvm.Cond.methodLink "WakegroundLaw" (115 : Nat) ({ cls := "WakegroundModel", name := "month", desc := "()I" } : Jvm.MethodName)) ∈ lw_all := lw_g (lw_at lw_m5 151 rfl) rfl
theorem q1149 : (Jvm.Cond.methodLink "WakegroundLaw" (118 : Nat) ({ cls := "WakegroundModel", name := "cellOf", desc := "(II)I" } : Jvm.MethodName)) ∈ lw_all := lw_g (lw_at lw_m5 155 rfl) rfl
theorem q1161 : (Jvm.Cond.methodLink "WakegroundLaw" (121 : Nat) ({ cls := "WakegroundModel", name := "layerOf", desc := "(III)I" } : Jvm.MethodName)) ∈ lw_all := lw_g (lw_at lw_m5 167 rfl) rfl
theorem q1165 : (Jvm.Cond.methodLink "WakegroundLaw" (124 : Nat) ({ cls := "WakegroundModel", name := "neighbour", desc := "(II)I" } : Jvm.MethodName)) ∈ lw_all := lw_g (lw_at lw_m5 171 rfl) rfl
theorem q1169 : (Jvm.Cond.methodLink "WakegroundLaw" (128 : Nat) ({ cls := "WakegroundModel", name := "lakes", desc := "()I" } : Jvm.MethodName)) ∈ lw_all := lw_g (lw_at lw_m5 175 rfl) rfl
theorem q1173 : (Jvm.Cond.methodLink "WakegroundLaw" (131 : Nat) ({ cls := "WakegroundModel", name := "houseOf", desc := "(II)I" } : Jvm.MethodName)) ∈ lw_all := lw_g (lw_at lw_m5 179 rfl) rfl
theorem q1177 : (Jvm.Cond.methodLink "WakegroundLaw" (134 : Nat) ({ cls := "WakegroundModel", name := "reading", desc := "(III)I" } : Jvm.MethodName)) ∈ lw_all := lw_g (lw_at lw_m5 183 rfl) rfl
theorem q1181 : (Jvm.Cond.methodLink "WakegroundLaw" (137 : Nat) ({ cls := "WakegroundModel", name := "claimOf", desc := "(I)I" } : Jvm.MethodName)) ∈ lw_all := lw_g (lw_at lw_m5 187 rfl) rfl
theorem q1185 : (Jvm.Cond.methodLink "WakegroundLaw" (140 : Nat) ({ cls := "WakegroundModel", name := "claimAnew", desc := "(I)I" } : Jvm.MethodName)) ∈ lw_all := lw_g (lw_at lw_m5 191 rfl) rfl
theorem q1190 : (Jvm.Cond.methodLink "WakegroundLaw" (143 : Nat) ({ cls := "WakegroundModel", name := "balance", desc := "(II)J" } : Jvm.MethodName)) ∈ lw_all := lw_g (lw_at lw_m5 196 rfl) rfl
theorem q1198 : (Jvm.Cond.methodLink "WakegroundLaw" (146 : Nat) ({ cls := "WakegroundModel", name := "air", desc := "(I)J" } : Jvm.MethodName)) ∈ lw_all := lw_g (lw_at lw_m5 204 rfl) rfl
/-! the law's own entry -/
set_option maxRecDepth 100000
abbrev cL_law : ByteArray := code
def dkwL_law_54 : List UInt8 := [47, 22, 6, 148, 153, 0, 5, 3, 172, 167, 0, 3, 132, 4, 7, 167, 250, 222, 4, 172]
abbrev dktL_law_54 : List UInt8 := dkwL_law_54 ++ []
def dkwL_law_53 : List UInt8 := [46, 182, 0, 146, 55, 6, 44, 182, 0, 83, 21, 5, 159, 0, 5, 3, 172, 21, 5, 154, 0, 14, 45, 3]
abbrev dktL_law_53 : List UInt8 := dkwL_law_53 ++ dktL_law_54
def dkwL_law_52 : List UInt8 := [3, 172, 167, 0, 58, 43, 42, 21, 4, 4, 96, 46, 45, 184, 0, 144, 54, 5, 44, 42, 21, 4, 4, 96]
abbrev dktL_law_52 : List UInt8 := dkwL_law_52 ++ dktL_law_53
def dkwL_law_51 : List UInt8 := [182, 0, 83, 21, 5, 159, 0, 5, 3, 172, 21, 5, 154, 0, 14, 45, 3, 47, 22, 6, 148, 153, 0, 5]
abbrev dktL_law_51 : List UInt8 := dkwL_law_51 ++ dktL_law_52
def dkwL_law_50 : List UInt8 := [184, 0, 141, 54, 5, 44, 42, 21, 4, 4, 96, 46, 42, 21, 4, 5, 96, 46, 182, 0, 143, 55, 6, 44]
abbrev dktL_law_50 : List UInt8 := dkwL_law_50 ++ dktL_law_51
def dkwL_law_49 : List UInt8 := [153, 0, 5, 3, 172, 167, 0, 125, 43, 42, 21, 4, 4, 96, 46, 42, 21, 4, 5, 96, 46, 45]
abbrev dktL_law_49 : List UInt8 := dkwL_law_49 ++ dktL_law_50
def dkwL_law_48 : List UInt8 := [182, 0, 83, 21, 5, 159, 0, 5, 3, 172, 21, 5, 154, 0, 15, 45, 3, 47, 21, 6, 133, 148]
abbrev dktL_law_48 : List UInt8 := dkwL_law_48 ++ dktL_law_49
def dkwL_law_47 : List UInt8 := [21, 4, 4, 96, 46, 45, 184, 0, 138, 54, 5, 44, 42, 21, 4, 4, 96, 46, 182, 0, 140, 54, 6, 44]
abbrev dktL_law_47 : List UInt8 := dkwL_law_47 ++ dktL_law_48
def dkwL_law_46 : List UInt8 := [172, 21, 5, 154, 0, 15, 45, 3, 47, 21, 6, 133, 148, 153, 0, 5, 3, 172, 167, 0, 181, 43, 42]
abbrev dktL_law_46 : List UInt8 := dkwL_law_46 ++ dktL_law_47
def dkwL_law_45 : List UInt8 := [54, 5, 44, 42, 21, 4, 4, 96, 46, 182, 0, 137, 54, 6, 44, 182, 0, 83, 21, 5, 159, 0, 5, 3]
abbrev dktL_law_45 : List UInt8 := dkwL_law_45 ++ dktL_law_46
def dkwL_law_44 : List UInt8 := [21, 6, 133, 148, 153, 0, 5, 3, 172, 167, 0, 237, 43, 42, 21, 4, 4, 96, 46, 45, 184, 0, 135]
abbrev dktL_law_44 : List UInt8 := dkwL_law_44 ++ dktL_law_45
def dkwL_law_43 : List UInt8 := [182, 0, 134, 54, 6, 44, 182, 0, 83, 21, 5, 159, 0, 5, 3, 172, 21, 5, 154, 0, 15, 45, 3, 47]
abbrev dktL_law_43 : List UInt8 := dkwL_law_43 ++ dktL_law_44
def dkwL_law_42 : List UInt8 := [184, 0, 132, 54, 5, 44, 42, 21, 4, 4, 96, 46, 42, 21, 4, 5, 96, 46, 42, 21, 4, 6, 96, 46]
abbrev dktL_law_42 : List UInt8 := dkwL_law_42 ++ dktL_law_43
def dkwL_law_41 : List UInt8 := [167, 1, 61, 43, 42, 21, 4, 4, 96, 46, 42, 21, 4, 5, 96, 46, 42, 21, 4, 6, 96, 46, 45]
abbrev dktL_law_41 : List UInt8 := dkwL_law_41 ++ dktL_law_42
def dkwL_law_40 : List UInt8 := [159, 0, 5, 3, 172, 21, 5, 154, 0, 15, 45, 3, 47, 21, 6, 133, 148, 153, 0, 5, 3, 172]
abbrev dktL_law_40 : List UInt8 := dkwL_law_40 ++ dktL_law_41
def dkwL_law_39 : List UInt8 := [44, 42, 21, 4, 4, 96, 46, 42, 21, 4, 5, 96, 46, 182, 0, 131, 54, 6, 44, 182, 0, 83, 21, 5]
abbrev dktL_law_39 : List UInt8 := dkwL_law_39 ++ dktL_law_40
def dkwL_law_38 : List UInt8 := [159, 1, 131, 3, 172, 43, 42, 21, 4, 4, 96, 46, 42, 21, 4, 5, 96, 46, 45, 184, 0, 129, 54, 5]
abbrev dktL_law_38 : List UInt8 := dkwL_law_38 ++ dktL_law_39
def dkwL_law_37 : List UInt8 := [3, 47, 21, 6, 133, 148, 153, 0, 5, 3, 172, 167, 1, 142, 43, 182, 0, 125, 44, 182, 0, 128]
abbrev dktL_law_37 : List UInt8 := dkwL_law_37 ++ dktL_law_38
def dkwL_law_36 : List UInt8 := [96, 46, 182, 0, 124, 54, 6, 44, 182, 0, 83, 21, 5, 159, 0, 5, 3, 172, 21, 5, 154, 0, 15, 45]
abbrev dktL_law_36 : List UInt8 := dkwL_law_36 ++ dktL_law_37
def dkwL_law_35 : List UInt8 := [46, 42, 21, 4, 5, 96, 46, 45, 184, 0, 122, 54, 5, 44, 42, 21, 4, 4, 96, 46, 42, 21, 4, 5]
abbrev dktL_law_35 : List UInt8 := dkwL_law_35 ++ dktL_law_36
def dkwL_law_34 : List UInt8 := [154, 0, 15, 45, 3, 47, 21, 6, 133, 148, 153, 0, 5, 3, 172, 167, 1, 210, 43, 42, 21, 4, 4, 96]
abbrev dktL_law_34 : List UInt8 := dkwL_law_34 ++ dktL_law_35
def dkwL_law_33 : List UInt8 := [21, 4, 6, 96, 46, 182, 0, 121, 54, 6, 44, 182, 0, 83, 21, 5, 159, 0, 5, 3, 172, 21, 5]
abbrev dktL_law_33 : List UInt8 := dkwL_law_33 ++ dktL_law_34
def dkwL_law_32 : List UInt8 := [6, 96, 46, 45, 184, 0, 119, 54, 5, 44, 42, 21, 4, 4, 96, 46, 42, 21, 4, 5, 96, 46, 42]
abbrev dktL_law_32 : List UInt8 := dkwL_law_32 ++ dktL_law_33
def dkwL_law_31 : List UInt8 := [153, 0, 5, 3, 172, 167, 2, 34, 43, 42, 21, 4, 4, 96, 46, 42, 21, 4, 5, 96, 46, 42, 21, 4]
abbrev dktL_law_31 : List UInt8 := dkwL_law_31 ++ dktL_law_32
def dkwL_law_30 : List UInt8 := [182, 0, 83, 21, 5, 159, 0, 5, 3, 172, 21, 5, 154, 0, 15, 45, 3, 47, 21, 6, 133, 148]
abbrev dktL_law_30 : List UInt8 := dkwL_law_30 ++ dktL_law_31
def dkwL_law_29 : List UInt8 := [184, 0, 116, 54, 5, 44, 42, 21, 4, 4, 96, 46, 42, 21, 4, 5, 96, 46, 182, 0, 118, 54, 6, 44]
abbrev dktL_law_29 : List UInt8 := dkwL_law_29 ++ dktL_law_30
def dkwL_law_28 : List UInt8 := [182, 0, 115, 159, 2, 104, 3, 172, 43, 42, 21, 4, 4, 96, 46, 42, 21, 4, 5, 96, 46, 45]
abbrev dktL_law_28 : List UInt8 := dkwL_law_28 ++ dktL_law_29
def dkwL_law_27 : List UInt8 := [154, 0, 15, 45, 3, 47, 21, 6, 133, 148, 153, 0, 5, 3, 172, 167, 2, 115, 43, 182, 0, 112, 44]
abbrev dktL_law_27 : List UInt8 := dkwL_law_27 ++ dktL_law_28
def dkwL_law_26 : List UInt8 := [21, 4, 4, 96, 46, 182, 0, 111, 54, 6, 44, 182, 0, 83, 21, 5, 159, 0, 5, 3, 172, 21, 5]
abbrev dktL_law_26 : List UInt8 := dkwL_law_26 ++ dktL_law_27
def dkwL_law_25 : List UInt8 := [153, 0, 5, 3, 172, 167, 2, 171, 43, 42, 21, 4, 4, 96, 46, 45, 184, 0, 109, 54, 5, 44, 42]
abbrev dktL_law_25 : List UInt8 := dkwL_law_25 ++ dktL_law_26
def dkwL_law_24 : List UInt8 := [182, 0, 83, 21, 5, 159, 0, 5, 3, 172, 21, 5, 154, 0, 15, 45, 3, 47, 21, 6, 133, 148]
abbrev dktL_law_24 : List UInt8 := dkwL_law_24 ++ dktL_law_25
def dkwL_law_23 : List UInt8 := [184, 0, 106, 54, 5, 44, 42, 21, 4, 4, 96, 46, 42, 21, 4, 5, 96, 46, 182, 0, 108, 54, 6, 44]
abbrev dktL_law_23 : List UInt8 := dkwL_law_23 ++ dktL_law_24
def dkwL_law_22 : List UInt8 := [148, 153, 0, 5, 3, 172, 167, 2, 239, 43, 42, 21, 4, 4, 96, 46, 42, 21, 4, 5, 96, 46, 45]
abbrev dktL_law_22 : List UInt8 := dkwL_law_22 ++ dktL_law_23
def dkwL_law_21 : List UInt8 := [54, 6, 44, 182, 0, 83, 21, 5, 159, 0, 5, 3, 172, 21, 5, 154, 0, 15, 45, 3, 47, 21, 6, 133]
abbrev dktL_law_21 : List UInt8 := dkwL_law_21 ++ dktL_law_22
def dkwL_law_20 : List UInt8 := [42, 21, 4, 5, 96, 46, 42, 21, 4, 6, 96, 46, 153, 0, 7, 4, 167, 0, 4, 3, 182, 0, 105]
abbrev dktL_law_20 : List UInt8 := dkwL_law_20 ++ dktL_law_21
def dkwL_law_19 : List UInt8 := [6, 96, 46, 153, 0, 7, 4, 167, 0, 4, 3, 45, 184, 0, 102, 54, 5, 44, 42, 21, 4, 4, 96, 46]
abbrev dktL_law_19 : List UInt8 := dkwL_law_19 ++ dktL_law_20
def dkwL_law_18 : List UInt8 := [153, 0, 5, 3, 172, 167, 3, 79, 43, 42, 21, 4, 4, 96, 46, 42, 21, 4, 5, 96, 46, 42, 21, 4]
abbrev dktL_law_18 : List UInt8 := dkwL_law_18 ++ dktL_law_19
def dkwL_law_17 : List UInt8 := [182, 0, 83, 21, 5, 159, 0, 5, 3, 172, 21, 5, 154, 0, 15, 45, 3, 47, 21, 6, 133, 148]
abbrev dktL_law_17 : List UInt8 := dkwL_law_17 ++ dktL_law_18
def dkwL_law_16 : List UInt8 := [21, 4, 4, 96, 46, 45, 184, 0, 99, 54, 5, 44, 42, 21, 4, 4, 96, 46, 182, 0, 101, 54, 6, 44]
abbrev dktL_law_16 : List UInt8 := dkwL_law_16 ++ dktL_law_17
def dkwL_law_15 : List UInt8 := [172, 21, 5, 154, 0, 15, 45, 3, 47, 21, 6, 133, 148, 153, 0, 5, 3, 172, 167, 3, 135, 43, 42]
abbrev dktL_law_15 : List UInt8 := dkwL_law_15 ++ dktL_law_16
def dkwL_law_14 : List UInt8 := [54, 5, 44, 42, 21, 4, 4, 96, 46, 182, 0, 98, 54, 6, 44, 182, 0, 83, 21, 5, 159, 0, 5, 3]
abbrev dktL_law_14 : List UInt8 := dkwL_law_14 ++ dktL_law_15
def dkwL_law_13 : List UInt8 := [21, 6, 133, 148, 153, 0, 5, 3, 172, 167, 3, 191, 43, 42, 21, 4, 4, 96, 46, 45, 184, 0, 95]
abbrev dktL_law_13 : List UInt8 := dkwL_law_13 ++ dktL_law_14
def dkwL_law_12 : List UInt8 := [182, 0, 94, 54, 6, 44, 182, 0, 83, 21, 5, 159, 0, 5, 3, 172, 21, 5, 154, 0, 15, 45, 3, 47]
abbrev dktL_law_12 : List UInt8 := dkwL_law_12 ++ dktL_law_13
def dkwL_law_11 : List UInt8 := [184, 0, 91, 54, 5, 44, 42, 21, 4, 4, 96, 46, 42, 21, 4, 5, 96, 46, 42, 21, 4, 6, 96, 46]
abbrev dktL_law_11 : List UInt8 := dkwL_law_11 ++ dktL_law_12
def dkwL_law_10 : List UInt8 := [167, 4, 15, 43, 42, 21, 4, 4, 96, 46, 42, 21, 4, 5, 96, 46, 42, 21, 4, 6, 96, 46, 45]
abbrev dktL_law_10 : List UInt8 := dkwL_law_10 ++ dktL_law_11
def dkwL_law_9 : List UInt8 := [159, 0, 5, 3, 172, 21, 5, 154, 0, 15, 45, 3, 47, 21, 6, 133, 148, 153, 0, 5, 3, 172]
abbrev dktL_law_9 : List UInt8 := dkwL_law_9 ++ dktL_law_10
def dkwL_law_8 : List UInt8 := [21, 4, 4, 96, 46, 42, 21, 4, 5, 96, 46, 182, 0, 90, 54, 6, 44, 182, 0, 83, 21, 5]
abbrev dktL_law_8 : List UInt8 := dkwL_law_8 ++ dktL_law_9
def dkwL_law_7 : List UInt8 := [167, 4, 83, 43, 42, 21, 4, 4, 96, 46, 42, 21, 4, 5, 96, 46, 45, 184, 0, 87, 54, 5, 44, 42]
abbrev dktL_law_7 : List UInt8 := dkwL_law_7 ++ dktL_law_8
def dkwL_law_6 : List UInt8 := [96, 46, 42, 21, 4, 16, 6, 96, 46, 182, 0, 82, 44, 182, 0, 83, 21, 5, 159, 0, 5, 3, 172]
abbrev dktL_law_6 : List UInt8 := dkwL_law_6 ++ dktL_law_7
def dkwL_law_5 : List UInt8 := [96, 46, 42, 21, 4, 5, 96, 46, 42, 21, 4, 6, 96, 46, 42, 21, 4, 7, 96, 46, 42, 21, 4, 8]
abbrev dktL_law_5 : List UInt8 := dkwL_law_5 ++ dktL_law_6
def dkwL_law_4 : List UInt8 := [46, 42, 21, 4, 8, 96, 46, 42, 21, 4, 16, 6, 96, 46, 184, 0, 77, 54, 5, 44, 42, 21, 4, 4]
abbrev dktL_law_4 : List UInt8 := dkwL_law_4 ++ dktL_law_5
def dkwL_law_3 : List UInt8 := [43, 42, 21, 4, 4, 96, 46, 42, 21, 4, 5, 96, 46, 42, 21, 4, 6, 96, 46, 42, 21, 4, 7, 96]
abbrev dktL_law_3 : List UInt8 := dkwL_law_3 ++ dktL_law_4
def dkwL_law_2 : List UInt8 := [170, 0, 0, 0, 0, 0, 5, 14, 0, 0, 0, 0, 0, 0, 0, 18, 0, 0, 0, 92, 0, 0, 0, 190, 0, 0, 1, 2, 0, 0, 1, 82, 0, 0, 1, 138, 0, 0, 1, 194, 0, 0, 2, 34, 0, 0, 2, 102, 0, 0, 2, 158, 0, 0, 2, 171, 0, 0, 2, 239, 0, 0, 3, 63, 0, 0, 3, 131, 0, 0, 3, 144, 0, 0, 3, 212, 0, 0, 4, 36, 0, 0, 4, 92, 0, 0, 4, 148, 0, 0, 4, 215]
abbrev dktL_law_2 : List UInt8 := dkwL_law_2 ++ dktL_law_3
def dkwL_law_1 : List UInt8 := [21, 4, 42, 190, 16, 7, 100, 163, 5, 30, 42, 21, 4, 46, 16, 31, 126]
abbrev dktL_law_1 : List UInt8 := dkwL_law_1 ++ dktL_law_2
def dkwL_law_0 : List UInt8 := [187, 0, 8, 89, 183, 0, 73, 76, 187, 0, 74, 89, 183, 0, 76, 77, 4, 188, 11, 78, 3, 54, 4]
abbrev dktL_law_0 : List UInt8 := dkwL_law_0 ++ dktL_law_1
theorem dksL_law_0 : cL_law.data.toList.drop 0 = dktL_law_0 := by decide +kernel
theorem dksL_law_1 : cL_law.data.toList.drop 23 = dktL_law_1 := dk_seg dksL_law_0 23 rfl rfl
theorem dksL_law_2 : cL_law.data.toList.drop 40 = dktL_law_2 := dk_seg dksL_law_1 17 rfl rfl
theorem dksL_law_3 : cL_law.data.toList.drop 132 = dktL_law_3 := dk_seg dksL_law_2 92 rfl rfl
theorem dksL_law_4 : cL_law.data.toList.drop 156 = dktL_law_4 := dk_seg dksL_law_3 24 rfl rfl
theorem dksL_law_5 : cL_law.data.toList.drop 180 = dktL_law_5 := dk_seg dksL_law_4 24 rfl rfl
theorem dksL_law_6 : cL_law.data.toList.drop 204 = dktL_law_6 := dk_seg dksL_law_5 24 rfl rfl
theorem dksL_law_7 : cL_law.data.toList.drop 227 = dktL_law_7 := dk_seg dksL_law_6 23 rfl rfl
theorem dksL_law_8 : cL_law.data.toList.drop 251 = dktL_law_8 := dk_seg dksL_law_7 24 rfl rfl
theorem dksL_law_9 : cL_law.data.toList.drop 273 = dktL_law_9 := dk_seg dksL_law_8 22 rfl rfl
theorem dksL_law_10 : cL_law.data.toList.drop 295 = dktL_law_10 := dk_seg dksL_law_9 22 rfl rfl
theorem dksL_law_11 : cL_law.data.toList.drop 318 = dktL_law_11 := dk_seg dksL_law_10 23 rfl rfl
theorem dksL_law_12 : cL_law.data.toList.drop 342 = dktL_law_12 := dk_seg dksL_law_11 24 rfl rfl
theorem dksL_law_13 : cL_law.data.toList.drop 366 = dktL_law_13 := dk_seg dksL_law_12 24 rfl rfl
theorem dksL_law_14 : cL_law.data.toList.drop 389 = dktL_law_14 := dk_seg dksL_law_13 23 rfl rfl
theorem dksL_law_15 : cL_law.data.toList.drop 413 = dktL_law_15 := dk_seg dksL_law_14 24 rfl rfl
theorem dksL_law_16 : cL_law.data.toList.drop 436 = dktL_law_16 := dk_seg dksL_law_15 23 rfl rfl
theorem dksL_law_17 : cL_law.data.toList.drop 460 = dktL_law_17 := dk_seg dksL_law_16 24 rfl rfl
theorem dksL_law_18 : cL_law.data.toList.drop 482 = dktL_law_18 := dk_seg dksL_law_17 22 rfl rfl
theorem dksL_law_19 : cL_law.data.toList.drop 506 = dktL_law_19 := dk_seg dksL_law_18 24 rfl rfl
theorem dksL_law_20 : cL_law.data.toList.drop 530 = dktL_law_20 := dk_seg dksL_law_19 24 rfl rfl
theorem dksL_law_21 : cL_law.data.toList.drop 553 = dktL_law_21 := dk_seg dksL_law_20 23 rfl rfl
theorem dksL_law_22 : cL_law.data.toList.drop 577 = dktL_law_22 := dk_seg dksL_law_21 24 rfl rfl
theorem dksL_law_23 : cL_law.data.toList.drop 600 = dktL_law_23 := dk_seg dksL_law_22 23 rfl rfl
theorem dksL_law_24 : cL_law.data.toList.drop 624 = dktL_law_24 := dk_seg dksL_law_23 24 rfl rfl
theorem dksL_law_25 : cL_law.data.toList.drop 646 = dktL_law_25 := dk_seg dksL_law_24 22 rfl rfl
theorem dksL_law_26 : cL_law.data.toList.drop 669 = dktL_law_26 := dk_seg dksL_law_25 23 rfl rfl
theorem dksL_law_27 : cL_law.data.toList.drop 692 = dktL_law_27 := dk_seg dksL_law_26 23 rfl rfl
theorem dksL_law_28 : cL_law.data.toList.drop 715 = dktL_law_28 := dk_seg dksL_law_27 23 rfl rfl
theorem dksL_law_29 : cL_law.data.toList.drop 737 = dktL_law_29 := dk_seg dksL_law_28 22 rfl rfl
theorem dksL_law_30 : cL_law.data.toList.drop 761 = dktL_law_30 := dk_seg dksL_law_29 24 rfl rfl
theorem dksL_law_31 : cL_law.data.toList.drop 783 = dktL_law_31 := dk_seg dksL_law_30 22 rfl rfl
theorem dksL_law_32 : cL_law.data.toList.drop 807 = dktL_law_32 := dk_seg dksL_law_31 24 rfl rfl
theorem dksL_law_33 : cL_law.data.toList.drop 830 = dktL_law_33 := dk_seg dksL_law_32 23 rfl rfl
theorem dksL_law_34 : cL_law.data.toList.drop 853 = dktL_law_34 := dk_seg dksL_law_33 23 rfl rfl
theorem dksL_law_35 : cL_law.data.toList.drop 877 = dktL_law_35 := dk_seg dksL_law_34 24 rfl rfl
theorem dksL_law_36 : cL_law.data.toList.drop 901 = dktL_law_36 := dk_seg dksL_law_35 24 rfl rfl
theorem dksL_law_37 : cL_law.data.toList.drop 925 = dktL_law_37 := dk_seg dksL_law_36 24 rfl rfl
theorem dksL_law_38 : cL_law.data.toList.drop 947 = dktL_law_38 := dk_seg dksL_law_37 22 rfl rfl
theorem dksL_law_39 : cL_law.data.toList.drop 971 = dktL_law_39 := dk_seg dksL_law_38 24 rfl rfl
theorem dksL_law_40 : cL_law.data.toList.drop 995 = dktL_law_40 := dk_seg dksL_law_39 24 rfl rfl
theorem dksL_law_41 : cL_law.data.toList.drop 1017 = dktL_law_41 := dk_seg dksL_law_40 22 rfl rfl
theorem dksL_law_42 : cL_law.data.toList.drop 1040 = dktL_law_42 := dk_seg dksL_law_41 23 rfl rfl
theorem dksL_law_43 : cL_law.data.toList.drop 1064 = dktL_law_43 := dk_seg dksL_law_42 24 rfl rfl
theorem dksL_law_44 : cL_law.data.toList.drop 1088 = dktL_law_44 := dk_seg dksL_law_43 24 rfl rfl
theorem dksL_law_45 : cL_law.data.toList.drop 1111 = dktL_law_45 := dk_seg dksL_law_44 23 rfl rfl
theorem dksL_law_46 : cL_law.data.toList.drop 1135 = dktL_law_46 := dk_seg dksL_law_45 24 rfl rfl
theorem dksL_law_47 : cL_law.data.toList.drop 1158 = dktL_law_47 := dk_seg dksL_law_46 23 rfl rfl
theorem dksL_law_48 : cL_law.data.toList.drop 1182 = dktL_law_48 := dk_seg dksL_law_47 24 rfl rfl
theorem dksL_law_49 : cL_law.data.toList.drop 1204 = dktL_law_49 := dk_seg dksL_law_48 22 rfl rfl
theorem dksL_law_50 : cL_law.data.toList.drop 1226 = dktL_law_50 := dk_seg dksL_law_49 22 rfl rfl
theorem dksL_law_51 : cL_law.data.toList.drop 1250 = dktL_law_51 := dk_seg dksL_law_50 24 rfl rfl
theorem dksL_law_52 : cL_law.data.toList.drop 1274 = dktL_law_52 := dk_seg dksL_law_51 24 rfl rfl
theorem dksL_law_53 : cL_law.data.toList.drop 1298 = dktL_law_53 := dk_seg dksL_law_52 24 rfl rfl
theorem dksL_law_54 : cL_law.data.toList.drop 1322 = dktL_law_54 := dk_seg dksL_law_53 24 rfl rfl
theorem dL_law_0 : decode cL_law 0 = .ok (.new 8, 3) := dk_187 0 8 (dk_at dksL_law_0 0 rfl rfl)
theorem dL_law_3 : decode cL_law 3 = .ok (.dup, 1) := dk_89 (dk_at dksL_law_0 3 rfl rfl)
theorem dL_law_4 : decode cL_law 4 = .ok (.invokespecial 73, 3) := dk_183 0 73 (dk_at dksL_law_0 4 rfl rfl)
theorem dL_law_7 : decode cL_law 7 = .ok (.astore_n 1, 1) := dk_76 (dk_at dksL_law_0 7 rfl rfl)
theorem dL_law_8 : decode cL_law 8 = .ok (.new 74, 3) := dk_187 0 74 (dk_at dksL_law_0 8 rfl rfl)
theorem dL_law_11 : decode cL_law 11 = .ok (.dup, 1) := dk_89 (dk_at dksL_law_0 11 rfl rfl)
theorem dL_law_12 : decode cL_law 12 = .ok (.invokespecial 76, 3) := dk_183 0 76 (dk_at dksL_law_0 12 rfl rfl)
theorem dL_law_15 : decode cL_law 15 = .ok (.astore_n 2, 1) := dk_77 (dk_at dksL_law_0 15 rfl rfl)
theorem dL_law_16 : decode cL_law 16 = .ok (.iconst 1, 1) := dk_4 (dk_at dksL_law_0 16 rfl rfl)
theorem dL_law_17 : decode cL_law 17 = .ok (.newarray .long, 2) := dk_188_11 (dk_at dksL_law_0 17 rfl rfl)
theorem dL_law_19 : decode cL_law 19 = .ok (.astore_n 3, 1) := dk_78 (dk_at dksL_law_0 19 rfl rfl)
theorem dL_law_20 : decode cL_law 20 = .ok (.iconst 0, 1) := dk_3 (dk_at dksL_law_0 20 rfl rfl)
theorem dL_law_21 : decode cL_law 21 = .ok (.istore 4, 2) := dk_54 4 (dk_at dksL_law_0 21 rfl rfl)
theorem dL_law_23 : decode cL_law 23 = .ok (.iload 4, 2) := dk_21 4 (dk_at dksL_law_1 0 rfl rfl)
theorem dL_law_25 : decode cL_law 25 = .ok (.aload_n 0, 1) := dk_42 (dk_at dksL_law_1 2 rfl rfl)
theorem dL_law_26 : decode cL_law 26 = .ok (.arraylength, 1) := dk_190 (dk_at dksL_law_1 3 rfl rfl)
theorem dL_law_27 : decode cL_law 27 = .ok (.bipush 7, 2) := dk_16 7 (dk_at dksL_law_1 4 rfl rfl)
theorem dL_law_29 : decode cL_law 29 = .ok (.isub, 1) := dk_100 (dk_at dksL_law_1 6 rfl rfl)
theorem dL_law_30 : decode cL_law 30 = .ok (.if_icmp .gt 1310, 3) := dk_163 5 30 (dk_at dksL_law_1 7 rfl rfl)
theorem dL_law_33 : decode cL_law 33 = .ok (.aload_n 0, 1) := dk_42 (dk_at dksL_law_1 10 rfl rfl)
theorem dL_law_34 : decode cL_law 34 = .ok (.iload 4, 2) := dk_21 4 (dk_at dksL_law_1 11 rfl rfl)
theorem dL_law_36 : decode cL_law 36 = .ok (.iaload, 1) := dk_46 (dk_at dksL_law_1 13 rfl rfl)
theorem dL_law_37 : decode cL_law 37 = .ok (.bipush 31, 2) := dk_16 31 (dk_at dksL_law_1 14 rfl rfl)
theorem dL_law_39 : decode cL_law 39 = .ok (.iand, 1) := dk_126 (dk_at dksL_law_1 16 rfl rfl)
theorem dL_law_40 : decode cL_law 40 = .ok (.tableswitch 1294 0 18 #[92, 190, 258, 338, 394, 450, 546, 614, 670, 683, 751, 831, 899, 912, 980, 1060, 1116, 1172, 1239], 92) := by decide +kernel
theorem dL_law_132 : decode cL_law 132 = .ok (.aload_n 1, 1) := dk_43 (dk_at dksL_law_3 0 rfl rfl)
theorem dL_law_133 : decode cL_law 133 = .ok (.aload_n 0, 1) := dk_42 (dk_at dksL_law_3 1 rfl rfl)
theorem dL_law_134 : decode cL_law 134 = .ok (.iload 4, 2) := dk_21 4 (dk_at dksL_law_3 2 rfl rfl)
theorem dL_law_136 : decode cL_law 136 = .ok (.iconst 1, 1) := dk_4 (dk_at dksL_law_3 4 rfl rfl)
theorem dL_law_137 : decode cL_law 137 = .ok (.iadd, 1) := dk_96 (dk_at dksL_law_3 5 rfl rfl)
theorem dL_law_138 : decode cL_law 138 = .ok (.iaload, 1) := dk_46 (dk_at dksL_law_3 6 rfl rfl)
theorem dL_law_139 : decode cL_law 139 = .ok (.aload_n 0, 1) := dk_42 (dk_at dksL_law_3 7 rfl rfl)
theorem dL_law_140 : decode cL_law 140 = .ok (.iload 4, 2) := dk_21 4 (dk_at dksL_law_3 8 rfl rfl)
theorem dL_law_142 : decode cL_law 142 = .ok (.iconst 2, 1) := dk_5 (dk_at dksL_law_3 10 rfl rfl)
theorem dL_law_143 : decode cL_law 143 = .ok (.iadd, 1) := dk_96 (dk_at dksL_law_3 11 rfl rfl)
theorem dL_law_144 : decode cL_law 144 = .ok (.iaload, 1) := dk_46 (dk_at dksL_law_3 12 rfl rfl)
theorem dL_law_145 : decode cL_law 145 = .ok (.aload_n 0, 1) := dk_42 (dk_at dksL_law_3 13 rfl rfl)
theorem dL_law_146 : decode cL_law 146 = .ok (.iload 4, 2) := dk_21 4 (dk_at dksL_law_3 14 rfl rfl)
theorem dL_law_148 : decode cL_law 148 = .ok (.iconst 3, 1) := dk_6 (dk_at dksL_law_3 16 rfl rfl)
theorem dL_law_149 : decode cL_law 149 = .ok (.iadd, 1) := dk_96 (dk_at dksL_law_3 17 rfl rfl)
theorem dL_law_150 : decode cL_law 150 = .ok (.iaload, 1) := dk_46 (dk_at dksL_law_3 18 rfl rfl)
theorem dL_law_151 : decode cL_law 151 = .ok (.aload_n 0, 1) := dk_42 (dk_at dksL_law_3 19 rfl rfl)
theorem dL_law_152 : decode cL_law 152 = .ok (.iload 4, 2) := dk_21 4 (dk_at dksL_law_3 20 rfl rfl)
theorem dL_law_154 : decode cL_law 154 = .ok (.iconst 4, 1) := dk_7 (dk_at dksL_law_3 22 rfl rfl)
theorem dL_law_155 : decode cL_law 155 = .ok (.iadd, 1) := dk_96 (dk_at dksL_law_3 23 rfl rfl)
theorem dL_law_156 : decode cL_law 156 = .ok (.iaload, 1) := dk_46 (dk_at dksL_law_4 0 rfl rfl)
theorem dL_law_157 : decode cL_law 157 = .ok (.aload_n 0, 1) := dk_42 (dk_at dksL_law_4 1 rfl rfl)
theorem dL_law_158 : decode cL_law 158 = .ok (.iload 4, 2) := dk_21 4 (dk_at dksL_law_4 2 rfl rfl)
theorem dL_law_160 : decode cL_law 160 = .ok (.iconst 5, 1) := dk_8 (dk_at dksL_law_4 4 rfl rfl)
theorem dL_law_161 : decode cL_law 161 = .ok (.iadd, 1) := dk_96 (dk_at dksL_law_4 5 rfl rfl)
theorem dL_law_162 : decode cL_law 162 = .ok (.iaload, 1) := dk_46 (dk_at dksL_law_4 6 rfl rfl)
theorem dL_law_163 : decode cL_law 163 = .ok (.aload_n 0, 1) := dk_42 (dk_at dksL_law_4 7 rfl rfl)
theorem dL_law_164 : decode cL_law 164 = .ok (.iload 4, 2) := dk_21 4 (dk_at dksL_law_4 8 rfl rfl)
theorem dL_law_166 : decode cL_law 166 = .ok (.bipush 6, 2) := dk_16 6 (dk_at dksL_law_4 10 rfl rfl)
theorem dL_law_168 : decode cL_law 168 = .ok (.iadd, 1) := dk_96 (dk_at dksL_law_4 12 rfl rfl)
theorem dL_law_169 : decode cL_law 169 = .ok (.iaload, 1) := dk_46 (dk_at dksL_law_4 13 rfl rfl)
theorem dL_law_170 : decode cL_law 170 = .ok (.invokestatic 77, 3) := dk_184 0 77 (dk_at dksL_law_4 14 rfl rfl)
theorem dL_law_173 : decode cL_law 173 = .ok (.istore 5, 2) := dk_54 5 (dk_at dksL_law_4 17 rfl rfl)
theorem dL_law_175 : decode cL_law 175 = .ok (.aload_n 2, 1) := dk_44 (dk_at dksL_law_4 19 rfl rfl)
theorem dL_law_176 : decode cL_law 176 = .ok (.aload_n 0, 1) := dk_42 (dk_at dksL_law_4 20 rfl rfl)
theorem dL_law_177 : decode cL_law 177 = .ok (.iload 4, 2) := dk_21 4 (dk_at dksL_law_4 21 rfl rfl)
theorem dL_law_179 : decode cL_law 179 = .ok (.iconst 1, 1) := dk_4 (dk_at dksL_law_4 23 rfl rfl)
theorem dL_law_180 : decode cL_law 180 = .ok (.iadd, 1) := dk_96 (dk_at dksL_law_5 0 rfl rfl)
theorem dL_law_181 : decode cL_law 181 = .ok (.iaload, 1) := dk_46 (dk_at dksL_law_5 1 rfl rfl)
theorem dL_law_182 : decode cL_law 182 = .ok (.aload_n 0, 1) := dk_42 (dk_at dksL_law_5 2 rfl rfl)
theorem dL_law_183 : decode cL_law 183 = .ok (.iload 4, 2) := dk_21 4 (dk_at dksL_law_5 3 rfl rfl)
theorem dL_law_185 : decode cL_law 185 = .ok (.iconst 2, 1) := dk_5 (dk_at dksL_law_5 5 rfl rfl)
theorem dL_law_186 : decode cL_law 186 = .ok (.iadd, 1) := dk_96 (dk_at dksL_law_5 6 rfl rfl)
theorem dL_law_187 : decode cL_law 187 = .ok (.iaload, 1) := dk_46 (dk_at dksL_law_5 7 rfl rfl)
theorem dL_law_188 : decode cL_law 188 = .ok (.aload_n 0, 1) := dk_42 (dk_at dksL_law_5 8 rfl rfl)
theorem dL_law_189 : decode cL_law 189 = .ok (.iload 4, 2) := dk_21 4 (dk_at dksL_law_5 9 rfl rfl)
theorem dL_law_191 : decode cL_law 191 = .ok (.iconst 3, 1) := dk_6 (dk_at dksL_law_5 11 rfl rfl)
theorem dL_law_192 : decode cL_law 192 = .ok (.iadd, 1) := dk_96 (dk_at dksL_law_5 12 rfl rfl)
theorem dL_law_193 : decode cL_law 193 = .ok (.iaload, 1) := dk_46 (dk_at dksL_law_5 13 rfl rfl)
theorem dL_law_194 : decode cL_law 194 = .ok (.aload_n 0, 1) := dk_42 (dk_at dksL_law_5 14 rfl rfl)
theorem dL_law_195 : decode cL_law 195 = .ok (.iload 4, 2) := dk_21 4 (dk_at dksL_law_5 15 rfl rfl)
theorem dL_law_197 : decode cL_law 197 = .ok (.iconst 4, 1) := dk_7 (dk_at dksL_law_5 17 rfl rfl)
theorem dL_law_198 : decode cL_law 198 = .ok (.iadd, 1) := dk_96 (dk_at dksL_law_5 18 rfl rfl)
theorem dL_law_199 : decode cL_law 199 = .ok (.iaload, 1) := dk_46 (dk_at dksL_law_5 19 rfl rfl)
theorem dL_law_200 : decode cL_law 200 = .ok (.aload_n 0, 1) := dk_42 (dk_at dksL_law_5 20 rfl rfl)
theorem dL_law_201 : decode cL_law 201 = .ok (.iload 4, 2) := dk_21 4 (dk_at dksL_law_5 21 rfl rfl)
theorem dL_law_203 : decode cL_law 203 = .ok (.iconst 5, 1) := dk_8 (dk_at dksL_law_5 23 rfl rfl)
theorem dL_law_204 : decode cL_law 204 = .ok (.iadd, 1) := dk_96 (dk_at dksL_law_6 0 rfl rfl)
theorem dL_law_205 : decode cL_law 205 = .ok (.iaload, 1) := dk_46 (dk_at dksL_law_6 1 rfl rfl)
theorem dL_law_206 : decode cL_law 206 = .ok (.aload_n 0, 1) := dk_42 (dk_at dksL_law_6 2 rfl rfl)
theorem dL_law_207 : decode cL_law 207 = .ok (.iload 4, 2) := dk_21 4 (dk_at dksL_law_6 3 rfl rfl)
theorem dL_law_209 : decode cL_law 209 = .ok (.bipush 6, 2) := dk_16 6 (dk_at dksL_law_6 5 rfl rfl)
theorem dL_law_211 : decode cL_law 211 = .ok (.iadd, 1) := dk_96 (dk_at dksL_law_6 7 rfl rfl)
theorem dL_law_212 : decode cL_law 212 = .ok (.iaload, 1) := dk_46 (dk_at dksL_law_6 8 rfl rfl)
theorem dL_law_213 : decode cL_law 213 = .ok (.invokevirtual 82, 3) := dk_182 0 82 (dk_at dksL_law_6 9 rfl rfl)
theorem dL_law_216 : decode cL_law 216 = .ok (.aload_n 2, 1) := dk_44 (dk_at dksL_law_6 12 rfl rfl)
theorem dL_law_217 : decode cL_law 217 = .ok (.invokevirtual 83, 3) := dk_182 0 83 (dk_at dksL_law_6 13 rfl rfl)
theorem dL_law_220 : decode cL_law 220 = .ok (.iload 5, 2) := dk_21 5 (dk_at dksL_law_6 16 rfl rfl)
theorem dL_law_222 : decode cL_law 222 = .ok (.if_icmp .eq 5, 3) := dk_159 0 5 (dk_at dksL_law_6 18 rfl rfl)
theorem dL_law_225 : decode cL_law 225 = .ok (.iconst 0, 1) := dk_3 (dk_at dksL_law_6 21 rfl rfl)
theorem dL_law_226 : decode cL_law 226 = .ok (.ireturn, 1) := dk_172 (dk_at dksL_law_6 22 rfl rfl)
theorem dL_law_227 : decode cL_law 227 = .ok (.goto 1107, 3) := dk_167 4 83 (dk_at dksL_law_7 0 rfl rfl)
theorem dL_law_230 : decode cL_law 230 = .ok (.aload_n 1, 1) := dk_43 (dk_at dksL_law_7 3 rfl rfl)
theorem dL_law_231 : decode cL_law 231 = .ok (.aload_n 0, 1) := dk_42 (dk_at dksL_law_7 4 rfl rfl)
theorem dL_law_232 : decode cL_law 232 = .ok (.iload 4, 2) := dk_21 4 (dk_at dksL_law_7 5 rfl rfl)
theorem dL_law_234 : decode cL_law 234 = .ok (.iconst 1, 1) := dk_4 (dk_at dksL_law_7 7 rfl rfl)
theorem dL_law_235 : decode cL_law 235 = .ok (.iadd, 1) := dk_96 (dk_at dksL_law_7 8 rfl rfl)
theorem dL_law_236 : decode cL_law 236 = .ok (.iaload, 1) := dk_46 (dk_at dksL_law_7 9 rfl rfl)
theorem dL_law_237 : decode cL_law 237 = .ok (.aload_n 0, 1) := dk_42 (dk_at dksL_law_7 10 rfl rfl)
theorem dL_law_238 : decode cL_law 238 = .ok (.iload 4, 2) := dk_21 4 (dk_at dksL_law_7 11 rfl rfl)
theorem dL_law_240 : decode cL_law 240 = .ok (.iconst 2, 1) := dk_5 (dk_at dksL_law_7 13 rfl rfl)
theorem dL_law_241 : decode cL_law 241 = .ok (.iadd, 1) := dk_96 (dk_at dksL_law_7 14 rfl rfl)
theorem dL_law_242 : decode cL_law 242 = .ok (.iaload, 1) := dk_46 (dk_at dksL_law_7 15 rfl rfl)
theorem dL_law_243 : decode cL_law 243 = .ok (.aload_n 3, 1) := dk_45 (dk_at dksL_law_7 16 rfl rfl)
theorem dL_law_244 : decode cL_law 244 = .ok (.invokestatic 87, 3) := dk_184 0 87 (dk_at dksL_law_7 17 rfl rfl)
theorem dL_law_247 : decode cL_law 247 = .ok (.istore 5, 2) := dk_54 5 (dk_at dksL_law_7 20 rfl rfl)
theorem dL_law_249 : decode cL_law 249 = .ok (.aload_n 2, 1) := dk_44 (dk_at dksL_law_7 22 rfl rfl)
theorem dL_law_250 : decode cL_law 250 = .ok (.aload_n 0, 1) := dk_42 (dk_at dksL_law_7 23 rfl rfl)
theorem dL_law_251 : decode cL_law 251 = .ok (.iload 4, 2) := dk_21 4 (dk_at dksL_law_8 0 rfl rfl)
theorem dL_law_253 : decode cL_law 253 = .ok (.iconst 1, 1) := dk_4 (dk_at dksL_law_8 2 rfl rfl)
theorem dL_law_254 : decode cL_law 254 = .ok (.iadd, 1) := dk_96 (dk_at dksL_law_8 3 rfl rfl)
theorem dL_law_255 : decode cL_law 255 = .ok (.iaload, 1) := dk_46 (dk_at dksL_law_8 4 rfl rfl)
theorem dL_law_256 : decode cL_law 256 = .ok (.aload_n 0, 1) := dk_42 (dk_at dksL_law_8 5 rfl rfl)
theorem dL_law_257 : decode cL_law 257 = .ok (.iload 4, 2) := dk_21 4 (dk_at dksL_law_8 6 rfl rfl)
theorem dL_law_259 : decode cL_law 259 = .ok (.iconst 2, 1) := dk_5 (dk_at dksL_law_8 8 rfl rfl)
theorem dL_law_260 : decode cL_law 260 = .ok (.iadd, 1) := dk_96 (dk_at dksL_law_8 9 rfl rfl)
theorem dL_law_261 : decode cL_law 261 = .ok (.iaload, 1) := dk_46 (dk_at dksL_law_8 10 rfl rfl)
theorem dL_law_262 : decode cL_law 262 = .ok (.invokevirtual 90, 3) := dk_182 0 90 (dk_at dksL_law_8 11 rfl rfl)
theorem dL_law_265 : decode cL_law 265 = .ok (.istore 6, 2) := dk_54 6 (dk_at dksL_law_8 14 rfl rfl)
theorem dL_law_267 : decode cL_law 267 = .ok (.aload_n 2, 1) := dk_44 (dk_at dksL_law_8 16 rfl rfl)
theorem dL_law_268 : decode cL_law 268 = .ok (.invokevirtual 83, 3) := dk_182 0 83 (dk_at dksL_law_8 17 rfl rfl)
theorem dL_law_271 : decode cL_law 271 = .ok (.iload 5, 2) := dk_21 5 (dk_at dksL_law_8 20 rfl rfl)
theorem dL_law_273 : decode cL_law 273 = .ok (.if_icmp .eq 5, 3) := dk_159 0 5 (dk_at dksL_law_9 0 rfl rfl)
theorem dL_law_276 : decode cL_law 276 = .ok (.iconst 0, 1) := dk_3 (dk_at dksL_law_9 3 rfl rfl)
theorem dL_law_277 : decode cL_law 277 = .ok (.ireturn, 1) := dk_172 (dk_at dksL_law_9 4 rfl rfl)
theorem dL_law_278 : decode cL_law 278 = .ok (.iload 5, 2) := dk_21 5 (dk_at dksL_law_9 5 rfl rfl)
theorem dL_law_280 : decode cL_law 280 = .ok (.ifCond .ne 15, 3) := dk_154 0 15 (dk_at dksL_law_9 7 rfl rfl)
theorem dL_law_283 : decode cL_law 283 = .ok (.aload_n 3, 1) := dk_45 (dk_at dksL_law_9 10 rfl rfl)
theorem dL_law_284 : decode cL_law 284 = .ok (.iconst 0, 1) := dk_3 (dk_at dksL_law_9 11 rfl rfl)
theorem dL_law_285 : decode cL_law 285 = .ok (.laload, 1) := dk_47 (dk_at dksL_law_9 12 rfl rfl)
theorem dL_law_286 : decode cL_law 286 = .ok (.iload 6, 2) := dk_21 6 (dk_at dksL_law_9 13 rfl rfl)
theorem dL_law_288 : decode cL_law 288 = .ok (.i2l, 1) := dk_133 (dk_at dksL_law_9 15 rfl rfl)
theorem dL_law_289 : decode cL_law 289 = .ok (.lcmp, 1) := dk_148 (dk_at dksL_law_9 16 rfl rfl)
theorem dL_law_290 : decode cL_law 290 = .ok (.ifCond .eq 5, 3) := dk_153 0 5 (dk_at dksL_law_9 17 rfl rfl)
theorem dL_law_293 : decode cL_law 293 = .ok (.iconst 0, 1) := dk_3 (dk_at dksL_law_9 20 rfl rfl)
theorem dL_law_294 : decode cL_law 294 = .ok (.ireturn, 1) := dk_172 (dk_at dksL_law_9 21 rfl rfl)
theorem dL_law_295 : decode cL_law 295 = .ok (.goto 1039, 3) := dk_167 4 15 (dk_at dksL_law_10 0 rfl rfl)
theorem dL_law_298 : decode cL_law 298 = .ok (.aload_n 1, 1) := dk_43 (dk_at dksL_law_10 3 rfl rfl)
theorem dL_law_299 : decode cL_law 299 = .ok (.aload_n 0, 1) := dk_42 (dk_at dksL_law_10 4 rfl rfl)
theorem dL_law_300 : decode cL_law 300 = .ok (.iload 4, 2) := dk_21 4 (dk_at dksL_law_10 5 rfl rfl)
theorem dL_law_302 : decode cL_law 302 = .ok (.iconst 1, 1) := dk_4 (dk_at dksL_law_10 7 rfl rfl)
theorem dL_law_303 : decode cL_law 303 = .ok (.iadd, 1) := dk_96 (dk_at dksL_law_10 8 rfl rfl)
theorem dL_law_304 : decode cL_law 304 = .ok (.iaload, 1) := dk_46 (dk_at dksL_law_10 9 rfl rfl)
theorem dL_law_305 : decode cL_law 305 = .ok (.aload_n 0, 1) := dk_42 (dk_at dksL_law_10 10 rfl rfl)
theorem dL_law_306 : decode cL_law 306 = .ok (.iload 4, 2) := dk_21 4 (dk_at dksL_law_10 11 rfl rfl)
theorem dL_law_308 : decode cL_law 308 = .ok (.iconst 2, 1) := dk_5 (dk_at dksL_law_10 13 rfl rfl)
theorem dL_law_309 : decode cL_law 309 = .ok (.iadd, 1) := dk_96 (dk_at dksL_law_10 14 rfl rfl)
theorem dL_law_310 : decode cL_law 310 = .ok (.iaload, 1) := dk_46 (dk_at dksL_law_10 15 rfl rfl)
theorem dL_law_311 : decode cL_law 311 = .ok (.aload_n 0, 1) := dk_42 (dk_at dksL_law_10 16 rfl rfl)
theorem dL_law_312 : decode cL_law 312 = .ok (.iload 4, 2) := dk_21 4 (dk_at dksL_law_10 17 rfl rfl)
theorem dL_law_314 : decode cL_law 314 = .ok (.iconst 3, 1) := dk_6 (dk_at dksL_law_10 19 rfl rfl)
theorem dL_law_315 : decode cL_law 315 = .ok (.iadd, 1) := dk_96 (dk_at dksL_law_10 20 rfl rfl)
theorem dL_law_316 : decode cL_law 316 = .ok (.iaload, 1) := dk_46 (dk_at dksL_law_10 21 rfl rfl)
theorem dL_law_317 : decode cL_law 317 = .ok (.aload_n 3, 1) := dk_45 (dk_at dksL_law_10 22 rfl rfl)
theorem dL_law_318 : decode cL_law 318 = .ok (.invokestatic 91, 3) := dk_184 0 91 (dk_at dksL_law_11 0 rfl rfl)
theorem dL_law_321 : decode cL_law 321 = .ok (.istore 5, 2) := dk_54 5 (dk_at dksL_law_11 3 rfl rfl)
theorem dL_law_323 : decode cL_law 323 = .ok (.aload_n 2, 1) := dk_44 (dk_at dksL_law_11 5 rfl rfl)
theorem dL_law_324 : decode cL_law 324 = .ok (.aload_n 0, 1) := dk_42 (dk_at dksL_law_11 6 rfl rfl)
theorem dL_law_325 : decode cL_law 325 = .ok (.iload 4, 2) := dk_21 4 (dk_at dksL_law_11 7 rfl rfl)
theorem dL_law_327 : decode cL_law 327 = .ok (.iconst 1, 1) := dk_4 (dk_at dksL_law_11 9 rfl rfl)
theorem dL_law_328 : decode cL_law 328 = .ok (.iadd, 1) := dk_96 (dk_at dksL_law_11 10 rfl rfl)
theorem dL_law_329 : decode cL_law 329 = .ok (.iaload, 1) := dk_46 (dk_at dksL_law_11 11 rfl rfl)
theorem dL_law_330 : decode cL_law 330 = .ok (.aload_n 0, 1) := dk_42 (dk_at dksL_law_11 12 rfl rfl)
theorem dL_law_331 : decode cL_law 331 = .ok (.iload 4, 2) := dk_21 4 (dk_at dksL_law_11 13 rfl rfl)
theorem dL_law_333 : decode cL_law 333 = .ok (.iconst 2, 1) := dk_5 (dk_at dksL_law_11 15 rfl rfl)
theorem dL_law_334 : decode cL_law 334 = .ok (.iadd, 1) := dk_96 (dk_at dksL_law_11 16 rfl rfl)
theorem dL_law_335 : decode cL_law 335 = .ok (.iaload, 1) := dk_46 (dk_at dksL_law_11 17 rfl rfl)
theorem dL_law_336 : decode cL_law 336 = .ok (.aload_n 0, 1) := dk_42 (dk_at dksL_law_11 18 rfl rfl)
theorem dL_law_337 : decode cL_law 337 = .ok (.iload 4, 2) := dk_21 4 (dk_at dksL_law_11 19 rfl rfl)
theorem dL_law_339 : decode cL_law 339 = .ok (.iconst 3, 1) := dk_6 (dk_at dksL_law_11 21 rfl rfl)
theorem dL_law_340 : decode cL_law 340 = .ok (.iadd, 1) := dk_96 (dk_at dksL_law_11 22 rfl rfl)
theorem dL_law_341 : decode cL_law 341 = .ok (.iaload, 1) := dk_46 (dk_at dksL_law_11 23 rfl rfl)
theorem dL_law_342 : decode cL_law 342 = .ok (.invokevirtual 94, 3) := dk_182 0 94 (dk_at dksL_law_12 0 rfl rfl)
theorem dL_law_345 : decode cL_law 345 = .ok (.istore 6, 2) := dk_54 6 (dk_at dksL_law_12 3 rfl rfl)
theorem dL_law_347 : decode cL_law 347 = .ok (.aload_n 2, 1) := dk_44 (dk_at dksL_law_12 5 rfl rfl)
theorem dL_law_348 : decode cL_law 348 = .ok (.invokevirtual 83, 3) := dk_182 0 83 (dk_at dksL_law_12 6 rfl rfl)
theorem dL_law_351 : decode cL_law 351 = .ok (.iload 5, 2) := dk_21 5 (dk_at dksL_law_12 9 rfl rfl)
theorem dL_law_353 : decode cL_law 353 = .ok (.if_icmp .eq 5, 3) := dk_159 0 5 (dk_at dksL_law_12 11 rfl rfl)
theorem dL_law_356 : decode cL_law 356 = .ok (.iconst 0, 1) := dk_3 (dk_at dksL_law_12 14 rfl rfl)
theorem dL_law_357 : decode cL_law 357 = .ok (.ireturn, 1) := dk_172 (dk_at dksL_law_12 15 rfl rfl)
theorem dL_law_358 : decode cL_law 358 = .ok (.iload 5, 2) := dk_21 5 (dk_at dksL_law_12 16 rfl rfl)
theorem dL_law_360 : decode cL_law 360 = .ok (.ifCond .ne 15, 3) := dk_154 0 15 (dk_at dksL_law_12 18 rfl rfl)
theorem dL_law_363 : decode cL_law 363 = .ok (.aload_n 3, 1) := dk_45 (dk_at dksL_law_12 21 rfl rfl)
theorem dL_law_364 : decode cL_law 364 = .ok (.iconst 0, 1) := dk_3 (dk_at dksL_law_12 22 rfl rfl)
theorem dL_law_365 : decode cL_law 365 = .ok (.laload, 1) := dk_47 (dk_at dksL_law_12 23 rfl rfl)
theorem dL_law_366 : decode cL_law 366 = .ok (.iload 6, 2) := dk_21 6 (dk_at dksL_law_13 0 rfl rfl)
theorem dL_law_368 : decode cL_law 368 = .ok (.i2l, 1) := dk_133 (dk_at dksL_law_13 2 rfl rfl)
theorem dL_law_369 : decode cL_law 369 = .ok (.lcmp, 1) := dk_148 (dk_at dksL_law_13 3 rfl rfl)
theorem dL_law_370 : decode cL_law 370 = .ok (.ifCond .eq 5, 3) := dk_153 0 5 (dk_at dksL_law_13 4 rfl rfl)
theorem dL_law_373 : decode cL_law 373 = .ok (.iconst 0, 1) := dk_3 (dk_at dksL_law_13 7 rfl rfl)
theorem dL_law_374 : decode cL_law 374 = .ok (.ireturn, 1) := dk_172 (dk_at dksL_law_13 8 rfl rfl)
theorem dL_law_375 : decode cL_law 375 = .ok (.goto 959, 3) := dk_167 3 191 (dk_at dksL_law_13 9 rfl rfl)
theorem dL_law_378 : decode cL_law 378 = .ok (.aload_n 1, 1) := dk_43 (dk_at dksL_law_13 12 rfl rfl)
theorem dL_law_379 : decode cL_law 379 = .ok (.aload_n 0, 1) := dk_42 (dk_at dksL_law_13 13 rfl rfl)
theorem dL_law_380 : decode cL_law 380 = .ok (.iload 4, 2) := dk_21 4 (dk_at dksL_law_13 14 rfl rfl)
theorem dL_law_382 : decode cL_law 382 = .ok (.iconst 1, 1) := dk_4 (dk_at dksL_law_13 16 rfl rfl)
theorem dL_law_383 : decode cL_law 383 = .ok (.iadd, 1) := dk_96 (dk_at dksL_law_13 17 rfl rfl)
theorem dL_law_384 : decode cL_law 384 = .ok (.iaload, 1) := dk_46 (dk_at dksL_law_13 18 rfl rfl)
theorem dL_law_385 : decode cL_law 385 = .ok (.aload_n 3, 1) := dk_45 (dk_at dksL_law_13 19 rfl rfl)
theorem dL_law_386 : decode cL_law 386 = .ok (.invokestatic 95, 3) := dk_184 0 95 (dk_at dksL_law_13 20 rfl rfl)
theorem dL_law_389 : decode cL_law 389 = .ok (.istore 5, 2) := dk_54 5 (dk_at dksL_law_14 0 rfl rfl)
theorem dL_law_391 : decode cL_law 391 = .ok (.aload_n 2, 1) := dk_44 (dk_at dksL_law_14 2 rfl rfl)
theorem dL_law_392 : decode cL_law 392 = .ok (.aload_n 0, 1) := dk_42 (dk_at dksL_law_14 3 rfl rfl)
theorem dL_law_393 : decode cL_law 393 = .ok (.iload 4, 2) := dk_21 4 (dk_at dksL_law_14 4 rfl rfl)
theorem dL_law_395 : decode cL_law 395 = .ok (.iconst 1, 1) := dk_4 (dk_at dksL_law_14 6 rfl rfl)
theorem dL_law_396 : decode cL_law 396 = .ok (.iadd, 1) := dk_96 (dk_at dksL_law_14 7 rfl rfl)
theorem dL_law_397 : decode cL_law 397 = .ok (.iaload, 1) := dk_46 (dk_at dksL_law_14 8 rfl rfl)
theorem dL_law_398 : decode cL_law 398 = .ok (.invokevirtual 98, 3) := dk_182 0 98 (dk_at dksL_law_14 9 rfl rfl)
theorem dL_law_401 : decode cL_law 401 = .ok (.istore 6, 2) := dk_54 6 (dk_at dksL_law_14 12 rfl rfl)
theorem dL_law_403 : decode cL_law 403 = .ok (.aload_n 2, 1) := dk_44 (dk_at dksL_law_14 14 rfl rfl)
theorem dL_law_404 : decode cL_law 404 = .ok (.invokevirtual 83, 3) := dk_182 0 83 (dk_at dksL_law_14 15 rfl rfl)
theorem dL_law_407 : decode cL_law 407 = .ok (.iload 5, 2) := dk_21 5 (dk_at dksL_law_14 18 rfl rfl)
theorem dL_law_409 : decode cL_law 409 = .ok (.if_icmp .eq 5, 3) := dk_159 0 5 (dk_at dksL_law_14 20 rfl rfl)
theorem dL_law_412 : decode cL_law 412 = .ok (.iconst 0, 1) := dk_3 (dk_at dksL_law_14 23 rfl rfl)
theorem dL_law_413 : decode cL_law 413 = .ok (.ireturn, 1) := dk_172 (dk_at dksL_law_15 0 rfl rfl)
theorem dL_law_414 : decode cL_law 414 = .ok (.iload 5, 2) := dk_21 5 (dk_at dksL_law_15 1 rfl rfl)
theorem dL_law_416 : decode cL_law 416 = .ok (.ifCond .ne 15, 3) := dk_154 0 15 (dk_at dksL_law_15 3 rfl rfl)
theorem dL_law_419 : decode cL_law 419 = .ok (.aload_n 3, 1) := dk_45 (dk_at dksL_law_15 6 rfl rfl)
theorem dL_law_420 : decode cL_law 420 = .ok (.iconst 0, 1) := dk_3 (dk_at dksL_law_15 7 rfl rfl)
theorem dL_law_421 : decode cL_law 421 = .ok (.laload, 1) := dk_47 (dk_at dksL_law_15 8 rfl rfl)
theorem dL_law_422 : decode cL_law 422 = .ok (.iload 6, 2) := dk_21 6 (dk_at dksL_law_15 9 rfl rfl)
theorem dL_law_424 : decode cL_law 424 = .ok (.i2l, 1) := dk_133 (dk_at dksL_law_15 11 rfl rfl)
theorem dL_law_425 : decode cL_law 425 = .ok (.lcmp, 1) := dk_148 (dk_at dksL_law_15 12 rfl rfl)
theorem dL_law_426 : decode cL_law 426 = .ok (.ifCond .eq 5, 3) := dk_153 0 5 (dk_at dksL_law_15 13 rfl rfl)
theorem dL_law_429 : decode cL_law 429 = .ok (.iconst 0, 1) := dk_3 (dk_at dksL_law_15 16 rfl rfl)
theorem dL_law_430 : decode cL_law 430 = .ok (.ireturn, 1) := dk_172 (dk_at dksL_law_15 17 rfl rfl)
theorem dL_law_431 : decode cL_law 431 = .ok (.goto 903, 3) := dk_167 3 135 (dk_at dksL_law_15 18 rfl rfl)
theorem dL_law_434 : decode cL_law 434 = .ok (.aload_n 1, 1) := dk_43 (dk_at dksL_law_15 21 rfl rfl)
theorem dL_law_435 : decode cL_law 435 = .ok (.aload_n 0, 1) := dk_42 (dk_at dksL_law_15 22 rfl rfl)
theorem dL_law_436 : decode cL_law 436 = .ok (.iload 4, 2) := dk_21 4 (dk_at dksL_law_16 0 rfl rfl)
theorem dL_law_438 : decode cL_law 438 = .ok (.iconst 1, 1) := dk_4 (dk_at dksL_law_16 2 rfl rfl)
theorem dL_law_439 : decode cL_law 439 = .ok (.iadd, 1) := dk_96 (dk_at dksL_law_16 3 rfl rfl)
theorem dL_law_440 : decode cL_law 440 = .ok (.iaload, 1) := dk_46 (dk_at dksL_law_16 4 rfl rfl)
theorem dL_law_441 : decode cL_law 441 = .ok (.aload_n 3, 1) := dk_45 (dk_at dksL_law_16 5 rfl rfl)
theorem dL_law_442 : decode cL_law 442 = .ok (.invokestatic 99, 3) := dk_184 0 99 (dk_at dksL_law_16 6 rfl rfl)
theorem dL_law_445 : decode cL_law 445 = .ok (.istore 5, 2) := dk_54 5 (dk_at dksL_law_16 9 rfl rfl)
theorem dL_law_447 : decode cL_law 447 = .ok (.aload_n 2, 1) := dk_44 (dk_at dksL_law_16 11 rfl rfl)
theorem dL_law_448 : decode cL_law 448 = .ok (.aload_n 0, 1) := dk_42 (dk_at dksL_law_16 12 rfl rfl)
theorem dL_law_449 : decode cL_law 449 = .ok (.iload 4, 2) := dk_21 4 (dk_at dksL_law_16 13 rfl rfl)
theorem dL_law_451 : decode cL_law 451 = .ok (.iconst 1, 1) := dk_4 (dk_at dksL_law_16 15 rfl rfl)
theorem dL_law_452 : decode cL_law 452 = .ok (.iadd, 1) := dk_96 (dk_at dksL_law_16 16 rfl rfl)
theorem dL_law_453 : decode cL_law 453 = .ok (.iaload, 1) := dk_46 (dk_at dksL_law_16 17 rfl rfl)
theorem dL_law_454 : decode cL_law 454 = .ok (.invokevirtual 101, 3) := dk_182 0 101 (dk_at dksL_law_16 18 rfl rfl)
theorem dL_law_457 : decode cL_law 457 = .ok (.istore 6, 2) := dk_54 6 (dk_at dksL_law_16 21 rfl rfl)
theorem dL_law_459 : decode cL_law 459 = .ok (.aload_n 2, 1) := dk_44 (dk_at dksL_law_16 23 rfl rfl)
theorem dL_law_460 : decode cL_law 460 = .ok (.invokevirtual 83, 3) := dk_182 0 83 (dk_at dksL_law_17 0 rfl rfl)
theorem dL_law_463 : decode cL_law 463 = .ok (.iload 5, 2) := dk_21 5 (dk_at dksL_law_17 3 rfl rfl)
theorem dL_law_465 : decode cL_law 465 = .ok (.if_icmp .eq 5, 3) := dk_159 0 5 (dk_at dksL_law_17 5 rfl rfl)
theorem dL_law_468 : decode cL_law 468 = .ok (.iconst 0, 1) := dk_3 (dk_at dksL_law_17 8 rfl rfl)
theorem dL_law_469 : decode cL_law 469 = .ok (.ireturn, 1) := dk_172 (dk_at dksL_law_17 9 rfl rfl)
theorem dL_law_470 : decode cL_law 470 = .ok (.iload 5, 2) := dk_21 5 (dk_at dksL_law_17 10 rfl rfl)
theorem dL_law_472 : decode cL_law 472 = .ok (.ifCond .ne 15, 3) := dk_154 0 15 (dk_at dksL_law_17 12 rfl rfl)
theorem dL_law_475 : decode cL_law 475 = .ok (.aload_n 3, 1) := dk_45 (dk_at dksL_law_17 15 rfl rfl)
theorem dL_law_476 : decode cL_law 476 = .ok (.iconst 0, 1) := dk_3 (dk_at dksL_law_17 16 rfl rfl)
theorem dL_law_477 : decode cL_law 477 = .ok (.laload, 1) := dk_47 (dk_at dksL_law_17 17 rfl rfl)
theorem dL_law_478 : decode cL_law 478 = .ok (.iload 6, 2) := dk_21 6 (dk_at dksL_law_17 18 rfl rfl)
theorem dL_law_480 : decode cL_law 480 = .ok (.i2l, 1) := dk_133 (dk_at dksL_law_17 20 rfl rfl)
theorem dL_law_481 : decode cL_law 481 = .ok (.lcmp, 1) := dk_148 (dk_at dksL_law_17 21 rfl rfl)
theorem dL_law_482 : decode cL_law 482 = .ok (.ifCond .eq 5, 3) := dk_153 0 5 (dk_at dksL_law_18 0 rfl rfl)
theorem dL_law_485 : decode cL_law 485 = .ok (.iconst 0, 1) := dk_3 (dk_at dksL_law_18 3 rfl rfl)
theorem dL_law_486 : decode cL_law 486 = .ok (.ireturn, 1) := dk_172 (dk_at dksL_law_18 4 rfl rfl)
theorem dL_law_487 : decode cL_law 487 = .ok (.goto 847, 3) := dk_167 3 79 (dk_at dksL_law_18 5 rfl rfl)
theorem dL_law_490 : decode cL_law 490 = .ok (.aload_n 1, 1) := dk_43 (dk_at dksL_law_18 8 rfl rfl)
theorem dL_law_491 : decode cL_law 491 = .ok (.aload_n 0, 1) := dk_42 (dk_at dksL_law_18 9 rfl rfl)
theorem dL_law_492 : decode cL_law 492 = .ok (.iload 4, 2) := dk_21 4 (dk_at dksL_law_18 10 rfl rfl)
theorem dL_law_494 : decode cL_law 494 = .ok (.iconst 1, 1) := dk_4 (dk_at dksL_law_18 12 rfl rfl)
theorem dL_law_495 : decode cL_law 495 = .ok (.iadd, 1) := dk_96 (dk_at dksL_law_18 13 rfl rfl)
theorem dL_law_496 : decode cL_law 496 = .ok (.iaload, 1) := dk_46 (dk_at dksL_law_18 14 rfl rfl)
theorem dL_law_497 : decode cL_law 497 = .ok (.aload_n 0, 1) := dk_42 (dk_at dksL_law_18 15 rfl rfl)
theorem dL_law_498 : decode cL_law 498 = .ok (.iload 4, 2) := dk_21 4 (dk_at dksL_law_18 16 rfl rfl)
theorem dL_law_500 : decode cL_law 500 = .ok (.iconst 2, 1) := dk_5 (dk_at dksL_law_18 18 rfl rfl)
theorem dL_law_501 : decode cL_law 501 = .ok (.iadd, 1) := dk_96 (dk_at dksL_law_18 19 rfl rfl)
theorem dL_law_502 : decode cL_law 502 = .ok (.iaload, 1) := dk_46 (dk_at dksL_law_18 20 rfl rfl)
theorem dL_law_503 : decode cL_law 503 = .ok (.aload_n 0, 1) := dk_42 (dk_at dksL_law_18 21 rfl rfl)
theorem dL_law_504 : decode cL_law 504 = .ok (.iload 4, 2) := dk_21 4 (dk_at dksL_law_18 22 rfl rfl)
theorem dL_law_506 : decode cL_law 506 = .ok (.iconst 3, 1) := dk_6 (dk_at dksL_law_19 0 rfl rfl)
theorem dL_law_507 : decode cL_law 507 = .ok (.iadd, 1) := dk_96 (dk_at dksL_law_19 1 rfl rfl)
theorem dL_law_508 : decode cL_law 508 = .ok (.iaload, 1) := dk_46 (dk_at dksL_law_19 2 rfl rfl)
theorem dL_law_509 : decode cL_law 509 = .ok (.ifCond .eq 7, 3) := dk_153 0 7 (dk_at dksL_law_19 3 rfl rfl)
theorem dL_law_512 : decode cL_law 512 = .ok (.iconst 1, 1) := dk_4 (dk_at dksL_law_19 6 rfl rfl)
theorem dL_law_513 : decode cL_law 513 = .ok (.goto 4, 3) := dk_167 0 4 (dk_at dksL_law_19 7 rfl rfl)
theorem dL_law_516 : decode cL_law 516 = .ok (.iconst 0, 1) := dk_3 (dk_at dksL_law_19 10 rfl rfl)
theorem dL_law_517 : decode cL_law 517 = .ok (.aload_n 3, 1) := dk_45 (dk_at dksL_law_19 11 rfl rfl)
theorem dL_law_518 : decode cL_law 518 = .ok (.invokestatic 102, 3) := dk_184 0 102 (dk_at dksL_law_19 12 rfl rfl)
theorem dL_law_521 : decode cL_law 521 = .ok (.istore 5, 2) := dk_54 5 (dk_at dksL_law_19 15 rfl rfl)
theorem dL_law_523 : decode cL_law 523 = .ok (.aload_n 2, 1) := dk_44 (dk_at dksL_law_19 17 rfl rfl)
theorem dL_law_524 : decode cL_law 524 = .ok (.aload_n 0, 1) := dk_42 (dk_at dksL_law_19 18 rfl rfl)
theorem dL_law_525 : decode cL_law 525 = .ok (.iload 4, 2) := dk_21 4 (dk_at dksL_law_19 19 rfl rfl)
theorem dL_law_527 : decode cL_law 527 = .ok (.iconst 1, 1) := dk_4 (dk_at dksL_law_19 21 rfl rfl)
theorem dL_law_528 : decode cL_law 528 = .ok (.iadd, 1) := dk_96 (dk_at dksL_law_19 22 rfl rfl)
theorem dL_law_529 : decode cL_law 529 = .ok (.iaload, 1) := dk_46 (dk_at dksL_law_19 23 rfl rfl)
theorem dL_law_530 : decode cL_law 530 = .ok (.aload_n 0, 1) := dk_42 (dk_at dksL_law_20 0 rfl rfl)
theorem dL_law_531 : decode cL_law 531 = .ok (.iload 4, 2) := dk_21 4 (dk_at dksL_law_20 1 rfl rfl)
theorem dL_law_533 : decode cL_law 533 = .ok (.iconst 2, 1) := dk_5 (dk_at dksL_law_20 3 rfl rfl)
theorem dL_law_534 : decode cL_law 534 = .ok (.iadd, 1) := dk_96 (dk_at dksL_law_20 4 rfl rfl)
theorem dL_law_535 : decode cL_law 535 = .ok (.iaload, 1) := dk_46 (dk_at dksL_law_20 5 rfl rfl)
theorem dL_law_536 : decode cL_law 536 = .ok (.aload_n 0, 1) := dk_42 (dk_at dksL_law_20 6 rfl rfl)
theorem dL_law_537 : decode cL_law 537 = .ok (.iload 4, 2) := dk_21 4 (dk_at dksL_law_20 7 rfl rfl)
theorem dL_law_539 : decode cL_law 539 = .ok (.iconst 3, 1) := dk_6 (dk_at dksL_law_20 9 rfl rfl)
theorem dL_law_540 : decode cL_law 540 = .ok (.iadd, 1) := dk_96 (dk_at dksL_law_20 10 rfl rfl)
theorem dL_law_541 : decode cL_law 541 = .ok (.iaload, 1) := dk_46 (dk_at dksL_law_20 11 rfl rfl)
theorem dL_law_542 : decode cL_law 542 = .ok (.ifCond .eq 7, 3) := dk_153 0 7 (dk_at dksL_law_20 12 rfl rfl)
theorem dL_law_545 : decode cL_law 545 = .ok (.iconst 1, 1) := dk_4 (dk_at dksL_law_20 15 rfl rfl)
theorem dL_law_546 : decode cL_law 546 = .ok (.goto 4, 3) := dk_167 0 4 (dk_at dksL_law_20 16 rfl rfl)
theorem dL_law_549 : decode cL_law 549 = .ok (.iconst 0, 1) := dk_3 (dk_at dksL_law_20 19 rfl rfl)
theorem dL_law_550 : decode cL_law 550 = .ok (.invokevirtual 105, 3) := dk_182 0 105 (dk_at dksL_law_20 20 rfl rfl)
theorem dL_law_553 : decode cL_law 553 = .ok (.istore 6, 2) := dk_54 6 (dk_at dksL_law_21 0 rfl rfl)
theorem dL_law_555 : decode cL_law 555 = .ok (.aload_n 2, 1) := dk_44 (dk_at dksL_law_21 2 rfl rfl)
theorem dL_law_556 : decode cL_law 556 = .ok (.invokevirtual 83, 3) := dk_182 0 83 (dk_at dksL_law_21 3 rfl rfl)
theorem dL_law_559 : decode cL_law 559 = .ok (.iload 5, 2) := dk_21 5 (dk_at dksL_law_21 6 rfl rfl)
theorem dL_law_561 : decode cL_law 561 = .ok (.if_icmp .eq 5, 3) := dk_159 0 5 (dk_at dksL_law_21 8 rfl rfl)
theorem dL_law_564 : decode cL_law 564 = .ok (.iconst 0, 1) := dk_3 (dk_at dksL_law_21 11 rfl rfl)
theorem dL_law_565 : decode cL_law 565 = .ok (.ireturn, 1) := dk_172 (dk_at dksL_law_21 12 rfl rfl)
theorem dL_law_566 : decode cL_law 566 = .ok (.iload 5, 2) := dk_21 5 (dk_at dksL_law_21 13 rfl rfl)
theorem dL_law_568 : decode cL_law 568 = .ok (.ifCond .ne 15, 3) := dk_154 0 15 (dk_at dksL_law_21 15 rfl rfl)
theorem dL_law_571 : decode cL_law 571 = .ok (.aload_n 3, 1) := dk_45 (dk_at dksL_law_21 18 rfl rfl)
theorem dL_law_572 : decode cL_law 572 = .ok (.iconst 0, 1) := dk_3 (dk_at dksL_law_21 19 rfl rfl)
theorem dL_law_573 : decode cL_law 573 = .ok (.laload, 1) := dk_47 (dk_at dksL_law_21 20 rfl rfl)
theorem dL_law_574 : decode cL_law 574 = .ok (.iload 6, 2) := dk_21 6 (dk_at dksL_law_21 21 rfl rfl)
theorem dL_law_576 : decode cL_law 576 = .ok (.i2l, 1) := dk_133 (dk_at dksL_law_21 23 rfl rfl)
theorem dL_law_577 : decode cL_law 577 = .ok (.lcmp, 1) := dk_148 (dk_at dksL_law_22 0 rfl rfl)
theorem dL_law_578 : decode cL_law 578 = .ok (.ifCond .eq 5, 3) := dk_153 0 5 (dk_at dksL_law_22 1 rfl rfl)
theorem dL_law_581 : decode cL_law 581 = .ok (.iconst 0, 1) := dk_3 (dk_at dksL_law_22 4 rfl rfl)
theorem dL_law_582 : decode cL_law 582 = .ok (.ireturn, 1) := dk_172 (dk_at dksL_law_22 5 rfl rfl)
theorem dL_law_583 : decode cL_law 583 = .ok (.goto 751, 3) := dk_167 2 239 (dk_at dksL_law_22 6 rfl rfl)
theorem dL_law_586 : decode cL_law 586 = .ok (.aload_n 1, 1) := dk_43 (dk_at dksL_law_22 9 rfl rfl)
theorem dL_law_587 : decode cL_law 587 = .ok (.aload_n 0, 1) := dk_42 (dk_at dksL_law_22 10 rfl rfl)
theorem dL_law_588 : decode cL_law 588 = .ok (.iload 4, 2) := dk_21 4 (dk_at dksL_law_22 11 rfl rfl)
theorem dL_law_590 : decode cL_law 590 = .ok (.iconst 1, 1) := dk_4 (dk_at dksL_law_22 13 rfl rfl)
theorem dL_law_591 : decode cL_law 591 = .ok (.iadd, 1) := dk_96 (dk_at dksL_law_22 14 rfl rfl)
theorem dL_law_592 : decode cL_law 592 = .ok (.iaload, 1) := dk_46 (dk_at dksL_law_22 15 rfl rfl)
theorem dL_law_593 : decode cL_law 593 = .ok (.aload_n 0, 1) := dk_42 (dk_at dksL_law_22 16 rfl rfl)
theorem dL_law_594 : decode cL_law 594 = .ok (.iload 4, 2) := dk_21 4 (dk_at dksL_law_22 17 rfl rfl)
theorem dL_law_596 : decode cL_law 596 = .ok (.iconst 2, 1) := dk_5 (dk_at dksL_law_22 19 rfl rfl)
theorem dL_law_597 : decode cL_law 597 = .ok (.iadd, 1) := dk_96 (dk_at dksL_law_22 20 rfl rfl)
theorem dL_law_598 : decode cL_law 598 = .ok (.iaload, 1) := dk_46 (dk_at dksL_law_22 21 rfl rfl)
theorem dL_law_599 : decode cL_law 599 = .ok (.aload_n 3, 1) := dk_45 (dk_at dksL_law_22 22 rfl rfl)
theorem dL_law_600 : decode cL_law 600 = .ok (.invokestatic 106, 3) := dk_184 0 106 (dk_at dksL_law_23 0 rfl rfl)
theorem dL_law_603 : decode cL_law 603 = .ok (.istore 5, 2) := dk_54 5 (dk_at dksL_law_23 3 rfl rfl)
theorem dL_law_605 : decode cL_law 605 = .ok (.aload_n 2, 1) := dk_44 (dk_at dksL_law_23 5 rfl rfl)
theorem dL_law_606 : decode cL_law 606 = .ok (.aload_n 0, 1) := dk_42 (dk_at dksL_law_23 6 rfl rfl)
theorem dL_law_607 : decode cL_law 607 = .ok (.iload 4, 2) := dk_21 4 (dk_at dksL_law_23 7 rfl rfl)
theorem dL_law_609 : decode cL_law 609 = .ok (.iconst 1, 1) := dk_4 (dk_at dksL_law_23 9 rfl rfl)
theorem dL_law_610 : decode cL_law 610 = .ok (.iadd, 1) := dk_96 (dk_at dksL_law_23 10 rfl rfl)
theorem dL_law_611 : decode cL_law 611 = .ok (.iaload, 1) := dk_46 (dk_at dksL_law_23 11 rfl rfl)
theorem dL_law_612 : decode cL_law 612 = .ok (.aload_n 0, 1) := dk_42 (dk_at dksL_law_23 12 rfl rfl)
theorem dL_law_613 : decode cL_law 613 = .ok (.iload 4, 2) := dk_21 4 (dk_at dksL_law_23 13 rfl rfl)
theorem dL_law_615 : decode cL_law 615 = .ok (.iconst 2, 1) := dk_5 (dk_at dksL_law_23 15 rfl rfl)
theorem dL_law_616 : decode cL_law 616 = .ok (.iadd, 1) := dk_96 (dk_at dksL_law_23 16 rfl rfl)
theorem dL_law_617 : decode cL_law 617 = .ok (.iaload, 1) := dk_46 (dk_at dksL_law_23 17 rfl rfl)
theorem dL_law_618 : decode cL_law 618 = .ok (.invokevirtual 108, 3) := dk_182 0 108 (dk_at dksL_law_23 18 rfl rfl)
theorem dL_law_621 : decode cL_law 621 = .ok (.istore 6, 2) := dk_54 6 (dk_at dksL_law_23 21 rfl rfl)
theorem dL_law_623 : decode cL_law 623 = .ok (.aload_n 2, 1) := dk_44 (dk_at dksL_law_23 23 rfl rfl)
theorem dL_law_624 : decode cL_law 624 = .ok (.invokevirtual 83, 3) := dk_182 0 83 (dk_at dksL_law_24 0 rfl rfl)
theorem dL_law_627 : decode cL_law 627 = .ok (.iload 5, 2) := dk_21 5 (dk_at dksL_law_24 3 rfl rfl)
theorem dL_law_629 : decode cL_law 629 = .ok (.if_icmp .eq 5, 3) := dk_159 0 5 (dk_at dksL_law_24 5 rfl rfl)
theorem dL_law_632 : decode cL_law 632 = .ok (.iconst 0, 1) := dk_3 (dk_at dksL_law_24 8 rfl rfl)
theorem dL_law_633 : decode cL_law 633 = .ok (.ireturn, 1) := dk_172 (dk_at dksL_law_24 9 rfl rfl)
theorem dL_law_634 : decode cL_law 634 = .ok (.iload 5, 2) := dk_21 5 (dk_at dksL_law_24 10 rfl rfl)
theorem dL_law_636 : decode cL_law 636 = .ok (.ifCond .ne 15, 3) := dk_154 0 15 (dk_at dksL_law_24 12 rfl rfl)
theorem dL_law_639 : decode cL_law 639 = .ok (.aload_n 3, 1) := dk_45 (dk_at dksL_law_24 15 rfl rfl)
theorem dL_law_640 : decode cL_law 640 = .ok (.iconst 0, 1) := dk_3 (dk_at dksL_law_24 16 rfl rfl)
theorem dL_law_641 : decode cL_law 641 = .ok (.laload, 1) := dk_47 (dk_at dksL_law_24 17 rfl rfl)
theorem dL_law_642 : decode cL_law 642 = .ok (.iload 6, 2) := dk_21 6 (dk_at dksL_law_24 18 rfl rfl)
theorem dL_law_644 : decode cL_law 644 = .ok (.i2l, 1) := dk_133 (dk_at dksL_law_24 20 rfl rfl)
theorem dL_law_645 : decode cL_law 645 = .ok (.lcmp, 1) := dk_148 (dk_at dksL_law_24 21 rfl rfl)
theorem dL_law_646 : decode cL_law 646 = .ok (.ifCond .eq 5, 3) := dk_153 0 5 (dk_at dksL_law_25 0 rfl rfl)
theorem dL_law_649 : decode cL_law 649 = .ok (.iconst 0, 1) := dk_3 (dk_at dksL_law_25 3 rfl rfl)
theorem dL_law_650 : decode cL_law 650 = .ok (.ireturn, 1) := dk_172 (dk_at dksL_law_25 4 rfl rfl)
theorem dL_law_651 : decode cL_law 651 = .ok (.goto 683, 3) := dk_167 2 171 (dk_at dksL_law_25 5 rfl rfl)
theorem dL_law_654 : decode cL_law 654 = .ok (.aload_n 1, 1) := dk_43 (dk_at dksL_law_25 8 rfl rfl)
theorem dL_law_655 : decode cL_law 655 = .ok (.aload_n 0, 1) := dk_42 (dk_at dksL_law_25 9 rfl rfl)
theorem dL_law_656 : decode cL_law 656 = .ok (.iload 4, 2) := dk_21 4 (dk_at dksL_law_25 10 rfl rfl)
theorem dL_law_658 : decode cL_law 658 = .ok (.iconst 1, 1) := dk_4 (dk_at dksL_law_25 12 rfl rfl)
theorem dL_law_659 : decode cL_law 659 = .ok (.iadd, 1) := dk_96 (dk_at dksL_law_25 13 rfl rfl)
theorem dL_law_660 : decode cL_law 660 = .ok (.iaload, 1) := dk_46 (dk_at dksL_law_25 14 rfl rfl)
theorem dL_law_661 : decode cL_law 661 = .ok (.aload_n 3, 1) := dk_45 (dk_at dksL_law_25 15 rfl rfl)
theorem dL_law_662 : decode cL_law 662 = .ok (.invokestatic 109, 3) := dk_184 0 109 (dk_at dksL_law_25 16 rfl rfl)
theorem dL_law_665 : decode cL_law 665 = .ok (.istore 5, 2) := dk_54 5 (dk_at dksL_law_25 19 rfl rfl)
theorem dL_law_667 : decode cL_law 667 = .ok (.aload_n 2, 1) := dk_44 (dk_at dksL_law_25 21 rfl rfl)
theorem dL_law_668 : decode cL_law 668 = .ok (.aload_n 0, 1) := dk_42 (dk_at dksL_law_25 22 rfl rfl)
theorem dL_law_669 : decode cL_law 669 = .ok (.iload 4, 2) := dk_21 4 (dk_at dksL_law_26 0 rfl rfl)
theorem dL_law_671 : decode cL_law 671 = .ok (.iconst 1, 1) := dk_4 (dk_at dksL_law_26 2 rfl rfl)
theorem dL_law_672 : decode cL_law 672 = .ok (.iadd, 1) := dk_96 (dk_at dksL_law_26 3 rfl rfl)
theorem dL_law_673 : decode cL_law 673 = .ok (.iaload, 1) := dk_46 (dk_at dksL_law_26 4 rfl rfl)
theorem dL_law_674 : decode cL_law 674 = .ok (.invokevirtual 111, 3) := dk_182 0 111 (dk_at dksL_law_26 5 rfl rfl)
theorem dL_law_677 : decode cL_law 677 = .ok (.istore 6, 2) := dk_54 6 (dk_at dksL_law_26 8 rfl rfl)
theorem dL_law_679 : decode cL_law 679 = .ok (.aload_n 2, 1) := dk_44 (dk_at dksL_law_26 10 rfl rfl)
theorem dL_law_680 : decode cL_law 680 = .ok (.invokevirtual 83, 3) := dk_182 0 83 (dk_at dksL_law_26 11 rfl rfl)
theorem dL_law_683 : decode cL_law 683 = .ok (.iload 5, 2) := dk_21 5 (dk_at dksL_law_26 14 rfl rfl)
theorem dL_law_685 : decode cL_law 685 = .ok (.if_icmp .eq 5, 3) := dk_159 0 5 (dk_at dksL_law_26 16 rfl rfl)
theorem dL_law_688 : decode cL_law 688 = .ok (.iconst 0, 1) := dk_3 (dk_at dksL_law_26 19 rfl rfl)
theorem dL_law_689 : decode cL_law 689 = .ok (.ireturn, 1) := dk_172 (dk_at dksL_law_26 20 rfl rfl)
theorem dL_law_690 : decode cL_law 690 = .ok (.iload 5, 2) := dk_21 5 (dk_at dksL_law_26 21 rfl rfl)
theorem dL_law_692 : decode cL_law 692 = .ok (.ifCond .ne 15, 3) := dk_154 0 15 (dk_at dksL_law_27 0 rfl rfl)
theorem dL_law_695 : decode cL_law 695 = .ok (.aload_n 3, 1) := dk_45 (dk_at dksL_law_27 3 rfl rfl)
theorem dL_law_696 : decode cL_law 696 = .ok (.iconst 0, 1) := dk_3 (dk_at dksL_law_27 4 rfl rfl)
theorem dL_law_697 : decode cL_law 697 = .ok (.laload, 1) := dk_47 (dk_at dksL_law_27 5 rfl rfl)
theorem dL_law_698 : decode cL_law 698 = .ok (.iload 6, 2) := dk_21 6 (dk_at dksL_law_27 6 rfl rfl)
theorem dL_law_700 : decode cL_law 700 = .ok (.i2l, 1) := dk_133 (dk_at dksL_law_27 8 rfl rfl)
theorem dL_law_701 : decode cL_law 701 = .ok (.lcmp, 1) := dk_148 (dk_at dksL_law_27 9 rfl rfl)
theorem dL_law_702 : decode cL_law 702 = .ok (.ifCond .eq 5, 3) := dk_153 0 5 (dk_at dksL_law_27 10 rfl rfl)
theorem dL_law_705 : decode cL_law 705 = .ok (.iconst 0, 1) := dk_3 (dk_at dksL_law_27 13 rfl rfl)
theorem dL_law_706 : decode cL_law 706 = .ok (.ireturn, 1) := dk_172 (dk_at dksL_law_27 14 rfl rfl)
theorem dL_law_707 : decode cL_law 707 = .ok (.goto 627, 3) := dk_167 2 115 (dk_at dksL_law_27 15 rfl rfl)
theorem dL_law_710 : decode cL_law 710 = .ok (.aload_n 1, 1) := dk_43 (dk_at dksL_law_27 18 rfl rfl)
theorem dL_law_711 : decode cL_law 711 = .ok (.invokevirtual 112, 3) := dk_182 0 112 (dk_at dksL_law_27 19 rfl rfl)
theorem dL_law_714 : decode cL_law 714 = .ok (.aload_n 2, 1) := dk_44 (dk_at dksL_law_27 22 rfl rfl)
theorem dL_law_715 : decode cL_law 715 = .ok (.invokevirtual 115, 3) := dk_182 0 115 (dk_at dksL_law_28 0 rfl rfl)
theorem dL_law_718 : decode cL_law 718 = .ok (.if_icmp .eq 616, 3) := dk_159 2 104 (dk_at dksL_law_28 3 rfl rfl)
theorem dL_law_721 : decode cL_law 721 = .ok (.iconst 0, 1) := dk_3 (dk_at dksL_law_28 6 rfl rfl)
theorem dL_law_722 : decode cL_law 722 = .ok (.ireturn, 1) := dk_172 (dk_at dksL_law_28 7 rfl rfl)
theorem dL_law_723 : decode cL_law 723 = .ok (.aload_n 1, 1) := dk_43 (dk_at dksL_law_28 8 rfl rfl)
theorem dL_law_724 : decode cL_law 724 = .ok (.aload_n 0, 1) := dk_42 (dk_at dksL_law_28 9 rfl rfl)
theorem dL_law_725 : decode cL_law 725 = .ok (.iload 4, 2) := dk_21 4 (dk_at dksL_law_28 10 rfl rfl)
theorem dL_law_727 : decode cL_law 727 = .ok (.iconst 1, 1) := dk_4 (dk_at dksL_law_28 12 rfl rfl)
theorem dL_law_728 : decode cL_law 728 = .ok (.iadd, 1) := dk_96 (dk_at dksL_law_28 13 rfl rfl)
theorem dL_law_729 : decode cL_law 729 = .ok (.iaload, 1) := dk_46 (dk_at dksL_law_28 14 rfl rfl)
theorem dL_law_730 : decode cL_law 730 = .ok (.aload_n 0, 1) := dk_42 (dk_at dksL_law_28 15 rfl rfl)
theorem dL_law_731 : decode cL_law 731 = .ok (.iload 4, 2) := dk_21 4 (dk_at dksL_law_28 16 rfl rfl)
theorem dL_law_733 : decode cL_law 733 = .ok (.iconst 2, 1) := dk_5 (dk_at dksL_law_28 18 rfl rfl)
theorem dL_law_734 : decode cL_law 734 = .ok (.iadd, 1) := dk_96 (dk_at dksL_law_28 19 rfl rfl)
theorem dL_law_735 : decode cL_law 735 = .ok (.iaload, 1) := dk_46 (dk_at dksL_law_28 20 rfl rfl)
theorem dL_law_736 : decode cL_law 736 = .ok (.aload_n 3, 1) := dk_45 (dk_at dksL_law_28 21 rfl rfl)
theorem dL_law_737 : decode cL_law 737 = .ok (.invokestatic 116, 3) := dk_184 0 116 (dk_at dksL_law_29 0 rfl rfl)
theorem dL_law_740 : decode cL_law 740 = .ok (.istore 5, 2) := dk_54 5 (dk_at dksL_law_29 3 rfl rfl)
theorem dL_law_742 : decode cL_law 742 = .ok (.aload_n 2, 1) := dk_44 (dk_at dksL_law_29 5 rfl rfl)
theorem dL_law_743 : decode cL_law 743 = .ok (.aload_n 0, 1) := dk_42 (dk_at dksL_law_29 6 rfl rfl)
theorem dL_law_744 : decode cL_law 744 = .ok (.iload 4, 2) := dk_21 4 (dk_at dksL_law_29 7 rfl rfl)
theorem dL_law_746 : decode cL_law 746 = .ok (.iconst 1, 1) := dk_4 (dk_at dksL_law_29 9 rfl rfl)
theorem dL_law_747 : decode cL_law 747 = .ok (.iadd, 1) := dk_96 (dk_at dksL_law_29 10 rfl rfl)
theorem dL_law_748 : decode cL_law 748 = .ok (.iaload, 1) := dk_46 (dk_at dksL_law_29 11 rfl rfl)
theorem dL_law_749 : decode cL_law 749 = .ok (.aload_n 0, 1) := dk_42 (dk_at dksL_law_29 12 rfl rfl)
theorem dL_law_750 : decode cL_law 750 = .ok (.iload 4, 2) := dk_21 4 (dk_at dksL_law_29 13 rfl rfl)
theorem dL_law_752 : decode cL_law 752 = .ok (.iconst 2, 1) := dk_5 (dk_at dksL_law_29 15 rfl rfl)
theorem dL_law_753 : decode cL_law 753 = .ok (.iadd, 1) := dk_96 (dk_at dksL_law_29 16 rfl rfl)
theorem dL_law_754 : decode cL_law 754 = .ok (.iaload, 1) := dk_46 (dk_at dksL_law_29 17 rfl rfl)
theorem dL_law_755 : decode cL_law 755 = .ok (.invokevirtual 118, 3) := dk_182 0 118 (dk_at dksL_law_29 18 rfl rfl)
theorem dL_law_758 : decode cL_law 758 = .ok (.istore 6, 2) := dk_54 6 (dk_at dksL_law_29 21 rfl rfl)
theorem dL_law_760 : decode cL_law 760 = .ok (.aload_n 2, 1) := dk_44 (dk_at dksL_law_29 23 rfl rfl)
theorem dL_law_761 : decode cL_law 761 = .ok (.invokevirtual 83, 3) := dk_182 0 83 (dk_at dksL_law_30 0 rfl rfl)
theorem dL_law_764 : decode cL_law 764 = .ok (.iload 5, 2) := dk_21 5 (dk_at dksL_law_30 3 rfl rfl)
theorem dL_law_766 : decode cL_law 766 = .ok (.if_icmp .eq 5, 3) := dk_159 0 5 (dk_at dksL_law_30 5 rfl rfl)
theorem dL_law_769 : decode cL_law 769 = .ok (.iconst 0, 1) := dk_3 (dk_at dksL_law_30 8 rfl rfl)
theorem dL_law_770 : decode cL_law 770 = .ok (.ireturn, 1) := dk_172 (dk_at dksL_law_30 9 rfl rfl)
theorem dL_law_771 : decode cL_law 771 = .ok (.iload 5, 2) := dk_21 5 (dk_at dksL_law_30 10 rfl rfl)
theorem dL_law_773 : decode cL_law 773 = .ok (.ifCond .ne 15, 3) := dk_154 0 15 (dk_at dksL_law_30 12 rfl rfl)
theorem dL_law_776 : decode cL_law 776 = .ok (.aload_n 3, 1) := dk_45 (dk_at dksL_law_30 15 rfl rfl)
theorem dL_law_777 : decode cL_law 777 = .ok (.iconst 0, 1) := dk_3 (dk_at dksL_law_30 16 rfl rfl)
theorem dL_law_778 : decode cL_law 778 = .ok (.laload, 1) := dk_47 (dk_at dksL_law_30 17 rfl rfl)
theorem dL_law_779 : decode cL_law 779 = .ok (.iload 6, 2) := dk_21 6 (dk_at dksL_law_30 18 rfl rfl)
theorem dL_law_781 : decode cL_law 781 = .ok (.i2l, 1) := dk_133 (dk_at dksL_law_30 20 rfl rfl)
theorem dL_law_782 : decode cL_law 782 = .ok (.lcmp, 1) := dk_148 (dk_at dksL_law_30 21 rfl rfl)
theorem dL_law_783 : decode cL_law 783 = .ok (.ifCond .eq 5, 3) := dk_153 0 5 (dk_at dksL_law_31 0 rfl rfl)
theorem dL_law_786 : decode cL_law 786 = .ok (.iconst 0, 1) := dk_3 (dk_at dksL_law_31 3 rfl rfl)
theorem dL_law_787 : decode cL_law 787 = .ok (.ireturn, 1) := dk_172 (dk_at dksL_law_31 4 rfl rfl)
theorem dL_law_788 : decode cL_law 788 = .ok (.goto 546, 3) := dk_167 2 34 (dk_at dksL_law_31 5 rfl rfl)
theorem dL_law_791 : decode cL_law 791 = .ok (.aload_n 1, 1) := dk_43 (dk_at dksL_law_31 8 rfl rfl)
theorem dL_law_792 : decode cL_law 792 = .ok (.aload_n 0, 1) := dk_42 (dk_at dksL_law_31 9 rfl rfl)
theorem dL_law_793 : decode cL_law 793 = .ok (.iload 4, 2) := dk_21 4 (dk_at dksL_law_31 10 rfl rfl)
theorem dL_law_795 : decode cL_law 795 = .ok (.iconst 1, 1) := dk_4 (dk_at dksL_law_31 12 rfl rfl)
theorem dL_law_796 : decode cL_law 796 = .ok (.iadd, 1) := dk_96 (dk_at dksL_law_31 13 rfl rfl)
theorem dL_law_797 : decode cL_law 797 = .ok (.iaload, 1) := dk_46 (dk_at dksL_law_31 14 rfl rfl)
theorem dL_law_798 : decode cL_law 798 = .ok (.aload_n 0, 1) := dk_42 (dk_at dksL_law_31 15 rfl rfl)
theorem dL_law_799 : decode cL_law 799 = .ok (.iload 4, 2) := dk_21 4 (dk_at dksL_law_31 16 rfl rfl)
theorem dL_law_801 : decode cL_law 801 = .ok (.iconst 2, 1) := dk_5 (dk_at dksL_law_31 18 rfl rfl)
theorem dL_law_802 : decode cL_law 802 = .ok (.iadd, 1) := dk_96 (dk_at dksL_law_31 19 rfl rfl)
theorem dL_law_803 : decode cL_law 803 = .ok (.iaload, 1) := dk_46 (dk_at dksL_law_31 20 rfl rfl)
theorem dL_law_804 : decode cL_law 804 = .ok (.aload_n 0, 1) := dk_42 (dk_at dksL_law_31 21 rfl rfl)
theorem dL_law_805 : decode cL_law 805 = .ok (.iload 4, 2) := dk_21 4 (dk_at dksL_law_31 22 rfl rfl)
theorem dL_law_807 : decode cL_law 807 = .ok (.iconst 3, 1) := dk_6 (dk_at dksL_law_32 0 rfl rfl)
theorem dL_law_808 : decode cL_law 808 = .ok (.iadd, 1) := dk_96 (dk_at dksL_law_32 1 rfl rfl)
theorem dL_law_809 : decode cL_law 809 = .ok (.iaload, 1) := dk_46 (dk_at dksL_law_32 2 rfl rfl)
theorem dL_law_810 : decode cL_law 810 = .ok (.aload_n 3, 1) := dk_45 (dk_at dksL_law_32 3 rfl rfl)
theorem dL_law_811 : decode cL_law 811 = .ok (.invokestatic 119, 3) := dk_184 0 119 (dk_at dksL_law_32 4 rfl rfl)
theorem dL_law_814 : decode cL_law 814 = .ok (.istore 5, 2) := dk_54 5 (dk_at dksL_law_32 7 rfl rfl)
theorem dL_law_816 : decode cL_law 816 = .ok (.aload_n 2, 1) := dk_44 (dk_at dksL_law_32 9 rfl rfl)
theorem dL_law_817 : decode cL_law 817 = .ok (.aload_n 0, 1) := dk_42 (dk_at dksL_law_32 10 rfl rfl)
theorem dL_law_818 : decode cL_law 818 = .ok (.iload 4, 2) := dk_21 4 (dk_at dksL_law_32 11 rfl rfl)
theorem dL_law_820 : decode cL_law 820 = .ok (.iconst 1, 1) := dk_4 (dk_at dksL_law_32 13 rfl rfl)
theorem dL_law_821 : decode cL_law 821 = .ok (.iadd, 1) := dk_96 (dk_at dksL_law_32 14 rfl rfl)
theorem dL_law_822 : decode cL_law 822 = .ok (.iaload, 1) := dk_46 (dk_at dksL_law_32 15 rfl rfl)
theorem dL_law_823 : decode cL_law 823 = .ok (.aload_n 0, 1) := dk_42 (dk_at dksL_law_32 16 rfl rfl)
theorem dL_law_824 : decode cL_law 824 = .ok (.iload 4, 2) := dk_21 4 (dk_at dksL_law_32 17 rfl rfl)
theorem dL_law_826 : decode cL_law 826 = .ok (.iconst 2, 1) := dk_5 (dk_at dksL_law_32 19 rfl rfl)
theorem dL_law_827 : decode cL_law 827 = .ok (.iadd, 1) := dk_96 (dk_at dksL_law_32 20 rfl rfl)
theorem dL_law_828 : decode cL_law 828 = .ok (.iaload, 1) := dk_46 (dk_at dksL_law_32 21 rfl rfl)
theorem dL_law_829 : decode cL_law 829 = .ok (.aload_n 0, 1) := dk_42 (dk_at dksL_law_32 22 rfl rfl)
theorem dL_law_830 : decode cL_law 830 = .ok (.iload 4, 2) := dk_21 4 (dk_at dksL_law_33 0 rfl rfl)
theorem dL_law_832 : decode cL_law 832 = .ok (.iconst 3, 1) := dk_6 (dk_at dksL_law_33 2 rfl rfl)
theorem dL_law_833 : decode cL_law 833 = .ok (.iadd, 1) := dk_96 (dk_at dksL_law_33 3 rfl rfl)
theorem dL_law_834 : decode cL_law 834 = .ok (.iaload, 1) := dk_46 (dk_at dksL_law_33 4 rfl rfl)
theorem dL_law_835 : decode cL_law 835 = .ok (.invokevirtual 121, 3) := dk_182 0 121 (dk_at dksL_law_33 5 rfl rfl)
theorem dL_law_838 : decode cL_law 838 = .ok (.istore 6, 2) := dk_54 6 (dk_at dksL_law_33 8 rfl rfl)
theorem dL_law_840 : decode cL_law 840 = .ok (.aload_n 2, 1) := dk_44 (dk_at dksL_law_33 10 rfl rfl)
theorem dL_law_841 : decode cL_law 841 = .ok (.invokevirtual 83, 3) := dk_182 0 83 (dk_at dksL_law_33 11 rfl rfl)
theorem dL_law_844 : decode cL_law 844 = .ok (.iload 5, 2) := dk_21 5 (dk_at dksL_law_33 14 rfl rfl)
theorem dL_law_846 : decode cL_law 846 = .ok (.if_icmp .eq 5, 3) := dk_159 0 5 (dk_at dksL_law_33 16 rfl rfl)
theorem dL_law_849 : decode cL_law 849 = .ok (.iconst 0, 1) := dk_3 (dk_at dksL_law_33 19 rfl rfl)
theorem dL_law_850 : decode cL_law 850 = .ok (.ireturn, 1) := dk_172 (dk_at dksL_law_33 20 rfl rfl)
theorem dL_law_851 : decode cL_law 851 = .ok (.iload 5, 2) := dk_21 5 (dk_at dksL_law_33 21 rfl rfl)
theorem dL_law_853 : decode cL_law 853 = .ok (.ifCond .ne 15, 3) := dk_154 0 15 (dk_at dksL_law_34 0 rfl rfl)
theorem dL_law_856 : decode cL_law 856 = .ok (.aload_n 3, 1) := dk_45 (dk_at dksL_law_34 3 rfl rfl)
theorem dL_law_857 : decode cL_law 857 = .ok (.iconst 0, 1) := dk_3 (dk_at dksL_law_34 4 rfl rfl)
theorem dL_law_858 : decode cL_law 858 = .ok (.laload, 1) := dk_47 (dk_at dksL_law_34 5 rfl rfl)
theorem dL_law_859 : decode cL_law 859 = .ok (.iload 6, 2) := dk_21 6 (dk_at dksL_law_34 6 rfl rfl)
theorem dL_law_861 : decode cL_law 861 = .ok (.i2l, 1) := dk_133 (dk_at dksL_law_34 8 rfl rfl)
theorem dL_law_862 : decode cL_law 862 = .ok (.lcmp, 1) := dk_148 (dk_at dksL_law_34 9 rfl rfl)
theorem dL_law_863 : decode cL_law 863 = .ok (.ifCond .eq 5, 3) := dk_153 0 5 (dk_at dksL_law_34 10 rfl rfl)
theorem dL_law_866 : decode cL_law 866 = .ok (.iconst 0, 1) := dk_3 (dk_at dksL_law_34 13 rfl rfl)
theorem dL_law_867 : decode cL_law 867 = .ok (.ireturn, 1) := dk_172 (dk_at dksL_law_34 14 rfl rfl)
theorem dL_law_868 : decode cL_law 868 = .ok (.goto 466, 3) := dk_167 1 210 (dk_at dksL_law_34 15 rfl rfl)
theorem dL_law_871 : decode cL_law 871 = .ok (.aload_n 1, 1) := dk_43 (dk_at dksL_law_34 18 rfl rfl)
theorem dL_law_872 : decode cL_law 872 = .ok (.aload_n 0, 1) := dk_42 (dk_at dksL_law_34 19 rfl rfl)
theorem dL_law_873 : decode cL_law 873 = .ok (.iload 4, 2) := dk_21 4 (dk_at dksL_law_34 20 rfl rfl)
theorem dL_law_875 : decode cL_law 875 = .ok (.iconst 1, 1) := dk_4 (dk_at dksL_law_34 22 rfl rfl)
theorem dL_law_876 : decode cL_law 876 = .ok (.iadd, 1) := dk_96 (dk_at dksL_law_34 23 rfl rfl)
theorem dL_law_877 : decode cL_law 877 = .ok (.iaload, 1) := dk_46 (dk_at dksL_law_35 0 rfl rfl)
theorem dL_law_878 : decode cL_law 878 = .ok (.aload_n 0, 1) := dk_42 (dk_at dksL_law_35 1 rfl rfl)
theorem dL_law_879 : decode cL_law 879 = .ok (.iload 4, 2) := dk_21 4 (dk_at dksL_law_35 2 rfl rfl)
theorem dL_law_881 : decode cL_law 881 = .ok (.iconst 2, 1) := dk_5 (dk_at dksL_law_35 4 rfl rfl)
theorem dL_law_882 : decode cL_law 882 = .ok (.iadd, 1) := dk_96 (dk_at dksL_law_35 5 rfl rfl)
theorem dL_law_883 : decode cL_law 883 = .ok (.iaload, 1) := dk_46 (dk_at dksL_law_35 6 rfl rfl)
theorem dL_law_884 : decode cL_law 884 = .ok (.aload_n 3, 1) := dk_45 (dk_at dksL_law_35 7 rfl rfl)
theorem dL_law_885 : decode cL_law 885 = .ok (.invokestatic 122, 3) := dk_184 0 122 (dk_at dksL_law_35 8 rfl rfl)
theorem dL_law_888 : decode cL_law 888 = .ok (.istore 5, 2) := dk_54 5 (dk_at dksL_law_35 11 rfl rfl)
theorem dL_law_890 : decode cL_law 890 = .ok (.aload_n 2, 1) := dk_44 (dk_at dksL_law_35 13 rfl rfl)
theorem dL_law_891 : decode cL_law 891 = .ok (.aload_n 0, 1) := dk_42 (dk_at dksL_law_35 14 rfl rfl)
theorem dL_law_892 : decode cL_law 892 = .ok (.iload 4, 2) := dk_21 4 (dk_at dksL_law_35 15 rfl rfl)
theorem dL_law_894 : decode cL_law 894 = .ok (.iconst 1, 1) := dk_4 (dk_at dksL_law_35 17 rfl rfl)
theorem dL_law_895 : decode cL_law 895 = .ok (.iadd, 1) := dk_96 (dk_at dksL_law_35 18 rfl rfl)
theorem dL_law_896 : decode cL_law 896 = .ok (.iaload, 1) := dk_46 (dk_at dksL_law_35 19 rfl rfl)
theorem dL_law_897 : decode cL_law 897 = .ok (.aload_n 0, 1) := dk_42 (dk_at dksL_law_35 20 rfl rfl)
theorem dL_law_898 : decode cL_law 898 = .ok (.iload 4, 2) := dk_21 4 (dk_at dksL_law_35 21 rfl rfl)
theorem dL_law_900 : decode cL_law 900 = .ok (.iconst 2, 1) := dk_5 (dk_at dksL_law_35 23 rfl rfl)
theorem dL_law_901 : decode cL_law 901 = .ok (.iadd, 1) := dk_96 (dk_at dksL_law_36 0 rfl rfl)
theorem dL_law_902 : decode cL_law 902 = .ok (.iaload, 1) := dk_46 (dk_at dksL_law_36 1 rfl rfl)
theorem dL_law_903 : decode cL_law 903 = .ok (.invokevirtual 124, 3) := dk_182 0 124 (dk_at dksL_law_36 2 rfl rfl)
theorem dL_law_906 : decode cL_law 906 = .ok (.istore 6, 2) := dk_54 6 (dk_at dksL_law_36 5 rfl rfl)
theorem dL_law_908 : decode cL_law 908 = .ok (.aload_n 2, 1) := dk_44 (dk_at dksL_law_36 7 rfl rfl)
theorem dL_law_909 : decode cL_law 909 = .ok (.invokevirtual 83, 3) := dk_182 0 83 (dk_at dksL_law_36 8 rfl rfl)
theorem dL_law_912 : decode cL_law 912 = .ok (.iload 5, 2) := dk_21 5 (dk_at dksL_law_36 11 rfl rfl)
theorem dL_law_914 : decode cL_law 914 = .ok (.if_icmp .eq 5, 3) := dk_159 0 5 (dk_at dksL_law_36 13 rfl rfl)
theorem dL_law_917 : decode cL_law 917 = .ok (.iconst 0, 1) := dk_3 (dk_at dksL_law_36 16 rfl rfl)
theorem dL_law_918 : decode cL_law 918 = .ok (.ireturn, 1) := dk_172 (dk_at dksL_law_36 17 rfl rfl)
theorem dL_law_919 : decode cL_law 919 = .ok (.iload 5, 2) := dk_21 5 (dk_at dksL_law_36 18 rfl rfl)
theorem dL_law_921 : decode cL_law 921 = .ok (.ifCond .ne 15, 3) := dk_154 0 15 (dk_at dksL_law_36 20 rfl rfl)
theorem dL_law_924 : decode cL_law 924 = .ok (.aload_n 3, 1) := dk_45 (dk_at dksL_law_36 23 rfl rfl)
theorem dL_law_925 : decode cL_law 925 = .ok (.iconst 0, 1) := dk_3 (dk_at dksL_law_37 0 rfl rfl)
theorem dL_law_926 : decode cL_law 926 = .ok (.laload, 1) := dk_47 (dk_at dksL_law_37 1 rfl rfl)
theorem dL_law_927 : decode cL_law 927 = .ok (.iload 6, 2) := dk_21 6 (dk_at dksL_law_37 2 rfl rfl)
theorem dL_law_929 : decode cL_law 929 = .ok (.i2l, 1) := dk_133 (dk_at dksL_law_37 4 rfl rfl)
theorem dL_law_930 : decode cL_law 930 = .ok (.lcmp, 1) := dk_148 (dk_at dksL_law_37 5 rfl rfl)
theorem dL_law_931 : decode cL_law 931 = .ok (.ifCond .eq 5, 3) := dk_153 0 5 (dk_at dksL_law_37 6 rfl rfl)
theorem dL_law_934 : decode cL_law 934 = .ok (.iconst 0, 1) := dk_3 (dk_at dksL_law_37 9 rfl rfl)
theorem dL_law_935 : decode cL_law 935 = .ok (.ireturn, 1) := dk_172 (dk_at dksL_law_37 10 rfl rfl)
theorem dL_law_936 : decode cL_law 936 = .ok (.goto 398, 3) := dk_167 1 142 (dk_at dksL_law_37 11 rfl rfl)
theorem dL_law_939 : decode cL_law 939 = .ok (.aload_n 1, 1) := dk_43 (dk_at dksL_law_37 14 rfl rfl)
theorem dL_law_940 : decode cL_law 940 = .ok (.invokevirtual 125, 3) := dk_182 0 125 (dk_at dksL_law_37 15 rfl rfl)
theorem dL_law_943 : decode cL_law 943 = .ok (.aload_n 2, 1) := dk_44 (dk_at dksL_law_37 18 rfl rfl)
theorem dL_law_944 : decode cL_law 944 = .ok (.invokevirtual 128, 3) := dk_182 0 128 (dk_at dksL_law_37 19 rfl rfl)
theorem dL_law_947 : decode cL_law 947 = .ok (.if_icmp .eq 387, 3) := dk_159 1 131 (dk_at dksL_law_38 0 rfl rfl)
theorem dL_law_950 : decode cL_law 950 = .ok (.iconst 0, 1) := dk_3 (dk_at dksL_law_38 3 rfl rfl)
theorem dL_law_951 : decode cL_law 951 = .ok (.ireturn, 1) := dk_172 (dk_at dksL_law_38 4 rfl rfl)
theorem dL_law_952 : decode cL_law 952 = .ok (.aload_n 1, 1) := dk_43 (dk_at dksL_law_38 5 rfl rfl)
theorem dL_law_953 : decode cL_law 953 = .ok (.aload_n 0, 1) := dk_42 (dk_at dksL_law_38 6 rfl rfl)
theorem dL_law_954 : decode cL_law 954 = .ok (.iload 4, 2) := dk_21 4 (dk_at dksL_law_38 7 rfl rfl)
theorem dL_law_956 : decode cL_law 956 = .ok (.iconst 1, 1) := dk_4 (dk_at dksL_law_38 9 rfl rfl)
theorem dL_law_957 : decode cL_law 957 = .ok (.iadd, 1) := dk_96 (dk_at dksL_law_38 10 rfl rfl)
theorem dL_law_958 : decode cL_law 958 = .ok (.iaload, 1) := dk_46 (dk_at dksL_law_38 11 rfl rfl)
theorem dL_law_959 : decode cL_law 959 = .ok (.aload_n 0, 1) := dk_42 (dk_at dksL_law_38 12 rfl rfl)
theorem dL_law_960 : decode cL_law 960 = .ok (.iload 4, 2) := dk_21 4 (dk_at dksL_law_38 13 rfl rfl)
theorem dL_law_962 : decode cL_law 962 = .ok (.iconst 2, 1) := dk_5 (dk_at dksL_law_38 15 rfl rfl)
theorem dL_law_963 : decode cL_law 963 = .ok (.iadd, 1) := dk_96 (dk_at dksL_law_38 16 rfl rfl)
theorem dL_law_964 : decode cL_law 964 = .ok (.iaload, 1) := dk_46 (dk_at dksL_law_38 17 rfl rfl)
theorem dL_law_965 : decode cL_law 965 = .ok (.aload_n 3, 1) := dk_45 (dk_at dksL_law_38 18 rfl rfl)
theorem dL_law_966 : decode cL_law 966 = .ok (.invokestatic 129, 3) := dk_184 0 129 (dk_at dksL_law_38 19 rfl rfl)
theorem dL_law_969 : decode cL_law 969 = .ok (.istore 5, 2) := dk_54 5 (dk_at dksL_law_38 22 rfl rfl)
theorem dL_law_971 : decode cL_law 971 = .ok (.aload_n 2, 1) := dk_44 (dk_at dksL_law_39 0 rfl rfl)
theorem dL_law_972 : decode cL_law 972 = .ok (.aload_n 0, 1) := dk_42 (dk_at dksL_law_39 1 rfl rfl)
theorem dL_law_973 : decode cL_law 973 = .ok (.iload 4, 2) := dk_21 4 (dk_at dksL_law_39 2 rfl rfl)
theorem dL_law_975 : decode cL_law 975 = .ok (.iconst 1, 1) := dk_4 (dk_at dksL_law_39 4 rfl rfl)
theorem dL_law_976 : decode cL_law 976 = .ok (.iadd, 1) := dk_96 (dk_at dksL_law_39 5 rfl rfl)
theorem dL_law_977 : decode cL_law 977 = .ok (.iaload, 1) := dk_46 (dk_at dksL_law_39 6 rfl rfl)
theorem dL_law_978 : decode cL_law 978 = .ok (.aload_n 0, 1) := dk_42 (dk_at dksL_law_39 7 rfl rfl)
theorem dL_law_979 : decode cL_law 979 = .ok (.iload 4, 2) := dk_21 4 (dk_at dksL_law_39 8 rfl rfl)
theorem dL_law_981 : decode cL_law 981 = .ok (.iconst 2, 1) := dk_5 (dk_at dksL_law_39 10 rfl rfl)
theorem dL_law_982 : decode cL_law 982 = .ok (.iadd, 1) := dk_96 (dk_at dksL_law_39 11 rfl rfl)
theorem dL_law_983 : decode cL_law 983 = .ok (.iaload, 1) := dk_46 (dk_at dksL_law_39 12 rfl rfl)
theorem dL_law_984 : decode cL_law 984 = .ok (.invokevirtual 131, 3) := dk_182 0 131 (dk_at dksL_law_39 13 rfl rfl)
theorem dL_law_987 : decode cL_law 987 = .ok (.istore 6, 2) := dk_54 6 (dk_at dksL_law_39 16 rfl rfl)
theorem dL_law_989 : decode cL_law 989 = .ok (.aload_n 2, 1) := dk_44 (dk_at dksL_law_39 18 rfl rfl)
theorem dL_law_990 : decode cL_law 990 = .ok (.invokevirtual 83, 3) := dk_182 0 83 (dk_at dksL_law_39 19 rfl rfl)
theorem dL_law_993 : decode cL_law 993 = .ok (.iload 5, 2) := dk_21 5 (dk_at dksL_law_39 22 rfl rfl)
theorem dL_law_995 : decode cL_law 995 = .ok (.if_icmp .eq 5, 3) := dk_159 0 5 (dk_at dksL_law_40 0 rfl rfl)
theorem dL_law_998 : decode cL_law 998 = .ok (.iconst 0, 1) := dk_3 (dk_at dksL_law_40 3 rfl rfl)
theorem dL_law_999 : decode cL_law 999 = .ok (.ireturn, 1) := dk_172 (dk_at dksL_law_40 4 rfl rfl)
theorem dL_law_1000 : decode cL_law 1000 = .ok (.iload 5, 2) := dk_21 5 (dk_at dksL_law_40 5 rfl rfl)
theorem dL_law_1002 : decode cL_law 1002 = .ok (.ifCond .ne 15, 3) := dk_154 0 15 (dk_at dksL_law_40 7 rfl rfl)
theorem dL_law_1005 : decode cL_law 1005 = .ok (.aload_n 3, 1) := dk_45 (dk_at dksL_law_40 10 rfl rfl)
theorem dL_law_1006 : decode cL_law 1006 = .ok (.iconst 0, 1) := dk_3 (dk_at dksL_law_40 11 rfl rfl)
theorem dL_law_1007 : decode cL_law 1007 = .ok (.laload, 1) := dk_47 (dk_at dksL_law_40 12 rfl rfl)
theorem dL_law_1008 : decode cL_law 1008 = .ok (.iload 6, 2) := dk_21 6 (dk_at dksL_law_40 13 rfl rfl)
theorem dL_law_1010 : decode cL_law 1010 = .ok (.i2l, 1) := dk_133 (dk_at dksL_law_40 15 rfl rfl)
theorem dL_law_1011 : decode cL_law 1011 = .ok (.lcmp, 1) := dk_148 (dk_at dksL_law_40 16 rfl rfl)
theorem dL_law_1012 : decode cL_law 1012 = .ok (.ifCond .eq 5, 3) := dk_153 0 5 (dk_at dksL_law_40 17 rfl rfl)
theorem dL_law_1015 : decode cL_law 1015 = .ok (.iconst 0, 1) := dk_3 (dk_at dksL_law_40 20 rfl rfl)
theorem dL_law_1016 : decode cL_law 1016 = .ok (.ireturn, 1) := dk_172 (dk_at dksL_law_40 21 rfl rfl)
theorem dL_law_1017 : decode cL_law 1017 = .ok (.goto 317, 3) := dk_167 1 61 (dk_at dksL_law_41 0 rfl rfl)
theorem dL_law_1020 : decode cL_law 1020 = .ok (.aload_n 1, 1) := dk_43 (dk_at dksL_law_41 3 rfl rfl)
theorem dL_law_1021 : decode cL_law 1021 = .ok (.aload_n 0, 1) := dk_42 (dk_at dksL_law_41 4 rfl rfl)
theorem dL_law_1022 : decode cL_law 1022 = .ok (.iload 4, 2) := dk_21 4 (dk_at dksL_law_41 5 rfl rfl)
theorem dL_law_1024 : decode cL_law 1024 = .ok (.iconst 1, 1) := dk_4 (dk_at dksL_law_41 7 rfl rfl)
theorem dL_law_1025 : decode cL_law 1025 = .ok (.iadd, 1) := dk_96 (dk_at dksL_law_41 8 rfl rfl)
theorem dL_law_1026 : decode cL_law 1026 = .ok (.iaload, 1) := dk_46 (dk_at dksL_law_41 9 rfl rfl)
theorem dL_law_1027 : decode cL_law 1027 = .ok (.aload_n 0, 1) := dk_42 (dk_at dksL_law_41 10 rfl rfl)
theorem dL_law_1028 : decode cL_law 1028 = .ok (.iload 4, 2) := dk_21 4 (dk_at dksL_law_41 11 rfl rfl)
theorem dL_law_1030 : decode cL_law 1030 = .ok (.iconst 2, 1) := dk_5 (dk_at dksL_law_41 13 rfl rfl)
theorem dL_law_1031 : decode cL_law 1031 = .ok (.iadd, 1) := dk_96 (dk_at dksL_law_41 14 rfl rfl)
theorem dL_law_1032 : decode cL_law 1032 = .ok (.iaload, 1) := dk_46 (dk_at dksL_law_41 15 rfl rfl)
theorem dL_law_1033 : decode cL_law 1033 = .ok (.aload_n 0, 1) := dk_42 (dk_at dksL_law_41 16 rfl rfl)
theorem dL_law_1034 : decode cL_law 1034 = .ok (.iload 4, 2) := dk_21 4 (dk_at dksL_law_41 17 rfl rfl)
theorem dL_law_1036 : decode cL_law 1036 = .ok (.iconst 3, 1) := dk_6 (dk_at dksL_law_41 19 rfl rfl)
theorem dL_law_1037 : decode cL_law 1037 = .ok (.iadd, 1) := dk_96 (dk_at dksL_law_41 20 rfl rfl)
theorem dL_law_1038 : decode cL_law 1038 = .ok (.iaload, 1) := dk_46 (dk_at dksL_law_41 21 rfl rfl)
theorem dL_law_1039 : decode cL_law 1039 = .ok (.aload_n 3, 1) := dk_45 (dk_at dksL_law_41 22 rfl rfl)
theorem dL_law_1040 : decode cL_law 1040 = .ok (.invokestatic 132, 3) := dk_184 0 132 (dk_at dksL_law_42 0 rfl rfl)
theorem dL_law_1043 : decode cL_law 1043 = .ok (.istore 5, 2) := dk_54 5 (dk_at dksL_law_42 3 rfl rfl)
theorem dL_law_1045 : decode cL_law 1045 = .ok (.aload_n 2, 1) := dk_44 (dk_at dksL_law_42 5 rfl rfl)
theorem dL_law_1046 : decode cL_law 1046 = .ok (.aload_n 0, 1) := dk_42 (dk_at dksL_law_42 6 rfl rfl)
theorem dL_law_1047 : decode cL_law 1047 = .ok (.iload 4, 2) := dk_21 4 (dk_at dksL_law_42 7 rfl rfl)
theorem dL_law_1049 : decode cL_law 1049 = .ok (.iconst 1, 1) := dk_4 (dk_at dksL_law_42 9 rfl rfl)
theorem dL_law_1050 : decode cL_law 1050 = .ok (.iadd, 1) := dk_96 (dk_at dksL_law_42 10 rfl rfl)
theorem dL_law_1051 : decode cL_law 1051 = .ok (.iaload, 1) := dk_46 (dk_at dksL_law_42 11 rfl rfl)
theorem dL_law_1052 : decode cL_law 1052 = .ok (.aload_n 0, 1) := dk_42 (dk_at dksL_law_42 12 rfl rfl)
theorem dL_law_1053 : decode cL_law 1053 = .ok (.iload 4, 2) := dk_21 4 (dk_at dksL_law_42 13 rfl rfl)
theorem dL_law_1055 : decode cL_law 1055 = .ok (.iconst 2, 1) := dk_5 (dk_at dksL_law_42 15 rfl rfl)
theorem dL_law_1056 : decode cL_law 1056 = .ok (.iadd, 1) := dk_96 (dk_at dksL_law_42 16 rfl rfl)
theorem dL_law_1057 : decode cL_law 1057 = .ok (.iaload, 1) := dk_46 (dk_at dksL_law_42 17 rfl rfl)
theorem dL_law_1058 : decode cL_law 1058 = .ok (.aload_n 0, 1) := dk_42 (dk_at dksL_law_42 18 rfl rfl)
theorem dL_law_1059 : decode cL_law 1059 = .ok (.iload 4, 2) := dk_21 4 (dk_at dksL_law_42 19 rfl rfl)
theorem dL_law_1061 : decode cL_law 1061 = .ok (.iconst 3, 1) := dk_6 (dk_at dksL_law_42 21 rfl rfl)
theorem dL_law_1062 : decode cL_law 1062 = .ok (.iadd, 1) := dk_96 (dk_at dksL_law_42 22 rfl rfl)
theorem dL_law_1063 : decode cL_law 1063 = .ok (.iaload, 1) := dk_46 (dk_at dksL_law_42 23 rfl rfl)
theorem dL_law_1064 : decode cL_law 1064 = .ok (.invokevirtual 134, 3) := dk_182 0 134 (dk_at dksL_law_43 0 rfl rfl)
theorem dL_law_1067 : decode cL_law 1067 = .ok (.istore 6, 2) := dk_54 6 (dk_at dksL_law_43 3 rfl rfl)
theorem dL_law_1069 : decode cL_law 1069 = .ok (.aload_n 2, 1) := dk_44 (dk_at dksL_law_43 5 rfl rfl)
theorem dL_law_1070 : decode cL_law 1070 = .ok (.invokevirtual 83, 3) := dk_182 0 83 (dk_at dksL_law_43 6 rfl rfl)
theorem dL_law_1073 : decode cL_law 1073 = .ok (.iload 5, 2) := dk_21 5 (dk_at dksL_law_43 9 rfl rfl)
theorem dL_law_1075 : decode cL_law 1075 = .ok (.if_icmp .eq 5, 3) := dk_159 0 5 (dk_at dksL_law_43 11 rfl rfl)
theorem dL_law_1078 : decode cL_law 1078 = .ok (.iconst 0, 1) := dk_3 (dk_at dksL_law_43 14 rfl rfl)
theorem dL_law_1079 : decode cL_law 1079 = .ok (.ireturn, 1) := dk_172 (dk_at dksL_law_43 15 rfl rfl)
theorem dL_law_1080 : decode cL_law 1080 = .ok (.iload 5, 2) := dk_21 5 (dk_at dksL_law_43 16 rfl rfl)
theorem dL_law_1082 : decode cL_law 1082 = .ok (.ifCond .ne 15, 3) := dk_154 0 15 (dk_at dksL_law_43 18 rfl rfl)
theorem dL_law_1085 : decode cL_law 1085 = .ok (.aload_n 3, 1) := dk_45 (dk_at dksL_law_43 21 rfl rfl)
theorem dL_law_1086 : decode cL_law 1086 = .ok (.iconst 0, 1) := dk_3 (dk_at dksL_law_43 22 rfl rfl)
theorem dL_law_1087 : decode cL_law 1087 = .ok (.laload, 1) := dk_47 (dk_at dksL_law_43 23 rfl rfl)
theorem dL_law_1088 : decode cL_law 1088 = .ok (.iload 6, 2) := dk_21 6 (dk_at dksL_law_44 0 rfl rfl)
theorem dL_law_1090 : decode cL_law 1090 = .ok (.i2l, 1) := dk_133 (dk_at dksL_law_44 2 rfl rfl)
theorem dL_law_1091 : decode cL_law 1091 = .ok (.lcmp, 1) := dk_148 (dk_at dksL_law_44 3 rfl rfl)
theorem dL_law_1092 : decode cL_law 1092 = .ok (.ifCond .eq 5, 3) := dk_153 0 5 (dk_at dksL_law_44 4 rfl rfl)
theorem dL_law_1095 : decode cL_law 1095 = .ok (.iconst 0, 1) := dk_3 (dk_at dksL_law_44 7 rfl rfl)
theorem dL_law_1096 : decode cL_law 1096 = .ok (.ireturn, 1) := dk_172 (dk_at dksL_law_44 8 rfl rfl)
theorem dL_law_1097 : decode cL_law 1097 = .ok (.goto 237, 3) := dk_167 0 237 (dk_at dksL_law_44 9 rfl rfl)
theorem dL_law_1100 : decode cL_law 1100 = .ok (.aload_n 1, 1) := dk_43 (dk_at dksL_law_44 12 rfl rfl)
theorem dL_law_1101 : decode cL_law 1101 = .ok (.aload_n 0, 1) := dk_42 (dk_at dksL_law_44 13 rfl rfl)
theorem dL_law_1102 : decode cL_law 1102 = .ok (.iload 4, 2) := dk_21 4 (dk_at dksL_law_44 14 rfl rfl)
theorem dL_law_1104 : decode cL_law 1104 = .ok (.iconst 1, 1) := dk_4 (dk_at dksL_law_44 16 rfl rfl)
theorem dL_law_1105 : decode cL_law 1105 = .ok (.iadd, 1) := dk_96 (dk_at dksL_law_44 17 rfl rfl)
theorem dL_law_1106 : decode cL_law 1106 = .ok (.iaload, 1) := dk_46 (dk_at dksL_law_44 18 rfl rfl)
theorem dL_law_1107 : decode cL_law 1107 = .ok (.aload_n 3, 1) := dk_45 (dk_at dksL_law_44 19 rfl rfl)
theorem dL_law_1108 : decode cL_law 1108 = .ok (.invokestatic 135, 3) := dk_184 0 135 (dk_at dksL_law_44 20 rfl rfl)
theorem dL_law_1111 : decode cL_law 1111 = .ok (.istore 5, 2) := dk_54 5 (dk_at dksL_law_45 0 rfl rfl)
theorem dL_law_1113 : decode cL_law 1113 = .ok (.aload_n 2, 1) := dk_44 (dk_at dksL_law_45 2 rfl rfl)
theorem dL_law_1114 : decode cL_law 1114 = .ok (.aload_n 0, 1) := dk_42 (dk_at dksL_law_45 3 rfl rfl)
theorem dL_law_1115 : decode cL_law 1115 = .ok (.iload 4, 2) := dk_21 4 (dk_at dksL_law_45 4 rfl rfl)
theorem dL_law_1117 : decode cL_law 1117 = .ok (.iconst 1, 1) := dk_4 (dk_at dksL_law_45 6 rfl rfl)
theorem dL_law_1118 : decode cL_law 1118 = .ok (.iadd, 1) := dk_96 (dk_at dksL_law_45 7 rfl rfl)
theorem dL_law_1119 : decode cL_law 1119 = .ok (.iaload, 1) := dk_46 (dk_at dksL_law_45 8 rfl rfl)
theorem dL_law_1120 : decode cL_law 1120 = .ok (.invokevirtual 137, 3) := dk_182 0 137 (dk_at dksL_law_45 9 rfl rfl)
theorem dL_law_1123 : decode cL_law 1123 = .ok (.istore 6, 2) := dk_54 6 (dk_at dksL_law_45 12 rfl rfl)
theorem dL_law_1125 : decode cL_law 1125 = .ok (.aload_n 2, 1) := dk_44 (dk_at dksL_law_45 14 rfl rfl)
theorem dL_law_1126 : decode cL_law 1126 = .ok (.invokevirtual 83, 3) := dk_182 0 83 (dk_at dksL_law_45 15 rfl rfl)
theorem dL_law_1129 : decode cL_law 1129 = .ok (.iload 5, 2) := dk_21 5 (dk_at dksL_law_45 18 rfl rfl)
theorem dL_law_1131 : decode cL_law 1131 = .ok (.if_icmp .eq 5, 3) := dk_159 0 5 (dk_at dksL_law_45 20 rfl rfl)
theorem dL_law_1134 : decode cL_law 1134 = .ok (.iconst 0, 1) := dk_3 (dk_at dksL_law_45 23 rfl rfl)
theorem dL_law_1135 : decode cL_law 1135 = .ok (.ireturn, 1) := dk_172 (dk_at dksL_law_46 0 rfl rfl)
theorem dL_law_1136 : decode cL_law 1136 = .ok (.iload 5, 2) := dk_21 5 (dk_at dksL_law_46 1 rfl rfl)
theorem dL_law_1138 : decode cL_law 1138 = .ok (.ifCond .ne 15, 3) := dk_154 0 15 (dk_at dksL_law_46 3 rfl rfl)
theorem dL_law_1141 : decode cL_law 1141 = .ok (.aload_n 3, 1) := dk_45 (dk_at dksL_law_46 6 rfl rfl)
theorem dL_law_1142 : decode cL_law 1142 = .ok (.iconst 0, 1) := dk_3 (dk_at dksL_law_46 7 rfl rfl)
theorem dL_law_1143 : decode cL_law 1143 = .ok (.laload, 1) := dk_47 (dk_at dksL_law_46 8 rfl rfl)
theorem dL_law_1144 : decode cL_law 1144 = .ok (.iload 6, 2) := dk_21 6 (dk_at dksL_law_46 9 rfl rfl)
theorem dL_law_1146 : decode cL_law 1146 = .ok (.i2l, 1) := dk_133 (dk_at dksL_law_46 11 rfl rfl)
theorem dL_law_1147 : decode cL_law 1147 = .ok (.lcmp, 1) := dk_148 (dk_at dksL_law_46 12 rfl rfl)
theorem dL_law_1148 : decode cL_law 1148 = .ok (.ifCond .eq 5, 3) := dk_153 0 5 (dk_at dksL_law_46 13 rfl rfl)
theorem dL_law_1151 : decode cL_law 1151 = .ok (.iconst 0, 1) := dk_3 (dk_at dksL_law_46 16 rfl rfl)
theorem dL_law_1152 : decode cL_law 1152 = .ok (.ireturn, 1) := dk_172 (dk_at dksL_law_46 17 rfl rfl)
theorem dL_law_1153 : decode cL_law 1153 = .ok (.goto 181, 3) := dk_167 0 181 (dk_at dksL_law_46 18 rfl rfl)
theorem dL_law_1156 : decode cL_law 1156 = .ok (.aload_n 1, 1) := dk_43 (dk_at dksL_law_46 21 rfl rfl)
theorem dL_law_1157 : decode cL_law 1157 = .ok (.aload_n 0, 1) := dk_42 (dk_at dksL_law_46 22 rfl rfl)
theorem dL_law_1158 : decode cL_law 1158 = .ok (.iload 4, 2) := dk_21 4 (dk_at dksL_law_47 0 rfl rfl)
theorem dL_law_1160 : decode cL_law 1160 = .ok (.iconst 1, 1) := dk_4 (dk_at dksL_law_47 2 rfl rfl)
theorem dL_law_1161 : decode cL_law 1161 = .ok (.iadd, 1) := dk_96 (dk_at dksL_law_47 3 rfl rfl)
theorem dL_law_1162 : decode cL_law 1162 = .ok (.iaload, 1) := dk_46 (dk_at dksL_law_47 4 rfl rfl)
theorem dL_law_1163 : decode cL_law 1163 = .ok (.aload_n 3, 1) := dk_45 (dk_at dksL_law_47 5 rfl rfl)
theorem dL_law_1164 : decode cL_law 1164 = .ok (.invokestatic 138, 3) := dk_184 0 138 (dk_at dksL_law_47 6 rfl rfl)
theorem dL_law_1167 : decode cL_law 1167 = .ok (.istore 5, 2) := dk_54 5 (dk_at dksL_law_47 9 rfl rfl)
theorem dL_law_1169 : decode cL_law 1169 = .ok (.aload_n 2, 1) := dk_44 (dk_at dksL_law_47 11 rfl rfl)
theorem dL_law_1170 : decode cL_law 1170 = .ok (.aload_n 0, 1) := dk_42 (dk_at dksL_law_47 12 rfl rfl)
theorem dL_law_1171 : decode cL_law 1171 = .ok (.iload 4, 2) := dk_21 4 (dk_at dksL_law_47 13 rfl rfl)
theorem dL_law_1173 : decode cL_law 1173 = .ok (.iconst 1, 1) := dk_4 (dk_at dksL_law_47 15 rfl rfl)
theorem dL_law_1174 : decode cL_law 1174 = .ok (.iadd, 1) := dk_96 (dk_at dksL_law_47 16 rfl rfl)
theorem dL_law_1175 : decode cL_law 1175 = .ok (.iaload, 1) := dk_46 (dk_at dksL_law_47 17 rfl rfl)
theorem dL_law_1176 : decode cL_law 1176 = .ok (.invokevirtual 140, 3) := dk_182 0 140 (dk_at dksL_law_47 18 rfl rfl)
theorem dL_law_1179 : decode cL_law 1179 = .ok (.istore 6, 2) := dk_54 6 (dk_at dksL_law_47 21 rfl rfl)
theorem dL_law_1181 : decode cL_law 1181 = .ok (.aload_n 2, 1) := dk_44 (dk_at dksL_law_47 23 rfl rfl)
theorem dL_law_1182 : decode cL_law 1182 = .ok (.invokevirtual 83, 3) := dk_182 0 83 (dk_at dksL_law_48 0 rfl rfl)
theorem dL_law_1185 : decode cL_law 1185 = .ok (.iload 5, 2) := dk_21 5 (dk_at dksL_law_48 3 rfl rfl)
theorem dL_law_1187 : decode cL_law 1187 = .ok (.if_icmp .eq 5, 3) := dk_159 0 5 (dk_at dksL_law_48 5 rfl rfl)
theorem dL_law_1190 : decode cL_law 1190 = .ok (.iconst 0, 1) := dk_3 (dk_at dksL_law_48 8 rfl rfl)
theorem dL_law_1191 : decode cL_law 1191 = .ok (.ireturn, 1) := dk_172 (dk_at dksL_law_48 9 rfl rfl)
theorem dL_law_1192 : decode cL_law 1192 = .ok (.iload 5, 2) := dk_21 5 (dk_at dksL_law_48 10 rfl rfl)
theorem dL_law_1194 : decode cL_law 1194 = .ok (.ifCond .ne 15, 3) := dk_154 0 15 (dk_at dksL_law_48 12 rfl rfl)
theorem dL_law_1197 : decode cL_law 1197 = .ok (.aload_n 3, 1) := dk_45 (dk_at dksL_law_48 15 rfl rfl)
theorem dL_law_1198 : decode cL_law 1198 = .ok (.iconst 0, 1) := dk_3 (dk_at dksL_law_48 16 rfl rfl)
theorem dL_law_1199 : decode cL_law 1199 = .ok (.laload, 1) := dk_47 (dk_at dksL_law_48 17 rfl rfl)
theorem dL_law_1200 : decode cL_law 1200 = .ok (.iload 6, 2) := dk_21 6 (dk_at dksL_law_48 18 rfl rfl)
theorem dL_law_1202 : decode cL_law 1202 = .ok (.i2l, 1) := dk_133 (dk_at dksL_law_48 20 rfl rfl)
theorem dL_law_1203 : decode cL_law 1203 = .ok (.lcmp, 1) := dk_148 (dk_at dksL_law_48 21 rfl rfl)
theorem dL_law_1204 : decode cL_law 1204 = .ok (.ifCond .eq 5, 3) := dk_153 0 5 (dk_at dksL_law_49 0 rfl rfl)
theorem dL_law_1207 : decode cL_law 1207 = .ok (.iconst 0, 1) := dk_3 (dk_at dksL_law_49 3 rfl rfl)
theorem dL_law_1208 : decode cL_law 1208 = .ok (.ireturn, 1) := dk_172 (dk_at dksL_law_49 4 rfl rfl)
theorem dL_law_1209 : decode cL_law 1209 = .ok (.goto 125, 3) := dk_167 0 125 (dk_at dksL_law_49 5 rfl rfl)
theorem dL_law_1212 : decode cL_law 1212 = .ok (.aload_n 1, 1) := dk_43 (dk_at dksL_law_49 8 rfl rfl)
theorem dL_law_1213 : decode cL_law 1213 = .ok (.aload_n 0, 1) := dk_42 (dk_at dksL_law_49 9 rfl rfl)
theorem dL_law_1214 : decode cL_law 1214 = .ok (.iload 4, 2) := dk_21 4 (dk_at dksL_law_49 10 rfl rfl)
theorem dL_law_1216 : decode cL_law 1216 = .ok (.iconst 1, 1) := dk_4 (dk_at dksL_law_49 12 rfl rfl)
theorem dL_law_1217 : decode cL_law 1217 = .ok (.iadd, 1) := dk_96 (dk_at dksL_law_49 13 rfl rfl)
theorem dL_law_1218 : decode cL_law 1218 = .ok (.iaload, 1) := dk_46 (dk_at dksL_law_49 14 rfl rfl)
theorem dL_law_1219 : decode cL_law 1219 = .ok (.aload_n 0, 1) := dk_42 (dk_at dksL_law_49 15 rfl rfl)
theorem dL_law_1220 : decode cL_law 1220 = .ok (.iload 4, 2) := dk_21 4 (dk_at dksL_law_49 16 rfl rfl)
theorem dL_law_1222 : decode cL_law 1222 = .ok (.iconst 2, 1) := dk_5 (dk_at dksL_law_49 18 rfl rfl)
theorem dL_law_1223 : decode cL_law 1223 = .ok (.iadd, 1) := dk_96 (dk_at dksL_law_49 19 rfl rfl)
theorem dL_law_1224 : decode cL_law 1224 = .ok (.iaload, 1) := dk_46 (dk_at dksL_law_49 20 rfl rfl)
theorem dL_law_1225 : decode cL_law 1225 = .ok (.aload_n 3, 1) := dk_45 (dk_at dksL_law_49 21 rfl rfl)
theorem dL_law_1226 : decode cL_law 1226 = .ok (.invokestatic 141, 3) := dk_184 0 141 (dk_at dksL_law_50 0 rfl rfl)
theorem dL_law_1229 : decode cL_law 1229 = .ok (.istore 5, 2) := dk_54 5 (dk_at dksL_law_50 3 rfl rfl)
theorem dL_law_1231 : decode cL_law 1231 = .ok (.aload_n 2, 1) := dk_44 (dk_at dksL_law_50 5 rfl rfl)
theorem dL_law_1232 : decode cL_law 1232 = .ok (.aload_n 0, 1) := dk_42 (dk_at dksL_law_50 6 rfl rfl)
theorem dL_law_1233 : decode cL_law 1233 = .ok (.iload 4, 2) := dk_21 4 (dk_at dksL_law_50 7 rfl rfl)
theorem dL_law_1235 : decode cL_law 1235 = .ok (.iconst 1, 1) := dk_4 (dk_at dksL_law_50 9 rfl rfl)
theorem dL_law_1236 : decode cL_law 1236 = .ok (.iadd, 1) := dk_96 (dk_at dksL_law_50 10 rfl rfl)
theorem dL_law_1237 : decode cL_law 1237 = .ok (.iaload, 1) := dk_46 (dk_at dksL_law_50 11 rfl rfl)
theorem dL_law_1238 : decode cL_law 1238 = .ok (.aload_n 0, 1) := dk_42 (dk_at dksL_law_50 12 rfl rfl)
theorem dL_law_1239 : decode cL_law 1239 = .ok (.iload 4, 2) := dk_21 4 (dk_at dksL_law_50 13 rfl rfl)
theorem dL_law_1241 : decode cL_law 1241 = .ok (.iconst 2, 1) := dk_5 (dk_at dksL_law_50 15 rfl rfl)
theorem dL_law_1242 : decode cL_law 1242 = .ok (.iadd, 1) := dk_96 (dk_at dksL_law_50 16 rfl rfl)
theorem dL_law_1243 : decode cL_law 1243 = .ok (.iaload, 1) := dk_46 (dk_at dksL_law_50 17 rfl rfl)
theorem dL_law_1244 : decode cL_law 1244 = .ok (.invokevirtual 143, 3) := dk_182 0 143 (dk_at dksL_law_50 18 rfl rfl)
theorem dL_law_1247 : decode cL_law 1247 = .ok (.lstore 6, 2) := dk_55 6 (dk_at dksL_law_50 21 rfl rfl)
theorem dL_law_1249 : decode cL_law 1249 = .ok (.aload_n 2, 1) := dk_44 (dk_at dksL_law_50 23 rfl rfl)
theorem dL_law_1250 : decode cL_law 1250 = .ok (.invokevirtual 83, 3) := dk_182 0 83 (dk_at dksL_law_51 0 rfl rfl)
theorem dL_law_1253 : decode cL_law 1253 = .ok (.iload 5, 2) := dk_21 5 (dk_at dksL_law_51 3 rfl rfl)
theorem dL_law_1255 : decode cL_law 1255 = .ok (.if_icmp .eq 5, 3) := dk_159 0 5 (dk_at dksL_law_51 5 rfl rfl)
theorem dL_law_1258 : decode cL_law 1258 = .ok (.iconst 0, 1) := dk_3 (dk_at dksL_law_51 8 rfl rfl)
theorem dL_law_1259 : decode cL_law 1259 = .ok (.ireturn, 1) := dk_172 (dk_at dksL_law_51 9 rfl rfl)
theorem dL_law_1260 : decode cL_law 1260 = .ok (.iload 5, 2) := dk_21 5 (dk_at dksL_law_51 10 rfl rfl)
theorem dL_law_1262 : decode cL_law 1262 = .ok (.ifCond .ne 14, 3) := dk_154 0 14 (dk_at dksL_law_51 12 rfl rfl)
theorem dL_law_1265 : decode cL_law 1265 = .ok (.aload_n 3, 1) := dk_45 (dk_at dksL_law_51 15 rfl rfl)
theorem dL_law_1266 : decode cL_law 1266 = .ok (.iconst 0, 1) := dk_3 (dk_at dksL_law_51 16 rfl rfl)
theorem dL_law_1267 : decode cL_law 1267 = .ok (.laload, 1) := dk_47 (dk_at dksL_law_51 17 rfl rfl)
theorem dL_law_1268 : decode cL_law 1268 = .ok (.lload 6, 2) := dk_22 6 (dk_at dksL_law_51 18 rfl rfl)
theorem dL_law_1270 : decode cL_law 1270 = .ok (.lcmp, 1) := dk_148 (dk_at dksL_law_51 20 rfl rfl)
theorem dL_law_1271 : decode cL_law 1271 = .ok (.ifCond .eq 5, 3) := dk_153 0 5 (dk_at dksL_law_51 21 rfl rfl)
theorem dL_law_1274 : decode cL_law 1274 = .ok (.iconst 0, 1) := dk_3 (dk_at dksL_law_52 0 rfl rfl)
theorem dL_law_1275 : decode cL_law 1275 = .ok (.ireturn, 1) := dk_172 (dk_at dksL_law_52 1 rfl rfl)
theorem dL_law_1276 : decode cL_law 1276 = .ok (.goto 58, 3) := dk_167 0 58 (dk_at dksL_law_52 2 rfl rfl)
theorem dL_law_1279 : decode cL_law 1279 = .ok (.aload_n 1, 1) := dk_43 (dk_at dksL_law_52 5 rfl rfl)
theorem dL_law_1280 : decode cL_law 1280 = .ok (.aload_n 0, 1) := dk_42 (dk_at dksL_law_52 6 rfl rfl)
theorem dL_law_1281 : decode cL_law 1281 = .ok (.iload 4, 2) := dk_21 4 (dk_at dksL_law_52 7 rfl rfl)
theorem dL_law_1283 : decode cL_law 1283 = .ok (.iconst 1, 1) := dk_4 (dk_at dksL_law_52 9 rfl rfl)
theorem dL_law_1284 : decode cL_law 1284 = .ok (.iadd, 1) := dk_96 (dk_at dksL_law_52 10 rfl rfl)
theorem dL_law_1285 : decode cL_law 1285 = .ok (.iaload, 1) := dk_46 (dk_at dksL_law_52 11 rfl rfl)
theorem dL_law_1286 : decode cL_law 1286 = .ok (.aload_n 3, 1) := dk_45 (dk_at dksL_law_52 12 rfl rfl)
theorem dL_law_1287 : decode cL_law 1287 = .ok (.invokestatic 144, 3) := dk_184 0 144 (dk_at dksL_law_52 13 rfl rfl)
theorem dL_law_1290 : decode cL_law 1290 = .ok (.istore 5, 2) := dk_54 5 (dk_at dksL_law_52 16 rfl rfl)
theorem dL_law_1292 : decode cL_law 1292 = .ok (.aload_n 2, 1) := dk_44 (dk_at dksL_law_52 18 rfl rfl)
theorem dL_law_1293 : decode cL_law 1293 = .ok (.aload_n 0, 1) := dk_42 (dk_at dksL_law_52 19 rfl rfl)
theorem dL_law_1294 : decode cL_law 1294 = .ok (.iload 4, 2) := dk_21 4 (dk_at dksL_law_52 20 rfl rfl)
theorem dL_law_1296 : decode cL_law 1296 = .ok (.iconst 1, 1) := dk_4 (dk_at dksL_law_52 22 rfl rfl)
theorem dL_law_1297 : decode cL_law 1297 = .ok (.iadd, 1) := dk_96 (dk_at dksL_law_52 23 rfl rfl)
theorem dL_law_1298 : decode cL_law 1298 = .ok (.iaload, 1) := dk_46 (dk_at dksL_law_53 0 rfl rfl)
theorem dL_law_1299 : decode cL_law 1299 = .ok (.invokevirtual 146, 3) := dk_182 0 146 (dk_at dksL_law_53 1 rfl rfl)
theorem dL_law_1302 : decode cL_law 1302 = .ok (.lstore 6, 2) := dk_55 6 (dk_at dksL_law_53 4 rfl rfl)
theorem dL_law_1304 : decode cL_law 1304 = .ok (.aload_n 2, 1) := dk_44 (dk_at dksL_law_53 6 rfl rfl)
theorem dL_law_1305 : decode cL_law 1305 = .ok (.invokevirtual 83, 3) := dk_182 0 83 (dk_at dksL_law_53 7 rfl rfl)
theorem dL_law_1308 : decode cL_law 1308 = .ok (.iload 5, 2) := dk_21 5 (dk_at dksL_law_53 10 rfl rfl)
theorem dL_law_1310 : decode cL_law 1310 = .ok (.if_icmp .eq 5, 3) := dk_159 0 5 (dk_at dksL_law_53 12 rfl rfl)
theorem dL_law_1313 : decode cL_law 1313 = .ok (.iconst 0, 1) := dk_3 (dk_at dksL_law_53 15 rfl rfl)
theorem dL_law_1314 : decode cL_law 1314 = .ok (.ireturn, 1) := dk_172 (dk_at dksL_law_53 16 rfl rfl)
theorem dL_law_1315 : decode cL_law 1315 = .ok (.iload 5, 2) := dk_21 5 (dk_at dksL_law_53 17 rfl rfl)
theorem dL_law_1317 : decode cL_law 1317 = .ok (.ifCond .ne 14, 3) := dk_154 0 14 (dk_at dksL_law_53 19 rfl rfl)
theorem dL_law_1320 : decode cL_law 1320 = .ok (.aload_n 3, 1) := dk_45 (dk_at dksL_law_53 22 rfl rfl)
theorem dL_law_1321 : decode cL_law 1321 = .ok (.iconst 0, 1) := dk_3 (dk_at dksL_law_53 23 rfl rfl)
theorem dL_law_1322 : decode cL_law 1322 = .ok (.laload, 1) := dk_47 (dk_at dksL_law_54 0 rfl rfl)
theorem dL_law_1323 : decode cL_law 1323 = .ok (.lload 6, 2) := dk_22 6 (dk_at dksL_law_54 1 rfl rfl)
theorem dL_law_1325 : decode cL_law 1325 = .ok (.lcmp, 1) := dk_148 (dk_at dksL_law_54 3 rfl rfl)
theorem dL_law_1326 : decode cL_law 1326 = .ok (.ifCond .eq 5, 3) := dk_153 0 5 (dk_at dksL_law_54 4 rfl rfl)
theorem dL_law_1329 : decode cL_law 1329 = .ok (.iconst 0, 1) := dk_3 (dk_at dksL_law_54 7 rfl rfl)
theorem dL_law_1330 : decode cL_law 1330 = .ok (.ireturn, 1) := dk_172 (dk_at dksL_law_54 8 rfl rfl)
theorem dL_law_1331 : decode cL_law 1331 = .ok (.goto 3, 3) := dk_167 0 3 (dk_at dksL_law_54 9 rfl rfl)
theorem dL_law_1334 : decode cL_law 1334 = .ok (.iinc 4 7, 3) := dk_132 4 7 (dk_at dksL_law_54 12 rfl rfl)
theorem dL_law_1337 : decode cL_law 1337 = .ok (.goto (-1314), 3) := dk_167 250 222 (dk_at dksL_law_54 15 rfl rfl)
theorem dL_law_1340 : decode cL_law 1340 = .ok (.iconst 1, 1) := dk_4 (dk_at dksL_law_54 18 rfl rfl)
theorem dL_law_1341 : decode cL_law 1341 = .ok (.ireturn, 1) := dk_172 (dk_at dksL_law_54 19 rfl rfl)
