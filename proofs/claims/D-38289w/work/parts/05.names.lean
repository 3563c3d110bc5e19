/-! NightwatchWallLaw -/
set_option maxRecDepth 100000
def RX0 : String := "NightwatchWallLaw"
abbrev cX0_base : ByteArray := method_2_code
def yX0_base : MethodName := ⟨RX0, "base", "(LNightwatchWall;IIILNightwatchWallLaw$Out;)I"⟩
def dkwX0_base_0 : List UInt8 := [25, 4, 42, 27, 28, 29, 182, 0, 7, 133, 181, 0, 13, 167, 0, 7, 58, 5, 4, 172, 3, 172]
abbrev dktX0_base_0 : List UInt8 := dkwX0_base_0 ++ []
theorem dksX0_base_0 : cX0_base.data.toList.drop 0 = dktX0_base_0 := by decide +kernel
theorem dX0_base_0 : decode cX0_base 0 = .ok (.aload 4, 2) := dk_25 4 (dk_at dksX0_base_0 0 rfl rfl)
theorem dX0_base_2 : decode cX0_base 2 = .ok (.aload_n 0, 1) := dk_42 (dk_at dksX0_base_0 2 rfl rfl)
theorem dX0_base_3 : decode cX0_base 3 = .ok (.iload_n 1, 1) := dk_27 (dk_at dksX0_base_0 3 rfl rfl)
theorem dX0_base_4 : decode cX0_base 4 = .ok (.iload_n 2, 1) := dk_28 (dk_at dksX0_base_0 4 rfl rfl)
theorem dX0_base_5 : decode cX0_base 5 = .ok (.iload_n 3, 1) := dk_29 (dk_at dksX0_base_0 5 rfl rfl)
theorem dX0_base_6 : decode cX0_base 6 = .ok (.invokevirtual 7, 3) := dk_182 0 7 (dk_at dksX0_base_0 6 rfl rfl)
theorem dX0_base_9 : decode cX0_base 9 = .ok (.i2l, 1) := dk_133 (dk_at dksX0_base_0 9 rfl rfl)
theorem dX0_base_10 : decode cX0_base 10 = .ok (.putfield 13, 3) := dk_181 0 13 (dk_at dksX0_base_0 10 rfl rfl)
theorem dX0_base_13 : decode cX0_base 13 = .ok (.goto 7, 3) := dk_167 0 7 (dk_at dksX0_base_0 13 rfl rfl)
theorem dX0_base_16 : decode cX0_base 16 = .ok (.astore 5, 2) := dk_58 5 (dk_at dksX0_base_0 16 rfl rfl)
theorem dX0_base_18 : decode cX0_base 18 = .ok (.iconst 1, 1) := dk_4 (dk_at dksX0_base_0 18 rfl rfl)
theorem dX0_base_19 : decode cX0_base 19 = .ok (.ireturn, 1) := dk_172 (dk_at dksX0_base_0 19 rfl rfl)
theorem dX0_base_20 : decode cX0_base 20 = .ok (.iconst 0, 1) := dk_3 (dk_at dksX0_base_0 20 rfl rfl)
theorem dX0_base_21 : decode cX0_base 21 = .ok (.ireturn, 1) := dk_172 (dk_at dksX0_base_0 21 rfl rfl)
abbrev cX0_lay : ByteArray := method_3_code
def yX0_lay : MethodName := ⟨RX0, "lay", "(LNightwatchWall;IILNightwatchWallLaw$Out;)I"⟩
def dkwX0_lay_1 : List UInt8 := [6, 172, 3, 172]
abbrev dktX0_lay_1 : List UInt8 := dkwX0_lay_1 ++ []
def dkwX0_lay_0 : List UInt8 := [45, 42, 27, 28, 182, 0, 21, 133, 181, 0, 13, 167, 0, 15, 58, 4, 4, 172, 58, 4, 5, 172, 58, 4]
abbrev dktX0_lay_0 : List UInt8 := dkwX0_lay_0 ++ dktX0_lay_1
theorem dksX0_lay_0 : cX0_lay.data.toList.drop 0 = dktX0_lay_0 := by decide +kernel
theorem dksX0_lay_1 : cX0_lay.data.toList.drop 24 = dktX0_lay_1 := dk_seg dksX0_lay_0 24 rfl rfl
theorem dX0_lay_0 : decode cX0_lay 0 = .ok (.aload_n 3, 1) := dk_45 (dk_at dksX0_lay_0 0 rfl rfl)
theorem dX0_lay_1 : decode cX0_lay 1 = .ok (.aload_n 0, 1) := dk_42 (dk_at dksX0_lay_0 1 rfl rfl)
theorem dX0_lay_2 : decode cX0_lay 2 = .ok (.iload_n 1, 1) := dk_27 (dk_at dksX0_lay_0 2 rfl rfl)
theorem dX0_lay_3 : decode cX0_lay 3 = .ok (.iload_n 2, 1) := dk_28 (dk_at dksX0_lay_0 3 rfl rfl)
theorem dX0_lay_4 : decode cX0_lay 4 = .ok (.invokevirtual 21, 3) := dk_182 0 21 (dk_at dksX0_lay_0 4 rfl rfl)
theorem dX0_lay_7 : decode cX0_lay 7 = .ok (.i2l, 1) := dk_133 (dk_at dksX0_lay_0 7 rfl rfl)
theorem dX0_lay_8 : decode cX0_lay 8 = .ok (.putfield 13, 3) := dk_181 0 13 (dk_at dksX0_lay_0 8 rfl rfl)
theorem dX0_lay_11 : decode cX0_lay 11 = .ok (.goto 15, 3) := dk_167 0 15 (dk_at dksX0_lay_0 11 rfl rfl)
theorem dX0_lay_14 : decode cX0_lay 14 = .ok (.astore 4, 2) := dk_58 4 (dk_at dksX0_lay_0 14 rfl rfl)
theorem dX0_lay_16 : decode cX0_lay 16 = .ok (.iconst 1, 1) := dk_4 (dk_at dksX0_lay_0 16 rfl rfl)
theorem dX0_lay_17 : decode cX0_lay 17 = .ok (.ireturn, 1) := dk_172 (dk_at dksX0_lay_0 17 rfl rfl)
theorem dX0_lay_18 : decode cX0_lay 18 = .ok (.astore 4, 2) := dk_58 4 (dk_at dksX0_lay_0 18 rfl rfl)
theorem dX0_lay_20 : decode cX0_lay 20 = .ok (.iconst 2, 1) := dk_5 (dk_at dksX0_lay_0 20 rfl rfl)
theorem dX0_lay_21 : decode cX0_lay 21 = .ok (.ireturn, 1) := dk_172 (dk_at dksX0_lay_0 21 rfl rfl)
theorem dX0_lay_22 : decode cX0_lay 22 = .ok (.astore 4, 2) := dk_58 4 (dk_at dksX0_lay_0 22 rfl rfl)
theorem dX0_lay_24 : decode cX0_lay 24 = .ok (.iconst 3, 1) := dk_6 (dk_at dksX0_lay_1 0 rfl rfl)
theorem dX0_lay_25 : decode cX0_lay 25 = .ok (.ireturn, 1) := dk_172 (dk_at dksX0_lay_1 1 rfl rfl)
theorem dX0_lay_26 : decode cX0_lay 26 = .ok (.iconst 0, 1) := dk_3 (dk_at dksX0_lay_1 2 rfl rfl)
theorem dX0_lay_27 : decode cX0_lay 27 = .ok (.ireturn, 1) := dk_172 (dk_at dksX0_lay_1 3 rfl rfl)
abbrev cX0_gates : ByteArray := method_4_code
def yX0_gates : MethodName := ⟨RX0, "gates", "(LNightwatchWall;IILNightwatchWallLaw$Out;)I"⟩
def dkwX0_gates_0 : List UInt8 := [45, 42, 27, 28, 182, 0, 29, 133, 181, 0, 13, 167, 0, 7, 58, 4, 4, 172, 3, 172]
abbrev dktX0_gates_0 : List UInt8 := dkwX0_gates_0 ++ []
theorem dksX0_gates_0 : cX0_gates.data.toList.drop 0 = dktX0_gates_0 := by decide +kernel
theorem dX0_gates_0 : decode cX0_gates 0 = .ok (.aload_n 3, 1) := dk_45 (dk_at dksX0_gates_0 0 rfl rfl)
theorem dX0_gates_1 : decode cX0_gates 1 = .ok (.aload_n 0, 1) := dk_42 (dk_at dksX0_gates_0 1 rfl rfl)
theorem dX0_gates_2 : decode cX0_gates 2 = .ok (.iload_n 1, 1) := dk_27 (dk_at dksX0_gates_0 2 rfl rfl)
theorem dX0_gates_3 : decode cX0_gates 3 = .ok (.iload_n 2, 1) := dk_28 (dk_at dksX0_gates_0 3 rfl rfl)
theorem dX0_gates_4 : decode cX0_gates 4 = .ok (.invokevirtual 29, 3) := dk_182 0 29 (dk_at dksX0_gates_0 4 rfl rfl)
theorem dX0_gates_7 : decode cX0_gates 7 = .ok (.i2l, 1) := dk_133 (dk_at dksX0_gates_0 7 rfl rfl)
theorem dX0_gates_8 : decode cX0_gates 8 = .ok (.putfield 13, 3) := dk_181 0 13 (dk_at dksX0_gates_0 8 rfl rfl)
theorem dX0_gates_11 : decode cX0_gates 11 = .ok (.goto 7, 3) := dk_167 0 7 (dk_at dksX0_gates_0 11 rfl rfl)
theorem dX0_gates_14 : decode cX0_gates 14 = .ok (.astore 4, 2) := dk_58 4 (dk_at dksX0_gates_0 14 rfl rfl)
theorem dX0_gates_16 : decode cX0_gates 16 = .ok (.iconst 1, 1) := dk_4 (dk_at dksX0_gates_0 16 rfl rfl)
theorem dX0_gates_17 : decode cX0_gates 17 = .ok (.ireturn, 1) := dk_172 (dk_at dksX0_gates_0 17 rfl rfl)
theorem dX0_gates_18 : decode cX0_gates 18 = .ok (.iconst 0, 1) := dk_3 (dk_at dksX0_gates_0 18 rfl rfl)
theorem dX0_gates_19 : decode cX0_gates 19 = .ok (.ireturn, 1) := dk_172 (dk_at dksX0_gates_0 19 rfl rfl)
abbrev cX0_lamp : ByteArray := method_5_code
def yX0_lamp : MethodName := ⟨RX0, "lamp", "(LNightwatchWall;IILNightwatchWallLaw$Out;)I"⟩
def dkwX0_lamp_1 : List UInt8 := [6, 172, 3, 172]
abbrev dktX0_lamp_1 : List UInt8 := dkwX0_lamp_1 ++ []
def dkwX0_lamp_0 : List UInt8 := [45, 42, 27, 28, 182, 0, 32, 133, 181, 0, 13, 167, 0, 15, 58, 4, 4, 172, 58, 4, 5, 172, 58, 4]
abbrev dktX0_lamp_0 : List UInt8 := dkwX0_lamp_0 ++ dktX0_lamp_1
theorem dksX0_lamp_0 : cX0_lamp.data.toList.drop 0 = dktX0_lamp_0 := by decide +kernel
theorem dksX0_lamp_1 : cX0_lamp.data.toList.drop 24 = dktX0_lamp_1 := dk_seg dksX0_lamp_0 24 rfl rfl
theorem dX0_lamp_0 : decode cX0_lamp 0 = .ok (.aload_n 3, 1) := dk_45 (dk_at dksX0_lamp_0 0 rfl rfl)
theorem dX0_lamp_1 : decode cX0_lamp 1 = .ok (.aload_n 0, 1) := dk_42 (dk_at dksX0_lamp_0 1 rfl rfl)
theorem dX0_lamp_2 : decode cX0_lamp 2 = .ok (.iload_n 1, 1) := dk_27 (dk_at dksX0_lamp_0 2 rfl rfl)
theorem dX0_lamp_3 : decode cX0_lamp 3 = .ok (.iload_n 2, 1) := dk_28 (dk_at dksX0_lamp_0 3 rfl rfl)
theorem dX0_lamp_4 : decode cX0_lamp 4 = .ok (.invokevirtual 32, 3) := dk_182 0 32 (dk_at dksX0_lamp_0 4 rfl rfl)
theorem dX0_lamp_7 : decode cX0_lamp 7 = .ok (.i2l, 1) := dk_133 (dk_at dksX0_lamp_0 7 rfl rfl)
theorem dX0_lamp_8 : decode cX0_lamp 8 = .ok (.putfield 13, 3) := dk_181 0 13 (dk_at dksX0_lamp_0 8 rfl rfl)
theorem dX0_lamp_11 : decode cX0_lamp 11 = .ok (.goto 15, 3) := dk_167 0 15 (dk_at dksX0_lamp_0 11 rfl rfl)
theorem dX0_lamp_14 : decode cX0_lamp 14 = .ok (.astore 4, 2) := dk_58 4 (dk_at dksX0_lamp_0 14 rfl rfl)
theorem dX0_lamp_16 : decode cX0_lamp 16 = .ok (.iconst 1, 1) := dk_4 (dk_at dksX0_lamp_0 16 rfl rfl)
theorem dX0_lamp_17 : decode cX0_lamp 17 = .ok (.ireturn, 1) := dk_172 (dk_at dksX0_lamp_0 17 rfl rfl)
theorem dX0_lamp_18 : decode cX0_lamp 18 = .ok (.astore 4, 2) := dk_58 4 (dk_at dksX0_lamp_0 18 rfl rfl)
theorem dX0_lamp_20 : decode cX0_lamp 20 = .ok (.iconst 2, 1) := dk_5 (dk_at dksX0_lamp_0 20 rfl rfl)
theorem dX0_lamp_21 : decode cX0_lamp 21 = .ok (.ireturn, 1) := dk_172 (dk_at dksX0_lamp_0 21 rfl rfl)
theorem dX0_lamp_22 : decode cX0_lamp 22 = .ok (.astore 4, 2) := dk_58 4 (dk_at dksX0_lamp_0 22 rfl rfl)
theorem dX0_lamp_24 : decode cX0_lamp 24 = .ok (.iconst 3, 1) := dk_6 (dk_at dksX0_lamp_1 0 rfl rfl)
theorem dX0_lamp_25 : decode cX0_lamp 25 = .ok (.ireturn, 1) := dk_172 (dk_at dksX0_lamp_1 1 rfl rfl)
theorem dX0_lamp_26 : decode cX0_lamp 26 = .ok (.iconst 0, 1) := dk_3 (dk_at dksX0_lamp_1 2 rfl rfl)
theorem dX0_lamp_27 : decode cX0_lamp 27 = .ok (.ireturn, 1) := dk_172 (dk_at dksX0_lamp_1 3 rfl rfl)
abbrev cX0_light : ByteArray := method_6_code
def yX0_light : MethodName := ⟨RX0, "light", "(LNightwatchWall;IZLNightwatchWallLaw$Out;)I"⟩
def dkwX0_light_0 : List UInt8 := [45, 42, 27, 28, 182, 0, 35, 133, 181, 0, 13, 167, 0, 7, 58, 4, 4, 172, 3, 172]
abbrev dktX0_light_0 : List UInt8 := dkwX0_light_0 ++ []
theorem dksX0_light_0 : cX0_light.data.toList.drop 0 = dktX0_light_0 := by decide +kernel
theorem dX0_light_0 : decode cX0_light 0 = .ok (.aload_n 3, 1) := dk_45 (dk_at dksX0_light_0 0 rfl rfl)
theorem dX0_light_1 : decode cX0_light 1 = .ok (.aload_n 0, 1) := dk_42 (dk_at dksX0_light_0 1 rfl rfl)
theorem dX0_light_2 : decode cX0_light 2 = .ok (.iload_n 1, 1) := dk_27 (dk_at dksX0_light_0 2 rfl rfl)
theorem dX0_light_3 : decode cX0_light 3 = .ok (.iload_n 2, 1) := dk_28 (dk_at dksX0_light_0 3 rfl rfl)
theorem dX0_light_4 : decode cX0_light 4 = .ok (.invokevirtual 35, 3) := dk_182 0 35 (dk_at dksX0_light_0 4 rfl rfl)
theorem dX0_light_7 : decode cX0_light 7 = .ok (.i2l, 1) := dk_133 (dk_at dksX0_light_0 7 rfl rfl)
theorem dX0_light_8 : decode cX0_light 8 = .ok (.putfield 13, 3) := dk_181 0 13 (dk_at dksX0_light_0 8 rfl rfl)
theorem dX0_light_11 : decode cX0_light 11 = .ok (.goto 7, 3) := dk_167 0 7 (dk_at dksX0_light_0 11 rfl rfl)
theorem dX0_light_14 : decode cX0_light 14 = .ok (.astore 4, 2) := dk_58 4 (dk_at dksX0_light_0 14 rfl rfl)
theorem dX0_light_16 : decode cX0_light 16 = .ok (.iconst 1, 1) := dk_4 (dk_at dksX0_light_0 16 rfl rfl)
theorem dX0_light_17 : decode cX0_light 17 = .ok (.ireturn, 1) := dk_172 (dk_at dksX0_light_0 17 rfl rfl)
theorem dX0_light_18 : decode cX0_light 18 = .ok (.iconst 0, 1) := dk_3 (dk_at dksX0_light_0 18 rfl rfl)
theorem dX0_light_19 : decode cX0_light 19 = .ok (.ireturn, 1) := dk_172 (dk_at dksX0_light_0 19 rfl rfl)
abbrev cX0_fog : ByteArray := method_7_code
def yX0_fog : MethodName := ⟨RX0, "fog", "(LNightwatchWall;IILNightwatchWallLaw$Out;)I"⟩
def dkwX0_fog_0 : List UInt8 := [45, 42, 27, 28, 182, 0, 39, 133, 181, 0, 13, 167, 0, 11, 58, 4, 4, 172, 58, 4, 5, 172, 3, 172]
abbrev dktX0_fog_0 : List UInt8 := dkwX0_fog_0 ++ []
theorem dksX0_fog_0 : cX0_fog.data.toList.drop 0 = dktX0_fog_0 := by decide +kernel
theorem dX0_fog_0 : decode cX0_fog 0 = .ok (.aload_n 3, 1) := dk_45 (dk_at dksX0_fog_0 0 rfl rfl)
theorem dX0_fog_1 : decode cX0_fog 1 = .ok (.aload_n 0, 1) := dk_42 (dk_at dksX0_fog_0 1 rfl rfl)
theorem dX0_fog_2 : decode cX0_fog 2 = .ok (.iload_n 1, 1) := dk_27 (dk_at dksX0_fog_0 2 rfl rfl)
theorem dX0_fog_3 : decode cX0_fog 3 = .ok (.iload_n 2, 1) := dk_28 (dk_at dksX0_fog_0 3 rfl rfl)
theorem dX0_fog_4 : decode cX0_fog 4 = .ok (.invokevirtual 39, 3) := dk_182 0 39 (dk_at dksX0_fog_0 4 rfl rfl)
theorem dX0_fog_7 : decode cX0_fog 7 = .ok (.i2l, 1) := dk_133 (dk_at dksX0_fog_0 7 rfl rfl)
theorem dX0_fog_8 : decode cX0_fog 8 = .ok (.putfield 13, 3) := dk_181 0 13 (dk_at dksX0_fog_0 8 rfl rfl)
theorem dX0_fog_11 : decode cX0_fog 11 = .ok (.goto 11, 3) := dk_167 0 11 (dk_at dksX0_fog_0 11 rfl rfl)
theorem dX0_fog_14 : decode cX0_fog 14 = .ok (.astore 4, 2) := dk_58 4 (dk_at dksX0_fog_0 14 rfl rfl)
theorem dX0_fog_16 : decode cX0_fog 16 = .ok (.iconst 1, 1) := dk_4 (dk_at dksX0_fog_0 16 rfl rfl)
theorem dX0_fog_17 : decode cX0_fog 17 = .ok (.ireturn, 1) := dk_172 (dk_at dksX0_fog_0 17 rfl rfl)
theorem dX0_fog_18 : decode cX0_fog 18 = .ok (.astore 4, 2) := dk_58 4 (dk_at dksX0_fog_0 18 rfl rfl)
theorem dX0_fog_20 : decode cX0_fog 20 = .ok (.iconst 2, 1) := dk_5 (dk_at dksX0_fog_0 20 rfl rfl)
theorem dX0_fog_21 : decode cX0_fog 21 = .ok (.ireturn, 1) := dk_172 (dk_at dksX0_fog_0 21 rfl rfl)
theorem dX0_fog_22 : decode cX0_fog 22 = .ok (.iconst 0, 1) := dk_3 (dk_at dksX0_fog_0 22 rfl rfl)
theorem dX0_fog_23 : decode cX0_fog 23 = .ok (.ireturn, 1) := dk_172 (dk_at dksX0_fog_0 23 rfl rfl)
abbrev cX0_guard : ByteArray := method_8_code
def yX0_guard : MethodName := ⟨RX0, "guard", "(LNightwatchWall;IIIILNightwatchWallLaw$Out;)I"⟩
def dkwX0_guard_1 : List UInt8 := [5, 172, 58, 6, 6, 172, 3, 172]
abbrev dktX0_guard_1 : List UInt8 := dkwX0_guard_1 ++ []
def dkwX0_guard_0 : List UInt8 := [25, 5, 42, 27, 28, 29, 21, 4, 182, 0, 42, 133, 181, 0, 13, 167, 0, 15, 58, 6, 4, 172, 58, 6]
abbrev dktX0_guard_0 : List UInt8 := dkwX0_guard_0 ++ dktX0_guard_1
theorem dksX0_guard_0 : cX0_guard.data.toList.drop 0 = dktX0_guard_0 := by decide +kernel
theorem dksX0_guard_1 : cX0_guard.data.toList.drop 24 = dktX0_guard_1 := dk_seg dksX0_guard_0 24 rfl rfl
theorem dX0_guard_0 : decode cX0_guard 0 = .ok (.aload 5, 2) := dk_25 5 (dk_at dksX0_guard_0 0 rfl rfl)
theorem dX0_guard_2 : decode cX0_guard 2 = .ok (.aload_n 0, 1) := dk_42 (dk_at dksX0_guard_0 2 rfl rfl)
theorem dX0_guard_3 : decode cX0_guard 3 = .ok (.iload_n 1, 1) := dk_27 (dk_at dksX0_guard_0 3 rfl rfl)
theorem dX0_guard_4 : decode cX0_guard 4 = .ok (.iload_n 2, 1) := dk_28 (dk_at dksX0_guard_0 4 rfl rfl)
theorem dX0_guard_5 : decode cX0_guard 5 = .ok (.iload_n 3, 1) := dk_29 (dk_at dksX0_guard_0 5 rfl rfl)
theorem dX0_guard_6 : decode cX0_guard 6 = .ok (.iload 4, 2) := dk_21 4 (dk_at dksX0_guard_0 6 rfl rfl)
theorem dX0_guard_8 : decode cX0_guard 8 = .ok (.invokevirtual 42, 3) := dk_182 0 42 (dk_at dksX0_guard_0 8 rfl rfl)
theorem dX0_guard_11 : decode cX0_guard 11 = .ok (.i2l, 1) := dk_133 (dk_at dksX0_guard_0 11 rfl rfl)
theorem dX0_guard_12 : decode cX0_guard 12 = .ok (.putfield 13, 3) := dk_181 0 13 (dk_at dksX0_guard_0 12 rfl rfl)
theorem dX0_guard_15 : decode cX0_guard 15 = .ok (.goto 15, 3) := dk_167 0 15 (dk_at dksX0_guard_0 15 rfl rfl)
theorem dX0_guard_18 : decode cX0_guard 18 = .ok (.astore 6, 2) := dk_58 6 (dk_at dksX0_guard_0 18 rfl rfl)
theorem dX0_guard_20 : decode cX0_guard 20 = .ok (.iconst 1, 1) := dk_4 (dk_at dksX0_guard_0 20 rfl rfl)
theorem dX0_guard_21 : decode cX0_guard 21 = .ok (.ireturn, 1) := dk_172 (dk_at dksX0_guard_0 21 rfl rfl)
theorem dX0_guard_22 : decode cX0_guard 22 = .ok (.astore 6, 2) := dk_58 6 (dk_at dksX0_guard_0 22 rfl rfl)
theorem dX0_guard_24 : decode cX0_guard 24 = .ok (.iconst 2, 1) := dk_5 (dk_at dksX0_guard_1 0 rfl rfl)
theorem dX0_guard_25 : decode cX0_guard 25 = .ok (.ireturn, 1) := dk_172 (dk_at dksX0_guard_1 1 rfl rfl)
theorem dX0_guard_26 : decode cX0_guard 26 = .ok (.astore 6, 2) := dk_58 6 (dk_at dksX0_guard_1 2 rfl rfl)
theorem dX0_guard_28 : decode cX0_guard 28 = .ok (.iconst 3, 1) := dk_6 (dk_at dksX0_guard_1 4 rfl rfl)
theorem dX0_guard_29 : decode cX0_guard 29 = .ok (.ireturn, 1) := dk_172 (dk_at dksX0_guard_1 5 rfl rfl)
theorem dX0_guard_30 : decode cX0_guard 30 = .ok (.iconst 0, 1) := dk_3 (dk_at dksX0_guard_1 6 rfl rfl)
theorem dX0_guard_31 : decode cX0_guard 31 = .ok (.ireturn, 1) := dk_172 (dk_at dksX0_guard_1 7 rfl rfl)
abbrev cX0_round : ByteArray := method_9_code
def yX0_round : MethodName := ⟨RX0, "round", "(LNightwatchWall;IILNightwatchWallLaw$Out;)I"⟩
def dkwX0_round_0 : List UInt8 := [45, 42, 27, 28, 182, 0, 46, 133, 181, 0, 13, 167, 0, 11, 58, 4, 4, 172, 58, 4, 5, 172, 3, 172]
abbrev dktX0_round_0 : List UInt8 := dkwX0_round_0 ++ []
theorem dksX0_round_0 : cX0_round.data.toList.drop 0 = dktX0_round_0 := by decide +kernel
theorem dX0_round_0 : decode cX0_round 0 = .ok (.aload_n 3, 1) := dk_45 (dk_at dksX0_round_0 0 rfl rfl)
theorem dX0_round_1 : decode cX0_round 1 = .ok (.aload_n 0, 1) := dk_42 (dk_at dksX0_round_0 1 rfl rfl)
theorem dX0_round_2 : decode cX0_round 2 = .ok (.iload_n 1, 1) := dk_27 (dk_at dksX0_round_0 2 rfl rfl)
theorem dX0_round_3 : decode cX0_round 3 = .ok (.iload_n 2, 1) := dk_28 (dk_at dksX0_round_0 3 rfl rfl)
theorem dX0_round_4 : decode cX0_round 4 = .ok (.invokevirtual 46, 3) := dk_182 0 46 (dk_at dksX0_round_0 4 rfl rfl)
theorem dX0_round_7 : decode cX0_round 7 = .ok (.i2l, 1) := dk_133 (dk_at dksX0_round_0 7 rfl rfl)
theorem dX0_round_8 : decode cX0_round 8 = .ok (.putfield 13, 3) := dk_181 0 13 (dk_at dksX0_round_0 8 rfl rfl)
theorem dX0_round_11 : decode cX0_round 11 = .ok (.goto 11, 3) := dk_167 0 11 (dk_at dksX0_round_0 11 rfl rfl)
theorem dX0_round_14 : decode cX0_round 14 = .ok (.astore 4, 2) := dk_58 4 (dk_at dksX0_round_0 14 rfl rfl)
theorem dX0_round_16 : decode cX0_round 16 = .ok (.iconst 1, 1) := dk_4 (dk_at dksX0_round_0 16 rfl rfl)
theorem dX0_round_17 : decode cX0_round 17 = .ok (.ireturn, 1) := dk_172 (dk_at dksX0_round_0 17 rfl rfl)
theorem dX0_round_18 : decode cX0_round 18 = .ok (.astore 4, 2) := dk_58 4 (dk_at dksX0_round_0 18 rfl rfl)
theorem dX0_round_20 : decode cX0_round 20 = .ok (.iconst 2, 1) := dk_5 (dk_at dksX0_round_0 20 rfl rfl)
theorem dX0_round_21 : decode cX0_round 21 = .ok (.ireturn, 1) := dk_172 (dk_at dksX0_round_0 21 rfl rfl)
theorem dX0_round_22 : decode cX0_round 22 = .ok (.iconst 0, 1) := dk_3 (dk_at dksX0_round_0 22 rfl rfl)
theorem dX0_round_23 : decode cX0_round 23 = .ok (.ireturn, 1) := dk_172 (dk_at dksX0_round_0 23 rfl rfl)
abbrev cX0_post : ByteArray := method_10_code
def yX0_post : MethodName := ⟨RX0, "post", "(LNightwatchWall;ILNightwatchWallLaw$Out;)I"⟩
def dkwX0_post_0 : List UInt8 := [44, 42, 27, 182, 0, 49, 133, 181, 0, 13, 167, 0, 9, 78, 4, 172, 78, 5, 172, 3, 172]
abbrev dktX0_post_0 : List UInt8 := dkwX0_post_0 ++ []
theorem dksX0_post_0 : cX0_post.data.toList.drop 0 = dktX0_post_0 := by decide +kernel
theorem dX0_post_0 : decode cX0_post 0 = .ok (.aload_n 2, 1) := dk_44 (dk_at dksX0_post_0 0 rfl rfl)
theorem dX0_post_1 : decode cX0_post 1 = .ok (.aload_n 0, 1) := dk_42 (dk_at dksX0_post_0 1 rfl rfl)
theorem dX0_post_2 : decode cX0_post 2 = .ok (.iload_n 1, 1) := dk_27 (dk_at dksX0_post_0 2 rfl rfl)
theorem dX0_post_3 : decode cX0_post 3 = .ok (.invokevirtual 49, 3) := dk_182 0 49 (dk_at dksX0_post_0 3 rfl rfl)
theorem dX0_post_6 : decode cX0_post 6 = .ok (.i2l, 1) := dk_133 (dk_at dksX0_post_0 6 rfl rfl)
theorem dX0_post_7 : decode cX0_post 7 = .ok (.putfield 13, 3) := dk_181 0 13 (dk_at dksX0_post_0 7 rfl rfl)
theorem dX0_post_10 : decode cX0_post 10 = .ok (.goto 9, 3) := dk_167 0 9 (dk_at dksX0_post_0 10 rfl rfl)
theorem dX0_post_13 : decode cX0_post 13 = .ok (.astore_n 3, 1) := dk_78 (dk_at dksX0_post_0 13 rfl rfl)
theorem dX0_post_14 : decode cX0_post 14 = .ok (.iconst 1, 1) := dk_4 (dk_at dksX0_post_0 14 rfl rfl)
theorem dX0_post_15 : decode cX0_post 15 = .ok (.ireturn, 1) := dk_172 (dk_at dksX0_post_0 15 rfl rfl)
theorem dX0_post_16 : decode cX0_post 16 = .ok (.astore_n 3, 1) := dk_78 (dk_at dksX0_post_0 16 rfl rfl)
theorem dX0_post_17 : decode cX0_post 17 = .ok (.iconst 2, 1) := dk_5 (dk_at dksX0_post_0 17 rfl rfl)
theorem dX0_post_18 : decode cX0_post 18 = .ok (.ireturn, 1) := dk_172 (dk_at dksX0_post_0 18 rfl rfl)
theorem dX0_post_19 : decode cX0_post 19 = .ok (.iconst 0, 1) := dk_3 (dk_at dksX0_post_0 19 rfl rfl)
theorem dX0_post_20 : decode cX0_post 20 = .ok (.ireturn, 1) := dk_172 (dk_at dksX0_post_0 20 rfl rfl)
abbrev cX0_place : ByteArray := method_11_code
def yX0_place : MethodName := ⟨RX0, "place", "(LNightwatchWall;IILNightwatchWallLaw$Out;)I"⟩
def dkwX0_place_0 : List UInt8 := [45, 42, 27, 28, 182, 0, 53, 133, 181, 0, 13, 167, 0, 11, 58, 4, 4, 172, 58, 4, 5, 172, 3, 172]
abbrev dktX0_place_0 : List UInt8 := dkwX0_place_0 ++ []
theorem dksX0_place_0 : cX0_place.data.toList.drop 0 = dktX0_place_0 := by decide +kernel
theorem dX0_place_0 : decode cX0_place 0 = .ok (.aload_n 3, 1) := dk_45 (dk_at dksX0_place_0 0 rfl rfl)
theorem dX0_place_1 : decode cX0_place 1 = .ok (.aload_n 0, 1) := dk_42 (dk_at dksX0_place_0 1 rfl rfl)
theorem dX0_place_2 : decode cX0_place 2 = .ok (.iload_n 1, 1) := dk_27 (dk_at dksX0_place_0 2 rfl rfl)
theorem dX0_place_3 : decode cX0_place 3 = .ok (.iload_n 2, 1) := dk_28 (dk_at dksX0_place_0 3 rfl rfl)
theorem dX0_place_4 : decode cX0_place 4 = .ok (.invokevirtual 53, 3) := dk_182 0 53 (dk_at dksX0_place_0 4 rfl rfl)
theorem dX0_place_7 : decode cX0_place 7 = .ok (.i2l, 1) := dk_133 (dk_at dksX0_place_0 7 rfl rfl)
theorem dX0_place_8 : decode cX0_place 8 = .ok (.putfield 13, 3) := dk_181 0 13 (dk_at dksX0_place_0 8 rfl rfl)
theorem dX0_place_11 : decode cX0_place 11 = .ok (.goto 11, 3) := dk_167 0 11 (dk_at dksX0_place_0 11 rfl rfl)
theorem dX0_place_14 : decode cX0_place 14 = .ok (.astore 4, 2) := dk_58 4 (dk_at dksX0_place_0 14 rfl rfl)
theorem dX0_place_16 : decode cX0_place 16 = .ok (.iconst 1, 1) := dk_4 (dk_at dksX0_place_0 16 rfl rfl)
theorem dX0_place_17 : decode cX0_place 17 = .ok (.ireturn, 1) := dk_172 (dk_at dksX0_place_0 17 rfl rfl)
theorem dX0_place_18 : decode cX0_place 18 = .ok (.astore 4, 2) := dk_58 4 (dk_at dksX0_place_0 18 rfl rfl)
theorem dX0_place_20 : decode cX0_place 20 = .ok (.iconst 2, 1) := dk_5 (dk_at dksX0_place_0 20 rfl rfl)
theorem dX0_place_21 : decode cX0_place 21 = .ok (.ireturn, 1) := dk_172 (dk_at dksX0_place_0 21 rfl rfl)
theorem dX0_place_22 : decode cX0_place 22 = .ok (.iconst 0, 1) := dk_3 (dk_at dksX0_place_0 22 rfl rfl)
theorem dX0_place_23 : decode cX0_place 23 = .ok (.ireturn, 1) := dk_172 (dk_at dksX0_place_0 23 rfl rfl)
abbrev cX0_sees : ByteArray := method_12_code
def yX0_sees : MethodName := ⟨RX0, "sees", "(LNightwatchWall;IIILNightwatchWallLaw$Out;)I"⟩
def dkwX0_sees_1 : List UInt8 := [58, 5, 4, 172, 58, 5, 5, 172, 3, 172]
abbrev dktX0_sees_1 : List UInt8 := dkwX0_sees_1 ++ []
def dkwX0_sees_0 : List UInt8 := [25, 4, 42, 27, 28, 29, 182, 0, 56, 153, 0, 7, 10, 167, 0, 4, 9, 181, 0, 13, 167, 0, 11]
abbrev dktX0_sees_0 : List UInt8 := dkwX0_sees_0 ++ dktX0_sees_1
theorem dksX0_sees_0 : cX0_sees.data.toList.drop 0 = dktX0_sees_0 := by decide +kernel
theorem dksX0_sees_1 : cX0_sees.data.toList.drop 23 = dktX0_sees_1 := dk_seg dksX0_sees_0 23 rfl rfl
theorem dX0_sees_0 : decode cX0_sees 0 = .ok (.aload 4, 2) := dk_25 4 (dk_at dksX0_sees_0 0 rfl rfl)
theorem dX0_sees_2 : decode cX0_sees 2 = .ok (.aload_n 0, 1) := dk_42 (dk_at dksX0_sees_0 2 rfl rfl)
theorem dX0_sees_3 : decode cX0_sees 3 = .ok (.iload_n 1, 1) := dk_27 (dk_at dksX0_sees_0 3 rfl rfl)
theorem dX0_sees_4 : decode cX0_sees 4 = .ok (.iload_n 2, 1) := dk_28 (dk_at dksX0_sees_0 4 rfl rfl)
theorem dX0_sees_5 : decode cX0_sees 5 = .ok (.iload_n 3, 1) := dk_29 (dk_at dksX0_sees_0 5 rfl rfl)
theorem dX0_sees_6 : decode cX0_sees 6 = .ok (.invokevirtual 56, 3) := dk_182 0 56 (dk_at dksX0_sees_0 6 rfl rfl)
theorem dX0_sees_9 : decode cX0_sees 9 = .ok (.ifCond .eq 7, 3) := dk_153 0 7 (dk_at dksX0_sees_0 9 rfl rfl)
theorem dX0_sees_12 : decode cX0_sees 12 = .ok (.lconst 1, 1) := dk_10 (dk_at dksX0_sees_0 12 rfl rfl)
theorem dX0_sees_13 : decode cX0_sees 13 = .ok (.goto 4, 3) := dk_167 0 4 (dk_at dksX0_sees_0 13 rfl rfl)
theorem dX0_sees_16 : decode cX0_sees 16 = .ok (.lconst 0, 1) := dk_9 (dk_at dksX0_sees_0 16 rfl rfl)
theorem dX0_sees_17 : decode cX0_sees 17 = .ok (.putfield 13, 3) := dk_181 0 13 (dk_at dksX0_sees_0 17 rfl rfl)
theorem dX0_sees_20 : decode cX0_sees 20 = .ok (.goto 11, 3) := dk_167 0 11 (dk_at dksX0_sees_0 20 rfl rfl)
theorem dX0_sees_23 : decode cX0_sees 23 = .ok (.astore 5, 2) := dk_58 5 (dk_at dksX0_sees_1 0 rfl rfl)
theorem dX0_sees_25 : decode cX0_sees 25 = .ok (.iconst 1, 1) := dk_4 (dk_at dksX0_sees_1 2 rfl rfl)
theorem dX0_sees_26 : decode cX0_sees 26 = .ok (.ireturn, 1) := dk_172 (dk_at dksX0_sees_1 3 rfl rfl)
theorem dX0_sees_27 : decode cX0_sees 27 = .ok (.astore 5, 2) := dk_58 5 (dk_at dksX0_sees_1 4 rfl rfl)
theorem dX0_sees_29 : decode cX0_sees 29 = .ok (.iconst 2, 1) := dk_5 (dk_at dksX0_sees_1 6 rfl rfl)
theorem dX0_sees_30 : decode cX0_sees 30 = .ok (.ireturn, 1) := dk_172 (dk_at dksX0_sees_1 7 rfl rfl)
theorem dX0_sees_31 : decode cX0_sees 31 = .ok (.iconst 0, 1) := dk_3 (dk_at dksX0_sees_1 8 rfl rfl)
theorem dX0_sees_32 : decode cX0_sees 32 = .ok (.ireturn, 1) := dk_172 (dk_at dksX0_sees_1 9 rfl rfl)
abbrev cX0_ofCell : ByteArray := method_13_code
def yX0_ofCell : MethodName := ⟨RX0, "ofCell", "(LNightwatchWall;IIILNightwatchWallLaw$Out;)I"⟩
def dkwX0_ofCell_1 : List UInt8 := [3, 172]
abbrev dktX0_ofCell_1 : List UInt8 := dkwX0_ofCell_1 ++ []
def dkwX0_ofCell_0 : List UInt8 := [25, 4, 42, 27, 28, 29, 182, 0, 60, 133, 181, 0, 13, 167, 0, 11, 58, 5, 4, 172, 58, 5, 5, 172]
abbrev dktX0_ofCell_0 : List UInt8 := dkwX0_ofCell_0 ++ dktX0_ofCell_1
theorem dksX0_ofCell_0 : cX0_ofCell.data.toList.drop 0 = dktX0_ofCell_0 := by decide +kernel
theorem dksX0_ofCell_1 : cX0_ofCell.data.toList.drop 24 = dktX0_ofCell_1 := dk_seg dksX0_ofCell_0 24 rfl rfl
theorem dX0_ofCell_0 : decode cX0_ofCell 0 = .ok (.aload 4, 2) := dk_25 4 (dk_at dksX0_ofCell_0 0 rfl rfl)
theorem dX0_ofCell_2 : decode cX0_ofCell 2 = .ok (.aload_n 0, 1) := dk_42 (dk_at dksX0_ofCell_0 2 rfl rfl)
theorem dX0_ofCell_3 : decode cX0_ofCell 3 = .ok (.iload_n 1, 1) := dk_27 (dk_at dksX0_ofCell_0 3 rfl rfl)
theorem dX0_ofCell_4 : decode cX0_ofCell 4 = .ok (.iload_n 2, 1) := dk_28 (dk_at dksX0_ofCell_0 4 rfl rfl)
theorem dX0_ofCell_5 : decode cX0_ofCell 5 = .ok (.iload_n 3, 1) := dk_29 (dk_at dksX0_ofCell_0 5 rfl rfl)
theorem dX0_ofCell_6 : decode cX0_ofCell 6 = .ok (.invokevirtual 60, 3) := dk_182 0 60 (dk_at dksX0_ofCell_0 6 rfl rfl)
theorem dX0_ofCell_9 : decode cX0_ofCell 9 = .ok (.i2l, 1) := dk_133 (dk_at dksX0_ofCell_0 9 rfl rfl)
theorem dX0_ofCell_10 : decode cX0_ofCell 10 = .ok (.putfield 13, 3) := dk_181 0 13 (dk_at dksX0_ofCell_0 10 rfl rfl)
theorem dX0_ofCell_13 : decode cX0_ofCell 13 = .ok (.goto 11, 3) := dk_167 0 11 (dk_at dksX0_ofCell_0 13 rfl rfl)
theorem dX0_ofCell_16 : decode cX0_ofCell 16 = .ok (.astore 5, 2) := dk_58 5 (dk_at dksX0_ofCell_0 16 rfl rfl)
theorem dX0_ofCell_18 : decode cX0_ofCell 18 = .ok (.iconst 1, 1) := dk_4 (dk_at dksX0_ofCell_0 18 rfl rfl)
theorem dX0_ofCell_19 : decode cX0_ofCell 19 = .ok (.ireturn, 1) := dk_172 (dk_at dksX0_ofCell_0 19 rfl rfl)
theorem dX0_ofCell_20 : decode cX0_ofCell 20 = .ok (.astore 5, 2) := dk_58 5 (dk_at dksX0_ofCell_0 20 rfl rfl)
theorem dX0_ofCell_22 : decode cX0_ofCell 22 = .ok (.iconst 2, 1) := dk_5 (dk_at dksX0_ofCell_0 22 rfl rfl)
theorem dX0_ofCell_23 : decode cX0_ofCell 23 = .ok (.ireturn, 1) := dk_172 (dk_at dksX0_ofCell_0 23 rfl rfl)
theorem dX0_ofCell_24 : decode cX0_ofCell 24 = .ok (.iconst 0, 1) := dk_3 (dk_at dksX0_ofCell_1 0 rfl rfl)
theorem dX0_ofCell_25 : decode cX0_ofCell 25 = .ok (.ireturn, 1) := dk_172 (dk_at dksX0_ofCell_1 1 rfl rfl)
abbrev cX0_ofMinute : ByteArray := method_14_code
def yX0_ofMinute : MethodName := ⟨RX0, "ofMinute", "(LNightwatchWall;IILNightwatchWallLaw$Out;)I"⟩
def dkwX0_ofMinute_0 : List UInt8 := [45, 42, 27, 28, 182, 0, 63, 133, 181, 0, 13, 167, 0, 7, 58, 4, 4, 172, 3, 172]
abbrev dktX0_ofMinute_0 : List UInt8 := dkwX0_ofMinute_0 ++ []
theorem dksX0_ofMinute_0 : cX0_ofMinute.data.toList.drop 0 = dktX0_ofMinute_0 := by decide +kernel
theorem dX0_ofMinute_0 : decode cX0_ofMinute 0 = .ok (.aload_n 3, 1) := dk_45 (dk_at dksX0_ofMinute_0 0 rfl rfl)
theorem dX0_ofMinute_1 : decode cX0_ofMinute 1 = .ok (.aload_n 0, 1) := dk_42 (dk_at dksX0_ofMinute_0 1 rfl rfl)
theorem dX0_ofMinute_2 : decode cX0_ofMinute 2 = .ok (.iload_n 1, 1) := dk_27 (dk_at dksX0_ofMinute_0 2 rfl rfl)
theorem dX0_ofMinute_3 : decode cX0_ofMinute 3 = .ok (.iload_n 2, 1) := dk_28 (dk_at dksX0_ofMinute_0 3 rfl rfl)
theorem dX0_ofMinute_4 : decode cX0_ofMinute 4 = .ok (.invokevirtual 63, 3) := dk_182 0 63 (dk_at dksX0_ofMinute_0 4 rfl rfl)
theorem dX0_ofMinute_7 : decode cX0_ofMinute 7 = .ok (.i2l, 1) := dk_133 (dk_at dksX0_ofMinute_0 7 rfl rfl)
theorem dX0_ofMinute_8 : decode cX0_ofMinute 8 = .ok (.putfield 13, 3) := dk_181 0 13 (dk_at dksX0_ofMinute_0 8 rfl rfl)
theorem dX0_ofMinute_11 : decode cX0_ofMinute 11 = .ok (.goto 7, 3) := dk_167 0 7 (dk_at dksX0_ofMinute_0 11 rfl rfl)
theorem dX0_ofMinute_14 : decode cX0_ofMinute 14 = .ok (.astore 4, 2) := dk_58 4 (dk_at dksX0_ofMinute_0 14 rfl rfl)
theorem dX0_ofMinute_16 : decode cX0_ofMinute 16 = .ok (.iconst 1, 1) := dk_4 (dk_at dksX0_ofMinute_0 16 rfl rfl)
theorem dX0_ofMinute_17 : decode cX0_ofMinute 17 = .ok (.ireturn, 1) := dk_172 (dk_at dksX0_ofMinute_0 17 rfl rfl)
theorem dX0_ofMinute_18 : decode cX0_ofMinute 18 = .ok (.iconst 0, 1) := dk_3 (dk_at dksX0_ofMinute_0 18 rfl rfl)
theorem dX0_ofMinute_19 : decode cX0_ofMinute 19 = .ok (.ireturn, 1) := dk_172 (dk_at dksX0_ofMinute_0 19 rfl rfl)
abbrev cX0_empty : ByteArray := method_15_code
def yX0_empty : MethodName := ⟨RX0, "empty", "(LNightwatchWall;IZLNightwatchWallLaw$Out;)I"⟩
def dkwX0_empty_0 : List UInt8 := [45, 42, 27, 28, 182, 0, 66, 133, 181, 0, 13, 167, 0, 7, 58, 4, 4, 172, 3, 172]
abbrev dktX0_empty_0 : List UInt8 := dkwX0_empty_0 ++ []
theorem dksX0_empty_0 : cX0_empty.data.toList.drop 0 = dktX0_empty_0 := by decide +kernel
theorem dX0_empty_0 : decode cX0_empty 0 = .ok (.aload_n 3, 1) := dk_45 (dk_at dksX0_empty_0 0 rfl rfl)
theorem dX0_empty_1 : decode cX0_empty 1 = .ok (.aload_n 0, 1) := dk_42 (dk_at dksX0_empty_0 1 rfl rfl)
theorem dX0_empty_2 : decode cX0_empty 2 = .ok (.iload_n 1, 1) := dk_27 (dk_at dksX0_empty_0 2 rfl rfl)
theorem dX0_empty_3 : decode cX0_empty 3 = .ok (.iload_n 2, 1) := dk_28 (dk_at dksX0_empty_0 3 rfl rfl)
theorem dX0_empty_4 : decode cX0_empty 4 = .ok (.invokevirtual 66, 3) := dk_182 0 66 (dk_at dksX0_empty_0 4 rfl rfl)
theorem dX0_empty_7 : decode cX0_empty 7 = .ok (.i2l, 1) := dk_133 (dk_at dksX0_empty_0 7 rfl rfl)
theorem dX0_empty_8 : decode cX0_empty 8 = .ok (.putfield 13, 3) := dk_181 0 13 (dk_at dksX0_empty_0 8 rfl rfl)
theorem dX0_empty_11 : decode cX0_empty 11 = .ok (.goto 7, 3) := dk_167 0 7 (dk_at dksX0_empty_0 11 rfl rfl)
theorem dX0_empty_14 : decode cX0_empty 14 = .ok (.astore 4, 2) := dk_58 4 (dk_at dksX0_empty_0 14 rfl rfl)
theorem dX0_empty_16 : decode cX0_empty 16 = .ok (.iconst 1, 1) := dk_4 (dk_at dksX0_empty_0 16 rfl rfl)
theorem dX0_empty_17 : decode cX0_empty 17 = .ok (.ireturn, 1) := dk_172 (dk_at dksX0_empty_0 17 rfl rfl)
theorem dX0_empty_18 : decode cX0_empty 18 = .ok (.iconst 0, 1) := dk_3 (dk_at dksX0_empty_0 18 rfl rfl)
theorem dX0_empty_19 : decode cX0_empty 19 = .ok (.ireturn, 1) := dk_172 (dk_at dksX0_empty_0 19 rfl rfl)
abbrev cX0_lapse : ByteArray := method_16_code
def yX0_lapse : MethodName := ⟨RX0, "lapse", "(LNightwatchWall;IIILNightwatchWallLaw$Out;)I"⟩
def dkwX0_lapse_1 : List UInt8 := [3, 172]
abbrev dktX0_lapse_1 : List UInt8 := dkwX0_lapse_1 ++ []
def dkwX0_lapse_0 : List UInt8 := [25, 4, 42, 27, 28, 29, 182, 0, 69, 133, 181, 0, 13, 167, 0, 11, 58, 5, 4, 172, 58, 5, 5, 172]
abbrev dktX0_lapse_0 : List UInt8 := dkwX0_lapse_0 ++ dktX0_lapse_1
theorem dksX0_lapse_0 : cX0_lapse.data.toList.drop 0 = dktX0_lapse_0 := by decide +kernel
theorem dksX0_lapse_1 : cX0_lapse.data.toList.drop 24 = dktX0_lapse_1 := dk_seg dksX0_lapse_0 24 rfl rfl
theorem dX0_lapse_0 : decode cX0_lapse 0 = .ok (.aload 4, 2) := dk_25 4 (dk_at dksX0_lapse_0 0 rfl rfl)
theorem dX0_lapse_2 : decode cX0_lapse 2 = .ok (.aload_n 0, 1) := dk_42 (dk_at dksX0_lapse_0 2 rfl rfl)
theorem dX0_lapse_3 : decode cX0_lapse 3 = .ok (.iload_n 1, 1) := dk_27 (dk_at dksX0_lapse_0 3 rfl rfl)
theorem dX0_lapse_4 : decode cX0_lapse 4 = .ok (.iload_n 2, 1) := dk_28 (dk_at dksX0_lapse_0 4 rfl rfl)
theorem dX0_lapse_5 : decode cX0_lapse 5 = .ok (.iload_n 3, 1) := dk_29 (dk_at dksX0_lapse_0 5 rfl rfl)
theorem dX0_lapse_6 : decode cX0_lapse 6 = .ok (.invokevirtual 69, 3) := dk_182 0 69 (dk_at dksX0_lapse_0 6 rfl rfl)
theorem dX0_lapse_9 : decode cX0_lapse 9 = .ok (.i2l, 1) := dk_133 (dk_at dksX0_lapse_0 9 rfl rfl)
theorem dX0_lapse_10 : decode cX0_lapse 10 = .ok (.putfield 13, 3) := dk_181 0 13 (dk_at dksX0_lapse_0 10 rfl rfl)
theorem dX0_lapse_13 : decode cX0_lapse 13 = .ok (.goto 11, 3) := dk_167 0 11 (dk_at dksX0_lapse_0 13 rfl rfl)
theorem dX0_lapse_16 : decode cX0_lapse 16 = .ok (.astore 5, 2) := dk_58 5 (dk_at dksX0_lapse_0 16 rfl rfl)
theorem dX0_lapse_18 : decode cX0_lapse 18 = .ok (.iconst 1, 1) := dk_4 (dk_at dksX0_lapse_0 18 rfl rfl)
theorem dX0_lapse_19 : decode cX0_lapse 19 = .ok (.ireturn, 1) := dk_172 (dk_at dksX0_lapse_0 19 rfl rfl)
theorem dX0_lapse_20 : decode cX0_lapse 20 = .ok (.astore 5, 2) := dk_58 5 (dk_at dksX0_lapse_0 20 rfl rfl)
theorem dX0_lapse_22 : decode cX0_lapse 22 = .ok (.iconst 2, 1) := dk_5 (dk_at dksX0_lapse_0 22 rfl rfl)
theorem dX0_lapse_23 : decode cX0_lapse 23 = .ok (.ireturn, 1) := dk_172 (dk_at dksX0_lapse_0 23 rfl rfl)
theorem dX0_lapse_24 : decode cX0_lapse 24 = .ok (.iconst 0, 1) := dk_3 (dk_at dksX0_lapse_1 0 rfl rfl)
theorem dX0_lapse_25 : decode cX0_lapse 25 = .ok (.ireturn, 1) := dk_172 (dk_at dksX0_lapse_1 1 rfl rfl)
abbrev cX0_words : ByteArray := method_17_code
def yX0_words : MethodName := ⟨RX0, "words", "(LNightwatchWall;ILNightwatchWallLaw$Out;)I"⟩
def dkwX0_words_0 : List UInt8 := [44, 42, 27, 182, 0, 72, 133, 181, 0, 13, 167, 0, 6, 78, 4, 172, 3, 172]
abbrev dktX0_words_0 : List UInt8 := dkwX0_words_0 ++ []
theorem dksX0_words_0 : cX0_words.data.toList.drop 0 = dktX0_words_0 := by decide +kernel
theorem dX0_words_0 : decode cX0_words 0 = .ok (.aload_n 2, 1) := dk_44 (dk_at dksX0_words_0 0 rfl rfl)
theorem dX0_words_1 : decode cX0_words 1 = .ok (.aload_n 0, 1) := dk_42 (dk_at dksX0_words_0 1 rfl rfl)
theorem dX0_words_2 : decode cX0_words 2 = .ok (.iload_n 1, 1) := dk_27 (dk_at dksX0_words_0 2 rfl rfl)
theorem dX0_words_3 : decode cX0_words 3 = .ok (.invokevirtual 72, 3) := dk_182 0 72 (dk_at dksX0_words_0 3 rfl rfl)
theorem dX0_words_6 : decode cX0_words 6 = .ok (.i2l, 1) := dk_133 (dk_at dksX0_words_0 6 rfl rfl)
theorem dX0_words_7 : decode cX0_words 7 = .ok (.putfield 13, 3) := dk_181 0 13 (dk_at dksX0_words_0 7 rfl rfl)
theorem dX0_words_10 : decode cX0_words 10 = .ok (.goto 6, 3) := dk_167 0 6 (dk_at dksX0_words_0 10 rfl rfl)
theorem dX0_words_13 : decode cX0_words 13 = .ok (.astore_n 3, 1) := dk_78 (dk_at dksX0_words_0 13 rfl rfl)
theorem dX0_words_14 : decode cX0_words 14 = .ok (.iconst 1, 1) := dk_4 (dk_at dksX0_words_0 14 rfl rfl)
theorem dX0_words_15 : decode cX0_words 15 = .ok (.ireturn, 1) := dk_172 (dk_at dksX0_words_0 15 rfl rfl)
theorem dX0_words_16 : decode cX0_words 16 = .ok (.iconst 0, 1) := dk_3 (dk_at dksX0_words_0 16 rfl rfl)
theorem dX0_words_17 : decode cX0_words 17 = .ok (.ireturn, 1) := dk_172 (dk_at dksX0_words_0 17 rfl rfl)
abbrev cX0_leak : ByteArray := method_18_code
def yX0_leak : MethodName := ⟨RX0, "leak", "(LNightwatchWall;ILNightwatchWallLaw$Out;)I"⟩
def dkwX0_leak_0 : List UInt8 := [44, 42, 27, 182, 0, 75, 133, 181, 0, 13, 167, 0, 9, 78, 4, 172, 78, 5, 172, 3, 172]
abbrev dktX0_leak_0 : List UInt8 := dkwX0_leak_0 ++ []
theorem dksX0_leak_0 : cX0_leak.data.toList.drop 0 = dktX0_leak_0 := by decide +kernel
theorem dX0_leak_0 : decode cX0_leak 0 = .ok (.aload_n 2, 1) := dk_44 (dk_at dksX0_leak_0 0 rfl rfl)
theorem dX0_leak_1 : decode cX0_leak 1 = .ok (.aload_n 0, 1) := dk_42 (dk_at dksX0_leak_0 1 rfl rfl)
theorem dX0_leak_2 : decode cX0_leak 2 = .ok (.iload_n 1, 1) := dk_27 (dk_at dksX0_leak_0 2 rfl rfl)
theorem dX0_leak_3 : decode cX0_leak 3 = .ok (.invokevirtual 75, 3) := dk_182 0 75 (dk_at dksX0_leak_0 3 rfl rfl)
theorem dX0_leak_6 : decode cX0_leak 6 = .ok (.i2l, 1) := dk_133 (dk_at dksX0_leak_0 6 rfl rfl)
theorem dX0_leak_7 : decode cX0_leak 7 = .ok (.putfield 13, 3) := dk_181 0 13 (dk_at dksX0_leak_0 7 rfl rfl)
theorem dX0_leak_10 : decode cX0_leak 10 = .ok (.goto 9, 3) := dk_167 0 9 (dk_at dksX0_leak_0 10 rfl rfl)
theorem dX0_leak_13 : decode cX0_leak 13 = .ok (.astore_n 3, 1) := dk_78 (dk_at dksX0_leak_0 13 rfl rfl)
theorem dX0_leak_14 : decode cX0_leak 14 = .ok (.iconst 1, 1) := dk_4 (dk_at dksX0_leak_0 14 rfl rfl)
theorem dX0_leak_15 : decode cX0_leak 15 = .ok (.ireturn, 1) := dk_172 (dk_at dksX0_leak_0 15 rfl rfl)
theorem dX0_leak_16 : decode cX0_leak 16 = .ok (.astore_n 3, 1) := dk_78 (dk_at dksX0_leak_0 16 rfl rfl)
theorem dX0_leak_17 : decode cX0_leak 17 = .ok (.iconst 2, 1) := dk_5 (dk_at dksX0_leak_0 17 rfl rfl)
theorem dX0_leak_18 : decode cX0_leak 18 = .ok (.ireturn, 1) := dk_172 (dk_at dksX0_leak_0 18 rfl rfl)
theorem dX0_leak_19 : decode cX0_leak 19 = .ok (.iconst 0, 1) := dk_3 (dk_at dksX0_leak_0 19 rfl rfl)
theorem dX0_leak_20 : decode cX0_leak 20 = .ok (.ireturn, 1) := dk_172 (dk_at dksX0_leak_0 20 rfl rfl)
abbrev cX0_answer : ByteArray := method_19_code
def yX0_answer : MethodName := ⟨RX0, "answer", "(LNightwatchWall;IIILNightwatchWallLaw$Out;)I"⟩
def dkwX0_answer_1 : List UInt8 := [3, 172]
abbrev dktX0_answer_1 : List UInt8 := dkwX0_answer_1 ++ []
def dkwX0_answer_0 : List UInt8 := [25, 4, 42, 27, 28, 29, 182, 0, 78, 133, 181, 0, 13, 167, 0, 11, 58, 5, 4, 172, 58, 5, 5, 172]
abbrev dktX0_answer_0 : List UInt8 := dkwX0_answer_0 ++ dktX0_answer_1
theorem dksX0_answer_0 : cX0_answer.data.toList.drop 0 = dktX0_answer_0 := by decide +kernel
theorem dksX0_answer_1 : cX0_answer.data.toList.drop 24 = dktX0_answer_1 := dk_seg dksX0_answer_0 24 rfl rfl
theorem dX0_answer_0 : decode cX0_answer 0 = .ok (.aload 4, 2) := dk_25 4 (dk_at dksX0_answer_0 0 rfl rfl)
theorem dX0_answer_2 : decode cX0_answer 2 = .ok (.aload_n 0, 1) := dk_42 (dk_at dksX0_answer_0 2 rfl rfl)
theorem dX0_answer_3 : decode cX0_answer 3 = .ok (.iload_n 1, 1) := dk_27 (dk_at dksX0_answer_0 3 rfl rfl)
theorem dX0_answer_4 : decode cX0_answer 4 = .ok (.iload_n 2, 1) := dk_28 (dk_at dksX0_answer_0 4 rfl rfl)
theorem dX0_answer_5 : decode cX0_answer 5 = .ok (.iload_n 3, 1) := dk_29 (dk_at dksX0_answer_0 5 rfl rfl)
theorem dX0_answer_6 : decode cX0_answer 6 = .ok (.invokevirtual 78, 3) := dk_182 0 78 (dk_at dksX0_answer_0 6 rfl rfl)
theorem dX0_answer_9 : decode cX0_answer 9 = .ok (.i2l, 1) := dk_133 (dk_at dksX0_answer_0 9 rfl rfl)
theorem dX0_answer_10 : decode cX0_answer 10 = .ok (.putfield 13, 3) := dk_181 0 13 (dk_at dksX0_answer_0 10 rfl rfl)
theorem dX0_answer_13 : decode cX0_answer 13 = .ok (.goto 11, 3) := dk_167 0 11 (dk_at dksX0_answer_0 13 rfl rfl)
theorem dX0_answer_16 : decode cX0_answer 16 = .ok (.astore 5, 2) := dk_58 5 (dk_at dksX0_answer_0 16 rfl rfl)
theorem dX0_answer_18 : decode cX0_answer 18 = .ok (.iconst 1, 1) := dk_4 (dk_at dksX0_answer_0 18 rfl rfl)
theorem dX0_answer_19 : decode cX0_answer 19 = .ok (.ireturn, 1) := dk_172 (dk_at dksX0_answer_0 19 rfl rfl)
theorem dX0_answer_20 : decode cX0_answer 20 = .ok (.astore 5, 2) := dk_58 5 (dk_at dksX0_answer_0 20 rfl rfl)
theorem dX0_answer_22 : decode cX0_answer 22 = .ok (.iconst 2, 1) := dk_5 (dk_at dksX0_answer_0 22 rfl rfl)
theorem dX0_answer_23 : decode cX0_answer 23 = .ok (.ireturn, 1) := dk_172 (dk_at dksX0_answer_0 23 rfl rfl)
theorem dX0_answer_24 : decode cX0_answer 24 = .ok (.iconst 0, 1) := dk_3 (dk_at dksX0_answer_1 0 rfl rfl)
theorem dX0_answer_25 : decode cX0_answer 25 = .ok (.ireturn, 1) := dk_172 (dk_at dksX0_answer_1 1 rfl rfl)
abbrev cX0_key : ByteArray := method_20_code
def yX0_key : MethodName := ⟨RX0, "key", "(LNightwatchWall;IILNightwatchWallLaw$Out;)I"⟩
def dkwX0_key_0 : List UInt8 := [45, 42, 27, 28, 182, 0, 81, 133, 181, 0, 13, 167, 0, 7, 58, 4, 4, 172, 3, 172]
abbrev dktX0_key_0 : List UInt8 := dkwX0_key_0 ++ []
theorem dksX0_key_0 : cX0_key.data.toList.drop 0 = dktX0_key_0 := by decide +kernel
theorem dX0_key_0 : decode cX0_key 0 = .ok (.aload_n 3, 1) := dk_45 (dk_at dksX0_key_0 0 rfl rfl)
theorem dX0_key_1 : decode cX0_key 1 = .ok (.aload_n 0, 1) := dk_42 (dk_at dksX0_key_0 1 rfl rfl)
theorem dX0_key_2 : decode cX0_key 2 = .ok (.iload_n 1, 1) := dk_27 (dk_at dksX0_key_0 2 rfl rfl)
theorem dX0_key_3 : decode cX0_key 3 = .ok (.iload_n 2, 1) := dk_28 (dk_at dksX0_key_0 3 rfl rfl)
theorem dX0_key_4 : decode cX0_key 4 = .ok (.invokevirtual 81, 3) := dk_182 0 81 (dk_at dksX0_key_0 4 rfl rfl)
theorem dX0_key_7 : decode cX0_key 7 = .ok (.i2l, 1) := dk_133 (dk_at dksX0_key_0 7 rfl rfl)
theorem dX0_key_8 : decode cX0_key 8 = .ok (.putfield 13, 3) := dk_181 0 13 (dk_at dksX0_key_0 8 rfl rfl)
theorem dX0_key_11 : decode cX0_key 11 = .ok (.goto 7, 3) := dk_167 0 7 (dk_at dksX0_key_0 11 rfl rfl)
theorem dX0_key_14 : decode cX0_key 14 = .ok (.astore 4, 2) := dk_58 4 (dk_at dksX0_key_0 14 rfl rfl)
theorem dX0_key_16 : decode cX0_key 16 = .ok (.iconst 1, 1) := dk_4 (dk_at dksX0_key_0 16 rfl rfl)
theorem dX0_key_17 : decode cX0_key 17 = .ok (.ireturn, 1) := dk_172 (dk_at dksX0_key_0 17 rfl rfl)
theorem dX0_key_18 : decode cX0_key 18 = .ok (.iconst 0, 1) := dk_3 (dk_at dksX0_key_0 18 rfl rfl)
theorem dX0_key_19 : decode cX0_key 19 = .ok (.ireturn, 1) := dk_172 (dk_at dksX0_key_0 19 rfl rfl)
abbrev cX0_ofGuard : ByteArray := method_21_code
def yX0_ofGuard : MethodName := ⟨RX0, "ofGuard", "(LNightwatchWall;IILNightwatchWallLaw$Out;)I"⟩
def dkwX0_ofGuard_0 : List UInt8 := [45, 42, 27, 28, 182, 0, 84, 133, 181, 0, 13, 167, 0, 11, 58, 4, 4, 172, 58, 4, 5, 172, 3, 172]
abbrev dktX0_ofGuard_0 : List UInt8 := dkwX0_ofGuard_0 ++ []
theorem dksX0_ofGuard_0 : cX0_ofGuard.data.toList.drop 0 = dktX0_ofGuard_0 := by decide +kernel
theorem dX0_ofGuard_0 : decode cX0_ofGuard 0 = .ok (.aload_n 3, 1) := dk_45 (dk_at dksX0_ofGuard_0 0 rfl rfl)
theorem dX0_ofGuard_1 : decode cX0_ofGuard 1 = .ok (.aload_n 0, 1) := dk_42 (dk_at dksX0_ofGuard_0 1 rfl rfl)
theorem dX0_ofGuard_2 : decode cX0_ofGuard 2 = .ok (.iload_n 1, 1) := dk_27 (dk_at dksX0_ofGuard_0 2 rfl rfl)
theorem dX0_ofGuard_3 : decode cX0_ofGuard 3 = .ok (.iload_n 2, 1) := dk_28 (dk_at dksX0_ofGuard_0 3 rfl rfl)
theorem dX0_ofGuard_4 : decode cX0_ofGuard 4 = .ok (.invokevirtual 84, 3) := dk_182 0 84 (dk_at dksX0_ofGuard_0 4 rfl rfl)
theorem dX0_ofGuard_7 : decode cX0_ofGuard 7 = .ok (.i2l, 1) := dk_133 (dk_at dksX0_ofGuard_0 7 rfl rfl)
theorem dX0_ofGuard_8 : decode cX0_ofGuard 8 = .ok (.putfield 13, 3) := dk_181 0 13 (dk_at dksX0_ofGuard_0 8 rfl rfl)
theorem dX0_ofGuard_11 : decode cX0_ofGuard 11 = .ok (.goto 11, 3) := dk_167 0 11 (dk_at dksX0_ofGuard_0 11 rfl rfl)
theorem dX0_ofGuard_14 : decode cX0_ofGuard 14 = .ok (.astore 4, 2) := dk_58 4 (dk_at dksX0_ofGuard_0 14 rfl rfl)
theorem dX0_ofGuard_16 : decode cX0_ofGuard 16 = .ok (.iconst 1, 1) := dk_4 (dk_at dksX0_ofGuard_0 16 rfl rfl)
theorem dX0_ofGuard_17 : decode cX0_ofGuard 17 = .ok (.ireturn, 1) := dk_172 (dk_at dksX0_ofGuard_0 17 rfl rfl)
theorem dX0_ofGuard_18 : decode cX0_ofGuard 18 = .ok (.astore 4, 2) := dk_58 4 (dk_at dksX0_ofGuard_0 18 rfl rfl)
theorem dX0_ofGuard_20 : decode cX0_ofGuard 20 = .ok (.iconst 2, 1) := dk_5 (dk_at dksX0_ofGuard_0 20 rfl rfl)
theorem dX0_ofGuard_21 : decode cX0_ofGuard 21 = .ok (.ireturn, 1) := dk_172 (dk_at dksX0_ofGuard_0 21 rfl rfl)
theorem dX0_ofGuard_22 : decode cX0_ofGuard 22 = .ok (.iconst 0, 1) := dk_3 (dk_at dksX0_ofGuard_0 22 rfl rfl)
theorem dX0_ofGuard_23 : decode cX0_ofGuard 23 = .ok (.ireturn, 1) := dk_172 (dk_at dksX0_ofGuard_0 23 rfl rfl)
abbrev cX0_intruder : ByteArray := method_22_code
def yX0_intruder : MethodName := ⟨RX0, "intruder", "(LNightwatchWall;IIILNightwatchWallLaw$Out;)I"⟩
def dkwX0_intruder_1 : List UInt8 := [58, 5, 6, 172, 3, 172]
abbrev dktX0_intruder_1 : List UInt8 := dkwX0_intruder_1 ++ []
def dkwX0_intruder_0 : List UInt8 := [25, 4, 42, 27, 28, 29, 182, 0, 87, 133, 181, 0, 13, 167, 0, 15, 58, 5, 4, 172, 58, 5, 5, 172]
abbrev dktX0_intruder_0 : List UInt8 := dkwX0_intruder_0 ++ dktX0_intruder_1
theorem dksX0_intruder_0 : cX0_intruder.data.toList.drop 0 = dktX0_intruder_0 := by decide +kernel
theorem dksX0_intruder_1 : cX0_intruder.data.toList.drop 24 = dktX0_intruder_1 := dk_seg dksX0_intruder_0 24 rfl rfl
theorem dX0_intruder_0 : decode cX0_intruder 0 = .ok (.aload 4, 2) := dk_25 4 (dk_at dksX0_intruder_0 0 rfl rfl)
theorem dX0_intruder_2 : decode cX0_intruder 2 = .ok (.aload_n 0, 1) := dk_42 (dk_at dksX0_intruder_0 2 rfl rfl)
theorem dX0_intruder_3 : decode cX0_intruder 3 = .ok (.iload_n 1, 1) := dk_27 (dk_at dksX0_intruder_0 3 rfl rfl)
theorem dX0_intruder_4 : decode cX0_intruder 4 = .ok (.iload_n 2, 1) := dk_28 (dk_at dksX0_intruder_0 4 rfl rfl)
theorem dX0_intruder_5 : decode cX0_intruder 5 = .ok (.iload_n 3, 1) := dk_29 (dk_at dksX0_intruder_0 5 rfl rfl)
theorem dX0_intruder_6 : decode cX0_intruder 6 = .ok (.invokevirtual 87, 3) := dk_182 0 87 (dk_at dksX0_intruder_0 6 rfl rfl)
theorem dX0_intruder_9 : decode cX0_intruder 9 = .ok (.i2l, 1) := dk_133 (dk_at dksX0_intruder_0 9 rfl rfl)
theorem dX0_intruder_10 : decode cX0_intruder 10 = .ok (.putfield 13, 3) := dk_181 0 13 (dk_at dksX0_intruder_0 10 rfl rfl)
theorem dX0_intruder_13 : decode cX0_intruder 13 = .ok (.goto 15, 3) := dk_167 0 15 (dk_at dksX0_intruder_0 13 rfl rfl)
theorem dX0_intruder_16 : decode cX0_intruder 16 = .ok (.astore 5, 2) := dk_58 5 (dk_at dksX0_intruder_0 16 rfl rfl)
theorem dX0_intruder_18 : decode cX0_intruder 18 = .ok (.iconst 1, 1) := dk_4 (dk_at dksX0_intruder_0 18 rfl rfl)
theorem dX0_intruder_19 : decode cX0_intruder 19 = .ok (.ireturn, 1) := dk_172 (dk_at dksX0_intruder_0 19 rfl rfl)
theorem dX0_intruder_20 : decode cX0_intruder 20 = .ok (.astore 5, 2) := dk_58 5 (dk_at dksX0_intruder_0 20 rfl rfl)
theorem dX0_intruder_22 : decode cX0_intruder 22 = .ok (.iconst 2, 1) := dk_5 (dk_at dksX0_intruder_0 22 rfl rfl)
theorem dX0_intruder_23 : decode cX0_intruder 23 = .ok (.ireturn, 1) := dk_172 (dk_at dksX0_intruder_0 23 rfl rfl)
theorem dX0_intruder_24 : decode cX0_intruder 24 = .ok (.astore 5, 2) := dk_58 5 (dk_at dksX0_intruder_1 0 rfl rfl)
theorem dX0_intruder_26 : decode cX0_intruder 26 = .ok (.iconst 3, 1) := dk_6 (dk_at dksX0_intruder_1 2 rfl rfl)
theorem dX0_intruder_27 : decode cX0_intruder 27 = .ok (.ireturn, 1) := dk_172 (dk_at dksX0_intruder_1 3 rfl rfl)
theorem dX0_intruder_28 : decode cX0_intruder 28 = .ok (.iconst 0, 1) := dk_3 (dk_at dksX0_intruder_1 4 rfl rfl)
theorem dX0_intruder_29 : decode cX0_intruder 29 = .ok (.ireturn, 1) := dk_172 (dk_at dksX0_intruder_1 5 rfl rfl)
abbrev cX0_wire : ByteArray := method_23_code
def yX0_wire : MethodName := ⟨RX0, "wire", "(LNightwatchWall;IILNightwatchWallLaw$Out;)I"⟩
def dkwX0_wire_1 : List UInt8 := [6, 172, 3, 172]
abbrev dktX0_wire_1 : List UInt8 := dkwX0_wire_1 ++ []
def dkwX0_wire_0 : List UInt8 := [45, 42, 27, 28, 182, 0, 90, 133, 181, 0, 13, 167, 0, 15, 58, 4, 4, 172, 58, 4, 5, 172, 58, 4]
abbrev dktX0_wire_0 : List UInt8 := dkwX0_wire_0 ++ dktX0_wire_1
theorem dksX0_wire_0 : cX0_wire.data.toList.drop 0 = dktX0_wire_0 := by decide +kernel
theorem dksX0_wire_1 : cX0_wire.data.toList.drop 24 = dktX0_wire_1 := dk_seg dksX0_wire_0 24 rfl rfl
theorem dX0_wire_0 : decode cX0_wire 0 = .ok (.aload_n 3, 1) := dk_45 (dk_at dksX0_wire_0 0 rfl rfl)
theorem dX0_wire_1 : decode cX0_wire 1 = .ok (.aload_n 0, 1) := dk_42 (dk_at dksX0_wire_0 1 rfl rfl)
theorem dX0_wire_2 : decode cX0_wire 2 = .ok (.iload_n 1, 1) := dk_27 (dk_at dksX0_wire_0 2 rfl rfl)
theorem dX0_wire_3 : decode cX0_wire 3 = .ok (.iload_n 2, 1) := dk_28 (dk_at dksX0_wire_0 3 rfl rfl)
theorem dX0_wire_4 : decode cX0_wire 4 = .ok (.invokevirtual 90, 3) := dk_182 0 90 (dk_at dksX0_wire_0 4 rfl rfl)
theorem dX0_wire_7 : decode cX0_wire 7 = .ok (.i2l, 1) := dk_133 (dk_at dksX0_wire_0 7 rfl rfl)
theorem dX0_wire_8 : decode cX0_wire 8 = .ok (.putfield 13, 3) := dk_181 0 13 (dk_at dksX0_wire_0 8 rfl rfl)
theorem dX0_wire_11 : decode cX0_wire 11 = .ok (.goto 15, 3) := dk_167 0 15 (dk_at dksX0_wire_0 11 rfl rfl)
theorem dX0_wire_14 : decode cX0_wire 14 = .ok (.astore 4, 2) := dk_58 4 (dk_at dksX0_wire_0 14 rfl rfl)
theorem dX0_wire_16 : decode cX0_wire 16 = .ok (.iconst 1, 1) := dk_4 (dk_at dksX0_wire_0 16 rfl rfl)
theorem dX0_wire_17 : decode cX0_wire 17 = .ok (.ireturn, 1) := dk_172 (dk_at dksX0_wire_0 17 rfl rfl)
theorem dX0_wire_18 : decode cX0_wire 18 = .ok (.astore 4, 2) := dk_58 4 (dk_at dksX0_wire_0 18 rfl rfl)
theorem dX0_wire_20 : decode cX0_wire 20 = .ok (.iconst 2, 1) := dk_5 (dk_at dksX0_wire_0 20 rfl rfl)
theorem dX0_wire_21 : decode cX0_wire 21 = .ok (.ireturn, 1) := dk_172 (dk_at dksX0_wire_0 21 rfl rfl)
theorem dX0_wire_22 : decode cX0_wire 22 = .ok (.astore 4, 2) := dk_58 4 (dk_at dksX0_wire_0 22 rfl rfl)
theorem dX0_wire_24 : decode cX0_wire 24 = .ok (.iconst 3, 1) := dk_6 (dk_at dksX0_wire_1 0 rfl rfl)
theorem dX0_wire_25 : decode cX0_wire 25 = .ok (.ireturn, 1) := dk_172 (dk_at dksX0_wire_1 1 rfl rfl)
theorem dX0_wire_26 : decode cX0_wire 26 = .ok (.iconst 0, 1) := dk_3 (dk_at dksX0_wire_1 2 rfl rfl)
theorem dX0_wire_27 : decode cX0_wire 27 = .ok (.ireturn, 1) := dk_172 (dk_at dksX0_wire_1 3 rfl rfl)
abbrev cX0_where : ByteArray := method_24_code
def yX0_where : MethodName := ⟨RX0, "where", "(LNightwatchWall;IILNightwatchWallLaw$Out;)I"⟩
def dkwX0_where_0 : List UInt8 := [45, 42, 27, 28, 182, 0, 93, 133, 181, 0, 13, 167, 0, 11, 58, 4, 4, 172, 58, 4, 5, 172, 3, 172]
abbrev dktX0_where_0 : List UInt8 := dkwX0_where_0 ++ []
theorem dksX0_where_0 : cX0_where.data.toList.drop 0 = dktX0_where_0 := by decide +kernel
theorem dX0_where_0 : decode cX0_where 0 = .ok (.aload_n 3, 1) := dk_45 (dk_at dksX0_where_0 0 rfl rfl)
theorem dX0_where_1 : decode cX0_where 1 = .ok (.aload_n 0, 1) := dk_42 (dk_at dksX0_where_0 1 rfl rfl)
theorem dX0_where_2 : decode cX0_where 2 = .ok (.iload_n 1, 1) := dk_27 (dk_at dksX0_where_0 2 rfl rfl)
theorem dX0_where_3 : decode cX0_where 3 = .ok (.iload_n 2, 1) := dk_28 (dk_at dksX0_where_0 3 rfl rfl)
theorem dX0_where_4 : decode cX0_where 4 = .ok (.invokevirtual 93, 3) := dk_182 0 93 (dk_at dksX0_where_0 4 rfl rfl)
theorem dX0_where_7 : decode cX0_where 7 = .ok (.i2l, 1) := dk_133 (dk_at dksX0_where_0 7 rfl rfl)
theorem dX0_where_8 : decode cX0_where 8 = .ok (.putfield 13, 3) := dk_181 0 13 (dk_at dksX0_where_0 8 rfl rfl)
theorem dX0_where_11 : decode cX0_where 11 = .ok (.goto 11, 3) := dk_167 0 11 (dk_at dksX0_where_0 11 rfl rfl)
theorem dX0_where_14 : decode cX0_where 14 = .ok (.astore 4, 2) := dk_58 4 (dk_at dksX0_where_0 14 rfl rfl)
theorem dX0_where_16 : decode cX0_where 16 = .ok (.iconst 1, 1) := dk_4 (dk_at dksX0_where_0 16 rfl rfl)
theorem dX0_where_17 : decode cX0_where 17 = .ok (.ireturn, 1) := dk_172 (dk_at dksX0_where_0 17 rfl rfl)
theorem dX0_where_18 : decode cX0_where 18 = .ok (.astore 4, 2) := dk_58 4 (dk_at dksX0_where_0 18 rfl rfl)
theorem dX0_where_20 : decode cX0_where 20 = .ok (.iconst 2, 1) := dk_5 (dk_at dksX0_where_0 20 rfl rfl)
theorem dX0_where_21 : decode cX0_where 21 = .ok (.ireturn, 1) := dk_172 (dk_at dksX0_where_0 21 rfl rfl)
theorem dX0_where_22 : decode cX0_where 22 = .ok (.iconst 0, 1) := dk_3 (dk_at dksX0_where_0 22 rfl rfl)
theorem dX0_where_23 : decode cX0_where 23 = .ok (.ireturn, 1) := dk_172 (dk_at dksX0_where_0 23 rfl rfl)
abbrev cX0_ofIntruder : ByteArray := method_25_code
def yX0_ofIntruder : MethodName := ⟨RX0, "ofIntruder", "(LNightwatchWall;IILNightwatchWallLaw$Out;)I"⟩
def dkwX0_ofIntruder_0 : List UInt8 := [45, 42, 27, 28, 182, 0, 96, 133, 181, 0, 13, 167, 0, 11, 58, 4, 4, 172, 58, 4, 5, 172, 3, 172]
abbrev dktX0_ofIntruder_0 : List UInt8 := dkwX0_ofIntruder_0 ++ []
theorem dksX0_ofIntruder_0 : cX0_ofIntruder.data.toList.drop 0 = dktX0_ofIntruder_0 := by decide +kernel
theorem dX0_ofIntruder_0 : decode cX0_ofIntruder 0 = .ok (.aload_n 3, 1) := dk_45 (dk_at dksX0_ofIntruder_0 0 rfl rfl)
theorem dX0_ofIntruder_1 : decode cX0_ofIntruder 1 = .ok (.aload_n 0, 1) := dk_42 (dk_at dksX0_ofIntruder_0 1 rfl rfl)
theorem dX0_ofIntruder_2 : decode cX0_ofIntruder 2 = .ok (.iload_n 1, 1) := dk_27 (dk_at dksX0_ofIntruder_0 2 rfl rfl)
theorem dX0_ofIntruder_3 : decode cX0_ofIntruder 3 = .ok (.iload_n 2, 1) := dk_28 (dk_at dksX0_ofIntruder_0 3 rfl rfl)
theorem dX0_ofIntruder_4 : decode cX0_ofIntruder 4 = .ok (.invokevirtual 96, 3) := dk_182 0 96 (dk_at dksX0_ofIntruder_0 4 rfl rfl)
theorem dX0_ofIntruder_7 : decode cX0_ofIntruder 7 = .ok (.i2l, 1) := dk_133 (dk_at dksX0_ofIntruder_0 7 rfl rfl)
theorem dX0_ofIntruder_8 : decode cX0_ofIntruder 8 = .ok (.putfield 13, 3) := dk_181 0 13 (dk_at dksX0_ofIntruder_0 8 rfl rfl)
theorem dX0_ofIntruder_11 : decode cX0_ofIntruder 11 = .ok (.goto 11, 3) := dk_167 0 11 (dk_at dksX0_ofIntruder_0 11 rfl rfl)
theorem dX0_ofIntruder_14 : decode cX0_ofIntruder 14 = .ok (.astore 4, 2) := dk_58 4 (dk_at dksX0_ofIntruder_0 14 rfl rfl)
theorem dX0_ofIntruder_16 : decode cX0_ofIntruder 16 = .ok (.iconst 1, 1) := dk_4 (dk_at dksX0_ofIntruder_0 16 rfl rfl)
theorem dX0_ofIntruder_17 : decode cX0_ofIntruder 17 = .ok (.ireturn, 1) := dk_172 (dk_at dksX0_ofIntruder_0 17 rfl rfl)
theorem dX0_ofIntruder_18 : decode cX0_ofIntruder 18 = .ok (.astore 4, 2) := dk_58 4 (dk_at dksX0_ofIntruder_0 18 rfl rfl)
theorem dX0_ofIntruder_20 : decode cX0_ofIntruder 20 = .ok (.iconst 2, 1) := dk_5 (dk_at dksX0_ofIntruder_0 20 rfl rfl)
theorem dX0_ofIntruder_21 : decode cX0_ofIntruder 21 = .ok (.ireturn, 1) := dk_172 (dk_at dksX0_ofIntruder_0 21 rfl rfl)
theorem dX0_ofIntruder_22 : decode cX0_ofIntruder 22 = .ok (.iconst 0, 1) := dk_3 (dk_at dksX0_ofIntruder_0 22 rfl rfl)
theorem dX0_ofIntruder_23 : decode cX0_ofIntruder 23 = .ok (.ireturn, 1) := dk_172 (dk_at dksX0_ofIntruder_0 23 rfl rfl)
abbrev cX0_force : ByteArray := method_26_code
def yX0_force : MethodName := ⟨RX0, "force", "(LNightwatchWall;IIILNightwatchWallLaw$Out;)I"⟩
def dkwX0_force_1 : List UInt8 := [58, 5, 6, 172, 3, 172]
abbrev dktX0_force_1 : List UInt8 := dkwX0_force_1 ++ []
def dkwX0_force_0 : List UInt8 := [25, 4, 42, 27, 28, 29, 182, 0, 99, 133, 181, 0, 13, 167, 0, 15, 58, 5, 4, 172, 58, 5, 5, 172]
abbrev dktX0_force_0 : List UInt8 := dkwX0_force_0 ++ dktX0_force_1
theorem dksX0_force_0 : cX0_force.data.toList.drop 0 = dktX0_force_0 := by decide +kernel
theorem dksX0_force_1 : cX0_force.data.toList.drop 24 = dktX0_force_1 := dk_seg dksX0_force_0 24 rfl rfl
theorem dX0_force_0 : decode cX0_force 0 = .ok (.aload 4, 2) := dk_25 4 (dk_at dksX0_force_0 0 rfl rfl)
theorem dX0_force_2 : decode cX0_force 2 = .ok (.aload_n 0, 1) := dk_42 (dk_at dksX0_force_0 2 rfl rfl)
theorem dX0_force_3 : decode cX0_force 3 = .ok (.iload_n 1, 1) := dk_27 (dk_at dksX0_force_0 3 rfl rfl)
theorem dX0_force_4 : decode cX0_force 4 = .ok (.iload_n 2, 1) := dk_28 (dk_at dksX0_force_0 4 rfl rfl)
theorem dX0_force_5 : decode cX0_force 5 = .ok (.iload_n 3, 1) := dk_29 (dk_at dksX0_force_0 5 rfl rfl)
theorem dX0_force_6 : decode cX0_force 6 = .ok (.invokevirtual 99, 3) := dk_182 0 99 (dk_at dksX0_force_0 6 rfl rfl)
theorem dX0_force_9 : decode cX0_force 9 = .ok (.i2l, 1) := dk_133 (dk_at dksX0_force_0 9 rfl rfl)
theorem dX0_force_10 : decode cX0_force 10 = .ok (.putfield 13, 3) := dk_181 0 13 (dk_at dksX0_force_0 10 rfl rfl)
theorem dX0_force_13 : decode cX0_force 13 = .ok (.goto 15, 3) := dk_167 0 15 (dk_at dksX0_force_0 13 rfl rfl)
theorem dX0_force_16 : decode cX0_force 16 = .ok (.astore 5, 2) := dk_58 5 (dk_at dksX0_force_0 16 rfl rfl)
theorem dX0_force_18 : decode cX0_force 18 = .ok (.iconst 1, 1) := dk_4 (dk_at dksX0_force_0 18 rfl rfl)
theorem dX0_force_19 : decode cX0_force 19 = .ok (.ireturn, 1) := dk_172 (dk_at dksX0_force_0 19 rfl rfl)
theorem dX0_force_20 : decode cX0_force 20 = .ok (.astore 5, 2) := dk_58 5 (dk_at dksX0_force_0 20 rfl rfl)
theorem dX0_force_22 : decode cX0_force 22 = .ok (.iconst 2, 1) := dk_5 (dk_at dksX0_force_0 22 rfl rfl)
theorem dX0_force_23 : decode cX0_force 23 = .ok (.ireturn, 1) := dk_172 (dk_at dksX0_force_0 23 rfl rfl)
theorem dX0_force_24 : decode cX0_force 24 = .ok (.astore 5, 2) := dk_58 5 (dk_at dksX0_force_1 0 rfl rfl)
theorem dX0_force_26 : decode cX0_force 26 = .ok (.iconst 3, 1) := dk_6 (dk_at dksX0_force_1 2 rfl rfl)
theorem dX0_force_27 : decode cX0_force 27 = .ok (.ireturn, 1) := dk_172 (dk_at dksX0_force_1 3 rfl rfl)
theorem dX0_force_28 : decode cX0_force 28 = .ok (.iconst 0, 1) := dk_3 (dk_at dksX0_force_1 4 rfl rfl)
theorem dX0_force_29 : decode cX0_force 29 = .ok (.ireturn, 1) := dk_172 (dk_at dksX0_force_1 5 rfl rfl)
abbrev cX0_ofWire : ByteArray := method_27_code
def yX0_ofWire : MethodName := ⟨RX0, "ofWire", "(LNightwatchWall;IILNightwatchWallLaw$Out;)I"⟩
def dkwX0_ofWire_0 : List UInt8 := [45, 42, 27, 28, 182, 0, 102, 133, 181, 0, 13, 167, 0, 11, 58, 4, 4, 172, 58, 4, 5, 172, 3, 172]
abbrev dktX0_ofWire_0 : List UInt8 := dkwX0_ofWire_0 ++ []
theorem dksX0_ofWire_0 : cX0_ofWire.data.toList.drop 0 = dktX0_ofWire_0 := by decide +kernel
theorem dX0_ofWire_0 : decode cX0_ofWire 0 = .ok (.aload_n 3, 1) := dk_45 (dk_at dksX0_ofWire_0 0 rfl rfl)
theorem dX0_ofWire_1 : decode cX0_ofWire 1 = .ok (.aload_n 0, 1) := dk_42 (dk_at dksX0_ofWire_0 1 rfl rfl)
theorem dX0_ofWire_2 : decode cX0_ofWire 2 = .ok (.iload_n 1, 1) := dk_27 (dk_at dksX0_ofWire_0 2 rfl rfl)
theorem dX0_ofWire_3 : decode cX0_ofWire 3 = .ok (.iload_n 2, 1) := dk_28 (dk_at dksX0_ofWire_0 3 rfl rfl)
theorem dX0_ofWire_4 : decode cX0_ofWire 4 = .ok (.invokevirtual 102, 3) := dk_182 0 102 (dk_at dksX0_ofWire_0 4 rfl rfl)
theorem dX0_ofWire_7 : decode cX0_ofWire 7 = .ok (.i2l, 1) := dk_133 (dk_at dksX0_ofWire_0 7 rfl rfl)
theorem dX0_ofWire_8 : decode cX0_ofWire 8 = .ok (.putfield 13, 3) := dk_181 0 13 (dk_at dksX0_ofWire_0 8 rfl rfl)
theorem dX0_ofWire_11 : decode cX0_ofWire 11 = .ok (.goto 11, 3) := dk_167 0 11 (dk_at dksX0_ofWire_0 11 rfl rfl)
theorem dX0_ofWire_14 : decode cX0_ofWire 14 = .ok (.astore 4, 2) := dk_58 4 (dk_at dksX0_ofWire_0 14 rfl rfl)
theorem dX0_ofWire_16 : decode cX0_ofWire 16 = .ok (.iconst 1, 1) := dk_4 (dk_at dksX0_ofWire_0 16 rfl rfl)
theorem dX0_ofWire_17 : decode cX0_ofWire 17 = .ok (.ireturn, 1) := dk_172 (dk_at dksX0_ofWire_0 17 rfl rfl)
theorem dX0_ofWire_18 : decode cX0_ofWire 18 = .ok (.astore 4, 2) := dk_58 4 (dk_at dksX0_ofWire_0 18 rfl rfl)
theorem dX0_ofWire_20 : decode cX0_ofWire 20 = .ok (.iconst 2, 1) := dk_5 (dk_at dksX0_ofWire_0 20 rfl rfl)
theorem dX0_ofWire_21 : decode cX0_ofWire 21 = .ok (.ireturn, 1) := dk_172 (dk_at dksX0_ofWire_0 21 rfl rfl)
theorem dX0_ofWire_22 : decode cX0_ofWire 22 = .ok (.iconst 0, 1) := dk_3 (dk_at dksX0_ofWire_0 22 rfl rfl)
theorem dX0_ofWire_23 : decode cX0_ofWire 23 = .ok (.ireturn, 1) := dk_172 (dk_at dksX0_ofWire_0 23 rfl rfl)
abbrev cX0_sneak : ByteArray := method_28_code
def yX0_sneak : MethodName := ⟨RX0, "sneak", "(LNightwatchWall;IIIILNightwatchWallLaw$Out;)I"⟩
def dkwX0_sneak_1 : List UInt8 := [5, 172, 3, 172]
abbrev dktX0_sneak_1 : List UInt8 := dkwX0_sneak_1 ++ []
def dkwX0_sneak_0 : List UInt8 := [25, 5, 42, 27, 28, 29, 21, 4, 182, 0, 105, 133, 181, 0, 13, 167, 0, 11, 58, 6, 4, 172, 58, 6]
abbrev dktX0_sneak_0 : List UInt8 := dkwX0_sneak_0 ++ dktX0_sneak_1
theorem dksX0_sneak_0 : cX0_sneak.data.toList.drop 0 = dktX0_sneak_0 := by decide +kernel
theorem dksX0_sneak_1 : cX0_sneak.data.toList.drop 24 = dktX0_sneak_1 := dk_seg dksX0_sneak_0 24 rfl rfl
theorem dX0_sneak_0 : decode cX0_sneak 0 = .ok (.aload 5, 2) := dk_25 5 (dk_at dksX0_sneak_0 0 rfl rfl)
theorem dX0_sneak_2 : decode cX0_sneak 2 = .ok (.aload_n 0, 1) := dk_42 (dk_at dksX0_sneak_0 2 rfl rfl)
theorem dX0_sneak_3 : decode cX0_sneak 3 = .ok (.iload_n 1, 1) := dk_27 (dk_at dksX0_sneak_0 3 rfl rfl)
theorem dX0_sneak_4 : decode cX0_sneak 4 = .ok (.iload_n 2, 1) := dk_28 (dk_at dksX0_sneak_0 4 rfl rfl)
theorem dX0_sneak_5 : decode cX0_sneak 5 = .ok (.iload_n 3, 1) := dk_29 (dk_at dksX0_sneak_0 5 rfl rfl)
theorem dX0_sneak_6 : decode cX0_sneak 6 = .ok (.iload 4, 2) := dk_21 4 (dk_at dksX0_sneak_0 6 rfl rfl)
theorem dX0_sneak_8 : decode cX0_sneak 8 = .ok (.invokevirtual 105, 3) := dk_182 0 105 (dk_at dksX0_sneak_0 8 rfl rfl)
theorem dX0_sneak_11 : decode cX0_sneak 11 = .ok (.i2l, 1) := dk_133 (dk_at dksX0_sneak_0 11 rfl rfl)
theorem dX0_sneak_12 : decode cX0_sneak 12 = .ok (.putfield 13, 3) := dk_181 0 13 (dk_at dksX0_sneak_0 12 rfl rfl)
theorem dX0_sneak_15 : decode cX0_sneak 15 = .ok (.goto 11, 3) := dk_167 0 11 (dk_at dksX0_sneak_0 15 rfl rfl)
theorem dX0_sneak_18 : decode cX0_sneak 18 = .ok (.astore 6, 2) := dk_58 6 (dk_at dksX0_sneak_0 18 rfl rfl)
theorem dX0_sneak_20 : decode cX0_sneak 20 = .ok (.iconst 1, 1) := dk_4 (dk_at dksX0_sneak_0 20 rfl rfl)
theorem dX0_sneak_21 : decode cX0_sneak 21 = .ok (.ireturn, 1) := dk_172 (dk_at dksX0_sneak_0 21 rfl rfl)
theorem dX0_sneak_22 : decode cX0_sneak 22 = .ok (.astore 6, 2) := dk_58 6 (dk_at dksX0_sneak_0 22 rfl rfl)
theorem dX0_sneak_24 : decode cX0_sneak 24 = .ok (.iconst 2, 1) := dk_5 (dk_at dksX0_sneak_1 0 rfl rfl)
theorem dX0_sneak_25 : decode cX0_sneak 25 = .ok (.ireturn, 1) := dk_172 (dk_at dksX0_sneak_1 1 rfl rfl)
theorem dX0_sneak_26 : decode cX0_sneak 26 = .ok (.iconst 0, 1) := dk_3 (dk_at dksX0_sneak_1 2 rfl rfl)
theorem dX0_sneak_27 : decode cX0_sneak 27 = .ok (.ireturn, 1) := dk_172 (dk_at dksX0_sneak_1 3 rfl rfl)
abbrev cX0_reach : ByteArray := method_29_code
def yX0_reach : MethodName := ⟨RX0, "reach", "(LNightwatchWall;IIILNightwatchWallLaw$Out;)I"⟩
def dkwX0_reach_1 : List UInt8 := [3, 172]
abbrev dktX0_reach_1 : List UInt8 := dkwX0_reach_1 ++ []
def dkwX0_reach_0 : List UInt8 := [25, 4, 42, 27, 28, 29, 182, 0, 108, 133, 181, 0, 13, 167, 0, 11, 58, 5, 4, 172, 58, 5, 5, 172]
abbrev dktX0_reach_0 : List UInt8 := dkwX0_reach_0 ++ dktX0_reach_1
theorem dksX0_reach_0 : cX0_reach.data.toList.drop 0 = dktX0_reach_0 := by decide +kernel
theorem dksX0_reach_1 : cX0_reach.data.toList.drop 24 = dktX0_reach_1 := dk_seg dksX0_reach_0 24 rfl rfl
theorem dX0_reach_0 : decode cX0_reach 0 = .ok (.aload 4, 2) := dk_25 4 (dk_at dksX0_reach_0 0 rfl rfl)
theorem dX0_reach_2 : decode cX0_reach 2 = .ok (.aload_n 0, 1) := dk_42 (dk_at dksX0_reach_0 2 rfl rfl)
theorem dX0_reach_3 : decode cX0_reach 3 = .ok (.iload_n 1, 1) := dk_27 (dk_at dksX0_reach_0 3 rfl rfl)
theorem dX0_reach_4 : decode cX0_reach 4 = .ok (.iload_n 2, 1) := dk_28 (dk_at dksX0_reach_0 4 rfl rfl)
theorem dX0_reach_5 : decode cX0_reach 5 = .ok (.iload_n 3, 1) := dk_29 (dk_at dksX0_reach_0 5 rfl rfl)
theorem dX0_reach_6 : decode cX0_reach 6 = .ok (.invokevirtual 108, 3) := dk_182 0 108 (dk_at dksX0_reach_0 6 rfl rfl)
theorem dX0_reach_9 : decode cX0_reach 9 = .ok (.i2l, 1) := dk_133 (dk_at dksX0_reach_0 9 rfl rfl)
theorem dX0_reach_10 : decode cX0_reach 10 = .ok (.putfield 13, 3) := dk_181 0 13 (dk_at dksX0_reach_0 10 rfl rfl)
theorem dX0_reach_13 : decode cX0_reach 13 = .ok (.goto 11, 3) := dk_167 0 11 (dk_at dksX0_reach_0 13 rfl rfl)
theorem dX0_reach_16 : decode cX0_reach 16 = .ok (.astore 5, 2) := dk_58 5 (dk_at dksX0_reach_0 16 rfl rfl)
theorem dX0_reach_18 : decode cX0_reach 18 = .ok (.iconst 1, 1) := dk_4 (dk_at dksX0_reach_0 18 rfl rfl)
theorem dX0_reach_19 : decode cX0_reach 19 = .ok (.ireturn, 1) := dk_172 (dk_at dksX0_reach_0 19 rfl rfl)
theorem dX0_reach_20 : decode cX0_reach 20 = .ok (.astore 5, 2) := dk_58 5 (dk_at dksX0_reach_0 20 rfl rfl)
theorem dX0_reach_22 : decode cX0_reach 22 = .ok (.iconst 2, 1) := dk_5 (dk_at dksX0_reach_0 22 rfl rfl)
theorem dX0_reach_23 : decode cX0_reach 23 = .ok (.ireturn, 1) := dk_172 (dk_at dksX0_reach_0 23 rfl rfl)
theorem dX0_reach_24 : decode cX0_reach 24 = .ok (.iconst 0, 1) := dk_3 (dk_at dksX0_reach_1 0 rfl rfl)
theorem dX0_reach_25 : decode cX0_reach 25 = .ok (.ireturn, 1) := dk_172 (dk_at dksX0_reach_1 1 rfl rfl)
abbrev cX0_nextLamp : ByteArray := method_30_code
def yX0_nextLamp : MethodName := ⟨RX0, "nextLamp", "(LNightwatchWall;IIZLNightwatchWallLaw$Out;)I"⟩
def dkwX0_nextLamp_0 : List UInt8 := [25, 4, 42, 27, 28, 29, 182, 0, 111, 133, 181, 0, 13, 167, 0, 7, 58, 5, 4, 172, 3, 172]
abbrev dktX0_nextLamp_0 : List UInt8 := dkwX0_nextLamp_0 ++ []
theorem dksX0_nextLamp_0 : cX0_nextLamp.data.toList.drop 0 = dktX0_nextLamp_0 := by decide +kernel
theorem dX0_nextLamp_0 : decode cX0_nextLamp 0 = .ok (.aload 4, 2) := dk_25 4 (dk_at dksX0_nextLamp_0 0 rfl rfl)
theorem dX0_nextLamp_2 : decode cX0_nextLamp 2 = .ok (.aload_n 0, 1) := dk_42 (dk_at dksX0_nextLamp_0 2 rfl rfl)
theorem dX0_nextLamp_3 : decode cX0_nextLamp 3 = .ok (.iload_n 1, 1) := dk_27 (dk_at dksX0_nextLamp_0 3 rfl rfl)
theorem dX0_nextLamp_4 : decode cX0_nextLamp 4 = .ok (.iload_n 2, 1) := dk_28 (dk_at dksX0_nextLamp_0 4 rfl rfl)
theorem dX0_nextLamp_5 : decode cX0_nextLamp 5 = .ok (.iload_n 3, 1) := dk_29 (dk_at dksX0_nextLamp_0 5 rfl rfl)
theorem dX0_nextLamp_6 : decode cX0_nextLamp 6 = .ok (.invokevirtual 111, 3) := dk_182 0 111 (dk_at dksX0_nextLamp_0 6 rfl rfl)
theorem dX0_nextLamp_9 : decode cX0_nextLamp 9 = .ok (.i2l, 1) := dk_133 (dk_at dksX0_nextLamp_0 9 rfl rfl)
theorem dX0_nextLamp_10 : decode cX0_nextLamp 10 = .ok (.putfield 13, 3) := dk_181 0 13 (dk_at dksX0_nextLamp_0 10 rfl rfl)
theorem dX0_nextLamp_13 : decode cX0_nextLamp 13 = .ok (.goto 7, 3) := dk_167 0 7 (dk_at dksX0_nextLamp_0 13 rfl rfl)
theorem dX0_nextLamp_16 : decode cX0_nextLamp 16 = .ok (.astore 5, 2) := dk_58 5 (dk_at dksX0_nextLamp_0 16 rfl rfl)
theorem dX0_nextLamp_18 : decode cX0_nextLamp 18 = .ok (.iconst 1, 1) := dk_4 (dk_at dksX0_nextLamp_0 18 rfl rfl)
theorem dX0_nextLamp_19 : decode cX0_nextLamp 19 = .ok (.ireturn, 1) := dk_172 (dk_at dksX0_nextLamp_0 19 rfl rfl)
theorem dX0_nextLamp_20 : decode cX0_nextLamp 20 = .ok (.iconst 0, 1) := dk_3 (dk_at dksX0_nextLamp_0 20 rfl rfl)
theorem dX0_nextLamp_21 : decode cX0_nextLamp 21 = .ok (.ireturn, 1) := dk_172 (dk_at dksX0_nextLamp_0 21 rfl rfl)
abbrev cX0_many : ByteArray := method_31_code
def yX0_many : MethodName := ⟨RX0, "many", "(LNightwatchWall;ILNightwatchWallLaw$Out;)I"⟩
def dkwX0_many_0 : List UInt8 := [44, 42, 27, 182, 0, 115, 133, 181, 0, 13, 167, 0, 6, 78, 4, 172, 3, 172]
abbrev dktX0_many_0 : List UInt8 := dkwX0_many_0 ++ []
theorem dksX0_many_0 : cX0_many.data.toList.drop 0 = dktX0_many_0 := by decide +kernel
theorem dX0_many_0 : decode cX0_many 0 = .ok (.aload_n 2, 1) := dk_44 (dk_at dksX0_many_0 0 rfl rfl)
theorem dX0_many_1 : decode cX0_many 1 = .ok (.aload_n 0, 1) := dk_42 (dk_at dksX0_many_0 1 rfl rfl)
theorem dX0_many_2 : decode cX0_many 2 = .ok (.iload_n 1, 1) := dk_27 (dk_at dksX0_many_0 2 rfl rfl)
theorem dX0_many_3 : decode cX0_many 3 = .ok (.invokevirtual 115, 3) := dk_182 0 115 (dk_at dksX0_many_0 3 rfl rfl)
theorem dX0_many_6 : decode cX0_many 6 = .ok (.i2l, 1) := dk_133 (dk_at dksX0_many_0 6 rfl rfl)
theorem dX0_many_7 : decode cX0_many 7 = .ok (.putfield 13, 3) := dk_181 0 13 (dk_at dksX0_many_0 7 rfl rfl)
theorem dX0_many_10 : decode cX0_many 10 = .ok (.goto 6, 3) := dk_167 0 6 (dk_at dksX0_many_0 10 rfl rfl)
theorem dX0_many_13 : decode cX0_many 13 = .ok (.astore_n 3, 1) := dk_78 (dk_at dksX0_many_0 13 rfl rfl)
theorem dX0_many_14 : decode cX0_many 14 = .ok (.iconst 1, 1) := dk_4 (dk_at dksX0_many_0 14 rfl rfl)
theorem dX0_many_15 : decode cX0_many 15 = .ok (.ireturn, 1) := dk_172 (dk_at dksX0_many_0 15 rfl rfl)
theorem dX0_many_16 : decode cX0_many 16 = .ok (.iconst 0, 1) := dk_3 (dk_at dksX0_many_0 16 rfl rfl)
theorem dX0_many_17 : decode cX0_many 17 = .ok (.ireturn, 1) := dk_172 (dk_at dksX0_many_0 17 rfl rfl)
abbrev cX0_drawn : ByteArray := method_32_code
def yX0_drawn : MethodName := ⟨RX0, "drawn", "(LNightwatchWall;IILNightwatchWallLaw$Out;)I"⟩
def dkwX0_drawn_0 : List UInt8 := [45, 42, 27, 28, 182, 0, 118, 181, 0, 122, 167, 0, 11, 58, 4, 4, 172, 58, 4, 5, 172, 3, 172]
abbrev dktX0_drawn_0 : List UInt8 := dkwX0_drawn_0 ++ []
theorem dksX0_drawn_0 : cX0_drawn.data.toList.drop 0 = dktX0_drawn_0 := by decide +kernel
theorem dX0_drawn_0 : decode cX0_drawn 0 = .ok (.aload_n 3, 1) := dk_45 (dk_at dksX0_drawn_0 0 rfl rfl)
theorem dX0_drawn_1 : decode cX0_drawn 1 = .ok (.aload_n 0, 1) := dk_42 (dk_at dksX0_drawn_0 1 rfl rfl)
theorem dX0_drawn_2 : decode cX0_drawn 2 = .ok (.iload_n 1, 1) := dk_27 (dk_at dksX0_drawn_0 2 rfl rfl)
theorem dX0_drawn_3 : decode cX0_drawn 3 = .ok (.iload_n 2, 1) := dk_28 (dk_at dksX0_drawn_0 3 rfl rfl)
theorem dX0_drawn_4 : decode cX0_drawn 4 = .ok (.invokevirtual 118, 3) := dk_182 0 118 (dk_at dksX0_drawn_0 4 rfl rfl)
theorem dX0_drawn_7 : decode cX0_drawn 7 = .ok (.putfield 122, 3) := dk_181 0 122 (dk_at dksX0_drawn_0 7 rfl rfl)
theorem dX0_drawn_10 : decode cX0_drawn 10 = .ok (.goto 11, 3) := dk_167 0 11 (dk_at dksX0_drawn_0 10 rfl rfl)
theorem dX0_drawn_13 : decode cX0_drawn 13 = .ok (.astore 4, 2) := dk_58 4 (dk_at dksX0_drawn_0 13 rfl rfl)
theorem dX0_drawn_15 : decode cX0_drawn 15 = .ok (.iconst 1, 1) := dk_4 (dk_at dksX0_drawn_0 15 rfl rfl)
theorem dX0_drawn_16 : decode cX0_drawn 16 = .ok (.ireturn, 1) := dk_172 (dk_at dksX0_drawn_0 16 rfl rfl)
theorem dX0_drawn_17 : decode cX0_drawn 17 = .ok (.astore 4, 2) := dk_58 4 (dk_at dksX0_drawn_0 17 rfl rfl)
theorem dX0_drawn_19 : decode cX0_drawn 19 = .ok (.iconst 2, 1) := dk_5 (dk_at dksX0_drawn_0 19 rfl rfl)
theorem dX0_drawn_20 : decode cX0_drawn 20 = .ok (.ireturn, 1) := dk_172 (dk_at dksX0_drawn_0 20 rfl rfl)
theorem dX0_drawn_21 : decode cX0_drawn 21 = .ok (.iconst 0, 1) := dk_3 (dk_at dksX0_drawn_0 21 rfl rfl)
theorem dX0_drawn_22 : decode cX0_drawn 22 = .ok (.ireturn, 1) := dk_172 (dk_at dksX0_drawn_0 22 rfl rfl)
theorem q85 : (Jvm.Cond.initialized "NightwatchWallLaw") ∈ lw_all := lw_g (lw_at lw_m1 0 rfl) rfl
theorem q127 : (Jvm.Cond.classLink "NightwatchWallLaw" (8 : Nat) "NightwatchWall") ∈ lw_all := lw_g (lw_at lw_m1 42 rfl) rfl
theorem q129 : (Jvm.Cond.methodLink "NightwatchWallLaw" (126 : Nat) ({ cls := "NightwatchWall", name := "<init>", desc := "()V" } : Jvm.MethodName)) ∈ lw_all := lw_g (lw_at lw_m1 44 rfl) rfl
theorem q264 : (Jvm.Cond.methodLink "NightwatchWallLaw" (242 : Nat) ({ cls := "NightwatchWall", name := "isSound", desc := "()Z" } : Jvm.MethodName)) ∈ lw_all := lw_g (lw_at lw_m1 179 rfl) rfl
theorem q394 : (Jvm.Cond.methodLink "NightwatchWallLaw" (247 : Nat) ({ cls := "NightwatchWall", name := "knock", desc := "()I" } : Jvm.MethodName)) ∈ lw_all := lw_g (lw_at lw_m2 69 rfl) rfl
theorem q398 : (Jvm.Cond.methodLink "NightwatchWallLaw" (251 : Nat) ({ cls := "NightwatchWall", name := "digest", desc := "()J" } : Jvm.MethodName)) ∈ lw_all := lw_g (lw_at lw_m2 73 rfl) rfl
theorem q634 : (Jvm.Cond.classLink "NightwatchWallLaw" (14 : Nat) "NightwatchWallLaw$Out") ∈ lw_all := lw_g (lw_at lw_m3 69 rfl) rfl
theorem q636 : (Jvm.Cond.methodLinkNest "NightwatchWallLaw" (130 : Nat) ({ cls := "NightwatchWallLaw$Out", name := "<init>", desc := "()V" } : Jvm.MethodName) "NightwatchWallLaw") ∈ lw_tbl := lw_at lw_m3 71 rfl
theorem q640 : (Jvm.Cond.fieldLinkNest "NightwatchWallLaw" (13 : Nat) "NightwatchWallLaw$Out" "n" "J" "NightwatchWallLaw") ∈ lw_tbl := lw_at lw_m3 75 rfl
theorem q641 : (Jvm.Cond.fieldLinkNest "NightwatchWallLaw" (122 : Nat) "NightwatchWallLaw$Out" "s" "Ljava/lang/String;" "NightwatchWallLaw") ∈ lw_tbl := lw_at lw_m3 76 rfl
theorem q647 : (Jvm.Cond.methodLink "NightwatchWallLaw" (131 : Nat) ({ cls := "NightwatchWallLaw", name := "base", desc := "(LNightwatchWall;IIILNightwatchWallLaw$Out;)I" } : Jvm.MethodName)) ∈ lw_all := lw_g (lw_at lw_m3 82 rfl) rfl
theorem q648 : (Jvm.Cond.static ({ cls := "NightwatchWallLaw", name := "base", desc := "(LNightwatchWall;IIILNightwatchWallLaw$Out;)I" } : Jvm.MethodName)) ∈ lw_all := lw_g (lw_at lw_m3 83 rfl) rfl
theorem q649 : (Jvm.Cond.codeWith ({ cls := "NightwatchWallLaw", name := "base", desc := "(LNightwatchWall;IIILNightwatchWallLaw$Out;)I" } : Jvm.MethodName) method_2_code (6 : Nat) (Option.some Jvm.ClassFile.FieldType.int) [((0 : Nat), (13 : Nat), (16 : Nat), (19 : Nat))]) ∈ lw_all := lw_g (lw_at lw_m3 84 rfl) rfl
theorem q650 : (Jvm.Cond.classLink "NightwatchWallLaw" (19 : Nat) "java/lang/IllegalArgumentException") ∈ lw_all := lw_g (lw_at lw_m3 85 rfl) rfl
theorem q651 : (Jvm.Cond.methodLink "NightwatchWallLaw" (7 : Nat) ({ cls := "NightwatchWall", name := "base", desc := "(III)I" } : Jvm.MethodName)) ∈ lw_all := lw_g (lw_at lw_m3 86 rfl) rfl
theorem q769 : (Jvm.Cond.methodLink "NightwatchWallLaw" (141 : Nat) ({ cls := "NightwatchWallLaw", name := "lay", desc := "(LNightwatchWall;IILNightwatchWallLaw$Out;)I" } : Jvm.MethodName)) ∈ lw_all := lw_g (lw_at lw_m3 204 rfl) rfl
theorem q770 : (Jvm.Cond.static ({ cls := "NightwatchWallLaw", name := "lay", desc := "(LNightwatchWall;IILNightwatchWallLaw$Out;)I" } : Jvm.MethodName)) ∈ lw_all := lw_g (lw_at lw_m3 205 rfl) rfl
theorem q771 : (Jvm.Cond.codeWith ({ cls := "NightwatchWallLaw", name := "lay", desc := "(LNightwatchWall;IILNightwatchWallLaw$Out;)I" } : Jvm.MethodName) method_3_code (5 : Nat) (Option.some Jvm.ClassFile.FieldType.int) [((0 : Nat), (11 : Nat), (14 : Nat), (25 : Nat)), ((0 : Nat), (11 : Nat), (18 : Nat), (19 : Nat)), ((0 : Nat), (11 : Nat), (22 : Nat), (27 : Nat))]) ∈ lw_all := lw_g (lw_at lw_m3 206 rfl) rfl
theorem q772 : (Jvm.Cond.classLink "NightwatchWallLaw" (25 : Nat) "java/lang/IndexOutOfBoundsException") ∈ lw_all := lw_g (lw_at lw_m3 207 rfl) rfl
theorem q805 : (Jvm.Cond.classLink "NightwatchWallLaw" (27 : Nat) "java/lang/IllegalStateException") ∈ lw_all := lw_g (lw_at lw_m4 0 rfl) rfl
theorem q806 : (Jvm.Cond.methodLink "NightwatchWallLaw" (21 : Nat) ({ cls := "NightwatchWall", name := "lay", desc := "(II)I" } : Jvm.MethodName)) ∈ lw_all := lw_g (lw_at lw_m4 1 rfl) rfl
theorem q854 : (Jvm.Cond.methodLink "NightwatchWallLaw" (145 : Nat) ({ cls := "NightwatchWallLaw", name := "gates", desc := "(LNightwatchWall;IILNightwatchWallLaw$Out;)I" } : Jvm.MethodName)) ∈ lw_all := lw_g (lw_at lw_m4 49 rfl) rfl
theorem q855 : (Jvm.Cond.static ({ cls := "NightwatchWallLaw", name := "gates", desc := "(LNightwatchWall;IILNightwatchWallLaw$Out;)I" } : Jvm.MethodName)) ∈ lw_all := lw_g (lw_at lw_m4 50 rfl) rfl
theorem q856 : (Jvm.Cond.codeWith ({ cls := "NightwatchWallLaw", name := "gates", desc := "(LNightwatchWall;IILNightwatchWallLaw$Out;)I" } : Jvm.MethodName) method_4_code (5 : Nat) (Option.some Jvm.ClassFile.FieldType.int) [((0 : Nat), (11 : Nat), (14 : Nat), (19 : Nat))]) ∈ lw_all := lw_g (lw_at lw_m4 51 rfl) rfl
theorem q857 : (Jvm.Cond.methodLink "NightwatchWallLaw" (29 : Nat) ({ cls := "NightwatchWall", name := "gates", desc := "(II)I" } : Jvm.MethodName)) ∈ lw_all := lw_g (lw_at lw_m4 52 rfl) rfl
theorem q864 : (Jvm.Cond.methodLink "NightwatchWallLaw" (148 : Nat) ({ cls := "NightwatchWallLaw", name := "lamp", desc := "(LNightwatchWall;IILNightwatchWallLaw$Out;)I" } : Jvm.MethodName)) ∈ lw_all := lw_g (lw_at lw_m4 59 rfl) rfl
theorem q865 : (Jvm.Cond.static ({ cls := "NightwatchWallLaw", name := "lamp", desc := "(LNightwatchWall;IILNightwatchWallLaw$Out;)I" } : Jvm.MethodName)) ∈ lw_all := lw_g (lw_at lw_m4 60 rfl) rfl
theorem q866 : (Jvm.Cond.codeWith ({ cls := "NightwatchWallLaw", name := "lamp", desc := "(LNightwatchWall;IILNightwatchWallLaw$Out;)I" } : Jvm.MethodName) method_5_code (5 : Nat) (Option.some Jvm.ClassFile.FieldType.int) [((0 : Nat), (11 : Nat), (14 : Nat), (25 : Nat)), ((0 : Nat), (11 : Nat), (18 : Nat), (19 : Nat)), ((0 : Nat), (11 : Nat), (22 : Nat), (27 : Nat))]) ∈ lw_all := lw_g (lw_at lw_m4 61 rfl) rfl
theorem q867 : (Jvm.Cond.methodLink "NightwatchWallLaw" (32 : Nat) ({ cls := "NightwatchWall", name := "lamp", desc := "(II)I" } : Jvm.MethodName)) ∈ lw_all := lw_g (lw_at lw_m4 62 rfl) rfl
theorem q958 : (Jvm.Cond.methodLink "NightwatchWallLaw" (151 : Nat) ({ cls := "NightwatchWallLaw", name := "light", desc := "(LNightwatchWall;IZLNightwatchWallLaw$Out;)I" } : Jvm.MethodName)) ∈ lw_all := lw_g (lw_at lw_m4 153 rfl) rfl
theorem q959 : (Jvm.Cond.static ({ cls := "NightwatchWallLaw", name := "light", desc := "(LNightwatchWall;IZLNightwatchWallLaw$Out;)I" } : Jvm.MethodName)) ∈ lw_all := lw_g (lw_at lw_m4 154 rfl) rfl
theorem q960 : (Jvm.Cond.codeWith ({ cls := "NightwatchWallLaw", name := "light", desc := "(LNightwatchWall;IZLNightwatchWallLaw$Out;)I" } : Jvm.MethodName) method_6_code (5 : Nat) (Option.some Jvm.ClassFile.FieldType.int) [((0 : Nat), (11 : Nat), (14 : Nat), (25 : Nat))]) ∈ lw_all := lw_g (lw_at lw_m4 155 rfl) rfl
theorem q961 : (Jvm.Cond.methodLink "NightwatchWallLaw" (35 : Nat) ({ cls := "NightwatchWall", name := "light", desc := "(IZ)I" } : Jvm.MethodName)) ∈ lw_all := lw_g (lw_at lw_m4 156 rfl) rfl
theorem q965 : (Jvm.Cond.methodLink "NightwatchWallLaw" (155 : Nat) ({ cls := "NightwatchWallLaw", name := "fog", desc := "(LNightwatchWall;IILNightwatchWallLaw$Out;)I" } : Jvm.MethodName)) ∈ lw_all := lw_g (lw_at lw_m4 160 rfl) rfl
theorem q966 : (Jvm.Cond.static ({ cls := "NightwatchWallLaw", name := "fog", desc := "(LNightwatchWall;IILNightwatchWallLaw$Out;)I" } : Jvm.MethodName)) ∈ lw_all := lw_g (lw_at lw_m4 161 rfl) rfl
theorem q967 : (Jvm.Cond.codeWith ({ cls := "NightwatchWallLaw", name := "fog", desc := "(LNightwatchWall;IILNightwatchWallLaw$Out;)I" } : Jvm.MethodName) method_7_code (5 : Nat) (Option.some Jvm.ClassFile.FieldType.int) [((0 : Nat), (11 : Nat), (14 : Nat), (19 : Nat)), ((0 : Nat), (11 : Nat), (18 : Nat), (27 : Nat))]) ∈ lw_all := lw_g (lw_at lw_m4 162 rfl) rfl
theorem q968 : (Jvm.Cond.methodLink "NightwatchWallLaw" (39 : Nat) ({ cls := "NightwatchWall", name := "fog", desc := "(II)I" } : Jvm.MethodName)) ∈ lw_all := lw_g (lw_at lw_m4 163 rfl) rfl
theorem q986 : (Jvm.Cond.methodLink "NightwatchWallLaw" (158 : Nat) ({ cls := "NightwatchWallLaw", name := "guard", desc := "(LNightwatchWall;IIIILNightwatchWallLaw$Out;)I" } : Jvm.MethodName)) ∈ lw_all := lw_g (lw_at lw_m4 181 rfl) rfl
theorem q987 : (Jvm.Cond.static ({ cls := "NightwatchWallLaw", name := "guard", desc := "(LNightwatchWall;IIIILNightwatchWallLaw$Out;)I" } : Jvm.MethodName)) ∈ lw_all := lw_g (lw_at lw_m4 182 rfl) rfl
theorem q988 : (Jvm.Cond.codeWith ({ cls := "NightwatchWallLaw", name := "guard", desc := "(LNightwatchWall;IIIILNightwatchWallLaw$Out;)I" } : Jvm.MethodName) method_8_code (7 : Nat) (Option.some Jvm.ClassFile.FieldType.int) [((0 : Nat), (15 : Nat), (18 : Nat), (25 : Nat)), ((0 : Nat), (15 : Nat), (22 : Nat), (19 : Nat)), ((0 : Nat), (15 : Nat), (26 : Nat), (27 : Nat))]) ∈ lw_all := lw_g (lw_at lw_m4 183 rfl) rfl
theorem q989 : (Jvm.Cond.methodLink "NightwatchWallLaw" (42 : Nat) ({ cls := "NightwatchWall", name := "guard", desc := "(IIII)I" } : Jvm.MethodName)) ∈ lw_all := lw_g (lw_at lw_m4 184 rfl) rfl
theorem q1046 : (Jvm.Cond.methodLink "NightwatchWallLaw" (162 : Nat) ({ cls := "NightwatchWallLaw", name := "round", desc := "(LNightwatchWall;IILNightwatchWallLaw$Out;)I" } : Jvm.MethodName)) ∈ lw_all := lw_g (lw_at lw_m5 1 rfl) rfl
theorem q1047 : (Jvm.Cond.static ({ cls := "NightwatchWallLaw", name := "round", desc := "(LNightwatchWall;IILNightwatchWallLaw$Out;)I" } : Jvm.MethodName)) ∈ lw_all := lw_g (lw_at lw_m5 2 rfl) rfl
theorem q1048 : (Jvm.Cond.codeWith ({ cls := "NightwatchWallLaw", name := "round", desc := "(LNightwatchWall;IILNightwatchWallLaw$Out;)I" } : Jvm.MethodName) method_9_code (5 : Nat) (Option.some Jvm.ClassFile.FieldType.int) [((0 : Nat), (11 : Nat), (14 : Nat), (25 : Nat)), ((0 : Nat), (11 : Nat), (18 : Nat), (27 : Nat))]) ∈ lw_all := lw_g (lw_at lw_m5 3 rfl) rfl
theorem q1049 : (Jvm.Cond.methodLink "NightwatchWallLaw" (46 : Nat) ({ cls := "NightwatchWall", name := "round", desc := "(II)I" } : Jvm.MethodName)) ∈ lw_all := lw_g (lw_at lw_m5 4 rfl) rfl
theorem q1058 : (Jvm.Cond.methodLink "NightwatchWallLaw" (165 : Nat) ({ cls := "NightwatchWallLaw", name := "post", desc := "(LNightwatchWall;ILNightwatchWallLaw$Out;)I" } : Jvm.MethodName)) ∈ lw_all := lw_g (lw_at lw_m5 13 rfl) rfl
theorem q1059 : (Jvm.Cond.static ({ cls := "NightwatchWallLaw", name := "post", desc := "(LNightwatchWall;ILNightwatchWallLaw$Out;)I" } : Jvm.MethodName)) ∈ lw_all := lw_g (lw_at lw_m5 14 rfl) rfl
theorem q1060 : (Jvm.Cond.codeWith ({ cls := "NightwatchWallLaw", name := "post", desc := "(LNightwatchWall;ILNightwatchWallLaw$Out;)I" } : Jvm.MethodName) method_10_code (4 : Nat) (Option.some Jvm.ClassFile.FieldType.int) [((0 : Nat), (10 : Nat), (13 : Nat), (25 : Nat)), ((0 : Nat), (10 : Nat), (16 : Nat), (27 : Nat))]) ∈ lw_all := lw_g (lw_at lw_m5 15 rfl) rfl
theorem q1061 : (Jvm.Cond.methodLink "NightwatchWallLaw" (49 : Nat) ({ cls := "NightwatchWall", name := "post", desc := "(I)I" } : Jvm.MethodName)) ∈ lw_all := lw_g (lw_at lw_m5 16 rfl) rfl
theorem q1065 : (Jvm.Cond.methodLink "NightwatchWallLaw" (169 : Nat) ({ cls := "NightwatchWallLaw", name := "place", desc := "(LNightwatchWall;IILNightwatchWallLaw$Out;)I" } : Jvm.MethodName)) ∈ lw_all := lw_g (lw_at lw_m5 20 rfl) rfl
theorem q1066 : (Jvm.Cond.static ({ cls := "NightwatchWallLaw", name := "place", desc := "(LNightwatchWall;IILNightwatchWallLaw$Out;)I" } : Jvm.MethodName)) ∈ lw_all := lw_g (lw_at lw_m5 21 rfl) rfl
theorem q1067 : (Jvm.Cond.codeWith ({ cls := "NightwatchWallLaw", name := "place", desc := "(LNightwatchWall;IILNightwatchWallLaw$Out;)I" } : Jvm.MethodName) method_11_code (5 : Nat) (Option.some Jvm.ClassFile.FieldType.int) [((0 : Nat), (11 : Nat), (14 : Nat), (25 : Nat)), ((0 : Nat), (11 : Nat), (18 : Nat), (19 : Nat))]) ∈ lw_all := lw_g (lw_at lw_m5 22 rfl) rfl
theorem q1068 : (Jvm.Cond.methodLink "NightwatchWallLaw" (53 : Nat) ({ cls := "NightwatchWall", name := "place", desc := "(II)I" } : Jvm.MethodName)) ∈ lw_all := lw_g (lw_at lw_m5 23 rfl) rfl
theorem q1075 : (Jvm.Cond.methodLink "NightwatchWallLaw" (172 : Nat) ({ cls := "NightwatchWallLaw", name := "sees", desc := "(LNightwatchWall;IIILNightwatchWallLaw$Out;)I" } : Jvm.MethodName)) ∈ lw_all := lw_g (lw_at lw_m5 30 rfl) rfl
theorem q1076 : (Jvm.Cond.static ({ cls := "NightwatchWallLaw", name := "sees", desc := "(LNightwatchWall;IIILNightwatchWallLaw$Out;)I" } : Jvm.MethodName)) ∈ lw_all := lw_g (lw_at lw_m5 31 rfl) rfl
theorem q1077 : (Jvm.Cond.codeWith ({ cls := "NightwatchWallLaw", name := "sees", desc := "(LNightwatchWall;IIILNightwatchWallLaw$Out;)I" } : Jvm.MethodName) method_12_code (6 : Nat) (Option.some Jvm.ClassFile.FieldType.int) [((0 : Nat), (20 : Nat), (23 : Nat), (25 : Nat)), ((0 : Nat), (20 : Nat), (27 : Nat), (19 : Nat))]) ∈ lw_all := lw_g (lw_at lw_m5 32 rfl) rfl
theorem q1078 : (Jvm.Cond.methodLink "NightwatchWallLaw" (56 : Nat) ({ cls := "NightwatchWall", name := "sees", desc := "(III)Z" } : Jvm.MethodName)) ∈ lw_all := lw_g (lw_at lw_m5 33 rfl) rfl
theorem q1082 : (Jvm.Cond.methodLink "NightwatchWallLaw" (175 : Nat) ({ cls := "NightwatchWallLaw", name := "ofCell", desc := "(LNightwatchWall;IIILNightwatchWallLaw$Out;)I" } : Jvm.MethodName)) ∈ lw_all := lw_g (lw_at lw_m5 37 rfl) rfl
theorem q1083 : (Jvm.Cond.static ({ cls := "NightwatchWallLaw", name := "ofCell", desc := "(LNightwatchWall;IIILNightwatchWallLaw$Out;)I" } : Jvm.MethodName)) ∈ lw_all := lw_g (lw_at lw_m5 38 rfl) rfl
theorem q1084 : (Jvm.Cond.codeWith ({ cls := "NightwatchWallLaw", name := "ofCell", desc := "(LNightwatchWall;IIILNightwatchWallLaw$Out;)I" } : Jvm.MethodName) method_13_code (6 : Nat) (Option.some Jvm.ClassFile.FieldType.int) [((0 : Nat), (13 : Nat), (16 : Nat), (25 : Nat)), ((0 : Nat), (13 : Nat), (20 : Nat), (19 : Nat))]) ∈ lw_all := lw_g (lw_at lw_m5 39 rfl) rfl
theorem q1085 : (Jvm.Cond.methodLink "NightwatchWallLaw" (60 : Nat) ({ cls := "NightwatchWall", name := "ofCell", desc := "(III)I" } : Jvm.MethodName)) ∈ lw_all := lw_g (lw_at lw_m5 40 rfl) rfl
theorem q1089 : (Jvm.Cond.methodLink "NightwatchWallLaw" (178 : Nat) ({ cls := "NightwatchWallLaw", name := "ofMinute", desc := "(LNightwatchWall;IILNightwatchWallLaw$Out;)I" } : Jvm.MethodName)) ∈ lw_all := lw_g (lw_at lw_m5 44 rfl) rfl
theorem q1090 : (Jvm.Cond.static ({ cls := "NightwatchWallLaw", name := "ofMinute", desc := "(LNightwatchWall;IILNightwatchWallLaw$Out;)I" } : Jvm.MethodName)) ∈ lw_all := lw_g (lw_at lw_m5 45 rfl) rfl
theorem q1091 : (Jvm.Cond.codeWith ({ cls := "NightwatchWallLaw", name := "ofMinute", desc := "(LNightwatchWall;IILNightwatchWallLaw$Out;)I" } : Jvm.MethodName) method_14_code (5 : Nat) (Option.some Jvm.ClassFile.FieldType.int) [((0 : Nat), (11 : Nat), (14 : Nat), (19 : Nat))]) ∈ lw_all := lw_g (lw_at lw_m5 46 rfl) rfl
theorem q1092 : (Jvm.Cond.methodLink "NightwatchWallLaw" (63 : Nat) ({ cls := "NightwatchWall", name := "ofMinute", desc := "(II)I" } : Jvm.MethodName)) ∈ lw_all := lw_g (lw_at lw_m5 47 rfl) rfl
theorem q1096 : (Jvm.Cond.methodLink "NightwatchWallLaw" (181 : Nat) ({ cls := "NightwatchWallLaw", name := "empty", desc := "(LNightwatchWall;IZLNightwatchWallLaw$Out;)I" } : Jvm.MethodName)) ∈ lw_all := lw_g (lw_at lw_m5 51 rfl) rfl
theorem q1097 : (Jvm.Cond.static ({ cls := "NightwatchWallLaw", name := "empty", desc := "(LNightwatchWall;IZLNightwatchWallLaw$Out;)I" } : Jvm.MethodName)) ∈ lw_all := lw_g (lw_at lw_m5 52 rfl) rfl
theorem q1098 : (Jvm.Cond.codeWith ({ cls := "NightwatchWallLaw", name := "empty", desc := "(LNightwatchWall;IZLNightwatchWallLaw$Out;)I" } : Jvm.MethodName) method_15_code (5 : Nat) (Option.some Jvm.ClassFile.FieldType.int) [((0 : Nat), (11 : Nat), (14 : Nat), (25 : Nat))]) ∈ lw_all := lw_g (lw_at lw_m5 53 rfl) rfl
theorem q1099 : (Jvm.Cond.methodLink "NightwatchWallLaw" (66 : Nat) ({ cls := "NightwatchWall", name := "empty", desc := "(IZ)I" } : Jvm.MethodName)) ∈ lw_all := lw_g (lw_at lw_m5 54 rfl) rfl
theorem q1103 : (Jvm.Cond.methodLink "NightwatchWallLaw" (184 : Nat) ({ cls := "NightwatchWallLaw", name := "lapse", desc := "(LNightwatchWall;IIILNightwatchWallLaw$Out;)I" } : Jvm.MethodName)) ∈ lw_all := lw_g (lw_at lw_m5 58 rfl) rfl
theorem q1104 : (Jvm.Cond.static ({ cls := "NightwatchWallLaw", name := "lapse", desc := "(LNightwatchWall;IIILNightwatchWallLaw$Out;)I" } : Jvm.MethodName)) ∈ lw_all := lw_g (lw_at lw_m5 59 rfl) rfl
theorem q1105 : (Jvm.Cond.codeWith ({ cls := "NightwatchWallLaw", name := "lapse", desc := "(LNightwatchWall;IIILNightwatchWallLaw$Out;)I" } : Jvm.MethodName) method_16_code (6 : Nat) (Option.some Jvm.ClassFile.FieldType.int) [((0 : Nat), (13 : Nat), (16 : Nat), (25 : Nat)), ((0 : Nat), (13 : Nat), (20 : Nat), (19 : Nat))]) ∈ lw_all := lw_g (lw_at lw_m5 60 rfl) rfl
theorem q1106 : (Jvm.Cond.methodLink "NightwatchWallLaw" (69 : Nat) ({ cls := "NightwatchWall", name := "lapse", desc := "(III)I" } : Jvm.MethodName)) ∈ lw_all := lw_g (lw_at lw_m5 61 rfl) rfl
theorem q1110 : (Jvm.Cond.methodLink "NightwatchWallLaw" (187 : Nat) ({ cls := "NightwatchWallLaw", name := "words", desc := "(LNightwatchWall;ILNightwatchWallLaw$Out;)I" } : Jvm.MethodName)) ∈ lw_all := lw_g (lw_at lw_m5 65 rfl) rfl
theorem q1111 : (Jvm.Cond.static ({ cls := "NightwatchWallLaw", name := "words", desc := "(LNightwatchWall;ILNightwatchWallLaw$Out;)I" } : Jvm.MethodName)) ∈ lw_all := lw_g (lw_at lw_m5 66 rfl) rfl
theorem q1112 : (Jvm.Cond.codeWith ({ cls := "NightwatchWallLaw", name := "words", desc := "(LNightwatchWall;ILNightwatchWallLaw$Out;)I" } : Jvm.MethodName) method_17_code (4 : Nat) (Option.some Jvm.ClassFile.FieldType.int) [((0 : Nat), (10 : Nat), (13 : Nat), (19 : Nat))]) ∈ lw_all := lw_g (lw_at lw_m5 67 rfl) rfl
theorem q1113 : (Jvm.Cond.methodLink "NightwatchWallLaw" (72 : Nat) ({ cls := "NightwatchWall", name := "words", desc := "(I)I" } : Jvm.MethodName)) ∈ lw_all := lw_g (lw_at lw_m5 68 rfl) rfl
theorem q1121 : (Jvm.Cond.methodLink "NightwatchWallLaw" (190 : Nat) ({ cls := "NightwatchWallLaw", name := "leak", desc := "(LNightwatchWall;ILNightwatchWallLaw$Out;)I" } : Jvm.MethodName)) ∈ lw_all := lw_g (lw_at lw_m5 76 rfl) rfl
theorem q1122 : (Jvm.Cond.static ({ cls := "NightwatchWallLaw", name := "leak", desc := "(LNightwatchWall;ILNightwatchWallLaw$Out;)I" } : Jvm.MethodName)) ∈ lw_all := lw_g (lw_at lw_m5 77 rfl) rfl
theorem q1123 : (Jvm.Cond.codeWith ({ cls := "NightwatchWallLaw", name := "leak", desc := "(LNightwatchWall;ILNightwatchWallLaw$Out;)I" } : Jvm.MethodName) method_18_code (4 : Nat) (Option.some Jvm.ClassFile.FieldType.int) [((0 : Nat), (10 : Nat), (13 : Nat), (19 : Nat)), ((0 : Nat), (10 : Nat), (16 : Nat), (27 : Nat))]) ∈ lw_all := lw_g (lw_at lw_m5 78 rfl) rfl
theorem q1124 : (Jvm.Cond.methodLink "NightwatchWallLaw" (75 : Nat) ({ cls := "NightwatchWall", name := "leak", desc := "(I)I" } : Jvm.MethodName)) ∈ lw_all := lw_g (lw_at lw_m5 79 rfl) rfl
theorem q1139 : (Jvm.Cond.methodLink "NightwatchWallLaw" (193 : Nat) ({ cls := "NightwatchWallLaw", name := "answer", desc := "(LNightwatchWall;IIILNightwatchWallLaw$Out;)I" } : Jvm.MethodName)) ∈ lw_all := lw_g (lw_at lw_m5 94 rfl) rfl
theorem q1140 : (Jvm.Cond.static ({ cls := "NightwatchWallLaw", name := "answer", desc := "(LNightwatchWall;IIILNightwatchWallLaw$Out;)I" } : Jvm.MethodName)) ∈ lw_all := lw_g (lw_at lw_m5 95 rfl) rfl
theorem q1141 : (Jvm.Cond.codeWith ({ cls := "NightwatchWallLaw", name := "answer", desc := "(LNightwatchWall;IIILNightwatchWallLaw$Out;)I" } : Jvm.MethodName) method_19_code (6 : Nat) (Option.some Jvm.ClassFile.FieldType.int) [((0 : Nat), (13 : Nat), (16 : Nat), (25 : Nat)), ((0 : Nat), (13 : Nat), (20 : Nat), (19 : Nat))]) ∈ lw_all := lw_g (lw_at lw_m5 96 rfl) rfl
theorem q1142 : (Jvm.Cond.methodLink "NightwatchWallLaw" (78 : Nat) ({ cls := "NightwatchWall", name := "answer", desc := "(III)I" } : Jvm.MethodName)) ∈ lw_all := lw_g (lw_at lw_m5 97 rfl) rfl
theorem q1165 : (Jvm.Cond.methodLink "NightwatchWallLaw" (196 : Nat) ({ cls := "NightwatchWallLaw", name := "key", desc := "(LNightwatchWall;IILNightwatchWallLaw$Out;)I" } : Jvm.MethodName)) ∈ lw_all := lw_g (lw_at lw_m5 120 rfl) rfl
theorem q1166 : (Jvm.Cond.static ({ cls := "NightwatchWallLaw", name := "key", desc := "(LNightwatchWall;IILNightwatchWallLaw$Out;)I" } : Jvm.MethodName)) ∈ lw_all := lw_g (lw_at lw_m5 121 rfl) rfl
theorem q1167 : (Jvm.Cond.codeWith ({ cls := "NightwatchWallLaw", name := "key", desc := "(LNightwatchWall;IILNightwatchWallLaw$Out;)I" } : Jvm.MethodName) method_20_code (5 : Nat) (Option.some Jvm.ClassFile.FieldType.int) [((0 : Nat), (11 : Nat), (14 : Nat), (25 : Nat))]) ∈ lw_all := lw_g (lw_at lw_m5 122 rfl) rfl
theorem q1168 : (Jvm.Cond.methodLink "NightwatchWallLaw" (81 : Nat) ({ cls := "NightwatchWall", name := "key", desc := "(II)I" } : Jvm.MethodName)) ∈ lw_all := lw_g (lw_at lw_m5 123 rfl) rfl
theorem q1172 : (Jvm.Cond.methodLink "NightwatchWallLaw" (199 : Nat) ({ cls := "NightwatchWallLaw", name := "ofGuard", desc := "(LNightwatchWall;IILNightwatchWallLaw$Out;)I" } : Jvm.MethodName)) ∈ lw_all := lw_g (lw_at lw_m5 127 rfl) rfl
theorem q1173 : (Jvm.Cond.static ({ cls := "NightwatchWallLaw", name := "ofGuard", desc := "(LNightwatchWall;IILNightwatchWallLaw$Out;)I" } : Jvm.MethodName)) ∈ lw_all := lw_g (lw_at lw_m5 128 rfl) rfl
theorem q1174 : (Jvm.Cond.codeWith ({ cls := "NightwatchWallLaw", name := "ofGuard", desc := "(LNightwatchWall;IILNightwatchWallLaw$Out;)I" } : Jvm.MethodName) method_21_code (5 : Nat) (Option.some Jvm.ClassFile.FieldType.int) [((0 : Nat), (11 : Nat), (14 : Nat), (25 : Nat)), ((0 : Nat), (11 : Nat), (18 : Nat), (19 : Nat))]) ∈ lw_all := lw_g (lw_at lw_m5 129 rfl) rfl
theorem q1175 : (Jvm.Cond.methodLink "NightwatchWallLaw" (84 : Nat) ({ cls := "NightwatchWall", name := "ofGuard", desc := "(II)I" } : Jvm.MethodName)) ∈ lw_all := lw_g (lw_at lw_m5 130 rfl) rfl
theorem q1179 : (Jvm.Cond.methodLink "NightwatchWallLaw" (202 : Nat) ({ cls := "NightwatchWallLaw", name := "intruder", desc := "(LNightwatchWall;IIILNightwatchWallLaw$Out;)I" } : Jvm.MethodName)) ∈ lw_all := lw_g (lw_at lw_m5 134 rfl) rfl
theorem q1180 : (Jvm.Cond.static ({ cls := "NightwatchWallLaw", name := "intruder", desc := "(LNightwatchWall;IIILNightwatchWallLaw$Out;)I" } : Jvm.MethodName)) ∈ lw_all := lw_g (lw_at lw_m5 135 rfl) rfl
theorem q1181 : (Jvm.Cond.codeWith ({ cls := "NightwatchWallLaw", name := "intruder", desc := "(LNightwatchWall;IIILNightwatchWallLaw$Out;)I" } : Jvm.MethodName) method_22_code (6 : Nat) (Option.some Jvm.ClassFile.FieldType.int) [((0 : Nat), (13 : Nat), (16 : Nat), (25 : Nat)), ((0 : Nat), (13 : Nat), (20 : Nat), (19 : Nat)), ((0 : Nat), (13 : Nat), (24 : Nat), (27 : Nat))]) ∈ lw_all := lw_g (lw_at lw_m5 136 rfl) rfl
theorem q1182 : (Jvm.Cond.methodLink "NightwatchWallLaw" (87 : Nat) ({ cls := "NightwatchWall", name := "intruder", desc := "(III)I" } : Jvm.MethodName)) ∈ lw_all := lw_g (lw_at lw_m5 137 rfl) rfl
theorem q1214 : (Jvm.Cond.methodLink "NightwatchWallLaw" (205 : Nat) ({ cls := "NightwatchWallLaw", name := "wire", desc := "(LNightwatchWall;IILNightwatchWallLaw$Out;)I" } : Jvm.MethodName)) ∈ lw_all := lw_g (lw_at lw_m5 169 rfl) rfl
theorem q1215 : (Jvm.Cond.static ({ cls := "NightwatchWallLaw", name := "wire", desc := "(LNightwatchWall;IILNightwatchWallLaw$Out;)I" } : Jvm.MethodName)) ∈ lw_all := lw_g (lw_at lw_m5 170 rfl) rfl
theorem q1216 : (Jvm.Cond.codeWith ({ cls := "NightwatchWallLaw", name := "wire", desc := "(LNightwatchWall;IILNightwatchWallLaw$Out;)I" } : Jvm.MethodName) method_23_code (5 : Nat) (Option.some Jvm.ClassFile.FieldType.int) [((0 : Nat), (11 : Nat), (14 : Nat), (25 : Nat)), ((0 : Nat), (11 : Nat), (18 : Nat), (19 : Nat)), ((0 : Nat), (11 : Nat), (22 : Nat), (27 : Nat))]) ∈ lw_all := lw_g (lw_at lw_m5 171 rfl) rfl
theorem q1217 : (Jvm.Cond.methodLink "NightwatchWallLaw" (90 : Nat) ({ cls := "NightwatchWall", name := "wire", desc := "(II)I" } : Jvm.MethodName)) ∈ lw_all := lw_g (lw_at lw_m5 172 rfl) rfl
theorem q1235 : (Jvm.Cond.methodLink "NightwatchWallLaw" (208 : Nat) ({ cls := "NightwatchWallLaw", name := "where", desc := "(LNightwatchWall;IILNightwatchWallLaw$Out;)I" } : Jvm.MethodName)) ∈ lw_all := lw_g (lw_at lw_m5 190 rfl) rfl
theorem q1236 : (Jvm.Cond.static ({ cls := "NightwatchWallLaw", name := "where", desc := "(LNightwatchWall;IILNightwatchWallLaw$Out;)I" } : Jvm.MethodName)) ∈ lw_all := lw_g (lw_at lw_m5 191 rfl) rfl
theorem q1237 : (Jvm.Cond.codeWith ({ cls := "NightwatchWallLaw", name := "where", desc := "(LNightwatchWall;IILNightwatchWallLaw$Out;)I" } : Jvm.MethodName) method_24_code (5 : Nat) (Option.some Jvm.ClassFile.FieldType.int) [((0 : Nat), (11 : Nat), (14 : Nat), (25 : Nat)), ((0 : Nat), (11 : Nat), (18 : Nat), (19 : Nat))]) ∈ lw_all := lw_g (lw_at lw_m5 192 rfl) rfl
theorem q1238 : (Jvm.Cond.methodLink "NightwatchWallLaw" (93 : Nat) ({ cls := "NightwatchWall", name := "where", desc := "(II)I" } : Jvm.MethodName)) ∈ lw_all := lw_g (lw_at lw_m5 193 rfl) rfl
theorem q1246 : (Jvm.Cond.methodLink "NightwatchWallLaw" (211 : Nat) ({ cls := "NightwatchWallLaw", name := "ofIntruder", desc := "(LNightwatchWall;IILNightwatchWallLaw$Out;)I" } : Jvm.MethodName)) ∈ lw_all := lw_g (lw_at lw_m5 201 rfl) rfl
theorem q1247 : (Jvm.Cond.static ({ cls := "NightwatchWallLaw", name := "ofIntruder", desc := "(LNightwatchWall;IILNightwatchWallLaw$Out;)I" } : Jvm.MethodName)) ∈ lw_all := lw_g (lw_at lw_m5 202 rfl) rfl
theorem q1248 : (Jvm.Cond.codeWith ({ cls := "NightwatchWallLaw", name := "ofIntruder", desc := "(LNightwatchWall;IILNightwatchWallLaw$Out;)I" } : Jvm.MethodName) method_25_code (5 : Nat) (Option.some Jvm.ClassFile.FieldType.int) [((0 : Nat), (11 : Nat), (14 : Nat), (25 : Nat)), ((0 : Nat), (11 : Nat), (18 : Nat), (19 : Nat))]) ∈ lw_all := lw_g (lw_at lw_m5 203 rfl) rfl
theorem q1249 : (Jvm.Cond.methodLink "NightwatchWallLaw" (96 : Nat) ({ cls := "NightwatchWall", name := "ofIntruder", desc := "(II)I" } : Jvm.MethodName)) ∈ lw_all := lw_g (lw_at lw_m5 204 rfl) rfl
theorem q1253 : (Jvm.Cond.methodLink "NightwatchWallLaw" (214 : Nat) ({ cls := "NightwatchWallLaw", name := "force", desc := "(LNightwatchWall;IIILNightwatchWallLaw$Out;)I" } : Jvm.MethodName)) ∈ lw_all := lw_g (lw_at lw_m5 208 rfl) rfl
theorem q1254 : (Jvm.Cond.static ({ cls := "NightwatchWallLaw", name := "force", desc := "(LNightwatchWall;IIILNightwatchWallLaw$Out;)I" } : Jvm.MethodName)) ∈ lw_all := lw_g (lw_at lw_m5 209 rfl) rfl
theorem q1255 : (Jvm.Cond.codeWith ({ cls := "NightwatchWallLaw", name := "force", desc := "(LNightwatchWall;IIILNightwatchWallLaw$Out;)I" } : Jvm.MethodName) method_26_code (6 : Nat) (Option.some Jvm.ClassFile.FieldType.int) [((0 : Nat), (13 : Nat), (16 : Nat), (25 : Nat)), ((0 : Nat), (13 : Nat), (20 : Nat), (19 : Nat)), ((0 : Nat), (13 : Nat), (24 : Nat), (27 : Nat))]) ∈ lw_all := lw_g (lw_at lw_m5 210 rfl) rfl
theorem q1256 : (Jvm.Cond.methodLink "NightwatchWallLaw" (99 : Nat) ({ cls := "NightwatchWall", name := "force", desc := "(III)I" } : Jvm.MethodName)) ∈ lw_all := lw_g (lw_at lw_m5 211 rfl) rfl
theorem q1260 : (Jvm.Cond.methodLink "NightwatchWallLaw" (217 : Nat) ({ cls := "NightwatchWallLaw", name := "ofWire", desc := "(LNightwatchWall;IILNightwatchWallLaw$Out;)I" } : Jvm.MethodName)) ∈ lw_all := lw_g (lw_at lw_m5 215 rfl) rfl
theorem q1261 : (Jvm.Cond.static ({ cls := "NightwatchWallLaw", name := "ofWire", desc := "(LNightwatchWall;IILNightwatchWallLaw$Out;)I" } : Jvm.MethodName)) ∈ lw_all := lw_g (lw_at lw_m5 216 rfl) rfl
theorem q1262 : (Jvm.Cond.codeWith ({ cls := "NightwatchWallLaw", name := "ofWire", desc := "(LNightwatchWall;IILNightwatchWallLaw$Out;)I" } : Jvm.MethodName) method_27_code (5 : Nat) (Option.some Jvm.ClassFile.FieldType.int) [((0 : Nat), (11 : Nat), (14 : Nat), (25 : Nat)), ((0 : Nat), (11 : Nat), (18 : Nat), (19 : Nat))]) ∈ lw_all := lw_g (lw_at lw_m5 217 rfl) rfl
theorem q1263 : (Jvm.Cond.methodLink "NightwatchWallLaw" (102 : Nat) ({ cls := "NightwatchWall", name := "ofWire", desc := "(II)I" } : Jvm.MethodName)) ∈ lw_all := lw_g (lw_at lw_m5 218 rfl) rfl
theorem q1267 : (Jvm.Cond.methodLink "NightwatchWallLaw" (220 : Nat) ({ cls := "NightwatchWallLaw", name := "sneak", desc := "(LNightwatchWall;IIIILNightwatchWallLaw$Out;)I" } : Jvm.MethodName)) ∈ lw_all := lw_g (lw_at lw_m5 222 rfl) rfl
theorem q1268 : (Jvm.Cond.static ({ cls := "NightwatchWallLaw", name := "sneak", desc := "(LNightwatchWall;IIIILNightwatchWallLaw$Out;)I" } : Jvm.MethodName)) ∈ lw_all := lw_g (lw_at lw_m5 223 rfl) rfl
theorem q1269 : (Jvm.Cond.codeWith ({ cls := "NightwatchWallLaw", name := "sneak", desc := "(LNightwatchWall;IIIILNightwatchWallLaw$Out;)I" } : Jvm.MethodName) method_28_code (7 : Nat) (Option.some Jvm.ClassFile.FieldType.int) [((0 : Nat), (15 : Nat), (18 : Nat), (25 : Nat)), ((0 : Nat), (15 : Nat), (22 : Nat), (19 : Nat))]) ∈ lw_all := lw_g (lw_at lw_m5 224 rfl) rfl
theorem q1270 : (Jvm.Cond.methodLink "NightwatchWallLaw" (105 : Nat) ({ cls := "NightwatchWall", name := "sneak", desc := "(IIII)I" } : Jvm.MethodName)) ∈ lw_all := lw_g (lw_at lw_m5 225 rfl) rfl
theorem q1287 : (Jvm.Cond.methodLink "NightwatchWallLaw" (223 : Nat) ({ cls := "NightwatchWallLaw", name := "reach", desc := "(LNightwatchWall;IIILNightwatchWallLaw$Out;)I" } : Jvm.MethodName)) ∈ lw_all := lw_g (lw_at lw_m6 2 rfl) rfl
theorem q1288 : (Jvm.Cond.static ({ cls := "NightwatchWallLaw", name := "reach", desc := "(LNightwatchWall;IIILNightwatchWallLaw$Out;)I" } : Jvm.MethodName)) ∈ lw_all := lw_g (lw_at lw_m6 3 rfl) rfl
theorem q1289 : (Jvm.Cond.codeWith ({ cls := "NightwatchWallLaw", name := "reach", desc := "(LNightwatchWall;IIILNightwatchWallLaw$Out;)I" } : Jvm.MethodName) method_29_code (6 : Nat) (Option.some Jvm.ClassFile.FieldType.int) [((0 : Nat), (13 : Nat), (16 : Nat), (25 : Nat)), ((0 : Nat), (13 : Nat), (20 : Nat), (19 : Nat))]) ∈ lw_all := lw_g (lw_at lw_m6 4 rfl) rfl
theorem q1290 : (Jvm.Cond.methodLink "NightwatchWallLaw" (108 : Nat) ({ cls := "NightwatchWall", name := "reach", desc := "(III)I" } : Jvm.MethodName)) ∈ lw_all := lw_g (lw_at lw_m6 5 rfl) rfl
theorem q1294 : (Jvm.Cond.methodLink "NightwatchWallLaw" (226 : Nat) ({ cls := "NightwatchWallLaw", name := "nextLamp", desc := "(LNightwatchWall;IIZLNightwatchWallLaw$Out;)I" } : Jvm.MethodName)) ∈ lw_all := lw_g (lw_at lw_m6 9 rfl) rfl
theorem q1295 : (Jvm.Cond.static ({ cls := "NightwatchWallLaw", name := "nextLamp", desc := "(LNightwatchWall;IIZLNightwatchWallLaw$Out;)I" } : Jvm.MethodName)) ∈ lw_all := lw_g (lw_at lw_m6 10 rfl) rfl
theorem q1296 : (Jvm.Cond.codeWith ({ cls := "NightwatchWallLaw", name := "nextLamp", desc := "(LNightwatchWall;IIZLNightwatchWallLaw$Out;)I" } : Jvm.MethodName) method_30_code (6 : Nat) (Option.some Jvm.ClassFile.FieldType.int) [((0 : Nat), (13 : Nat), (16 : Nat), (19 : Nat))]) ∈ lw_all := lw_g (lw_at lw_m6 11 rfl) rfl
theorem q1297 : (Jvm.Cond.methodLink "NightwatchWallLaw" (111 : Nat) ({ cls := "NightwatchWall", name := "nextLamp", desc := "(IIZ)I" } : Jvm.MethodName)) ∈ lw_all := lw_g (lw_at lw_m6 12 rfl) rfl
theorem q1309 : (Jvm.Cond.methodLink "NightwatchWallLaw" (230 : Nat) ({ cls := "NightwatchWallLaw", name := "many", desc := "(LNightwatchWall;ILNightwatchWallLaw$Out;)I" } : Jvm.MethodName)) ∈ lw_all := lw_g (lw_at lw_m6 24 rfl) rfl
theorem q1310 : (Jvm.Cond.static ({ cls := "NightwatchWallLaw", name := "many", desc := "(LNightwatchWall;ILNightwatchWallLaw$Out;)I" } : Jvm.MethodName)) ∈ lw_all := lw_g (lw_at lw_m6 25 rfl) rfl
theorem q1311 : (Jvm.Cond.codeWith ({ cls := "NightwatchWallLaw", name := "many", desc := "(LNightwatchWall;ILNightwatchWallLaw$Out;)I" } : Jvm.MethodName) method_31_code (4 : Nat) (Option.some Jvm.ClassFile.FieldType.int) [((0 : Nat), (10 : Nat), (13 : Nat), (19 : Nat))]) ∈ lw_all := lw_g (lw_at lw_m6 26 rfl) rfl
theorem q1312 : (Jvm.Cond.methodLink "NightwatchWallLaw" (115 : Nat) ({ cls := "NightwatchWall", name := "many", desc := "(I)I" } : Jvm.MethodName)) ∈ lw_all := lw_g (lw_at lw_m6 27 rfl) rfl
theorem q1316 : (Jvm.Cond.methodLink "NightwatchWallLaw" (233 : Nat) ({ cls := "NightwatchWallLaw", name := "drawn", desc := "(LNightwatchWall;IILNightwatchWallLaw$Out;)I" } : Jvm.MethodName)) ∈ lw_all := lw_g (lw_at lw_m6 31 rfl) rfl
theorem q1317 : (Jvm.Cond.static ({ cls := "NightwatchWallLaw", name := "drawn", desc := "(LNightwatchWall;IILNightwatchWallLaw$Out;)I" } : Jvm.MethodName)) ∈ lw_all := lw_g (lw_at lw_m6 32 rfl) rfl
theorem q1318 : (Jvm.Cond.codeWith ({ cls := "NightwatchWallLaw", name := "drawn", desc := "(LNightwatchWall;IILNightwatchWallLaw$Out;)I" } : Jvm.MethodName) method_32_code (5 : Nat) (Option.some Jvm.ClassFile.FieldType.int) [((0 : Nat), (10 : Nat), (13 : Nat), (25 : Nat)), ((0 : Nat), (10 : Nat), (17 : Nat), (19 : Nat))]) ∈ lw_all := lw_g (lw_at lw_m6 33 rfl) rfl
theorem q1319 : (Jvm.Cond.methodLink "NightwatchWallLaw" (118 : Nat) ({ cls := "NightwatchWall", name := "drawn", desc := "(II)Ljava/lang/String;" } : Jvm.MethodName)) ∈ lw_all := lw_g (lw_at lw_m6 34 rfl) rfl
theorem q1591 : (Jvm.Cond.classLink "NightwatchWallLaw" (127 : Nat) "NightwatchWallModel") ∈ lw_all := lw_g (lw_at lw_m7 66 rfl) rfl
theorem q1593 : (Jvm.Cond.methodLink "NightwatchWallLaw" (129 : Nat) ({ cls := "NightwatchWallModel", name := "<init>", desc := "()V" } : Jvm.MethodName)) ∈ lw_all := lw_g (lw_at lw_m7 68 rfl) rfl
theorem q1683 : (Jvm.Cond.methodLink "NightwatchWallLaw" (137 : Nat) ({ cls := "NightwatchWallModel", name := "thrown", desc := "()I" } : Jvm.MethodName)) ∈ lw_all := lw_g (lw_at lw_m7 158 rfl) rfl
theorem q1687 : (Jvm.Cond.methodLink "NightwatchWallLaw" (136 : Nat) ({ cls := "NightwatchWallModel", name := "base", desc := "(III)I" } : Jvm.MethodName)) ∈ lw_all := lw_g (lw_at lw_m7 162 rfl) rfl
theorem q1698 : (Jvm.Cond.methodLink "NightwatchWallLaw" (144 : Nat) ({ cls := "NightwatchWallModel", name := "lay", desc := "(II)I" } : Jvm.MethodName)) ∈ lw_all := lw_g (lw_at lw_m7 173 rfl) rfl
theorem q1718 : (Jvm.Cond.methodLink "NightwatchWallLaw" (147 : Nat) ({ cls := "NightwatchWallModel", name := "gates", desc := "(II)I" } : Jvm.MethodName)) ∈ lw_all := lw_g (lw_at lw_m7 193 rfl) rfl
theorem q1725 : (Jvm.Cond.methodLink "NightwatchWallLaw" (150 : Nat) ({ cls := "NightwatchWallModel", name := "lamp", desc := "(II)I" } : Jvm.MethodName)) ∈ lw_all := lw_g (lw_at lw_m7 200 rfl) rfl
theorem q1736 : (Jvm.Cond.methodLink "NightwatchWallLaw" (154 : Nat) ({ cls := "NightwatchWallModel", name := "light", desc := "(IZ)I" } : Jvm.MethodName)) ∈ lw_all := lw_g (lw_at lw_m7 211 rfl) rfl
theorem q1763 : (Jvm.Cond.methodLink "NightwatchWallLaw" (157 : Nat) ({ cls := "NightwatchWallModel", name := "fog", desc := "(II)I" } : Jvm.MethodName)) ∈ lw_all := lw_g (lw_at lw_m7 238 rfl) rfl
theorem q1767 : (Jvm.Cond.methodLink "NightwatchWallLaw" (161 : Nat) ({ cls := "NightwatchWallModel", name := "guard", desc := "(IIII)I" } : Jvm.MethodName)) ∈ lw_all := lw_g (lw_at lw_m8 2 rfl) rfl
theorem q1804 : (Jvm.Cond.methodLink "NightwatchWallLaw" (164 : Nat) ({ cls := "NightwatchWallModel", name := "round", desc := "(II)I" } : Jvm.MethodName)) ∈ lw_all := lw_g (lw_at lw_m8 39 rfl) rfl
theorem q1813 : (Jvm.Cond.methodLink "NightwatchWallLaw" (168 : Nat) ({ cls := "NightwatchWallModel", name := "post", desc := "(I)I" } : Jvm.MethodName)) ∈ lw_all := lw_g (lw_at lw_m8 48 rfl) rfl
theorem q1817 : (Jvm.Cond.methodLink "NightwatchWallLaw" (171 : Nat) ({ cls := "NightwatchWallModel", name := "place", desc := "(II)I" } : Jvm.MethodName)) ∈ lw_all := lw_g (lw_at lw_m8 52 rfl) rfl
theorem q1836 : (Jvm.Cond.methodLink "NightwatchWallLaw" (174 : Nat) ({ cls := "NightwatchWallModel", name := "sees", desc := "(III)Z" } : Jvm.MethodName)) ∈ lw_all := lw_g (lw_at lw_m8 71 rfl) rfl
theorem q1860 : (Jvm.Cond.methodLink "NightwatchWallLaw" (177 : Nat) ({ cls := "NightwatchWallModel", name := "ofCell", desc := "(III)I" } : Jvm.MethodName)) ∈ lw_all := lw_g (lw_at lw_m8 95 rfl) rfl
theorem q1876 : (Jvm.Cond.methodLink "NightwatchWallLaw" (180 : Nat) ({ cls := "NightwatchWallModel", name := "ofMinute", desc := "(II)I" } : Jvm.MethodName)) ∈ lw_all := lw_g (lw_at lw_m8 111 rfl) rfl
theorem q1889 : (Jvm.Cond.methodLink "NightwatchWallLaw" (183 : Nat) ({ cls := "NightwatchWallModel", name := "empty", desc := "(IZ)I" } : Jvm.MethodName)) ∈ lw_all := lw_g (lw_at lw_m8 124 rfl) rfl
theorem q1897 : (Jvm.Cond.methodLink "NightwatchWallLaw" (186 : Nat) ({ cls := "NightwatchWallModel", name := "lapse", desc := "(III)I" } : Jvm.MethodName)) ∈ lw_all := lw_g (lw_at lw_m8 132 rfl) rfl
theorem q1901 : (Jvm.Cond.methodLink "NightwatchWallLaw" (189 : Nat) ({ cls := "NightwatchWallModel", name := "words", desc := "(I)I" } : Jvm.MethodName)) ∈ lw_all := lw_g (lw_at lw_m8 136 rfl) rfl
theorem q1905 : (Jvm.Cond.methodLink "NightwatchWallLaw" (192 : Nat) ({ cls := "NightwatchWallModel", name := "leak", desc := "(I)I" } : Jvm.MethodName)) ∈ lw_all := lw_g (lw_at lw_m8 140 rfl) rfl
theorem q1909 : (Jvm.Cond.methodLink "NightwatchWallLaw" (195 : Nat) ({ cls := "NightwatchWallModel", name := "answer", desc := "(III)I" } : Jvm.MethodName)) ∈ lw_all := lw_g (lw_at lw_m8 144 rfl) rfl
theorem q1917 : (Jvm.Cond.methodLink "NightwatchWallLaw" (198 : Nat) ({ cls := "NightwatchWallModel", name := "key", desc := "(II)I" } : Jvm.MethodName)) ∈ lw_all := lw_g (lw_at lw_m8 152 rfl) rfl
theorem q1921 : (Jvm.Cond.methodLink "NightwatchWallLaw" (201 : Nat) ({ cls := "NightwatchWallModel", name := "ofGuard", desc := "(II)I" } : Jvm.MethodName)) ∈ lw_all := lw_g (lw_at lw_m8 156 rfl) rfl
theorem q1929 : (Jvm.Cond.methodLink "NightwatchWallLaw" (204 : Nat) ({ cls := "NightwatchWallModel", name := "intruder", desc := "(III)I" } : Jvm.MethodName)) ∈ lw_all := lw_g (lw_at lw_m8 164 rfl) rfl
theorem q1968 : (Jvm.Cond.methodLink "NightwatchWallLaw" (207 : Nat) ({ cls := "NightwatchWallModel", name := "wire", desc := "(II)I" } : Jvm.MethodName)) ∈ lw_all := lw_g (lw_at lw_m8 203 rfl) rfl
theorem q1972 : (Jvm.Cond.methodLink "NightwatchWallLaw" (210 : Nat) ({ cls := "NightwatchWallModel", name := "where", desc := "(II)I" } : Jvm.MethodName)) ∈ lw_all := lw_g (lw_at lw_m8 207 rfl) rfl
theorem q1980 : (Jvm.Cond.methodLink "NightwatchWallLaw" (213 : Nat) ({ cls := "NightwatchWallModel", name := "ofIntruder", desc := "(II)I" } : Jvm.MethodName)) ∈ lw_all := lw_g (lw_at lw_m8 215 rfl) rfl
theorem q2004 : (Jvm.Cond.methodLink "NightwatchWallLaw" (216 : Nat) ({ cls := "NightwatchWallModel", name := "force", desc := "(III)I" } : Jvm.MethodName)) ∈ lw_all := lw_g (lw_at lw_m8 239 rfl) rfl
theorem q2008 : (Jvm.Cond.methodLink "NightwatchWallLaw" (219 : Nat) ({ cls := "NightwatchWallModel", name := "ofWire", desc := "(II)I" } : Jvm.MethodName)) ∈ lw_all := lw_g (lw_at lw_m9 3 rfl) rfl
theorem q2020 : (Jvm.Cond.methodLink "NightwatchWallLaw" (222 : Nat) ({ cls := "NightwatchWallModel", name := "sneak", desc := "(IIII)I" } : Jvm.MethodName)) ∈ lw_all := lw_g (lw_at lw_m9 15 rfl) rfl
theorem q2036 : (Jvm.Cond.methodLink "NightwatchWallLaw" (225 : Nat) ({ cls := "NightwatchWallModel", name := "reach", desc := "(III)I" } : Jvm.MethodName)) ∈ lw_all := lw_g (lw_at lw_m9 31 rfl) rfl
theorem q2040 : (Jvm.Cond.methodLink "NightwatchWallLaw" (229 : Nat) ({ cls := "NightwatchWallModel", name := "nextLamp", desc := "(IIZ)I" } : Jvm.MethodName)) ∈ lw_all := lw_g (lw_at lw_m9 35 rfl) rfl
theorem q2058 : (Jvm.Cond.methodLink "NightwatchWallLaw" (232 : Nat) ({ cls := "NightwatchWallModel", name := "many", desc := "(I)I" } : Jvm.MethodName)) ∈ lw_all := lw_g (lw_at lw_m9 53 rfl) rfl
theorem q2066 : (Jvm.Cond.methodLink "NightwatchWallLaw" (235 : Nat) ({ cls := "NightwatchWallModel", name := "drawn", desc := "(II)Ljava/lang/String;" } : Jvm.MethodName)) ∈ lw_all := lw_g (lw_at lw_m9 61 rfl) rfl
theorem q2081 : (Jvm.Cond.methodLink "NightwatchWallLaw" (246 : Nat) ({ cls := "NightwatchWallModel", name := "isSound", desc := "()Z" } : Jvm.MethodName)) ∈ lw_all := lw_g (lw_at lw_m9 76 rfl) rfl
theorem q2089 : (Jvm.Cond.methodLink "NightwatchWallLaw" (250 : Nat) ({ cls := "NightwatchWallModel", name := "knock", desc := "()I" } : Jvm.MethodName)) ∈ lw_all := lw_g (lw_at lw_m9 84 rfl) rfl
theorem q2093 : (Jvm.Cond.methodLink "NightwatchWallLaw" (255 : Nat) ({ cls := "NightwatchWallModel", name := "digest", desc := "()J" } : Jvm.MethodName)) ∈ lw_all := lw_g (lw_at lw_m9 88 rfl) rfl
theorem q2099 : (Jvm.Cond.methodLink "NightwatchWallLaw" (236 : Nat) ({ cls := "java/lang/String", name := "equals", desc := "(Ljava/lang/Object;)Z" } : Jvm.MethodName)) ∈ lw_all := lw_g (lw_at lw_m9 94 rfl) rfl
/-! the law's own entry -/
set_option maxRecDepth 100000
abbrev cL_law : ByteArray := code
def dkwL_law_103 : List UInt8 := [182, 0, 251, 44, 182, 0, 255, 148, 153, 0, 5, 3, 172, 132, 4, 5, 167, 246, 49, 4, 172]
abbrev dktL_law_103 : List UInt8 := dkwL_law_103 ++ []
def dkwL_law_102 : List UInt8 := [182, 0, 246, 159, 0, 32, 3, 172, 43, 182, 0, 247, 44, 182, 0, 250, 159, 0, 19, 3, 172, 43]
abbrev dktL_law_102 : List UInt8 := dkwL_law_102 ++ dktL_law_103
def dkwL_law_101 : List UInt8 := [45, 180, 0, 122, 25, 6, 182, 0, 236, 154, 0, 5, 3, 172, 167, 0, 43, 43, 182, 0, 242, 44]
abbrev dktL_law_101 : List UInt8 := dkwL_law_101 ++ dktL_law_102
def dkwL_law_100 : List UInt8 := [5, 96, 46, 182, 0, 235, 58, 6, 44, 182, 0, 137, 21, 5, 159, 0, 5, 3, 172, 21, 5, 154, 0, 17]
abbrev dktL_law_100 : List UInt8 := dkwL_law_100 ++ dktL_law_101
def dkwL_law_99 : List UInt8 := [96, 46, 42, 21, 4, 5, 96, 46, 45, 184, 0, 233, 54, 5, 44, 42, 21, 4, 4, 96, 46, 42, 21, 4]
abbrev dktL_law_99 : List UInt8 := dkwL_law_99 ++ dktL_law_100
def dkwL_law_98 : List UInt8 := [154, 0, 16, 45, 180, 0, 13, 21, 6, 133, 148, 153, 0, 5, 3, 172, 167, 0, 113, 43, 42, 21, 4, 4]
abbrev dktL_law_98 : List UInt8 := dkwL_law_98 ++ dktL_law_99
def dkwL_law_97 : List UInt8 := [21, 4, 4, 96, 46, 182, 0, 232, 54, 6, 44, 182, 0, 137, 21, 5, 159, 0, 5, 3, 172, 21, 5]
abbrev dktL_law_97 : List UInt8 := dkwL_law_97 ++ dktL_law_98
def dkwL_law_96 : List UInt8 := [153, 0, 5, 3, 172, 167, 0, 170, 43, 42, 21, 4, 4, 96, 46, 45, 184, 0, 230, 54, 5, 44, 42]
abbrev dktL_law_96 : List UInt8 := dkwL_law_96 ++ dktL_law_97
def dkwL_law_95 : List UInt8 := [182, 0, 137, 21, 5, 159, 0, 5, 3, 172, 21, 5, 154, 0, 16, 45, 180, 0, 13, 21, 6, 133, 148]
abbrev dktL_law_95 : List UInt8 := dkwL_law_95 ++ dktL_law_96
def dkwL_law_94 : List UInt8 := [5, 96, 46, 42, 21, 4, 6, 96, 46, 153, 0, 7, 4, 167, 0, 4, 3, 182, 0, 229, 54, 6, 44]
abbrev dktL_law_94 : List UInt8 := dkwL_law_94 ++ dktL_law_95
def dkwL_law_93 : List UInt8 := [153, 0, 7, 4, 167, 0, 4, 3, 45, 184, 0, 226, 54, 5, 44, 42, 21, 4, 4, 96, 46, 42, 21, 4]
abbrev dktL_law_93 : List UInt8 := dkwL_law_93 ++ dktL_law_94
def dkwL_law_92 : List UInt8 := [167, 1, 11, 43, 42, 21, 4, 4, 96, 46, 42, 21, 4, 5, 96, 46, 42, 21, 4, 6, 96, 46]
abbrev dktL_law_92 : List UInt8 := dkwL_law_92 ++ dktL_law_93
def dkwL_law_91 : List UInt8 := [159, 0, 5, 3, 172, 21, 5, 154, 0, 16, 45, 180, 0, 13, 21, 6, 133, 148, 153, 0, 5, 3, 172]
abbrev dktL_law_91 : List UInt8 := dkwL_law_91 ++ dktL_law_92
def dkwL_law_90 : List UInt8 := [42, 21, 4, 5, 96, 46, 42, 21, 4, 6, 96, 46, 182, 0, 225, 54, 6, 44, 182, 0, 137, 21, 5]
abbrev dktL_law_90 : List UInt8 := dkwL_law_90 ++ dktL_law_91
def dkwL_law_89 : List UInt8 := [21, 4, 5, 96, 46, 42, 21, 4, 6, 96, 46, 45, 184, 0, 223, 54, 5, 44, 42, 21, 4, 4, 96, 46]
abbrev dktL_law_89 : List UInt8 := dkwL_law_89 ++ dktL_law_90
def dkwL_law_88 : List UInt8 := [180, 0, 13, 21, 6, 133, 148, 153, 0, 5, 3, 172, 167, 1, 92, 43, 42, 21, 4, 4, 96, 46, 42]
abbrev dktL_law_88 : List UInt8 := dkwL_law_88 ++ dktL_law_89
def dkwL_law_87 : List UInt8 := [182, 0, 222, 54, 6, 44, 182, 0, 137, 21, 5, 159, 0, 5, 3, 172, 21, 5, 154, 0, 16, 45]
abbrev dktL_law_87 : List UInt8 := dkwL_law_87 ++ dktL_law_88
def dkwL_law_86 : List UInt8 := [42, 21, 4, 4, 96, 46, 42, 21, 4, 5, 96, 46, 42, 21, 4, 6, 96, 46, 42, 21, 4, 7, 96, 46]
abbrev dktL_law_86 : List UInt8 := dkwL_law_86 ++ dktL_law_87
def dkwL_law_85 : List UInt8 := [21, 4, 5, 96, 46, 42, 21, 4, 6, 96, 46, 42, 21, 4, 7, 96, 46, 45, 184, 0, 220, 54, 5, 44]
abbrev dktL_law_85 : List UInt8 := dkwL_law_85 ++ dktL_law_86
def dkwL_law_84 : List UInt8 := [180, 0, 13, 21, 6, 133, 148, 153, 0, 5, 3, 172, 167, 1, 185, 43, 42, 21, 4, 4, 96, 46, 42]
abbrev dktL_law_84 : List UInt8 := dkwL_law_84 ++ dktL_law_85
def dkwL_law_83 : List UInt8 := [182, 0, 219, 54, 6, 44, 182, 0, 137, 21, 5, 159, 0, 5, 3, 172, 21, 5, 154, 0, 16, 45]
abbrev dktL_law_83 : List UInt8 := dkwL_law_83 ++ dktL_law_84
def dkwL_law_82 : List UInt8 := [21, 4, 5, 96, 46, 45, 184, 0, 217, 54, 5, 44, 42, 21, 4, 4, 96, 46, 42, 21, 4, 5, 96, 46]
abbrev dktL_law_82 : List UInt8 := dkwL_law_82 ++ dktL_law_83
def dkwL_law_81 : List UInt8 := [180, 0, 13, 21, 6, 133, 148, 153, 0, 5, 3, 172, 167, 1, 254, 43, 42, 21, 4, 4, 96, 46, 42]
abbrev dktL_law_81 : List UInt8 := dkwL_law_81 ++ dktL_law_82
def dkwL_law_80 : List UInt8 := [182, 0, 216, 54, 6, 44, 182, 0, 137, 21, 5, 159, 0, 5, 3, 172, 21, 5, 154, 0, 16, 45]
abbrev dktL_law_80 : List UInt8 := dkwL_law_80 ++ dktL_law_81
def dkwL_law_79 : List UInt8 := [184, 0, 214, 54, 5, 44, 42, 21, 4, 4, 96, 46, 42, 21, 4, 5, 96, 46, 42, 21, 4, 6, 96, 46]
abbrev dktL_law_79 : List UInt8 := dkwL_law_79 ++ dktL_law_80
def dkwL_law_78 : List UInt8 := [167, 2, 79, 43, 42, 21, 4, 4, 96, 46, 42, 21, 4, 5, 96, 46, 42, 21, 4, 6, 96, 46, 45]
abbrev dktL_law_78 : List UInt8 := dkwL_law_78 ++ dktL_law_79
def dkwL_law_77 : List UInt8 := [159, 0, 5, 3, 172, 21, 5, 154, 0, 16, 45, 180, 0, 13, 21, 6, 133, 148, 153, 0, 5, 3, 172]
abbrev dktL_law_77 : List UInt8 := dkwL_law_77 ++ dktL_law_78
def dkwL_law_76 : List UInt8 := [21, 4, 4, 96, 46, 42, 21, 4, 5, 96, 46, 182, 0, 213, 54, 6, 44, 182, 0, 137, 21, 5]
abbrev dktL_law_76 : List UInt8 := dkwL_law_76 ++ dktL_law_77
def dkwL_law_75 : List UInt8 := [167, 2, 148, 43, 42, 21, 4, 4, 96, 46, 42, 21, 4, 5, 96, 46, 45, 184, 0, 211, 54, 5, 44, 42]
abbrev dktL_law_75 : List UInt8 := dkwL_law_75 ++ dktL_law_76
def dkwL_law_74 : List UInt8 := [159, 0, 5, 3, 172, 21, 5, 154, 0, 16, 45, 180, 0, 13, 21, 6, 133, 148, 153, 0, 5, 3, 172]
abbrev dktL_law_74 : List UInt8 := dkwL_law_74 ++ dktL_law_75
def dkwL_law_73 : List UInt8 := [21, 4, 4, 96, 46, 42, 21, 4, 5, 96, 46, 182, 0, 210, 54, 6, 44, 182, 0, 137, 21, 5]
abbrev dktL_law_73 : List UInt8 := dkwL_law_73 ++ dktL_law_74
def dkwL_law_72 : List UInt8 := [167, 2, 217, 43, 42, 21, 4, 4, 96, 46, 42, 21, 4, 5, 96, 46, 45, 184, 0, 208, 54, 5, 44, 42]
abbrev dktL_law_72 : List UInt8 := dkwL_law_72 ++ dktL_law_73
def dkwL_law_71 : List UInt8 := [159, 0, 5, 3, 172, 21, 5, 154, 0, 16, 45, 180, 0, 13, 21, 6, 133, 148, 153, 0, 5, 3, 172]
abbrev dktL_law_71 : List UInt8 := dkwL_law_71 ++ dktL_law_72
def dkwL_law_70 : List UInt8 := [21, 4, 4, 96, 46, 42, 21, 4, 5, 96, 46, 182, 0, 207, 54, 6, 44, 182, 0, 137, 21, 5]
abbrev dktL_law_70 : List UInt8 := dkwL_law_70 ++ dktL_law_71
def dkwL_law_69 : List UInt8 := [167, 3, 30, 43, 42, 21, 4, 4, 96, 46, 42, 21, 4, 5, 96, 46, 45, 184, 0, 205, 54, 5, 44, 42]
abbrev dktL_law_69 : List UInt8 := dkwL_law_69 ++ dktL_law_70
def dkwL_law_68 : List UInt8 := [159, 0, 5, 3, 172, 21, 5, 154, 0, 16, 45, 180, 0, 13, 21, 6, 133, 148, 153, 0, 5, 3, 172]
abbrev dktL_law_68 : List UInt8 := dkwL_law_68 ++ dktL_law_69
def dkwL_law_67 : List UInt8 := [42, 21, 4, 5, 96, 46, 42, 21, 4, 6, 96, 46, 182, 0, 204, 54, 6, 44, 182, 0, 137, 21, 5]
abbrev dktL_law_67 : List UInt8 := dkwL_law_67 ++ dktL_law_68
def dkwL_law_66 : List UInt8 := [21, 4, 5, 96, 46, 42, 21, 4, 6, 96, 46, 45, 184, 0, 202, 54, 5, 44, 42, 21, 4, 4, 96, 46]
abbrev dktL_law_66 : List UInt8 := dkwL_law_66 ++ dktL_law_67
def dkwL_law_65 : List UInt8 := [180, 0, 13, 21, 6, 133, 148, 153, 0, 5, 3, 172, 167, 3, 111, 43, 42, 21, 4, 4, 96, 46, 42]
abbrev dktL_law_65 : List UInt8 := dkwL_law_65 ++ dktL_law_66
def dkwL_law_64 : List UInt8 := [182, 0, 201, 54, 6, 44, 182, 0, 137, 21, 5, 159, 0, 5, 3, 172, 21, 5, 154, 0, 16, 45]
abbrev dktL_law_64 : List UInt8 := dkwL_law_64 ++ dktL_law_65
def dkwL_law_63 : List UInt8 := [21, 4, 5, 96, 46, 45, 184, 0, 199, 54, 5, 44, 42, 21, 4, 4, 96, 46, 42, 21, 4, 5, 96, 46]
abbrev dktL_law_63 : List UInt8 := dkwL_law_63 ++ dktL_law_64
def dkwL_law_62 : List UInt8 := [180, 0, 13, 21, 6, 133, 148, 153, 0, 5, 3, 172, 167, 3, 180, 43, 42, 21, 4, 4, 96, 46, 42]
abbrev dktL_law_62 : List UInt8 := dkwL_law_62 ++ dktL_law_63
def dkwL_law_61 : List UInt8 := [182, 0, 198, 54, 6, 44, 182, 0, 137, 21, 5, 159, 0, 5, 3, 172, 21, 5, 154, 0, 16, 45]
abbrev dktL_law_61 : List UInt8 := dkwL_law_61 ++ dktL_law_62
def dkwL_law_60 : List UInt8 := [21, 4, 5, 96, 46, 45, 184, 0, 196, 54, 5, 44, 42, 21, 4, 4, 96, 46, 42, 21, 4, 5, 96, 46]
abbrev dktL_law_60 : List UInt8 := dkwL_law_60 ++ dktL_law_61
def dkwL_law_59 : List UInt8 := [180, 0, 13, 21, 6, 133, 148, 153, 0, 5, 3, 172, 167, 3, 249, 43, 42, 21, 4, 4, 96, 46, 42]
abbrev dktL_law_59 : List UInt8 := dkwL_law_59 ++ dktL_law_60
def dkwL_law_58 : List UInt8 := [182, 0, 195, 54, 6, 44, 182, 0, 137, 21, 5, 159, 0, 5, 3, 172, 21, 5, 154, 0, 16, 45]
abbrev dktL_law_58 : List UInt8 := dkwL_law_58 ++ dktL_law_59
def dkwL_law_57 : List UInt8 := [184, 0, 193, 54, 5, 44, 42, 21, 4, 4, 96, 46, 42, 21, 4, 5, 96, 46, 42, 21, 4, 6, 96, 46]
abbrev dktL_law_57 : List UInt8 := dkwL_law_57 ++ dktL_law_58
def dkwL_law_56 : List UInt8 := [172, 167, 4, 74, 43, 42, 21, 4, 4, 96, 46, 42, 21, 4, 5, 96, 46, 42, 21, 4, 6, 96, 46, 45]
abbrev dktL_law_56 : List UInt8 := dkwL_law_56 ++ dktL_law_57
def dkwL_law_55 : List UInt8 := [21, 5, 159, 0, 5, 3, 172, 21, 5, 154, 0, 16, 45, 180, 0, 13, 21, 6, 133, 148, 153, 0, 5, 3]
abbrev dktL_law_55 : List UInt8 := dkwL_law_55 ++ dktL_law_56
def dkwL_law_54 : List UInt8 := [96, 46, 45, 184, 0, 190, 54, 5, 44, 42, 21, 4, 4, 96, 46, 182, 0, 192, 54, 6, 44, 182, 0, 137]
abbrev dktL_law_54 : List UInt8 := dkwL_law_54 ++ dktL_law_55
def dkwL_law_53 : List UInt8 := [154, 0, 16, 45, 180, 0, 13, 21, 6, 133, 148, 153, 0, 5, 3, 172, 167, 4, 131, 43, 42, 21, 4, 4]
abbrev dktL_law_53 : List UInt8 := dkwL_law_53 ++ dktL_law_54
def dkwL_law_52 : List UInt8 := [21, 4, 4, 96, 46, 182, 0, 189, 54, 6, 44, 182, 0, 137, 21, 5, 159, 0, 5, 3, 172, 21, 5]
abbrev dktL_law_52 : List UInt8 := dkwL_law_52 ++ dktL_law_53
def dkwL_law_51 : List UInt8 := [153, 0, 5, 3, 172, 167, 4, 188, 43, 42, 21, 4, 4, 96, 46, 45, 184, 0, 187, 54, 5, 44, 42]
abbrev dktL_law_51 : List UInt8 := dkwL_law_51 ++ dktL_law_52
def dkwL_law_50 : List UInt8 := [182, 0, 137, 21, 5, 159, 0, 5, 3, 172, 21, 5, 154, 0, 16, 45, 180, 0, 13, 21, 6, 133, 148]
abbrev dktL_law_50 : List UInt8 := dkwL_law_50 ++ dktL_law_51
def dkwL_law_49 : List UInt8 := [42, 21, 4, 4, 96, 46, 42, 21, 4, 5, 96, 46, 42, 21, 4, 6, 96, 46, 182, 0, 186, 54, 6, 44]
abbrev dktL_law_49 : List UInt8 := dkwL_law_49 ++ dktL_law_50
def dkwL_law_48 : List UInt8 := [21, 4, 4, 96, 46, 42, 21, 4, 5, 96, 46, 42, 21, 4, 6, 96, 46, 45, 184, 0, 184, 54, 5, 44]
abbrev dktL_law_48 : List UInt8 := dkwL_law_48 ++ dktL_law_49
def dkwL_law_47 : List UInt8 := [21, 5, 154, 0, 16, 45, 180, 0, 13, 21, 6, 133, 148, 153, 0, 5, 3, 172, 167, 5, 13, 43, 42]
abbrev dktL_law_47 : List UInt8 := dkwL_law_47 ++ dktL_law_48
def dkwL_law_46 : List UInt8 := [153, 0, 7, 4, 167, 0, 4, 3, 182, 0, 183, 54, 6, 44, 182, 0, 137, 21, 5, 159, 0, 5, 3, 172]
abbrev dktL_law_46 : List UInt8 := dkwL_law_46 ++ dktL_law_47
def dkwL_law_45 : List UInt8 := [4, 167, 0, 4, 3, 45, 184, 0, 181, 54, 5, 44, 42, 21, 4, 4, 96, 46, 42, 21, 4, 5, 96, 46]
abbrev dktL_law_45 : List UInt8 := dkwL_law_45 ++ dktL_law_46
def dkwL_law_44 : List UInt8 := [153, 0, 5, 3, 172, 167, 5, 98, 43, 42, 21, 4, 4, 96, 46, 42, 21, 4, 5, 96, 46, 153, 0, 7]
abbrev dktL_law_44 : List UInt8 := dkwL_law_44 ++ dktL_law_45
def dkwL_law_43 : List UInt8 := [182, 0, 137, 21, 5, 159, 0, 5, 3, 172, 21, 5, 154, 0, 16, 45, 180, 0, 13, 21, 6, 133, 148]
abbrev dktL_law_43 : List UInt8 := dkwL_law_43 ++ dktL_law_44
def dkwL_law_42 : List UInt8 := [184, 0, 178, 54, 5, 44, 42, 21, 4, 4, 96, 46, 42, 21, 4, 5, 96, 46, 182, 0, 180, 54, 6, 44]
abbrev dktL_law_42 : List UInt8 := dkwL_law_42 ++ dktL_law_43
def dkwL_law_41 : List UInt8 := [153, 0, 5, 3, 172, 167, 5, 167, 43, 42, 21, 4, 4, 96, 46, 42, 21, 4, 5, 96, 46, 45]
abbrev dktL_law_41 : List UInt8 := dkwL_law_41 ++ dktL_law_42
def dkwL_law_40 : List UInt8 := [182, 0, 137, 21, 5, 159, 0, 5, 3, 172, 21, 5, 154, 0, 16, 45, 180, 0, 13, 21, 6, 133, 148]
abbrev dktL_law_40 : List UInt8 := dkwL_law_40 ++ dktL_law_41
def dkwL_law_39 : List UInt8 := [42, 21, 4, 4, 96, 46, 42, 21, 4, 5, 96, 46, 42, 21, 4, 6, 96, 46, 182, 0, 177, 54, 6, 44]
abbrev dktL_law_39 : List UInt8 := dkwL_law_39 ++ dktL_law_40
def dkwL_law_38 : List UInt8 := [21, 4, 4, 96, 46, 42, 21, 4, 5, 96, 46, 42, 21, 4, 6, 96, 46, 45, 184, 0, 175, 54, 5, 44]
abbrev dktL_law_38 : List UInt8 := dkwL_law_38 ++ dktL_law_39
def dkwL_law_37 : List UInt8 := [180, 0, 13, 21, 6, 153, 0, 7, 10, 167, 0, 4, 9, 148, 153, 0, 5, 3, 172, 167, 5, 248, 43, 42]
abbrev dktL_law_37 : List UInt8 := dkwL_law_37 ++ dktL_law_38
def dkwL_law_36 : List UInt8 := [182, 0, 174, 54, 6, 44, 182, 0, 137, 21, 5, 159, 0, 5, 3, 172, 21, 5, 154, 0, 23, 45]
abbrev dktL_law_36 : List UInt8 := dkwL_law_36 ++ dktL_law_37
def dkwL_law_35 : List UInt8 := [184, 0, 172, 54, 5, 44, 42, 21, 4, 4, 96, 46, 42, 21, 4, 5, 96, 46, 42, 21, 4, 6, 96, 46]
abbrev dktL_law_35 : List UInt8 := dkwL_law_35 ++ dktL_law_36
def dkwL_law_34 : List UInt8 := [167, 6, 80, 43, 42, 21, 4, 4, 96, 46, 42, 21, 4, 5, 96, 46, 42, 21, 4, 6, 96, 46, 45]
abbrev dktL_law_34 : List UInt8 := dkwL_law_34 ++ dktL_law_35
def dkwL_law_33 : List UInt8 := [159, 0, 5, 3, 172, 21, 5, 154, 0, 16, 45, 180, 0, 13, 21, 6, 133, 148, 153, 0, 5, 3, 172]
abbrev dktL_law_33 : List UInt8 := dkwL_law_33 ++ dktL_law_34
def dkwL_law_32 : List UInt8 := [21, 4, 4, 96, 46, 42, 21, 4, 5, 96, 46, 182, 0, 171, 54, 6, 44, 182, 0, 137, 21, 5]
abbrev dktL_law_32 : List UInt8 := dkwL_law_32 ++ dktL_law_33
def dkwL_law_31 : List UInt8 := [167, 6, 149, 43, 42, 21, 4, 4, 96, 46, 42, 21, 4, 5, 96, 46, 45, 184, 0, 169, 54, 5, 44, 42]
abbrev dktL_law_31 : List UInt8 := dkwL_law_31 ++ dktL_law_32
def dkwL_law_30 : List UInt8 := [159, 0, 5, 3, 172, 21, 5, 154, 0, 16, 45, 180, 0, 13, 21, 6, 133, 148, 153, 0, 5, 3, 172]
abbrev dktL_law_30 : List UInt8 := dkwL_law_30 ++ dktL_law_31
def dkwL_law_29 : List UInt8 := [184, 0, 165, 54, 5, 44, 42, 21, 4, 4, 96, 46, 182, 0, 168, 54, 6, 44, 182, 0, 137, 21, 5]
abbrev dktL_law_29 : List UInt8 := dkwL_law_29 ++ dktL_law_30
def dkwL_law_28 : List UInt8 := [180, 0, 13, 21, 6, 133, 148, 153, 0, 5, 3, 172, 167, 6, 206, 43, 42, 21, 4, 4, 96, 46, 45]
abbrev dktL_law_28 : List UInt8 := dkwL_law_28 ++ dktL_law_29
def dkwL_law_27 : List UInt8 := [182, 0, 164, 54, 6, 44, 182, 0, 137, 21, 5, 159, 0, 5, 3, 172, 21, 5, 154, 0, 16, 45]
abbrev dktL_law_27 : List UInt8 := dkwL_law_27 ++ dktL_law_28
def dkwL_law_26 : List UInt8 := [21, 4, 5, 96, 46, 45, 184, 0, 162, 54, 5, 44, 42, 21, 4, 4, 96, 46, 42, 21, 4, 5, 96, 46]
abbrev dktL_law_26 : List UInt8 := dkwL_law_26 ++ dktL_law_27
def dkwL_law_25 : List UInt8 := [45, 180, 0, 13, 21, 6, 133, 148, 153, 0, 5, 3, 172, 167, 7, 19, 43, 42, 21, 4, 4, 96, 46, 42]
abbrev dktL_law_25 : List UInt8 := dkwL_law_25 ++ dktL_law_26
def dkwL_law_24 : List UInt8 := [7, 96, 46, 182, 0, 161, 54, 6, 44, 182, 0, 137, 21, 5, 159, 0, 5, 3, 172, 21, 5, 154, 0, 16]
abbrev dktL_law_24 : List UInt8 := dkwL_law_24 ++ dktL_law_25
def dkwL_law_23 : List UInt8 := [54, 5, 44, 42, 21, 4, 4, 96, 46, 42, 21, 4, 5, 96, 46, 42, 21, 4, 6, 96, 46, 42, 21, 4]
abbrev dktL_law_23 : List UInt8 := dkwL_law_23 ++ dktL_law_24
def dkwL_law_22 : List UInt8 := [96, 46, 42, 21, 4, 5, 96, 46, 42, 21, 4, 6, 96, 46, 42, 21, 4, 7, 96, 46, 45, 184, 0, 158]
abbrev dktL_law_22 : List UInt8 := dkwL_law_22 ++ dktL_law_23
def dkwL_law_21 : List UInt8 := [154, 0, 16, 45, 180, 0, 13, 21, 6, 133, 148, 153, 0, 5, 3, 172, 167, 7, 112, 43, 42, 21, 4, 4]
abbrev dktL_law_21 : List UInt8 := dkwL_law_21 ++ dktL_law_22
def dkwL_law_20 : List UInt8 := [42, 21, 4, 5, 96, 46, 182, 0, 157, 54, 6, 44, 182, 0, 137, 21, 5, 159, 0, 5, 3, 172, 21, 5]
abbrev dktL_law_20 : List UInt8 := dkwL_law_20 ++ dktL_law_21
def dkwL_law_19 : List UInt8 := [21, 4, 4, 96, 46, 42, 21, 4, 5, 96, 46, 45, 184, 0, 155, 54, 5, 44, 42, 21, 4, 4, 96, 46]
abbrev dktL_law_19 : List UInt8 := dkwL_law_19 ++ dktL_law_20
def dkwL_law_18 : List UInt8 := [21, 5, 154, 0, 16, 45, 180, 0, 13, 21, 6, 133, 148, 153, 0, 5, 3, 172, 167, 7, 181, 43, 42]
abbrev dktL_law_18 : List UInt8 := dkwL_law_18 ++ dktL_law_19
def dkwL_law_17 : List UInt8 := [153, 0, 7, 4, 167, 0, 4, 3, 182, 0, 154, 54, 6, 44, 182, 0, 137, 21, 5, 159, 0, 5, 3, 172]
abbrev dktL_law_17 : List UInt8 := dkwL_law_17 ++ dktL_law_18
def dkwL_law_16 : List UInt8 := [4, 167, 0, 4, 3, 45, 184, 0, 151, 54, 5, 44, 42, 21, 4, 4, 96, 46, 42, 21, 4, 5, 96, 46]
abbrev dktL_law_16 : List UInt8 := dkwL_law_16 ++ dktL_law_17
def dkwL_law_15 : List UInt8 := [153, 0, 5, 3, 172, 167, 8, 10, 43, 42, 21, 4, 4, 96, 46, 42, 21, 4, 5, 96, 46, 153, 0, 7]
abbrev dktL_law_15 : List UInt8 := dkwL_law_15 ++ dktL_law_16
def dkwL_law_14 : List UInt8 := [182, 0, 137, 21, 5, 159, 0, 5, 3, 172, 21, 5, 154, 0, 16, 45, 180, 0, 13, 21, 6, 133, 148]
abbrev dktL_law_14 : List UInt8 := dkwL_law_14 ++ dktL_law_15
def dkwL_law_13 : List UInt8 := [184, 0, 148, 54, 5, 44, 42, 21, 4, 4, 96, 46, 42, 21, 4, 5, 96, 46, 182, 0, 150, 54, 6, 44]
abbrev dktL_law_13 : List UInt8 := dkwL_law_13 ++ dktL_law_14
def dkwL_law_12 : List UInt8 := [153, 0, 5, 3, 172, 167, 8, 79, 43, 42, 21, 4, 4, 96, 46, 42, 21, 4, 5, 96, 46, 45]
abbrev dktL_law_12 : List UInt8 := dkwL_law_12 ++ dktL_law_13
def dkwL_law_11 : List UInt8 := [182, 0, 137, 21, 5, 159, 0, 5, 3, 172, 21, 5, 154, 0, 16, 45, 180, 0, 13, 21, 6, 133, 148]
abbrev dktL_law_11 : List UInt8 := dkwL_law_11 ++ dktL_law_12
def dkwL_law_10 : List UInt8 := [184, 0, 145, 54, 5, 44, 42, 21, 4, 4, 96, 46, 42, 21, 4, 5, 96, 46, 182, 0, 147, 54, 6, 44]
abbrev dktL_law_10 : List UInt8 := dkwL_law_10 ++ dktL_law_11
def dkwL_law_9 : List UInt8 := [153, 0, 5, 3, 172, 167, 8, 148, 43, 42, 21, 4, 4, 96, 46, 42, 21, 4, 5, 96, 46, 45]
abbrev dktL_law_9 : List UInt8 := dkwL_law_9 ++ dktL_law_10
def dkwL_law_8 : List UInt8 := [182, 0, 137, 21, 5, 159, 0, 5, 3, 172, 21, 5, 154, 0, 16, 45, 180, 0, 13, 21, 6, 133, 148]
abbrev dktL_law_8 : List UInt8 := dkwL_law_8 ++ dktL_law_9
def dkwL_law_7 : List UInt8 := [184, 0, 141, 54, 5, 44, 42, 21, 4, 4, 96, 46, 42, 21, 4, 5, 96, 46, 182, 0, 144, 54, 6, 44]
abbrev dktL_law_7 : List UInt8 := dkwL_law_7 ++ dktL_law_8
def dkwL_law_6 : List UInt8 := [133, 148, 153, 0, 5, 3, 172, 167, 8, 217, 43, 42, 21, 4, 4, 96, 46, 42, 21, 4, 5, 96, 46, 45]
abbrev dktL_law_6 : List UInt8 := dkwL_law_6 ++ dktL_law_7
def dkwL_law_5 : List UInt8 := [54, 6, 44, 182, 0, 137, 21, 5, 159, 0, 5, 3, 172, 21, 5, 154, 0, 16, 45, 180, 0, 13, 21, 6]
abbrev dktL_law_5 : List UInt8 := dkwL_law_5 ++ dktL_law_6
def dkwL_law_4 : List UInt8 := [54, 5, 44, 42, 21, 4, 4, 96, 46, 42, 21, 4, 5, 96, 46, 42, 21, 4, 6, 96, 46, 182, 0, 136]
abbrev dktL_law_4 : List UInt8 := dkwL_law_4 ++ dktL_law_5
def dkwL_law_3 : List UInt8 := [43, 42, 21, 4, 4, 96, 46, 42, 21, 4, 5, 96, 46, 42, 21, 4, 6, 96, 46, 45, 184, 0, 131]
abbrev dktL_law_3 : List UInt8 := dkwL_law_3 ++ dktL_law_4
def dkwL_law_2 : List UInt8 := [170, 0, 0, 9, 188, 0, 0, 0, 0, 0, 0, 0, 33, 0, 0, 0, 149, 0, 0, 0, 230, 0, 0, 1, 43, 0, 0, 1, 112, 0, 0, 1, 181, 0, 0, 2, 10, 0, 0, 2, 79, 0, 0, 2, 172, 0, 0, 2, 241, 0, 0, 3, 42, 0, 0, 3, 111, 0, 0, 3, 199, 0, 0, 4, 24, 0, 0, 4, 93, 0, 0, 4, 178, 0, 0, 5, 3, 0, 0, 5, 60, 0, 0, 5, 117, 0, 0, 5, 198, 0, 0, 6, 11, 0, 0, 6, 80, 0, 0, 6, 161, 0, 0, 6, 230, 0, 0, 7, 43, 0, 0, 7, 112, 0, 0, 7, 193, 0, 0, 8, 6, 0, 0, 8, 99, 0, 0, 8, 180, 0, 0, 9, 21, 0, 0, 9, 78, 0, 0, 9, 148, 0, 0, 9, 161, 0, 0, 9, 174]
abbrev dktL_law_2 : List UInt8 := dkwL_law_2 ++ dktL_law_3
def dkwL_law_1 : List UInt8 := [3, 54, 4, 21, 4, 42, 190, 8, 100, 163, 9, 204, 42, 21, 4, 46, 16, 63, 126]
abbrev dktL_law_1 : List UInt8 := dkwL_law_1 ++ dktL_law_2
def dkwL_law_0 : List UInt8 := [187, 0, 8, 89, 183, 0, 126, 76, 187, 0, 127, 89, 183, 0, 129, 77, 187, 0, 14, 89, 183, 0, 130, 78]
abbrev dktL_law_0 : List UInt8 := dkwL_law_0 ++ dktL_law_1
theorem dksL_law_0 : cL_law.data.toList.drop 0 = dktL_law_0 := by decide +kernel
theorem dksL_law_1 : cL_law.data.toList.drop 24 = dktL_law_1 := dk_seg dksL_law_0 24 rfl rfl
theorem dksL_law_2 : cL_law.data.toList.drop 43 = dktL_law_2 := dk_seg dksL_law_1 19 rfl rfl
theorem dksL_law_3 : cL_law.data.toList.drop 192 = dktL_law_3 := dk_seg dksL_law_2 149 rfl rfl
theorem dksL_law_4 : cL_law.data.toList.drop 215 = dktL_law_4 := dk_seg dksL_law_3 23 rfl rfl
theorem dksL_law_5 : cL_law.data.toList.drop 239 = dktL_law_5 := dk_seg dksL_law_4 24 rfl rfl
theorem dksL_law_6 : cL_law.data.toList.drop 263 = dktL_law_6 := dk_seg dksL_law_5 24 rfl rfl
theorem dksL_law_7 : cL_law.data.toList.drop 287 = dktL_law_7 := dk_seg dksL_law_6 24 rfl rfl
theorem dksL_law_8 : cL_law.data.toList.drop 311 = dktL_law_8 := dk_seg dksL_law_7 24 rfl rfl
theorem dksL_law_9 : cL_law.data.toList.drop 334 = dktL_law_9 := dk_seg dksL_law_8 23 rfl rfl
theorem dksL_law_10 : cL_law.data.toList.drop 356 = dktL_law_10 := dk_seg dksL_law_9 22 rfl rfl
theorem dksL_law_11 : cL_law.data.toList.drop 380 = dktL_law_11 := dk_seg dksL_law_10 24 rfl rfl
theorem dksL_law_12 : cL_law.data.toList.drop 403 = dktL_law_12 := dk_seg dksL_law_11 23 rfl rfl
theorem dksL_law_13 : cL_law.data.toList.drop 425 = dktL_law_13 := dk_seg dksL_law_12 22 rfl rfl
theorem dksL_law_14 : cL_law.data.toList.drop 449 = dktL_law_14 := dk_seg dksL_law_13 24 rfl rfl
theorem dksL_law_15 : cL_law.data.toList.drop 472 = dktL_law_15 := dk_seg dksL_law_14 23 rfl rfl
theorem dksL_law_16 : cL_law.data.toList.drop 496 = dktL_law_16 := dk_seg dksL_law_15 24 rfl rfl
theorem dksL_law_17 : cL_law.data.toList.drop 520 = dktL_law_17 := dk_seg dksL_law_16 24 rfl rfl
theorem dksL_law_18 : cL_law.data.toList.drop 544 = dktL_law_18 := dk_seg dksL_law_17 24 rfl rfl
theorem dksL_law_19 : cL_law.data.toList.drop 567 = dktL_law_19 := dk_seg dksL_law_18 23 rfl rfl
theorem dksL_law_20 : cL_law.data.toList.drop 591 = dktL_law_20 := dk_seg dksL_law_19 24 rfl rfl
theorem dksL_law_21 : cL_law.data.toList.drop 615 = dktL_law_21 := dk_seg dksL_law_20 24 rfl rfl
theorem dksL_law_22 : cL_law.data.toList.drop 639 = dktL_law_22 := dk_seg dksL_law_21 24 rfl rfl
theorem dksL_law_23 : cL_law.data.toList.drop 663 = dktL_law_23 := dk_seg dksL_law_22 24 rfl rfl
theorem dksL_law_24 : cL_law.data.toList.drop 687 = dktL_law_24 := dk_seg dksL_law_23 24 rfl rfl
theorem dksL_law_25 : cL_law.data.toList.drop 711 = dktL_law_25 := dk_seg dksL_law_24 24 rfl rfl
theorem dksL_law_26 : cL_law.data.toList.drop 735 = dktL_law_26 := dk_seg dksL_law_25 24 rfl rfl
theorem dksL_law_27 : cL_law.data.toList.drop 759 = dktL_law_27 := dk_seg dksL_law_26 24 rfl rfl
theorem dksL_law_28 : cL_law.data.toList.drop 781 = dktL_law_28 := dk_seg dksL_law_27 22 rfl rfl
theorem dksL_law_29 : cL_law.data.toList.drop 804 = dktL_law_29 := dk_seg dksL_law_28 23 rfl rfl
theorem dksL_law_30 : cL_law.data.toList.drop 827 = dktL_law_30 := dk_seg dksL_law_29 23 rfl rfl
theorem dksL_law_31 : cL_law.data.toList.drop 850 = dktL_law_31 := dk_seg dksL_law_30 23 rfl rfl
theorem dksL_law_32 : cL_law.data.toList.drop 874 = dktL_law_32 := dk_seg dksL_law_31 24 rfl rfl
theorem dksL_law_33 : cL_law.data.toList.drop 896 = dktL_law_33 := dk_seg dksL_law_32 22 rfl rfl
theorem dksL_law_34 : cL_law.data.toList.drop 919 = dktL_law_34 := dk_seg dksL_law_33 23 rfl rfl
theorem dksL_law_35 : cL_law.data.toList.drop 942 = dktL_law_35 := dk_seg dksL_law_34 23 rfl rfl
theorem dksL_law_36 : cL_law.data.toList.drop 966 = dktL_law_36 := dk_seg dksL_law_35 24 rfl rfl
theorem dksL_law_37 : cL_law.data.toList.drop 988 = dktL_law_37 := dk_seg dksL_law_36 22 rfl rfl
theorem dksL_law_38 : cL_law.data.toList.drop 1012 = dktL_law_38 := dk_seg dksL_law_37 24 rfl rfl
theorem dksL_law_39 : cL_law.data.toList.drop 1036 = dktL_law_39 := dk_seg dksL_law_38 24 rfl rfl
theorem dksL_law_40 : cL_law.data.toList.drop 1060 = dktL_law_40 := dk_seg dksL_law_39 24 rfl rfl
theorem dksL_law_41 : cL_law.data.toList.drop 1083 = dktL_law_41 := dk_seg dksL_law_40 23 rfl rfl
theorem dksL_law_42 : cL_law.data.toList.drop 1105 = dktL_law_42 := dk_seg dksL_law_41 22 rfl rfl
theorem dksL_law_43 : cL_law.data.toList.drop 1129 = dktL_law_43 := dk_seg dksL_law_42 24 rfl rfl
theorem dksL_law_44 : cL_law.data.toList.drop 1152 = dktL_law_44 := dk_seg dksL_law_43 23 rfl rfl
theorem dksL_law_45 : cL_law.data.toList.drop 1176 = dktL_law_45 := dk_seg dksL_law_44 24 rfl rfl
theorem dksL_law_46 : cL_law.data.toList.drop 1200 = dktL_law_46 := dk_seg dksL_law_45 24 rfl rfl
theorem dksL_law_47 : cL_law.data.toList.drop 1224 = dktL_law_47 := dk_seg dksL_law_46 24 rfl rfl
theorem dksL_law_48 : cL_law.data.toList.drop 1247 = dktL_law_48 := dk_seg dksL_law_47 23 rfl rfl
theorem dksL_law_49 : cL_law.data.toList.drop 1271 = dktL_law_49 := dk_seg dksL_law_48 24 rfl rfl
theorem dksL_law_50 : cL_law.data.toList.drop 1295 = dktL_law_50 := dk_seg dksL_law_49 24 rfl rfl
theorem dksL_law_51 : cL_law.data.toList.drop 1318 = dktL_law_51 := dk_seg dksL_law_50 23 rfl rfl
theorem dksL_law_52 : cL_law.data.toList.drop 1341 = dktL_law_52 := dk_seg dksL_law_51 23 rfl rfl
theorem dksL_law_53 : cL_law.data.toList.drop 1364 = dktL_law_53 := dk_seg dksL_law_52 23 rfl rfl
theorem dksL_law_54 : cL_law.data.toList.drop 1388 = dktL_law_54 := dk_seg dksL_law_53 24 rfl rfl
theorem dksL_law_55 : cL_law.data.toList.drop 1412 = dktL_law_55 := dk_seg dksL_law_54 24 rfl rfl
theorem dksL_law_56 : cL_law.data.toList.drop 1436 = dktL_law_56 := dk_seg dksL_law_55 24 rfl rfl
theorem dksL_law_57 : cL_law.data.toList.drop 1460 = dktL_law_57 := dk_seg dksL_law_56 24 rfl rfl
theorem dksL_law_58 : cL_law.data.toList.drop 1484 = dktL_law_58 := dk_seg dksL_law_57 24 rfl rfl
theorem dksL_law_59 : cL_law.data.toList.drop 1506 = dktL_law_59 := dk_seg dksL_law_58 22 rfl rfl
theorem dksL_law_60 : cL_law.data.toList.drop 1529 = dktL_law_60 := dk_seg dksL_law_59 23 rfl rfl
theorem dksL_law_61 : cL_law.data.toList.drop 1553 = dktL_law_61 := dk_seg dksL_law_60 24 rfl rfl
theorem dksL_law_62 : cL_law.data.toList.drop 1575 = dktL_law_62 := dk_seg dksL_law_61 22 rfl rfl
theorem dksL_law_63 : cL_law.data.toList.drop 1598 = dktL_law_63 := dk_seg dksL_law_62 23 rfl rfl
theorem dksL_law_64 : cL_law.data.toList.drop 1622 = dktL_law_64 := dk_seg dksL_law_63 24 rfl rfl
theorem dksL_law_65 : cL_law.data.toList.drop 1644 = dktL_law_65 := dk_seg dksL_law_64 22 rfl rfl
theorem dksL_law_66 : cL_law.data.toList.drop 1667 = dktL_law_66 := dk_seg dksL_law_65 23 rfl rfl
theorem dksL_law_67 : cL_law.data.toList.drop 1691 = dktL_law_67 := dk_seg dksL_law_66 24 rfl rfl
theorem dksL_law_68 : cL_law.data.toList.drop 1714 = dktL_law_68 := dk_seg dksL_law_67 23 rfl rfl
theorem dksL_law_69 : cL_law.data.toList.drop 1737 = dktL_law_69 := dk_seg dksL_law_68 23 rfl rfl
theorem dksL_law_70 : cL_law.data.toList.drop 1761 = dktL_law_70 := dk_seg dksL_law_69 24 rfl rfl
theorem dksL_law_71 : cL_law.data.toList.drop 1783 = dktL_law_71 := dk_seg dksL_law_70 22 rfl rfl
theorem dksL_law_72 : cL_law.data.toList.drop 1806 = dktL_law_72 := dk_seg dksL_law_71 23 rfl rfl
theorem dksL_law_73 : cL_law.data.toList.drop 1830 = dktL_law_73 := dk_seg dksL_law_72 24 rfl rfl
theorem dksL_law_74 : cL_law.data.toList.drop 1852 = dktL_law_74 := dk_seg dksL_law_73 22 rfl rfl
theorem dksL_law_75 : cL_law.data.toList.drop 1875 = dktL_law_75 := dk_seg dksL_law_74 23 rfl rfl
theorem dksL_law_76 : cL_law.data.toList.drop 1899 = dktL_law_76 := dk_seg dksL_law_75 24 rfl rfl
theorem dksL_law_77 : cL_law.data.toList.drop 1921 = dktL_law_77 := dk_seg dksL_law_76 22 rfl rfl
theorem dksL_law_78 : cL_law.data.toList.drop 1944 = dktL_law_78 := dk_seg dksL_law_77 23 rfl rfl
theorem dksL_law_79 : cL_law.data.toList.drop 1967 = dktL_law_79 := dk_seg dksL_law_78 23 rfl rfl
theorem dksL_law_80 : cL_law.data.toList.drop 1991 = dktL_law_80 := dk_seg dksL_law_79 24 rfl rfl
theorem dksL_law_81 : cL_law.data.toList.drop 2013 = dktL_law_81 := dk_seg dksL_law_80 22 rfl rfl
theorem dksL_law_82 : cL_law.data.toList.drop 2036 = dktL_law_82 := dk_seg dksL_law_81 23 rfl rfl
theorem dksL_law_83 : cL_law.data.toList.drop 2060 = dktL_law_83 := dk_seg dksL_law_82 24 rfl rfl
theorem dksL_law_84 : cL_law.data.toList.drop 2082 = dktL_law_84 := dk_seg dksL_law_83 22 rfl rfl
theorem dksL_law_85 : cL_law.data.toList.drop 2105 = dktL_law_85 := dk_seg dksL_law_84 23 rfl rfl
theorem dksL_law_86 : cL_law.data.toList.drop 2129 = dktL_law_86 := dk_seg dksL_law_85 24 rfl rfl
theorem dksL_law_87 : cL_law.data.toList.drop 2153 = dktL_law_87 := dk_seg dksL_law_86 24 rfl rfl
theorem dksL_law_88 : cL_law.data.toList.drop 2175 = dktL_law_88 := dk_seg dksL_law_87 22 rfl rfl
theorem dksL_law_89 : cL_law.data.toList.drop 2198 = dktL_law_89 := dk_seg dksL_law_88 23 rfl rfl
theorem dksL_law_90 : cL_law.data.toList.drop 2222 = dktL_law_90 := dk_seg dksL_law_89 24 rfl rfl
theorem dksL_law_91 : cL_law.data.toList.drop 2245 = dktL_law_91 := dk_seg dksL_law_90 23 rfl rfl
theorem dksL_law_92 : cL_law.data.toList.drop 2268 = dktL_law_92 := dk_seg dksL_law_91 23 rfl rfl
theorem dksL_law_93 : cL_law.data.toList.drop 2290 = dktL_law_93 := dk_seg dksL_law_92 22 rfl rfl
theorem dksL_law_94 : cL_law.data.toList.drop 2314 = dktL_law_94 := dk_seg dksL_law_93 24 rfl rfl
theorem dksL_law_95 : cL_law.data.toList.drop 2337 = dktL_law_95 := dk_seg dksL_law_94 23 rfl rfl
theorem dksL_law_96 : cL_law.data.toList.drop 2360 = dktL_law_96 := dk_seg dksL_law_95 23 rfl rfl
theorem dksL_law_97 : cL_law.data.toList.drop 2383 = dktL_law_97 := dk_seg dksL_law_96 23 rfl rfl
theorem dksL_law_98 : cL_law.data.toList.drop 2406 = dktL_law_98 := dk_seg dksL_law_97 23 rfl rfl
theorem dksL_law_99 : cL_law.data.toList.drop 2430 = dktL_law_99 := dk_seg dksL_law_98 24 rfl rfl
theorem dksL_law_100 : cL_law.data.toList.drop 2454 = dktL_law_100 := dk_seg dksL_law_99 24 rfl rfl
theorem dksL_law_101 : cL_law.data.toList.drop 2478 = dktL_law_101 := dk_seg dksL_law_100 24 rfl rfl
theorem dksL_law_102 : cL_law.data.toList.drop 2500 = dktL_law_102 := dk_seg dksL_law_101 22 rfl rfl
theorem dksL_law_103 : cL_law.data.toList.drop 2522 = dktL_law_103 := dk_seg dksL_law_102 22 rfl rfl
theorem dL_law_0 : decode cL_law 0 = .ok (.new 8, 3) := dk_187 0 8 (dk_at dksL_law_0 0 rfl rfl)
theorem dL_law_3 : decode cL_law 3 = .ok (.dup, 1) := dk_89 (dk_at dksL_law_0 3 rfl rfl)
theorem dL_law_4 : decode cL_law 4 = .ok (.invokespecial 126, 3) := dk_183 0 126 (dk_at dksL_law_0 4 rfl rfl)
theorem dL_law_7 : decode cL_law 7 = .ok (.astore_n 1, 1) := dk_76 (dk_at dksL_law_0 7 rfl rfl)
theorem dL_law_8 : decode cL_law 8 = .ok (.new 127, 3) := dk_187 0 127 (dk_at dksL_law_0 8 rfl rfl)
theorem dL_law_11 : decode cL_law 11 = .ok (.dup, 1) := dk_89 (dk_at dksL_law_0 11 rfl rfl)
theorem dL_law_12 : decode cL_law 12 = .ok (.invokespecial 129, 3) := dk_183 0 129 (dk_at dksL_law_0 12 rfl rfl)
theorem dL_law_15 : decode cL_law 15 = .ok (.astore_n 2, 1) := dk_77 (dk_at dksL_law_0 15 rfl rfl)
theorem dL_law_16 : decode cL_law 16 = .ok (.new 14, 3) := dk_187 0 14 (dk_at dksL_law_0 16 rfl rfl)
theorem dL_law_19 : decode cL_law 19 = .ok (.dup, 1) := dk_89 (dk_at dksL_law_0 19 rfl rfl)
theorem dL_law_20 : decode cL_law 20 = .ok (.invokespecial 130, 3) := dk_183 0 130 (dk_at dksL_law_0 20 rfl rfl)
theorem dL_law_23 : decode cL_law 23 = .ok (.astore_n 3, 1) := dk_78 (dk_at dksL_law_0 23 rfl rfl)
theorem dL_law_24 : decode cL_law 24 = .ok (.iconst 0, 1) := dk_3 (dk_at dksL_law_1 0 rfl rfl)
theorem dL_law_25 : decode cL_law 25 = .ok (.istore 4, 2) := dk_54 4 (dk_at dksL_law_1 1 rfl rfl)
theorem dL_law_27 : decode cL_law 27 = .ok (.iload 4, 2) := dk_21 4 (dk_at dksL_law_1 3 rfl rfl)
theorem dL_law_29 : decode cL_law 29 = .ok (.aload_n 0, 1) := dk_42 (dk_at dksL_law_1 5 rfl rfl)
theorem dL_law_30 : decode cL_law 30 = .ok (.arraylength, 1) := dk_190 (dk_at dksL_law_1 6 rfl rfl)
theorem dL_law_31 : decode cL_law 31 = .ok (.iconst 5, 1) := dk_8 (dk_at dksL_law_1 7 rfl rfl)
theorem dL_law_32 : decode cL_law 32 = .ok (.isub, 1) := dk_100 (dk_at dksL_law_1 8 rfl rfl)
theorem dL_law_33 : decode cL_law 33 = .ok (.if_icmp .gt 2508, 3) := dk_163 9 204 (dk_at dksL_law_1 9 rfl rfl)
theorem dL_law_36 : decode cL_law 36 = .ok (.aload_n 0, 1) := dk_42 (dk_at dksL_law_1 12 rfl rfl)
theorem dL_law_37 : decode cL_law 37 = .ok (.iload 4, 2) := dk_21 4 (dk_at dksL_law_1 13 rfl rfl)
theorem dL_law_39 : decode cL_law 39 = .ok (.iaload, 1) := dk_46 (dk_at dksL_law_1 15 rfl rfl)
theorem dL_law_40 : decode cL_law 40 = .ok (.bipush 63, 2) := dk_16 63 (dk_at dksL_law_1 16 rfl rfl)
theorem dL_law_42 : decode cL_law 42 = .ok (.iand, 1) := dk_126 (dk_at dksL_law_1 18 rfl rfl)
theorem dL_law_43 : decode cL_law 43 = .ok (.tableswitch 2492 0 33 #[149, 230, 299, 368, 437, 522, 591, 684, 753, 810, 879, 967, 1048, 1117, 1202, 1283, 1340, 1397, 1478, 1547, 1616, 1697, 1766, 1835, 1904, 1985, 2054, 2147, 2228, 2325, 2382, 2452, 2465, 2478], 149) := by decide +kernel
theorem dL_law_192 : decode cL_law 192 = .ok (.aload_n 1, 1) := dk_43 (dk_at dksL_law_3 0 rfl rfl)
theorem dL_law_193 : decode cL_law 193 = .ok (.aload_n 0, 1) := dk_42 (dk_at dksL_law_3 1 rfl rfl)
theorem dL_law_194 : decode cL_law 194 = .ok (.iload 4, 2) := dk_21 4 (dk_at dksL_law_3 2 rfl rfl)
theorem dL_law_196 : decode cL_law 196 = .ok (.iconst 1, 1) := dk_4 (dk_at dksL_law_3 4 rfl rfl)
theorem dL_law_197 : decode cL_law 197 = .ok (.iadd, 1) := dk_96 (dk_at dksL_law_3 5 rfl rfl)
theorem dL_law_198 : decode cL_law 198 = .ok (.iaload, 1) := dk_46 (dk_at dksL_law_3 6 rfl rfl)
theorem dL_law_199 : decode cL_law 199 = .ok (.aload_n 0, 1) := dk_42 (dk_at dksL_law_3 7 rfl rfl)
theorem dL_law_200 : decode cL_law 200 = .ok (.iload 4, 2) := dk_21 4 (dk_at dksL_law_3 8 rfl rfl)
theorem dL_law_202 : decode cL_law 202 = .ok (.iconst 2, 1) := dk_5 (dk_at dksL_law_3 10 rfl rfl)
theorem dL_law_203 : decode cL_law 203 = .ok (.iadd, 1) := dk_96 (dk_at dksL_law_3 11 rfl rfl)
theorem dL_law_204 : decode cL_law 204 = .ok (.iaload, 1) := dk_46 (dk_at dksL_law_3 12 rfl rfl)
theorem dL_law_205 : decode cL_law 205 = .ok (.aload_n 0, 1) := dk_42 (dk_at dksL_law_3 13 rfl rfl)
theorem dL_law_206 : decode cL_law 206 = .ok (.iload 4, 2) := dk_21 4 (dk_at dksL_law_3 14 rfl rfl)
theorem dL_law_208 : decode cL_law 208 = .ok (.iconst 3, 1) := dk_6 (dk_at dksL_law_3 16 rfl rfl)
theorem dL_law_209 : decode cL_law 209 = .ok (.iadd, 1) := dk_96 (dk_at dksL_law_3 17 rfl rfl)
theorem dL_law_210 : decode cL_law 210 = .ok (.iaload, 1) := dk_46 (dk_at dksL_law_3 18 rfl rfl)
theorem dL_law_211 : decode cL_law 211 = .ok (.aload_n 3, 1) := dk_45 (dk_at dksL_law_3 19 rfl rfl)
theorem dL_law_212 : decode cL_law 212 = .ok (.invokestatic 131, 3) := dk_184 0 131 (dk_at dksL_law_3 20 rfl rfl)
theorem dL_law_215 : decode cL_law 215 = .ok (.istore 5, 2) := dk_54 5 (dk_at dksL_law_4 0 rfl rfl)
theorem dL_law_217 : decode cL_law 217 = .ok (.aload_n 2, 1) := dk_44 (dk_at dksL_law_4 2 rfl rfl)
theorem dL_law_218 : decode cL_law 218 = .ok (.aload_n 0, 1) := dk_42 (dk_at dksL_law_4 3 rfl rfl)
theorem dL_law_219 : decode cL_law 219 = .ok (.iload 4, 2) := dk_21 4 (dk_at dksL_law_4 4 rfl rfl)
theorem dL_law_221 : decode cL_law 221 = .ok (.iconst 1, 1) := dk_4 (dk_at dksL_law_4 6 rfl rfl)
theorem dL_law_222 : decode cL_law 222 = .ok (.iadd, 1) := dk_96 (dk_at dksL_law_4 7 rfl rfl)
theorem dL_law_223 : decode cL_law 223 = .ok (.iaload, 1) := dk_46 (dk_at dksL_law_4 8 rfl rfl)
theorem dL_law_224 : decode cL_law 224 = .ok (.aload_n 0, 1) := dk_42 (dk_at dksL_law_4 9 rfl rfl)
theorem dL_law_225 : decode cL_law 225 = .ok (.iload 4, 2) := dk_21 4 (dk_at dksL_law_4 10 rfl rfl)
theorem dL_law_227 : decode cL_law 227 = .ok (.iconst 2, 1) := dk_5 (dk_at dksL_law_4 12 rfl rfl)
theorem dL_law_228 : decode cL_law 228 = .ok (.iadd, 1) := dk_96 (dk_at dksL_law_4 13 rfl rfl)
theorem dL_law_229 : decode cL_law 229 = .ok (.iaload, 1) := dk_46 (dk_at dksL_law_4 14 rfl rfl)
theorem dL_law_230 : decode cL_law 230 = .ok (.aload_n 0, 1) := dk_42 (dk_at dksL_law_4 15 rfl rfl)
theorem dL_law_231 : decode cL_law 231 = .ok (.iload 4, 2) := dk_21 4 (dk_at dksL_law_4 16 rfl rfl)
theorem dL_law_233 : decode cL_law 233 = .ok (.iconst 3, 1) := dk_6 (dk_at dksL_law_4 18 rfl rfl)
theorem dL_law_234 : decode cL_law 234 = .ok (.iadd, 1) := dk_96 (dk_at dksL_law_4 19 rfl rfl)
theorem dL_law_235 : decode cL_law 235 = .ok (.iaload, 1) := dk_46 (dk_at dksL_law_4 20 rfl rfl)
theorem dL_law_236 : decode cL_law 236 = .ok (.invokevirtual 136, 3) := dk_182 0 136 (dk_at dksL_law_4 21 rfl rfl)
theorem dL_law_239 : decode cL_law 239 = .ok (.istore 6, 2) := dk_54 6 (dk_at dksL_law_5 0 rfl rfl)
theorem dL_law_241 : decode cL_law 241 = .ok (.aload_n 2, 1) := dk_44 (dk_at dksL_law_5 2 rfl rfl)
theorem dL_law_242 : decode cL_law 242 = .ok (.invokevirtual 137, 3) := dk_182 0 137 (dk_at dksL_law_5 3 rfl rfl)
theorem dL_law_245 : decode cL_law 245 = .ok (.iload 5, 2) := dk_21 5 (dk_at dksL_law_5 6 rfl rfl)
theorem dL_law_247 : decode cL_law 247 = .ok (.if_icmp .eq 5, 3) := dk_159 0 5 (dk_at dksL_law_5 8 rfl rfl)
theorem dL_law_250 : decode cL_law 250 = .ok (.iconst 0, 1) := dk_3 (dk_at dksL_law_5 11 rfl rfl)
theorem dL_law_251 : decode cL_law 251 = .ok (.ireturn, 1) := dk_172 (dk_at dksL_law_5 12 rfl rfl)
theorem dL_law_252 : decode cL_law 252 = .ok (.iload 5, 2) := dk_21 5 (dk_at dksL_law_5 13 rfl rfl)
theorem dL_law_254 : decode cL_law 254 = .ok (.ifCond .ne 16, 3) := dk_154 0 16 (dk_at dksL_law_5 15 rfl rfl)
theorem dL_law_257 : decode cL_law 257 = .ok (.aload_n 3, 1) := dk_45 (dk_at dksL_law_5 18 rfl rfl)
theorem dL_law_258 : decode cL_law 258 = .ok (.getfield 13, 3) := dk_180 0 13 (dk_at dksL_law_5 19 rfl rfl)
theorem dL_law_261 : decode cL_law 261 = .ok (.iload 6, 2) := dk_21 6 (dk_at dksL_law_5 22 rfl rfl)
theorem dL_law_263 : decode cL_law 263 = .ok (.i2l, 1) := dk_133 (dk_at dksL_law_6 0 rfl rfl)
theorem dL_law_264 : decode cL_law 264 = .ok (.lcmp, 1) := dk_148 (dk_at dksL_law_6 1 rfl rfl)
theorem dL_law_265 : decode cL_law 265 = .ok (.ifCond .eq 5, 3) := dk_153 0 5 (dk_at dksL_law_6 2 rfl rfl)
theorem dL_law_268 : decode cL_law 268 = .ok (.iconst 0, 1) := dk_3 (dk_at dksL_law_6 5 rfl rfl)
theorem dL_law_269 : decode cL_law 269 = .ok (.ireturn, 1) := dk_172 (dk_at dksL_law_6 6 rfl rfl)
theorem dL_law_270 : decode cL_law 270 = .ok (.goto 2265, 3) := dk_167 8 217 (dk_at dksL_law_6 7 rfl rfl)
theorem dL_law_273 : decode cL_law 273 = .ok (.aload_n 1, 1) := dk_43 (dk_at dksL_law_6 10 rfl rfl)
theorem dL_law_274 : decode cL_law 274 = .ok (.aload_n 0, 1) := dk_42 (dk_at dksL_law_6 11 rfl rfl)
theorem dL_law_275 : decode cL_law 275 = .ok (.iload 4, 2) := dk_21 4 (dk_at dksL_law_6 12 rfl rfl)
theorem dL_law_277 : decode cL_law 277 = .ok (.iconst 1, 1) := dk_4 (dk_at dksL_law_6 14 rfl rfl)
theorem dL_law_278 : decode cL_law 278 = .ok (.iadd, 1) := dk_96 (dk_at dksL_law_6 15 rfl rfl)
theorem dL_law_279 : decode cL_law 279 = .ok (.iaload, 1) := dk_46 (dk_at dksL_law_6 16 rfl rfl)
theorem dL_law_280 : decode cL_law 280 = .ok (.aload_n 0, 1) := dk_42 (dk_at dksL_law_6 17 rfl rfl)
theorem dL_law_281 : decode cL_law 281 = .ok (.iload 4, 2) := dk_21 4 (dk_at dksL_law_6 18 rfl rfl)
theorem dL_law_283 : decode cL_law 283 = .ok (.iconst 2, 1) := dk_5 (dk_at dksL_law_6 20 rfl rfl)
theorem dL_law_284 : decode cL_law 284 = .ok (.iadd, 1) := dk_96 (dk_at dksL_law_6 21 rfl rfl)
theorem dL_law_285 : decode cL_law 285 = .ok (.iaload, 1) := dk_46 (dk_at dksL_law_6 22 rfl rfl)
theorem dL_law_286 : decode cL_law 286 = .ok (.aload_n 3, 1) := dk_45 (dk_at dksL_law_6 23 rfl rfl)
theorem dL_law_287 : decode cL_law 287 = .ok (.invokestatic 141, 3) := dk_184 0 141 (dk_at dksL_law_7 0 rfl rfl)
theorem dL_law_290 : decode cL_law 290 = .ok (.istore 5, 2) := dk_54 5 (dk_at dksL_law_7 3 rfl rfl)
theorem dL_law_292 : decode cL_law 292 = .ok (.aload_n 2, 1) := dk_44 (dk_at dksL_law_7 5 rfl rfl)
theorem dL_law_293 : decode cL_law 293 = .ok (.aload_n 0, 1) := dk_42 (dk_at dksL_law_7 6 rfl rfl)
theorem dL_law_294 : decode cL_law 294 = .ok (.iload 4, 2) := dk_21 4 (dk_at dksL_law_7 7 rfl rfl)
theorem dL_law_296 : decode cL_law 296 = .ok (.iconst 1, 1) := dk_4 (dk_at dksL_law_7 9 rfl rfl)
theorem dL_law_297 : decode cL_law 297 = .ok (.iadd, 1) := dk_96 (dk_at dksL_law_7 10 rfl rfl)
theorem dL_law_298 : decode cL_law 298 = .ok (.iaload, 1) := dk_46 (dk_at dksL_law_7 11 rfl rfl)
theorem dL_law_299 : decode cL_law 299 = .ok (.aload_n 0, 1) := dk_42 (dk_at dksL_law_7 12 rfl rfl)
theorem dL_law_300 : decode cL_law 300 = .ok (.iload 4, 2) := dk_21 4 (dk_at dksL_law_7 13 rfl rfl)
theorem dL_law_302 : decode cL_law 302 = .ok (.iconst 2, 1) := dk_5 (dk_at dksL_law_7 15 rfl rfl)
theorem dL_law_303 : decode cL_law 303 = .ok (.iadd, 1) := dk_96 (dk_at dksL_law_7 16 rfl rfl)
theorem dL_law_304 : decode cL_law 304 = .ok (.iaload, 1) := dk_46 (dk_at dksL_law_7 17 rfl rfl)
theorem dL_law_305 : decode cL_law 305 = .ok (.invokevirtual 144, 3) := dk_182 0 144 (dk_at dksL_law_7 18 rfl rfl)
theorem dL_law_308 : decode cL_law 308 = .ok (.istore 6, 2) := dk_54 6 (dk_at dksL_law_7 21 rfl rfl)
theorem dL_law_310 : decode cL_law 310 = .ok (.aload_n 2, 1) := dk_44 (dk_at dksL_law_7 23 rfl rfl)
theorem dL_law_311 : decode cL_law 311 = .ok (.invokevirtual 137, 3) := dk_182 0 137 (dk_at dksL_law_8 0 rfl rfl)
theorem dL_law_314 : decode cL_law 314 = .ok (.iload 5, 2) := dk_21 5 (dk_at dksL_law_8 3 rfl rfl)
theorem dL_law_316 : decode cL_law 316 = .ok (.if_icmp .eq 5, 3) := dk_159 0 5 (dk_at dksL_law_8 5 rfl rfl)
theorem dL_law_319 : decode cL_law 319 = .ok (.iconst 0, 1) := dk_3 (dk_at dksL_law_8 8 rfl rfl)
theorem dL_law_320 : decode cL_law 320 = .ok (.ireturn, 1) := dk_172 (dk_at dksL_law_8 9 rfl rfl)
theorem dL_law_321 : decode cL_law 321 = .ok (.iload 5, 2) := dk_21 5 (dk_at dksL_law_8 10 rfl rfl)
theorem dL_law_323 : decode cL_law 323 = .ok (.ifCond .ne 16, 3) := dk_154 0 16 (dk_at dksL_law_8 12 rfl rfl)
theorem dL_law_326 : decode cL_law 326 = .ok (.aload_n 3, 1) := dk_45 (dk_at dksL_law_8 15 rfl rfl)
theorem dL_law_327 : decode cL_law 327 = .ok (.getfield 13, 3) := dk_180 0 13 (dk_at dksL_law_8 16 rfl rfl)
theorem dL_law_330 : decode cL_law 330 = .ok (.iload 6, 2) := dk_21 6 (dk_at dksL_law_8 19 rfl rfl)
theorem dL_law_332 : decode cL_law 332 = .ok (.i2l, 1) := dk_133 (dk_at dksL_law_8 21 rfl rfl)
theorem dL_law_333 : decode cL_law 333 = .ok (.lcmp, 1) := dk_148 (dk_at dksL_law_8 22 rfl rfl)
theorem dL_law_334 : decode cL_law 334 = .ok (.ifCond .eq 5, 3) := dk_153 0 5 (dk_at dksL_law_9 0 rfl rfl)
theorem dL_law_337 : decode cL_law 337 = .ok (.iconst 0, 1) := dk_3 (dk_at dksL_law_9 3 rfl rfl)
theorem dL_law_338 : decode cL_law 338 = .ok (.ireturn, 1) := dk_172 (dk_at dksL_law_9 4 rfl rfl)
theorem dL_law_339 : decode cL_law 339 = .ok (.goto 2196, 3) := dk_167 8 148 (dk_at dksL_law_9 5 rfl rfl)
theorem dL_law_342 : decode cL_law 342 = .ok (.aload_n 1, 1) := dk_43 (dk_at dksL_law_9 8 rfl rfl)
theorem dL_law_343 : decode cL_law 343 = .ok (.aload_n 0, 1) := dk_42 (dk_at dksL_law_9 9 rfl rfl)
theorem dL_law_344 : decode cL_law 344 = .ok (.iload 4, 2) := dk_21 4 (dk_at dksL_law_9 10 rfl rfl)
theorem dL_law_346 : decode cL_law 346 = .ok (.iconst 1, 1) := dk_4 (dk_at dksL_law_9 12 rfl rfl)
theorem dL_law_347 : decode cL_law 347 = .ok (.iadd, 1) := dk_96 (dk_at dksL_law_9 13 rfl rfl)
theorem dL_law_348 : decode cL_law 348 = .ok (.iaload, 1) := dk_46 (dk_at dksL_law_9 14 rfl rfl)
theorem dL_law_349 : decode cL_law 349 = .ok (.aload_n 0, 1) := dk_42 (dk_at dksL_law_9 15 rfl rfl)
theorem dL_law_350 : decode cL_law 350 = .ok (.iload 4, 2) := dk_21 4 (dk_at dksL_law_9 16 rfl rfl)
theorem dL_law_352 : decode cL_law 352 = .ok (.iconst 2, 1) := dk_5 (dk_at dksL_law_9 18 rfl rfl)
theorem dL_law_353 : decode cL_law 353 = .ok (.iadd, 1) := dk_96 (dk_at dksL_law_9 19 rfl rfl)
theorem dL_law_354 : decode cL_law 354 = .ok (.iaload, 1) := dk_46 (dk_at dksL_law_9 20 rfl rfl)
theorem dL_law_355 : decode cL_law 355 = .ok (.aload_n 3, 1) := dk_45 (dk_at dksL_law_9 21 rfl rfl)
theorem dL_law_356 : decode cL_law 356 = .ok (.invokestatic 145, 3) := dk_184 0 145 (dk_at dksL_law_10 0 rfl rfl)
theorem dL_law_359 : decode cL_law 359 = .ok (.istore 5, 2) := dk_54 5 (dk_at dksL_law_10 3 rfl rfl)
theorem dL_law_361 : decode cL_law 361 = .ok (.aload_n 2, 1) := dk_44 (dk_at dksL_law_10 5 rfl rfl)
theorem dL_law_362 : decode cL_law 362 = .ok (.aload_n 0, 1) := dk_42 (dk_at dksL_law_10 6 rfl rfl)
theorem dL_law_363 : decode cL_law 363 = .ok (.iload 4, 2) := dk_21 4 (dk_at dksL_law_10 7 rfl rfl)
theorem dL_law_365 : decode cL_law 365 = .ok (.iconst 1, 1) := dk_4 (dk_at dksL_law_10 9 rfl rfl)
theorem dL_law_366 : decode cL_law 366 = .ok (.iadd, 1) := dk_96 (dk_at dksL_law_10 10 rfl rfl)
theorem dL_law_367 : decode cL_law 367 = .ok (.iaload, 1) := dk_46 (dk_at dksL_law_10 11 rfl rfl)
theorem dL_law_368 : decode cL_law 368 = .ok (.aload_n 0, 1) := dk_42 (dk_at dksL_law_10 12 rfl rfl)
theorem dL_law_369 : decode cL_law 369 = .ok (.iload 4, 2) := dk_21 4 (dk_at dksL_law_10 13 rfl rfl)
theorem dL_law_371 : decode cL_law 371 = .ok (.iconst 2, 1) := dk_5 (dk_at dksL_law_10 15 rfl rfl)
theorem dL_law_372 : decode cL_law 372 = .ok (.iadd, 1) := dk_96 (dk_at dksL_law_10 16 rfl rfl)
theorem dL_law_373 : decode cL_law 373 = .ok (.iaload, 1) := dk_46 (dk_at dksL_law_10 17 rfl rfl)
theorem dL_law_374 : decode cL_law 374 = .ok (.invokevirtual 147, 3) := dk_182 0 147 (dk_at dksL_law_10 18 rfl rfl)
theorem dL_law_377 : decode cL_law 377 = .ok (.istore 6, 2) := dk_54 6 (dk_at dksL_law_10 21 rfl rfl)
theorem dL_law_379 : decode cL_law 379 = .ok (.aload_n 2, 1) := dk_44 (dk_at dksL_law_10 23 rfl rfl)
theorem dL_law_380 : decode cL_law 380 = .ok (.invokevirtual 137, 3) := dk_182 0 137 (dk_at dksL_law_11 0 rfl rfl)
theorem dL_law_383 : decode cL_law 383 = .ok (.iload 5, 2) := dk_21 5 (dk_at dksL_law_11 3 rfl rfl)
theorem dL_law_385 : decode cL_law 385 = .ok (.if_icmp .eq 5, 3) := dk_159 0 5 (dk_at dksL_law_11 5 rfl rfl)
theorem dL_law_388 : decode cL_law 388 = .ok (.iconst 0, 1) := dk_3 (dk_at dksL_law_11 8 rfl rfl)
theorem dL_law_389 : decode cL_law 389 = .ok (.ireturn, 1) := dk_172 (dk_at dksL_law_11 9 rfl rfl)
theorem dL_law_390 : decode cL_law 390 = .ok (.iload 5, 2) := dk_21 5 (dk_at dksL_law_11 10 rfl rfl)
theorem dL_law_392 : decode cL_law 392 = .ok (.ifCond .ne 16, 3) := dk_154 0 16 (dk_at dksL_law_11 12 rfl rfl)
theorem dL_law_395 : decode cL_law 395 = .ok (.aload_n 3, 1) := dk_45 (dk_at dksL_law_11 15 rfl rfl)
theorem dL_law_396 : decode cL_law 396 = .ok (.getfield 13, 3) := dk_180 0 13 (dk_at dksL_law_11 16 rfl rfl)
theorem dL_law_399 : decode cL_law 399 = .ok (.iload 6, 2) := dk_21 6 (dk_at dksL_law_11 19 rfl rfl)
theorem dL_law_401 : decode cL_law 401 = .ok (.i2l, 1) := dk_133 (dk_at dksL_law_11 21 rfl rfl)
theorem dL_law_402 : decode cL_law 402 = .ok (.lcmp, 1) := dk_148 (dk_at dksL_law_11 22 rfl rfl)
theorem dL_law_403 : decode cL_law 403 = .ok (.ifCond .eq 5, 3) := dk_153 0 5 (dk_at dksL_law_12 0 rfl rfl)
theorem dL_law_406 : decode cL_law 406 = .ok (.iconst 0, 1) := dk_3 (dk_at dksL_law_12 3 rfl rfl)
theorem dL_law_407 : decode cL_law 407 = .ok (.ireturn, 1) := dk_172 (dk_at dksL_law_12 4 rfl rfl)
theorem dL_law_408 : decode cL_law 408 = .ok (.goto 2127, 3) := dk_167 8 79 (dk_at dksL_law_12 5 rfl rfl)
theorem dL_law_411 : decode cL_law 411 = .ok (.aload_n 1, 1) := dk_43 (dk_at dksL_law_12 8 rfl rfl)
theorem dL_law_412 : decode cL_law 412 = .ok (.aload_n 0, 1) := dk_42 (dk_at dksL_law_12 9 rfl rfl)
theorem dL_law_413 : decode cL_law 413 = .ok (.iload 4, 2) := dk_21 4 (dk_at dksL_law_12 10 rfl rfl)
theorem dL_law_415 : decode cL_law 415 = .ok (.iconst 1, 1) := dk_4 (dk_at dksL_law_12 12 rfl rfl)
theorem dL_law_416 : decode cL_law 416 = .ok (.iadd, 1) := dk_96 (dk_at dksL_law_12 13 rfl rfl)
theorem dL_law_417 : decode cL_law 417 = .ok (.iaload, 1) := dk_46 (dk_at dksL_law_12 14 rfl rfl)
theorem dL_law_418 : decode cL_law 418 = .ok (.aload_n 0, 1) := dk_42 (dk_at dksL_law_12 15 rfl rfl)
theorem dL_law_419 : decode cL_law 419 = .ok (.iload 4, 2) := dk_21 4 (dk_at dksL_law_12 16 rfl rfl)
theorem dL_law_421 : decode cL_law 421 = .ok (.iconst 2, 1) := dk_5 (dk_at dksL_law_12 18 rfl rfl)
theorem dL_law_422 : decode cL_law 422 = .ok (.iadd, 1) := dk_96 (dk_at dksL_law_12 19 rfl rfl)
theorem dL_law_423 : decode cL_law 423 = .ok (.iaload, 1) := dk_46 (dk_at dksL_law_12 20 rfl rfl)
theorem dL_law_424 : decode cL_law 424 = .ok (.aload_n 3, 1) := dk_45 (dk_at dksL_law_12 21 rfl rfl)
theorem dL_law_425 : decode cL_law 425 = .ok (.invokestatic 148, 3) := dk_184 0 148 (dk_at dksL_law_13 0 rfl rfl)
theorem dL_law_428 : decode cL_law 428 = .ok (.istore 5, 2) := dk_54 5 (dk_at dksL_law_13 3 rfl rfl)
theorem dL_law_430 : decode cL_law 430 = .ok (.aload_n 2, 1) := dk_44 (dk_at dksL_law_13 5 rfl rfl)
theorem dL_law_431 : decode cL_law 431 = .ok (.aload_n 0, 1) := dk_42 (dk_at dksL_law_13 6 rfl rfl)
theorem dL_law_432 : decode cL_law 432 = .ok (.iload 4, 2) := dk_21 4 (dk_at dksL_law_13 7 rfl rfl)
theorem dL_law_434 : decode cL_law 434 = .ok (.iconst 1, 1) := dk_4 (dk_at dksL_law_13 9 rfl rfl)
theorem dL_law_435 : decode cL_law 435 = .ok (.iadd, 1) := dk_96 (dk_at dksL_law_13 10 rfl rfl)
theorem dL_law_436 : decode cL_law 436 = .ok (.iaload, 1) := dk_46 (dk_at dksL_law_13 11 rfl rfl)
theorem dL_law_437 : decode cL_law 437 = .ok (.aload_n 0, 1) := dk_42 (dk_at dksL_law_13 12 rfl rfl)
theorem dL_law_438 : decode cL_law 438 = .ok (.iload 4, 2) := dk_21 4 (dk_at dksL_law_13 13 rfl rfl)
theorem dL_law_440 : decode cL_law 440 = .ok (.iconst 2, 1) := dk_5 (dk_at dksL_law_13 15 rfl rfl)
theorem dL_law_441 : decode cL_law 441 = .ok (.iadd, 1) := dk_96 (dk_at dksL_law_13 16 rfl rfl)
theorem dL_law_442 : decode cL_law 442 = .ok (.iaload, 1) := dk_46 (dk_at dksL_law_13 17 rfl rfl)
theorem dL_law_443 : decode cL_law 443 = .ok (.invokevirtual 150, 3) := dk_182 0 150 (dk_at dksL_law_13 18 rfl rfl)
theorem dL_law_446 : decode cL_law 446 = .ok (.istore 6, 2) := dk_54 6 (dk_at dksL_law_13 21 rfl rfl)
theorem dL_law_448 : decode cL_law 448 = .ok (.aload_n 2, 1) := dk_44 (dk_at dksL_law_13 23 rfl rfl)
theorem dL_law_449 : decode cL_law 449 = .ok (.invokevirtual 137, 3) := dk_182 0 137 (dk_at dksL_law_14 0 rfl rfl)
theorem dL_law_452 : decode cL_law 452 = .ok (.iload 5, 2) := dk_21 5 (dk_at dksL_law_14 3 rfl rfl)
theorem dL_law_454 : decode cL_law 454 = .ok (.if_icmp .eq 5, 3) := dk_159 0 5 (dk_at dksL_law_14 5 rfl rfl)
theorem dL_law_457 : decode cL_law 457 = .ok (.iconst 0, 1) := dk_3 (dk_at dksL_law_14 8 rfl rfl)
theorem dL_law_458 : decode cL_law 458 = .ok (.ireturn, 1) := dk_172 (dk_at dksL_law_14 9 rfl rfl)
theorem dL_law_459 : decode cL_law 459 = .ok (.iload 5, 2) := dk_21 5 (dk_at dksL_law_14 10 rfl rfl)
theorem dL_law_461 : decode cL_law 461 = .ok (.ifCond .ne 16, 3) := dk_154 0 16 (dk_at dksL_law_14 12 rfl rfl)
theorem dL_law_464 : decode cL_law 464 = .ok (.aload_n 3, 1) := dk_45 (dk_at dksL_law_14 15 rfl rfl)
theorem dL_law_465 : decode cL_law 465 = .ok (.getfield 13, 3) := dk_180 0 13 (dk_at dksL_law_14 16 rfl rfl)
theorem dL_law_468 : decode cL_law 468 = .ok (.iload 6, 2) := dk_21 6 (dk_at dksL_law_14 19 rfl rfl)
theorem dL_law_470 : decode cL_law 470 = .ok (.i2l, 1) := dk_133 (dk_at dksL_law_14 21 rfl rfl)
theorem dL_law_471 : decode cL_law 471 = .ok (.lcmp, 1) := dk_148 (dk_at dksL_law_14 22 rfl rfl)
theorem dL_law_472 : decode cL_law 472 = .ok (.ifCond .eq 5, 3) := dk_153 0 5 (dk_at dksL_law_15 0 rfl rfl)
theorem dL_law_475 : decode cL_law 475 = .ok (.iconst 0, 1) := dk_3 (dk_at dksL_law_15 3 rfl rfl)
theorem dL_law_476 : decode cL_law 476 = .ok (.ireturn, 1) := dk_172 (dk_at dksL_law_15 4 rfl rfl)
theorem dL_law_477 : decode cL_law 477 = .ok (.goto 2058, 3) := dk_167 8 10 (dk_at dksL_law_15 5 rfl rfl)
theorem dL_law_480 : decode cL_law 480 = .ok (.aload_n 1, 1) := dk_43 (dk_at dksL_law_15 8 rfl rfl)
theorem dL_law_481 : decode cL_law 481 = .ok (.aload_n 0, 1) := dk_42 (dk_at dksL_law_15 9 rfl rfl)
theorem dL_law_482 : decode cL_law 482 = .ok (.iload 4, 2) := dk_21 4 (dk_at dksL_law_15 10 rfl rfl)
theorem dL_law_484 : decode cL_law 484 = .ok (.iconst 1, 1) := dk_4 (dk_at dksL_law_15 12 rfl rfl)
theorem dL_law_485 : decode cL_law 485 = .ok (.iadd, 1) := dk_96 (dk_at dksL_law_15 13 rfl rfl)
theorem dL_law_486 : decode cL_law 486 = .ok (.iaload, 1) := dk_46 (dk_at dksL_law_15 14 rfl rfl)
theorem dL_law_487 : decode cL_law 487 = .ok (.aload_n 0, 1) := dk_42 (dk_at dksL_law_15 15 rfl rfl)
theorem dL_law_488 : decode cL_law 488 = .ok (.iload 4, 2) := dk_21 4 (dk_at dksL_law_15 16 rfl rfl)
theorem dL_law_490 : decode cL_law 490 = .ok (.iconst 2, 1) := dk_5 (dk_at dksL_law_15 18 rfl rfl)
theorem dL_law_491 : decode cL_law 491 = .ok (.iadd, 1) := dk_96 (dk_at dksL_law_15 19 rfl rfl)
theorem dL_law_492 : decode cL_law 492 = .ok (.iaload, 1) := dk_46 (dk_at dksL_law_15 20 rfl rfl)
theorem dL_law_493 : decode cL_law 493 = .ok (.ifCond .eq 7, 3) := dk_153 0 7 (dk_at dksL_law_15 21 rfl rfl)
theorem dL_law_496 : decode cL_law 496 = .ok (.iconst 1, 1) := dk_4 (dk_at dksL_law_16 0 rfl rfl)
theorem dL_law_497 : decode cL_law 497 = .ok (.goto 4, 3) := dk_167 0 4 (dk_at dksL_law_16 1 rfl rfl)
theorem dL_law_500 : decode cL_law 500 = .ok (.iconst 0, 1) := dk_3 (dk_at dksL_law_16 4 rfl rfl)
theorem dL_law_501 : decode cL_law 501 = .ok (.aload_n 3, 1) := dk_45 (dk_at dksL_law_16 5 rfl rfl)
theorem dL_law_502 : decode cL_law 502 = .ok (.invokestatic 151, 3) := dk_184 0 151 (dk_at dksL_law_16 6 rfl rfl)
theorem dL_law_505 : decode cL_law 505 = .ok (.istore 5, 2) := dk_54 5 (dk_at dksL_law_16 9 rfl rfl)
theorem dL_law_507 : decode cL_law 507 = .ok (.aload_n 2, 1) := dk_44 (dk_at dksL_law_16 11 rfl rfl)
theorem dL_law_508 : decode cL_law 508 = .ok (.aload_n 0, 1) := dk_42 (dk_at dksL_law_16 12 rfl rfl)
theorem dL_law_509 : decode cL_law 509 = .ok (.iload 4, 2) := dk_21 4 (dk_at dksL_law_16 13 rfl rfl)
theorem dL_law_511 : decode cL_law 511 = .ok (.iconst 1, 1) := dk_4 (dk_at dksL_law_16 15 rfl rfl)
theorem dL_law_512 : decode cL_law 512 = .ok (.iadd, 1) := dk_96 (dk_at dksL_law_16 16 rfl rfl)
theorem dL_law_513 : decode cL_law 513 = .ok (.iaload, 1) := dk_46 (dk_at dksL_law_16 17 rfl rfl)
theorem dL_law_514 : decode cL_law 514 = .ok (.aload_n 0, 1) := dk_42 (dk_at dksL_law_16 18 rfl rfl)
theorem dL_law_515 : decode cL_law 515 = .ok (.iload 4, 2) := dk_21 4 (dk_at dksL_law_16 19 rfl rfl)
theorem dL_law_517 : decode cL_law 517 = .ok (.iconst 2, 1) := dk_5 (dk_at dksL_law_16 21 rfl rfl)
theorem dL_law_518 : decode cL_law 518 = .ok (.iadd, 1) := dk_96 (dk_at dksL_law_16 22 rfl rfl)
theorem dL_law_519 : decode cL_law 519 = .ok (.iaload, 1) := dk_46 (dk_at dksL_law_16 23 rfl rfl)
theorem dL_law_520 : decode cL_law 520 = .ok (.ifCond .eq 7, 3) := dk_153 0 7 (dk_at dksL_law_17 0 rfl rfl)
theorem dL_law_523 : decode cL_law 523 = .ok (.iconst 1, 1) := dk_4 (dk_at dksL_law_17 3 rfl rfl)
theorem dL_law_524 : decode cL_law 524 = .ok (.goto 4, 3) := dk_167 0 4 (dk_at dksL_law_17 4 rfl rfl)
theorem dL_law_527 : decode cL_law 527 = .ok (.iconst 0, 1) := dk_3 (dk_at dksL_law_17 7 rfl rfl)
theorem dL_law_528 : decode cL_law 528 = .ok (.invokevirtual 154, 3) := dk_182 0 154 (dk_at dksL_law_17 8 rfl rfl)
theorem dL_law_531 : decode cL_law 531 = .ok (.istore 6, 2) := dk_54 6 (dk_at dksL_law_17 11 rfl rfl)
theorem dL_law_533 : decode cL_law 533 = .ok (.aload_n 2, 1) := dk_44 (dk_at dksL_law_17 13 rfl rfl)
theorem dL_law_534 : decode cL_law 534 = .ok (.invokevirtual 137, 3) := dk_182 0 137 (dk_at dksL_law_17 14 rfl rfl)
theorem dL_law_537 : decode cL_law 537 = .ok (.iload 5, 2) := dk_21 5 (dk_at dksL_law_17 17 rfl rfl)
theorem dL_law_539 : decode cL_law 539 = .ok (.if_icmp .eq 5, 3) := dk_159 0 5 (dk_at dksL_law_17 19 rfl rfl)
theorem dL_law_542 : decode cL_law 542 = .ok (.iconst 0, 1) := dk_3 (dk_at dksL_law_17 22 rfl rfl)
theorem dL_law_543 : decode cL_law 543 = .ok (.ireturn, 1) := dk_172 (dk_at dksL_law_17 23 rfl rfl)
theorem dL_law_544 : decode cL_law 544 = .ok (.iload 5, 2) := dk_21 5 (dk_at dksL_law_18 0 rfl rfl)
theorem dL_law_546 : decode cL_law 546 = .ok (.ifCond .ne 16, 3) := dk_154 0 16 (dk_at dksL_law_18 2 rfl rfl)
theorem dL_law_549 : decode cL_law 549 = .ok (.aload_n 3, 1) := dk_45 (dk_at dksL_law_18 5 rfl rfl)
theorem dL_law_550 : decode cL_law 550 = .ok (.getfield 13, 3) := dk_180 0 13 (dk_at dksL_law_18 6 rfl rfl)
theorem dL_law_553 : decode cL_law 553 = .ok (.iload 6, 2) := dk_21 6 (dk_at dksL_law_18 9 rfl rfl)
theorem dL_law_555 : decode cL_law 555 = .ok (.i2l, 1) := dk_133 (dk_at dksL_law_18 11 rfl rfl)
theorem dL_law_556 : decode cL_law 556 = .ok (.lcmp, 1) := dk_148 (dk_at dksL_law_18 12 rfl rfl)
theorem dL_law_557 : decode cL_law 557 = .ok (.ifCond .eq 5, 3) := dk_153 0 5 (dk_at dksL_law_18 13 rfl rfl)
theorem dL_law_560 : decode cL_law 560 = .ok (.iconst 0, 1) := dk_3 (dk_at dksL_law_18 16 rfl rfl)
theorem dL_law_561 : decode cL_law 561 = .ok (.ireturn, 1) := dk_172 (dk_at dksL_law_18 17 rfl rfl)
theorem dL_law_562 : decode cL_law 562 = .ok (.goto 1973, 3) := dk_167 7 181 (dk_at dksL_law_18 18 rfl rfl)
theorem dL_law_565 : decode cL_law 565 = .ok (.aload_n 1, 1) := dk_43 (dk_at dksL_law_18 21 rfl rfl)
theorem dL_law_566 : decode cL_law 566 = .ok (.aload_n 0, 1) := dk_42 (dk_at dksL_law_18 22 rfl rfl)
theorem dL_law_567 : decode cL_law 567 = .ok (.iload 4, 2) := dk_21 4 (dk_at dksL_law_19 0 rfl rfl)
theorem dL_law_569 : decode cL_law 569 = .ok (.iconst 1, 1) := dk_4 (dk_at dksL_law_19 2 rfl rfl)
theorem dL_law_570 : decode cL_law 570 = .ok (.iadd, 1) := dk_96 (dk_at dksL_law_19 3 rfl rfl)
theorem dL_law_571 : decode cL_law 571 = .ok (.iaload, 1) := dk_46 (dk_at dksL_law_19 4 rfl rfl)
theorem dL_law_572 : decode cL_law 572 = .ok (.aload_n 0, 1) := dk_42 (dk_at dksL_law_19 5 rfl rfl)
theorem dL_law_573 : decode cL_law 573 = .ok (.iload 4, 2) := dk_21 4 (dk_at dksL_law_19 6 rfl rfl)
theorem dL_law_575 : decode cL_law 575 = .ok (.iconst 2, 1) := dk_5 (dk_at dksL_law_19 8 rfl rfl)
theorem dL_law_576 : decode cL_law 576 = .ok (.iadd, 1) := dk_96 (dk_at dksL_law_19 9 rfl rfl)
theorem dL_law_577 : decode cL_law 577 = .ok (.iaload, 1) := dk_46 (dk_at dksL_law_19 10 rfl rfl)
theorem dL_law_578 : decode cL_law 578 = .ok (.aload_n 3, 1) := dk_45 (dk_at dksL_law_19 11 rfl rfl)
theorem dL_law_579 : decode cL_law 579 = .ok (.invokestatic 155, 3) := dk_184 0 155 (dk_at dksL_law_19 12 rfl rfl)
theorem dL_law_582 : decode cL_law 582 = .ok (.istore 5, 2) := dk_54 5 (dk_at dksL_law_19 15 rfl rfl)
theorem dL_law_584 : decode cL_law 584 = .ok (.aload_n 2, 1) := dk_44 (dk_at dksL_law_19 17 rfl rfl)
theorem dL_law_585 : decode cL_law 585 = .ok (.aload_n 0, 1) := dk_42 (dk_at dksL_law_19 18 rfl rfl)
theorem dL_law_586 : decode cL_law 586 = .ok (.iload 4, 2) := dk_21 4 (dk_at dksL_law_19 19 rfl rfl)
theorem dL_law_588 : decode cL_law 588 = .ok (.iconst 1, 1) := dk_4 (dk_at dksL_law_19 21 rfl rfl)
theorem dL_law_589 : decode cL_law 589 = .ok (.iadd, 1) := dk_96 (dk_at dksL_law_19 22 rfl rfl)
theorem dL_law_590 : decode cL_law 590 = .ok (.iaload, 1) := dk_46 (dk_at dksL_law_19 23 rfl rfl)
theorem dL_law_591 : decode cL_law 591 = .ok (.aload_n 0, 1) := dk_42 (dk_at dksL_law_20 0 rfl rfl)
theorem dL_law_592 : decode cL_law 592 = .ok (.iload 4, 2) := dk_21 4 (dk_at dksL_law_20 1 rfl rfl)
theorem dL_law_594 : decode cL_law 594 = .ok (.iconst 2, 1) := dk_5 (dk_at dksL_law_20 3 rfl rfl)
theorem dL_law_595 : decode cL_law 595 = .ok (.iadd, 1) := dk_96 (dk_at dksL_law_20 4 rfl rfl)
theorem dL_law_596 : decode cL_law 596 = .ok (.iaload, 1) := dk_46 (dk_at dksL_law_20 5 rfl rfl)
theorem dL_law_597 : decode cL_law 597 = .ok (.invokevirtual 157, 3) := dk_182 0 157 (dk_at dksL_law_20 6 rfl rfl)
theorem dL_law_600 : decode cL_law 600 = .ok (.istore 6, 2) := dk_54 6 (dk_at dksL_law_20 9 rfl rfl)
theorem dL_law_602 : decode cL_law 602 = .ok (.aload_n 2, 1) := dk_44 (dk_at dksL_law_20 11 rfl rfl)
theorem dL_law_603 : decode cL_law 603 = .ok (.invokevirtual 137, 3) := dk_182 0 137 (dk_at dksL_law_20 12 rfl rfl)
theorem dL_law_606 : decode cL_law 606 = .ok (.iload 5, 2) := dk_21 5 (dk_at dksL_law_20 15 rfl rfl)
theorem dL_law_608 : decode cL_law 608 = .ok (.if_icmp .eq 5, 3) := dk_159 0 5 (dk_at dksL_law_20 17 rfl rfl)
theorem dL_law_611 : decode cL_law 611 = .ok (.iconst 0, 1) := dk_3 (dk_at dksL_law_20 20 rfl rfl)
theorem dL_law_612 : decode cL_law 612 = .ok (.ireturn, 1) := dk_172 (dk_at dksL_law_20 21 rfl rfl)
theorem dL_law_613 : decode cL_law 613 = .ok (.iload 5, 2) := dk_21 5 (dk_at dksL_law_20 22 rfl rfl)
theorem dL_law_615 : decode cL_law 615 = .ok (.ifCond .ne 16, 3) := dk_154 0 16 (dk_at dksL_law_21 0 rfl rfl)
theorem dL_law_618 : decode cL_law 618 = .ok (.aload_n 3, 1) := dk_45 (dk_at dksL_law_21 3 rfl rfl)
theorem dL_law_619 : decode cL_law 619 = .ok (.getfield 13, 3) := dk_180 0 13 (dk_at dksL_law_21 4 rfl rfl)
theorem dL_law_622 : decode cL_law 622 = .ok (.iload 6, 2) := dk_21 6 (dk_at dksL_law_21 7 rfl rfl)
theorem dL_law_624 : decode cL_law 624 = .ok (.i2l, 1) := dk_133 (dk_at dksL_law_21 9 rfl rfl)
theorem dL_law_625 : decode cL_law 625 = .ok (.lcmp, 1) := dk_148 (dk_at dksL_law_21 10 rfl rfl)
theorem dL_law_626 : decode cL_law 626 = .ok (.ifCond .eq 5, 3) := dk_153 0 5 (dk_at dksL_law_21 11 rfl rfl)
theorem dL_law_629 : decode cL_law 629 = .ok (.iconst 0, 1) := dk_3 (dk_at dksL_law_21 14 rfl rfl)
theorem dL_law_630 : decode cL_law 630 = .ok (.ireturn, 1) := dk_172 (dk_at dksL_law_21 15 rfl rfl)
theorem dL_law_631 : decode cL_law 631 = .ok (.goto 1904, 3) := dk_167 7 112 (dk_at dksL_law_21 16 rfl rfl)
theorem dL_law_634 : decode cL_law 634 = .ok (.aload_n 1, 1) := dk_43 (dk_at dksL_law_21 19 rfl rfl)
theorem dL_law_635 : decode cL_law 635 = .ok (.aload_n 0, 1) := dk_42 (dk_at dksL_law_21 20 rfl rfl)
theorem dL_law_636 : decode cL_law 636 = .ok (.iload 4, 2) := dk_21 4 (dk_at dksL_law_21 21 rfl rfl)
theorem dL_law_638 : decode cL_law 638 = .ok (.iconst 1, 1) := dk_4 (dk_at dksL_law_21 23 rfl rfl)
theorem dL_law_639 : decode cL_law 639 = .ok (.iadd, 1) := dk_96 (dk_at dksL_law_22 0 rfl rfl)
theorem dL_law_640 : decode cL_law 640 = .ok (.iaload, 1) := dk_46 (dk_at dksL_law_22 1 rfl rfl)
theorem dL_law_641 : decode cL_law 641 = .ok (.aload_n 0, 1) := dk_42 (dk_at dksL_law_22 2 rfl rfl)
theorem dL_law_642 : decode cL_law 642 = .ok (.iload 4, 2) := dk_21 4 (dk_at dksL_law_22 3 rfl rfl)
theorem dL_law_644 : decode cL_law 644 = .ok (.iconst 2, 1) := dk_5 (dk_at dksL_law_22 5 rfl rfl)
theorem dL_law_645 : decode cL_law 645 = .ok (.iadd, 1) := dk_96 (dk_at dksL_law_22 6 rfl rfl)
theorem dL_law_646 : decode cL_law 646 = .ok (.iaload, 1) := dk_46 (dk_at dksL_law_22 7 rfl rfl)
theorem dL_law_647 : decode cL_law 647 = .ok (.aload_n 0, 1) := dk_42 (dk_at dksL_law_22 8 rfl rfl)
theorem dL_law_648 : decode cL_law 648 = .ok (.iload 4, 2) := dk_21 4 (dk_at dksL_law_22 9 rfl rfl)
theorem dL_law_650 : decode cL_law 650 = .ok (.iconst 3, 1) := dk_6 (dk_at dksL_law_22 11 rfl rfl)
theorem dL_law_651 : decode cL_law 651 = .ok (.iadd, 1) := dk_96 (dk_at dksL_law_22 12 rfl rfl)
theorem dL_law_652 : decode cL_law 652 = .ok (.iaload, 1) := dk_46 (dk_at dksL_law_22 13 rfl rfl)
theorem dL_law_653 : decode cL_law 653 = .ok (.aload_n 0, 1) := dk_42 (dk_at dksL_law_22 14 rfl rfl)
theorem dL_law_654 : decode cL_law 654 = .ok (.iload 4, 2) := dk_21 4 (dk_at dksL_law_22 15 rfl rfl)
theorem dL_law_656 : decode cL_law 656 = .ok (.iconst 4, 1) := dk_7 (dk_at dksL_law_22 17 rfl rfl)
theorem dL_law_657 : decode cL_law 657 = .ok (.iadd, 1) := dk_96 (dk_at dksL_law_22 18 rfl rfl)
theorem dL_law_658 : decode cL_law 658 = .ok (.iaload, 1) := dk_46 (dk_at dksL_law_22 19 rfl rfl)
theorem dL_law_659 : decode cL_law 659 = .ok (.aload_n 3, 1) := dk_45 (dk_at dksL_law_22 20 rfl rfl)
theorem dL_law_660 : decode cL_law 660 = .ok (.invokestatic 158, 3) := dk_184 0 158 (dk_at dksL_law_22 21 rfl rfl)
theorem dL_law_663 : decode cL_law 663 = .ok (.istore 5, 2) := dk_54 5 (dk_at dksL_law_23 0 rfl rfl)
theorem dL_law_665 : decode cL_law 665 = .ok (.aload_n 2, 1) := dk_44 (dk_at dksL_law_23 2 rfl rfl)
theorem dL_law_666 : decode cL_law 666 = .ok (.aload_n 0, 1) := dk_42 (dk_at dksL_law_23 3 rfl rfl)
theorem dL_law_667 : decode cL_law 667 = .ok (.iload 4, 2) := dk_21 4 (dk_at dksL_law_23 4 rfl rfl)
theorem dL_law_669 : decode cL_law 669 = .ok (.iconst 1, 1) := dk_4 (dk_at dksL_law_23 6 rfl rfl)
theorem dL_law_670 : decode cL_law 670 = .ok (.iadd, 1) := dk_96 (dk_at dksL_law_23 7 rfl rfl)
theorem dL_law_671 : decode cL_law 671 = .ok (.iaload, 1) := dk_46 (dk_at dksL_law_23 8 rfl rfl)
theorem dL_law_672 : decode cL_law 672 = .ok (.aload_n 0, 1) := dk_42 (dk_at dksL_law_23 9 rfl rfl)
theorem dL_law_673 : decode cL_law 673 = .ok (.iload 4, 2) := dk_21 4 (dk_at dksL_law_23 10 rfl rfl)
theorem dL_law_675 : decode cL_law 675 = .ok (.iconst 2, 1) := dk_5 (dk_at dksL_law_23 12 rfl rfl)
theorem dL_law_676 : decode cL_law 676 = .ok (.iadd, 1) := dk_96 (dk_at dksL_law_23 13 rfl rfl)
theorem dL_law_677 : decode cL_law 677 = .ok (.iaload, 1) := dk_46 (dk_at dksL_law_23 14 rfl rfl)
theorem dL_law_678 : decode cL_law 678 = .ok (.aload_n 0, 1) := dk_42 (dk_at dksL_law_23 15 rfl rfl)
theorem dL_law_679 : decode cL_law 679 = .ok (.iload 4, 2) := dk_21 4 (dk_at dksL_law_23 16 rfl rfl)
theorem dL_law_681 : decode cL_law 681 = .ok (.iconst 3, 1) := dk_6 (dk_at dksL_law_23 18 rfl rfl)
theorem dL_law_682 : decode cL_law 682 = .ok (.iadd, 1) := dk_96 (dk_at dksL_law_23 19 rfl rfl)
theorem dL_law_683 : decode cL_law 683 = .ok (.iaload, 1) := dk_46 (dk_at dksL_law_23 20 rfl rfl)
theorem dL_law_684 : decode cL_law 684 = .ok (.aload_n 0, 1) := dk_42 (dk_at dksL_law_23 21 rfl rfl)
theorem dL_law_685 : decode cL_law 685 = .ok (.iload 4, 2) := dk_21 4 (dk_at dksL_law_23 22 rfl rfl)
theorem dL_law_687 : decode cL_law 687 = .ok (.iconst 4, 1) := dk_7 (dk_at dksL_law_24 0 rfl rfl)
theorem dL_law_688 : decode cL_law 688 = .ok (.iadd, 1) := dk_96 (dk_at dksL_law_24 1 rfl rfl)
theorem dL_law_689 : decode cL_law 689 = .ok (.iaload, 1) := dk_46 (dk_at dksL_law_24 2 rfl rfl)
theorem dL_law_690 : decode cL_law 690 = .ok (.invokevirtual 161, 3) := dk_182 0 161 (dk_at dksL_law_24 3 rfl rfl)
theorem dL_law_693 : decode cL_law 693 = .ok (.istore 6, 2) := dk_54 6 (dk_at dksL_law_24 6 rfl rfl)
theorem dL_law_695 : decode cL_law 695 = .ok (.aload_n 2, 1) := dk_44 (dk_at dksL_law_24 8 rfl rfl)
theorem dL_law_696 : decode cL_law 696 = .ok (.invokevirtual 137, 3) := dk_182 0 137 (dk_at dksL_law_24 9 rfl rfl)
theorem dL_law_699 : decode cL_law 699 = .ok (.iload 5, 2) := dk_21 5 (dk_at dksL_law_24 12 rfl rfl)
theorem dL_law_701 : decode cL_law 701 = .ok (.if_icmp .eq 5, 3) := dk_159 0 5 (dk_at dksL_law_24 14 rfl rfl)
theorem dL_law_704 : decode cL_law 704 = .ok (.iconst 0, 1) := dk_3 (dk_at dksL_law_24 17 rfl rfl)
theorem dL_law_705 : decode cL_law 705 = .ok (.ireturn, 1) := dk_172 (dk_at dksL_law_24 18 rfl rfl)
theorem dL_law_706 : decode cL_law 706 = .ok (.iload 5, 2) := dk_21 5 (dk_at dksL_law_24 19 rfl rfl)
theorem dL_law_708 : decode cL_law 708 = .ok (.ifCond .ne 16, 3) := dk_154 0 16 (dk_at dksL_law_24 21 rfl rfl)
theorem dL_law_711 : decode cL_law 711 = .ok (.aload_n 3, 1) := dk_45 (dk_at dksL_law_25 0 rfl rfl)
theorem dL_law_712 : decode cL_law 712 = .ok (.getfield 13, 3) := dk_180 0 13 (dk_at dksL_law_25 1 rfl rfl)
theorem dL_law_715 : decode cL_law 715 = .ok (.iload 6, 2) := dk_21 6 (dk_at dksL_law_25 4 rfl rfl)
theorem dL_law_717 : decode cL_law 717 = .ok (.i2l, 1) := dk_133 (dk_at dksL_law_25 6 rfl rfl)
theorem dL_law_718 : decode cL_law 718 = .ok (.lcmp, 1) := dk_148 (dk_at dksL_law_25 7 rfl rfl)
theorem dL_law_719 : decode cL_law 719 = .ok (.ifCond .eq 5, 3) := dk_153 0 5 (dk_at dksL_law_25 8 rfl rfl)
theorem dL_law_722 : decode cL_law 722 = .ok (.iconst 0, 1) := dk_3 (dk_at dksL_law_25 11 rfl rfl)
theorem dL_law_723 : decode cL_law 723 = .ok (.ireturn, 1) := dk_172 (dk_at dksL_law_25 12 rfl rfl)
theorem dL_law_724 : decode cL_law 724 = .ok (.goto 1811, 3) := dk_167 7 19 (dk_at dksL_law_25 13 rfl rfl)
theorem dL_law_727 : decode cL_law 727 = .ok (.aload_n 1, 1) := dk_43 (dk_at dksL_law_25 16 rfl rfl)
theorem dL_law_728 : decode cL_law 728 = .ok (.aload_n 0, 1) := dk_42 (dk_at dksL_law_25 17 rfl rfl)
theorem dL_law_729 : decode cL_law 729 = .ok (.iload 4, 2) := dk_21 4 (dk_at dksL_law_25 18 rfl rfl)
theorem dL_law_731 : decode cL_law 731 = .ok (.iconst 1, 1) := dk_4 (dk_at dksL_law_25 20 rfl rfl)
theorem dL_law_732 : decode cL_law 732 = .ok (.iadd, 1) := dk_96 (dk_at dksL_law_25 21 rfl rfl)
theorem dL_law_733 : decode cL_law 733 = .ok (.iaload, 1) := dk_46 (dk_at dksL_law_25 22 rfl rfl)
theorem dL_law_734 : decode cL_law 734 = .ok (.aload_n 0, 1) := dk_42 (dk_at dksL_law_25 23 rfl rfl)
theorem dL_law_735 : decode cL_law 735 = .ok (.iload 4, 2) := dk_21 4 (dk_at dksL_law_26 0 rfl rfl)
theorem dL_law_737 : decode cL_law 737 = .ok (.iconst 2, 1) := dk_5 (dk_at dksL_law_26 2 rfl rfl)
theorem dL_law_738 : decode cL_law 738 = .ok (.iadd, 1) := dk_96 (dk_at dksL_law_26 3 rfl rfl)
theorem dL_law_739 : decode cL_law 739 = .ok (.iaload, 1) := dk_46 (dk_at dksL_law_26 4 rfl rfl)
theorem dL_law_740 : decode cL_law 740 = .ok (.aload_n 3, 1) := dk_45 (dk_at dksL_law_26 5 rfl rfl)
theorem dL_law_741 : decode cL_law 741 = .ok (.invokestatic 162, 3) := dk_184 0 162 (dk_at dksL_law_26 6 rfl rfl)
theorem dL_law_744 : decode cL_law 744 = .ok (.istore 5, 2) := dk_54 5 (dk_at dksL_law_26 9 rfl rfl)
theorem dL_law_746 : decode cL_law 746 = .ok (.aload_n 2, 1) := dk_44 (dk_at dksL_law_26 11 rfl rfl)
theorem dL_law_747 : decode cL_law 747 = .ok (.aload_n 0, 1) := dk_42 (dk_at dksL_law_26 12 rfl rfl)
theorem dL_law_748 : decode cL_law 748 = .ok (.iload 4, 2) := dk_21 4 (dk_at dksL_law_26 13 rfl rfl)
theorem dL_law_750 : decode cL_law 750 = .ok (.iconst 1, 1) := dk_4 (dk_at dksL_law_26 15 rfl rfl)
theorem dL_law_751 : decode cL_law 751 = .ok (.iadd, 1) := dk_96 (dk_at dksL_law_26 16 rfl rfl)
theorem dL_law_752 : decode cL_law 752 = .ok (.iaload, 1) := dk_46 (dk_at dksL_law_26 17 rfl rfl)
theorem dL_law_753 : decode cL_law 753 = .ok (.aload_n 0, 1) := dk_42 (dk_at dksL_law_26 18 rfl rfl)
theorem dL_law_754 : decode cL_law 754 = .ok (.iload 4, 2) := dk_21 4 (dk_at dksL_law_26 19 rfl rfl)
theorem dL_law_756 : decode cL_law 756 = .ok (.iconst 2, 1) := dk_5 (dk_at dksL_law_26 21 rfl rfl)
theorem dL_law_757 : decode cL_law 757 = .ok (.iadd, 1) := dk_96 (dk_at dksL_law_26 22 rfl rfl)
theorem dL_law_758 : decode cL_law 758 = .ok (.iaload, 1) := dk_46 (dk_at dksL_law_26 23 rfl rfl)
theorem dL_law_759 : decode cL_law 759 = .ok (.invokevirtual 164, 3) := dk_182 0 164 (dk_at dksL_law_27 0 rfl rfl)
theorem dL_law_762 : decode cL_law 762 = .ok (.istore 6, 2) := dk_54 6 (dk_at dksL_law_27 3 rfl rfl)
theorem dL_law_764 : decode cL_law 764 = .ok (.aload_n 2, 1) := dk_44 (dk_at dksL_law_27 5 rfl rfl)
theorem dL_law_765 : decode cL_law 765 = .ok (.invokevirtual 137, 3) := dk_182 0 137 (dk_at dksL_law_27 6 rfl rfl)
theorem dL_law_768 : decode cL_law 768 = .ok (.iload 5, 2) := dk_21 5 (dk_at dksL_law_27 9 rfl rfl)
theorem dL_law_770 : decode cL_law 770 = .ok (.if_icmp .eq 5, 3) := dk_159 0 5 (dk_at dksL_law_27 11 rfl rfl)
theorem dL_law_773 : decode cL_law 773 = .ok (.iconst 0, 1) := dk_3 (dk_at dksL_law_27 14 rfl rfl)
theorem dL_law_774 : decode cL_law 774 = .ok (.ireturn, 1) := dk_172 (dk_at dksL_law_27 15 rfl rfl)
theorem dL_law_775 : decode cL_law 775 = .ok (.iload 5, 2) := dk_21 5 (dk_at dksL_law_27 16 rfl rfl)
theorem dL_law_777 : decode cL_law 777 = .ok (.ifCond .ne 16, 3) := dk_154 0 16 (dk_at dksL_law_27 18 rfl rfl)
theorem dL_law_780 : decode cL_law 780 = .ok (.aload_n 3, 1) := dk_45 (dk_at dksL_law_27 21 rfl rfl)
theorem dL_law_781 : decode cL_law 781 = .ok (.getfield 13, 3) := dk_180 0 13 (dk_at dksL_law_28 0 rfl rfl)
theorem dL_law_784 : decode cL_law 784 = .ok (.iload 6, 2) := dk_21 6 (dk_at dksL_law_28 3 rfl rfl)
theorem dL_law_786 : decode cL_law 786 = .ok (.i2l, 1) := dk_133 (dk_at dksL_law_28 5 rfl rfl)
theorem dL_law_787 : decode cL_law 787 = .ok (.lcmp, 1) := dk_148 (dk_at dksL_law_28 6 rfl rfl)
theorem dL_law_788 : decode cL_law 788 = .ok (.ifCond .eq 5, 3) := dk_153 0 5 (dk_at dksL_law_28 7 rfl rfl)
theorem dL_law_791 : decode cL_law 791 = .ok (.iconst 0, 1) := dk_3 (dk_at dksL_law_28 10 rfl rfl)
theorem dL_law_792 : decode cL_law 792 = .ok (.ireturn, 1) := dk_172 (dk_at dksL_law_28 11 rfl rfl)
theorem dL_law_793 : decode cL_law 793 = .ok (.goto 1742, 3) := dk_167 6 206 (dk_at dksL_law_28 12 rfl rfl)
theorem dL_law_796 : decode cL_law 796 = .ok (.aload_n 1, 1) := dk_43 (dk_at dksL_law_28 15 rfl rfl)
theorem dL_law_797 : decode cL_law 797 = .ok (.aload_n 0, 1) := dk_42 (dk_at dksL_law_28 16 rfl rfl)
theorem dL_law_798 : decode cL_law 798 = .ok (.iload 4, 2) := dk_21 4 (dk_at dksL_law_28 17 rfl rfl)
theorem dL_law_800 : decode cL_law 800 = .ok (.iconst 1, 1) := dk_4 (dk_at dksL_law_28 19 rfl rfl)
theorem dL_law_801 : decode cL_law 801 = .ok (.iadd, 1) := dk_96 (dk_at dksL_law_28 20 rfl rfl)
theorem dL_law_802 : decode cL_law 802 = .ok (.iaload, 1) := dk_46 (dk_at dksL_law_28 21 rfl rfl)
theorem dL_law_803 : decode cL_law 803 = .ok (.aload_n 3, 1) := dk_45 (dk_at dksL_law_28 22 rfl rfl)
theorem dL_law_804 : decode cL_law 804 = .ok (.invokestatic 165, 3) := dk_184 0 165 (dk_at dksL_law_29 0 rfl rfl)
theorem dL_law_807 : decode cL_law 807 = .ok (.istore 5, 2) := dk_54 5 (dk_at dksL_law_29 3 rfl rfl)
theorem dL_law_809 : decode cL_law 809 = .ok (.aload_n 2, 1) := dk_44 (dk_at dksL_law_29 5 rfl rfl)
theorem dL_law_810 : decode cL_law 810 = .ok (.aload_n 0, 1) := dk_42 (dk_at dksL_law_29 6 rfl rfl)
theorem dL_law_811 : decode cL_law 811 = .ok (.iload 4, 2) := dk_21 4 (dk_at dksL_law_29 7 rfl rfl)
theorem dL_law_813 : decode cL_law 813 = .ok (.iconst 1, 1) := dk_4 (dk_at dksL_law_29 9 rfl rfl)
theorem dL_law_814 : decode cL_law 814 = .ok (.iadd, 1) := dk_96 (dk_at dksL_law_29 10 rfl rfl)
theorem dL_law_815 : decode cL_law 815 = .ok (.iaload, 1) := dk_46 (dk_at dksL_law_29 11 rfl rfl)
theorem dL_law_816 : decode cL_law 816 = .ok (.invokevirtual 168, 3) := dk_182 0 168 (dk_at dksL_law_29 12 rfl rfl)
theorem dL_law_819 : decode cL_law 819 = .ok (.istore 6, 2) := dk_54 6 (dk_at dksL_law_29 15 rfl rfl)
theorem dL_law_821 : decode cL_law 821 = .ok (.aload_n 2, 1) := dk_44 (dk_at dksL_law_29 17 rfl rfl)
theorem dL_law_822 : decode cL_law 822 = .ok (.invokevirtual 137, 3) := dk_182 0 137 (dk_at dksL_law_29 18 rfl rfl)
theorem dL_law_825 : decode cL_law 825 = .ok (.iload 5, 2) := dk_21 5 (dk_at dksL_law_29 21 rfl rfl)
theorem dL_law_827 : decode cL_law 827 = .ok (.if_icmp .eq 5, 3) := dk_159 0 5 (dk_at dksL_law_30 0 rfl rfl)
theorem dL_law_830 : decode cL_law 830 = .ok (.iconst 0, 1) := dk_3 (dk_at dksL_law_30 3 rfl rfl)
theorem dL_law_831 : decode cL_law 831 = .ok (.ireturn, 1) := dk_172 (dk_at dksL_law_30 4 rfl rfl)
theorem dL_law_832 : decode cL_law 832 = .ok (.iload 5, 2) := dk_21 5 (dk_at dksL_law_30 5 rfl rfl)
theorem dL_law_834 : decode cL_law 834 = .ok (.ifCond .ne 16, 3) := dk_154 0 16 (dk_at dksL_law_30 7 rfl rfl)
theorem dL_law_837 : decode cL_law 837 = .ok (.aload_n 3, 1) := dk_45 (dk_at dksL_law_30 10 rfl rfl)
theorem dL_law_838 : decode cL_law 838 = .ok (.getfield 13, 3) := dk_180 0 13 (dk_at dksL_law_30 11 rfl rfl)
theorem dL_law_841 : decode cL_law 841 = .ok (.iload 6, 2) := dk_21 6 (dk_at dksL_law_30 14 rfl rfl)
theorem dL_law_843 : decode cL_law 843 = .ok (.i2l, 1) := dk_133 (dk_at dksL_law_30 16 rfl rfl)
theorem dL_law_844 : decode cL_law 844 = .ok (.lcmp, 1) := dk_148 (dk_at dksL_law_30 17 rfl rfl)
theorem dL_law_845 : decode cL_law 845 = .ok (.ifCond .eq 5, 3) := dk_153 0 5 (dk_at dksL_law_30 18 rfl rfl)
theorem dL_law_848 : decode cL_law 848 = .ok (.iconst 0, 1) := dk_3 (dk_at dksL_law_30 21 rfl rfl)
theorem dL_law_849 : decode cL_law 849 = .ok (.ireturn, 1) := dk_172 (dk_at dksL_law_30 22 rfl rfl)
theorem dL_law_850 : decode cL_law 850 = .ok (.goto 1685, 3) := dk_167 6 149 (dk_at dksL_law_31 0 rfl rfl)
theorem dL_law_853 : decode cL_law 853 = .ok (.aload_n 1, 1) := dk_43 (dk_at dksL_law_31 3 rfl rfl)
theorem dL_law_854 : decode cL_law 854 = .ok (.aload_n 0, 1) := dk_42 (dk_at dksL_law_31 4 rfl rfl)
theorem dL_law_855 : decode cL_law 855 = .ok (.iload 4, 2) := dk_21 4 (dk_at dksL_law_31 5 rfl rfl)
theorem dL_law_857 : decode cL_law 857 = .ok (.iconst 1, 1) := dk_4 (dk_at dksL_law_31 7 rfl rfl)
theorem dL_law_858 : decode cL_law 858 = .ok (.iadd, 1) := dk_96 (dk_at dksL_law_31 8 rfl rfl)
theorem dL_law_859 : decode cL_law 859 = .ok (.iaload, 1) := dk_46 (dk_at dksL_law_31 9 rfl rfl)
theorem dL_law_860 : decode cL_law 860 = .ok (.aload_n 0, 1) := dk_42 (dk_at dksL_law_31 10 rfl rfl)
theorem dL_law_861 : decode cL_law 861 = .ok (.iload 4, 2) := dk_21 4 (dk_at dksL_law_31 11 rfl rfl)
theorem dL_law_863 : decode cL_law 863 = .ok (.iconst 2, 1) := dk_5 (dk_at dksL_law_31 13 rfl rfl)
theorem dL_law_864 : decode cL_law 864 = .ok (.iadd, 1) := dk_96 (dk_at dksL_law_31 14 rfl rfl)
theorem dL_law_865 : decode cL_law 865 = .ok (.iaload, 1) := dk_46 (dk_at dksL_law_31 15 rfl rfl)
theorem dL_law_866 : decode cL_law 866 = .ok (.aload_n 3, 1) := dk_45 (dk_at dksL_law_31 16 rfl rfl)
theorem dL_law_867 : decode cL_law 867 = .ok (.invokestatic 169, 3) := dk_184 0 169 (dk_at dksL_law_31 17 rfl rfl)
theorem dL_law_870 : decode cL_law 870 = .ok (.istore 5, 2) := dk_54 5 (dk_at dksL_law_31 20 rfl rfl)
theorem dL_law_872 : decode cL_law 872 = .ok (.aload_n 2, 1) := dk_44 (dk_at dksL_law_31 22 rfl rfl)
theorem dL_law_873 : decode cL_law 873 = .ok (.aload_n 0, 1) := dk_42 (dk_at dksL_law_31 23 rfl rfl)
theorem dL_law_874 : decode cL_law 874 = .ok (.iload 4, 2) := dk_21 4 (dk_at dksL_law_32 0 rfl rfl)
theorem dL_law_876 : decode cL_law 876 = .ok (.iconst 1, 1) := dk_4 (dk_at dksL_law_32 2 rfl rfl)
theorem dL_law_877 : decode cL_law 877 = .ok (.iadd, 1) := dk_96 (dk_at dksL_law_32 3 rfl rfl)
theorem dL_law_878 : decode cL_law 878 = .ok (.iaload, 1) := dk_46 (dk_at dksL_law_32 4 rfl rfl)
theorem dL_law_879 : decode cL_law 879 = .ok (.aload_n 0, 1) := dk_42 (dk_at dksL_law_32 5 rfl rfl)
theorem dL_law_880 : decode cL_law 880 = .ok (.iload 4, 2) := dk_21 4 (dk_at dksL_law_32 6 rfl rfl)
theorem dL_law_882 : decode cL_law 882 = .ok (.iconst 2, 1) := dk_5 (dk_at dksL_law_32 8 rfl rfl)
theorem dL_law_883 : decode cL_law 883 = .ok (.iadd, 1) := dk_96 (dk_at dksL_law_32 9 rfl rfl)
theorem dL_law_884 : decode cL_law 884 = .ok (.iaload, 1) := dk_46 (dk_at dksL_law_32 10 rfl rfl)
theorem dL_law_885 : decode cL_law 885 = .ok (.invokevirtual 171, 3) := dk_182 0 171 (dk_at dksL_law_32 11 rfl rfl)
theorem dL_law_888 : decode cL_law 888 = .ok (.istore 6, 2) := dk_54 6 (dk_at dksL_law_32 14 rfl rfl)
theorem dL_law_890 : decode cL_law 890 = .ok (.aload_n 2, 1) := dk_44 (dk_at dksL_law_32 16 rfl rfl)
theorem dL_law_891 : decode cL_law 891 = .ok (.invokevirtual 137, 3) := dk_182 0 137 (dk_at dksL_law_32 17 rfl rfl)
theorem dL_law_894 : decode cL_law 894 = .ok (.iload 5, 2) := dk_21 5 (dk_at dksL_law_32 20 rfl rfl)
theorem dL_law_896 : decode cL_law 896 = .ok (.if_icmp .eq 5, 3) := dk_159 0 5 (dk_at dksL_law_33 0 rfl rfl)
theorem dL_law_899 : decode cL_law 899 = .ok (.iconst 0, 1) := dk_3 (dk_at dksL_law_33 3 rfl rfl)
theorem dL_law_900 : decode cL_law 900 = .ok (.ireturn, 1) := dk_172 (dk_at dksL_law_33 4 rfl rfl)
theorem dL_law_901 : decode cL_law 901 = .ok (.iload 5, 2) := dk_21 5 (dk_at dksL_law_33 5 rfl rfl)
theorem dL_law_903 : decode cL_law 903 = .ok (.ifCond .ne 16, 3) := dk_154 0 16 (dk_at dksL_law_33 7 rfl rfl)
theorem dL_law_906 : decode cL_law 906 = .ok (.aload_n 3, 1) := dk_45 (dk_at dksL_law_33 10 rfl rfl)
theorem dL_law_907 : decode cL_law 907 = .ok (.getfield 13, 3) := dk_180 0 13 (dk_at dksL_law_33 11 rfl rfl)
theorem dL_law_910 : decode cL_law 910 = .ok (.iload 6, 2) := dk_21 6 (dk_at dksL_law_33 14 rfl rfl)
theorem dL_law_912 : decode cL_law 912 = .ok (.i2l, 1) := dk_133 (dk_at dksL_law_33 16 rfl rfl)
theorem dL_law_913 : decode cL_law 913 = .ok (.lcmp, 1) := dk_148 (dk_at dksL_law_33 17 rfl rfl)
theorem dL_law_914 : decode cL_law 914 = .ok (.ifCond .eq 5, 3) := dk_153 0 5 (dk_at dksL_law_33 18 rfl rfl)
theorem dL_law_917 : decode cL_law 917 = .ok (.iconst 0, 1) := dk_3 (dk_at dksL_law_33 21 rfl rfl)
theorem dL_law_918 : decode cL_law 918 = .ok (.ireturn, 1) := dk_172 (dk_at dksL_law_33 22 rfl rfl)
theorem dL_law_919 : decode cL_law 919 = .ok (.goto 1616, 3) := dk_167 6 80 (dk_at dksL_law_34 0 rfl rfl)
theorem dL_law_922 : decode cL_law 922 = .ok (.aload_n 1, 1) := dk_43 (dk_at dksL_law_34 3 rfl rfl)
theorem dL_law_923 : decode cL_law 923 = .ok (.aload_n 0, 1) := dk_42 (dk_at dksL_law_34 4 rfl rfl)
theorem dL_law_924 : decode cL_law 924 = .ok (.iload 4, 2) := dk_21 4 (dk_at dksL_law_34 5 rfl rfl)
theorem dL_law_926 : decode cL_law 926 = .ok (.iconst 1, 1) := dk_4 (dk_at dksL_law_34 7 rfl rfl)
theorem dL_law_927 : decode cL_law 927 = .ok (.iadd, 1) := dk_96 (dk_at dksL_law_34 8 rfl rfl)
theorem dL_law_928 : decode cL_law 928 = .ok (.iaload, 1) := dk_46 (dk_at dksL_law_34 9 rfl rfl)
theorem dL_law_929 : decode cL_law 929 = .ok (.aload_n 0, 1) := dk_42 (dk_at dksL_law_34 10 rfl rfl)
theorem dL_law_930 : decode cL_law 930 = .ok (.iload 4, 2) := dk_21 4 (dk_at dksL_law_34 11 rfl rfl)
theorem dL_law_932 : decode cL_law 932 = .ok (.iconst 2, 1) := dk_5 (dk_at dksL_law_34 13 rfl rfl)
theorem dL_law_933 : decode cL_law 933 = .ok (.iadd, 1) := dk_96 (dk_at dksL_law_34 14 rfl rfl)
theorem dL_law_934 : decode cL_law 934 = .ok (.iaload, 1) := dk_46 (dk_at dksL_law_34 15 rfl rfl)
theorem dL_law_935 : decode cL_law 935 = .ok (.aload_n 0, 1) := dk_42 (dk_at dksL_law_34 16 rfl rfl)
theorem dL_law_936 : decode cL_law 936 = .ok (.iload 4, 2) := dk_21 4 (dk_at dksL_law_34 17 rfl rfl)
theorem dL_law_938 : decode cL_law 938 = .ok (.iconst 3, 1) := dk_6 (dk_at dksL_law_34 19 rfl rfl)
theorem dL_law_939 : decode cL_law 939 = .ok (.iadd, 1) := dk_96 (dk_at dksL_law_34 20 rfl rfl)
theorem dL_law_940 : decode cL_law 940 = .ok (.iaload, 1) := dk_46 (dk_at dksL_law_34 21 rfl rfl)
theorem dL_law_941 : decode cL_law 941 = .ok (.aload_n 3, 1) := dk_45 (dk_at dksL_law_34 22 rfl rfl)
theorem dL_law_942 : decode cL_law 942 = .ok (.invokestatic 172, 3) := dk_184 0 172 (dk_at dksL_law_35 0 rfl rfl)
theorem dL_law_945 : decode cL_law 945 = .ok (.istore 5, 2) := dk_54 5 (dk_at dksL_law_35 3 rfl rfl)
theorem dL_law_947 : decode cL_law 947 = .ok (.aload_n 2, 1) := dk_44 (dk_at dksL_law_35 5 rfl rfl)
theorem dL_law_948 : decode cL_law 948 = .ok (.aload_n 0, 1) := dk_42 (dk_at dksL_law_35 6 rfl rfl)
theorem dL_law_949 : decode cL_law 949 = .ok (.iload 4, 2) := dk_21 4 (dk_at dksL_law_35 7 rfl rfl)
theorem dL_law_951 : decode cL_law 951 = .ok (.iconst 1, 1) := dk_4 (dk_at dksL_law_35 9 rfl rfl)
theorem dL_law_952 : decode cL_law 952 = .ok (.iadd, 1) := dk_96 (dk_at dksL_law_35 10 rfl rfl)
theorem dL_law_953 : decode cL_law 953 = .ok (.iaload, 1) := dk_46 (dk_at dksL_law_35 11 rfl rfl)
theorem dL_law_954 : decode cL_law 954 = .ok (.aload_n 0, 1) := dk_42 (dk_at dksL_law_35 12 rfl rfl)
theorem dL_law_955 : decode cL_law 955 = .ok (.iload 4, 2) := dk_21 4 (dk_at dksL_law_35 13 rfl rfl)
theorem dL_law_957 : decode cL_law 957 = .ok (.iconst 2, 1) := dk_5 (dk_at dksL_law_35 15 rfl rfl)
theorem dL_law_958 : decode cL_law 958 = .ok (.iadd, 1) := dk_96 (dk_at dksL_law_35 16 rfl rfl)
theorem dL_law_959 : decode cL_law 959 = .ok (.iaload, 1) := dk_46 (dk_at dksL_law_35 17 rfl rfl)
theorem dL_law_960 : decode cL_law 960 = .ok (.aload_n 0, 1) := dk_42 (dk_at dksL_law_35 18 rfl rfl)
theorem dL_law_961 : decode cL_law 961 = .ok (.iload 4, 2) := dk_21 4 (dk_at dksL_law_35 19 rfl rfl)
theorem dL_law_963 : decode cL_law 963 = .ok (.iconst 3, 1) := dk_6 (dk_at dksL_law_35 21 rfl rfl)
theorem dL_law_964 : decode cL_law 964 = .ok (.iadd, 1) := dk_96 (dk_at dksL_law_35 22 rfl rfl)
theorem dL_law_965 : decode cL_law 965 = .ok (.iaload, 1) := dk_46 (dk_at dksL_law_35 23 rfl rfl)
theorem dL_law_966 : decode cL_law 966 = .ok (.invokevirtual 174, 3) := dk_182 0 174 (dk_at dksL_law_36 0 rfl rfl)
theorem dL_law_969 : decode cL_law 969 = .ok (.istore 6, 2) := dk_54 6 (dk_at dksL_law_36 3 rfl rfl)
theorem dL_law_971 : decode cL_law 971 = .ok (.aload_n 2, 1) := dk_44 (dk_at dksL_law_36 5 rfl rfl)
theorem dL_law_972 : decode cL_law 972 = .ok (.invokevirtual 137, 3) := dk_182 0 137 (dk_at dksL_law_36 6 rfl rfl)
theorem dL_law_975 : decode cL_law 975 = .ok (.iload 5, 2) := dk_21 5 (dk_at dksL_law_36 9 rfl rfl)
theorem dL_law_977 : decode cL_law 977 = .ok (.if_icmp .eq 5, 3) := dk_159 0 5 (dk_at dksL_law_36 11 rfl rfl)
theorem dL_law_980 : decode cL_law 980 = .ok (.iconst 0, 1) := dk_3 (dk_at dksL_law_36 14 rfl rfl)
theorem dL_law_981 : decode cL_law 981 = .ok (.ireturn, 1) := dk_172 (dk_at dksL_law_36 15 rfl rfl)
theorem dL_law_982 : decode cL_law 982 = .ok (.iload 5, 2) := dk_21 5 (dk_at dksL_law_36 16 rfl rfl)
theorem dL_law_984 : decode cL_law 984 = .ok (.ifCond .ne 23, 3) := dk_154 0 23 (dk_at dksL_law_36 18 rfl rfl)
theorem dL_law_987 : decode cL_law 987 = .ok (.aload_n 3, 1) := dk_45 (dk_at dksL_law_36 21 rfl rfl)
theorem dL_law_988 : decode cL_law 988 = .ok (.getfield 13, 3) := dk_180 0 13 (dk_at dksL_law_37 0 rfl rfl)
theorem dL_law_991 : decode cL_law 991 = .ok (.iload 6, 2) := dk_21 6 (dk_at dksL_law_37 3 rfl rfl)
theorem dL_law_993 : decode cL_law 993 = .ok (.ifCond .eq 7, 3) := dk_153 0 7 (dk_at dksL_law_37 5 rfl rfl)
theorem dL_law_996 : decode cL_law 996 = .ok (.lconst 1, 1) := dk_10 (dk_at dksL_law_37 8 rfl rfl)
theorem dL_law_997 : decode cL_law 997 = .ok (.goto 4, 3) := dk_167 0 4 (dk_at dksL_law_37 9 rfl rfl)
theorem dL_law_1000 : decode cL_law 1000 = .ok (.lconst 0, 1) := dk_9 (dk_at dksL_law_37 12 rfl rfl)
theorem dL_law_1001 : decode cL_law 1001 = .ok (.lcmp, 1) := dk_148 (dk_at dksL_law_37 13 rfl rfl)
theorem dL_law_1002 : decode cL_law 1002 = .ok (.ifCond .eq 5, 3) := dk_153 0 5 (dk_at dksL_law_37 14 rfl rfl)
theorem dL_law_1005 : decode cL_law 1005 = .ok (.iconst 0, 1) := dk_3 (dk_at dksL_law_37 17 rfl rfl)
theorem dL_law_1006 : decode cL_law 1006 = .ok (.ireturn, 1) := dk_172 (dk_at dksL_law_37 18 rfl rfl)
theorem dL_law_1007 : decode cL_law 1007 = .ok (.goto 1528, 3) := dk_167 5 248 (dk_at dksL_law_37 19 rfl rfl)
theorem dL_law_1010 : decode cL_law 1010 = .ok (.aload_n 1, 1) := dk_43 (dk_at dksL_law_37 22 rfl rfl)
theorem dL_law_1011 : decode cL_law 1011 = .ok (.aload_n 0, 1) := dk_42 (dk_at dksL_law_37 23 rfl rfl)
theorem dL_law_1012 : decode cL_law 1012 = .ok (.iload 4, 2) := dk_21 4 (dk_at dksL_law_38 0 rfl rfl)
theorem dL_law_1014 : decode cL_law 1014 = .ok (.iconst 1, 1) := dk_4 (dk_at dksL_law_38 2 rfl rfl)
theorem dL_law_1015 : decode cL_law 1015 = .ok (.iadd, 1) := dk_96 (dk_at dksL_law_38 3 rfl rfl)
theorem dL_law_1016 : decode cL_law 1016 = .ok (.iaload, 1) := dk_46 (dk_at dksL_law_38 4 rfl rfl)
theorem dL_law_1017 : decode cL_law 1017 = .ok (.aload_n 0, 1) := dk_42 (dk_at dksL_law_38 5 rfl rfl)
theorem dL_law_1018 : decode cL_law 1018 = .ok (.iload 4, 2) := dk_21 4 (dk_at dksL_law_38 6 rfl rfl)
theorem dL_law_1020 : decode cL_law 1020 = .ok (.iconst 2, 1) := dk_5 (dk_at dksL_law_38 8 rfl rfl)
theorem dL_law_1021 : decode cL_law 1021 = .ok (.iadd, 1) := dk_96 (dk_at dksL_law_38 9 rfl rfl)
theorem dL_law_1022 : decode cL_law 1022 = .ok (.iaload, 1) := dk_46 (dk_at dksL_law_38 10 rfl rfl)
theorem dL_law_1023 : decode cL_law 1023 = .ok (.aload_n 0, 1) := dk_42 (dk_at dksL_law_38 11 rfl rfl)
theorem dL_law_1024 : decode cL_law 1024 = .ok (.iload 4, 2) := dk_21 4 (dk_at dksL_law_38 12 rfl rfl)
theorem dL_law_1026 : decode cL_law 1026 = .ok (.iconst 3, 1) := dk_6 (dk_at dksL_law_38 14 rfl rfl)
theorem dL_law_1027 : decode cL_law 1027 = .ok (.iadd, 1) := dk_96 (dk_at dksL_law_38 15 rfl rfl)
theorem dL_law_1028 : decode cL_law 1028 = .ok (.iaload, 1) := dk_46 (dk_at dksL_law_38 16 rfl rfl)
theorem dL_law_1029 : decode cL_law 1029 = .ok (.aload_n 3, 1) := dk_45 (dk_at dksL_law_38 17 rfl rfl)
theorem dL_law_1030 : decode cL_law 1030 = .ok (.invokestatic 175, 3) := dk_184 0 175 (dk_at dksL_law_38 18 rfl rfl)
theorem dL_law_1033 : decode cL_law 1033 = .ok (.istore 5, 2) := dk_54 5 (dk_at dksL_law_38 21 rfl rfl)
theorem dL_law_1035 : decode cL_law 1035 = .ok (.aload_n 2, 1) := dk_44 (dk_at dksL_law_38 23 rfl rfl)
theorem dL_law_1036 : decode cL_law 1036 = .ok (.aload_n 0, 1) := dk_42 (dk_at dksL_law_39 0 rfl rfl)
theorem dL_law_1037 : decode cL_law 1037 = .ok (.iload 4, 2) := dk_21 4 (dk_at dksL_law_39 1 rfl rfl)
theorem dL_law_1039 : decode cL_law 1039 = .ok (.iconst 1, 1) := dk_4 (dk_at dksL_law_39 3 rfl rfl)
theorem dL_law_1040 : decode cL_law 1040 = .ok (.iadd, 1) := dk_96 (dk_at dksL_law_39 4 rfl rfl)
theorem dL_law_1041 : decode cL_law 1041 = .ok (.iaload, 1) := dk_46 (dk_at dksL_law_39 5 rfl rfl)
theorem dL_law_1042 : decode cL_law 1042 = .ok (.aload_n 0, 1) := dk_42 (dk_at dksL_law_39 6 rfl rfl)
theorem dL_law_1043 : decode cL_law 1043 = .ok (.iload 4, 2) := dk_21 4 (dk_at dksL_law_39 7 rfl rfl)
theorem dL_law_1045 : decode cL_law 1045 = .ok (.iconst 2, 1) := dk_5 (dk_at dksL_law_39 9 rfl rfl)
theorem dL_law_1046 : decode cL_law 1046 = .ok (.iadd, 1) := dk_96 (dk_at dksL_law_39 10 rfl rfl)
theorem dL_law_1047 : decode cL_law 1047 = .ok (.iaload, 1) := dk_46 (dk_at dksL_law_39 11 rfl rfl)
theorem dL_law_1048 : decode cL_law 1048 = .ok (.aload_n 0, 1) := dk_42 (dk_at dksL_law_39 12 rfl rfl)
theorem dL_law_1049 : decode cL_law 1049 = .ok (.iload 4, 2) := dk_21 4 (dk_at dksL_law_39 13 rfl rfl)
theorem dL_law_1051 : decode cL_law 1051 = .ok (.iconst 3, 1) := dk_6 (dk_at dksL_law_39 15 rfl rfl)
theorem dL_law_1052 : decode cL_law 1052 = .ok (.iadd, 1) := dk_96 (dk_at dksL_law_39 16 rfl rfl)
theorem dL_law_1053 : decode cL_law 1053 = .ok (.iaload, 1) := dk_46 (dk_at dksL_law_39 17 rfl rfl)
theorem dL_law_1054 : decode cL_law 1054 = .ok (.invokevirtual 177, 3) := dk_182 0 177 (dk_at dksL_law_39 18 rfl rfl)
theorem dL_law_1057 : decode cL_law 1057 = .ok (.istore 6, 2) := dk_54 6 (dk_at dksL_law_39 21 rfl rfl)
theorem dL_law_1059 : decode cL_law 1059 = .ok (.aload_n 2, 1) := dk_44 (dk_at dksL_law_39 23 rfl rfl)
theorem dL_law_1060 : decode cL_law 1060 = .ok (.invokevirtual 137, 3) := dk_182 0 137 (dk_at dksL_law_40 0 rfl rfl)
theorem dL_law_1063 : decode cL_law 1063 = .ok (.iload 5, 2) := dk_21 5 (dk_at dksL_law_40 3 rfl rfl)
theorem dL_law_1065 : decode cL_law 1065 = .ok (.if_icmp .eq 5, 3) := dk_159 0 5 (dk_at dksL_law_40 5 rfl rfl)
theorem dL_law_1068 : decode cL_law 1068 = .ok (.iconst 0, 1) := dk_3 (dk_at dksL_law_40 8 rfl rfl)
theorem dL_law_1069 : decode cL_law 1069 = .ok (.ireturn, 1) := dk_172 (dk_at dksL_law_40 9 rfl rfl)
theorem dL_law_1070 : decode cL_law 1070 = .ok (.iload 5, 2) := dk_21 5 (dk_at dksL_law_40 10 rfl rfl)
theorem dL_law_1072 : decode cL_law 1072 = .ok (.ifCond .ne 16, 3) := dk_154 0 16 (dk_at dksL_law_40 12 rfl rfl)
theorem dL_law_1075 : decode cL_law 1075 = .ok (.aload_n 3, 1) := dk_45 (dk_at dksL_law_40 15 rfl rfl)
theorem dL_law_1076 : decode cL_law 1076 = .ok (.getfield 13, 3) := dk_180 0 13 (dk_at dksL_law_40 16 rfl rfl)
theorem dL_law_1079 : decode cL_law 1079 = .ok (.iload 6, 2) := dk_21 6 (dk_at dksL_law_40 19 rfl rfl)
theorem dL_law_1081 : decode cL_law 1081 = .ok (.i2l, 1) := dk_133 (dk_at dksL_law_40 21 rfl rfl)
theorem dL_law_1082 : decode cL_law 1082 = .ok (.lcmp, 1) := dk_148 (dk_at dksL_law_40 22 rfl rfl)
theorem dL_law_1083 : decode cL_law 1083 = .ok (.ifCond .eq 5, 3) := dk_153 0 5 (dk_at dksL_law_41 0 rfl rfl)
theorem dL_law_1086 : decode cL_law 1086 = .ok (.iconst 0, 1) := dk_3 (dk_at dksL_law_41 3 rfl rfl)
theorem dL_law_1087 : decode cL_law 1087 = .ok (.ireturn, 1) := dk_172 (dk_at dksL_law_41 4 rfl rfl)
theorem dL_law_1088 : decode cL_law 1088 = .ok (.goto 1447, 3) := dk_167 5 167 (dk_at dksL_law_41 5 rfl rfl)
theorem dL_law_1091 : decode cL_law 1091 = .ok (.aload_n 1, 1) := dk_43 (dk_at dksL_law_41 8 rfl rfl)
theorem dL_law_1092 : decode cL_law 1092 = .ok (.aload_n 0, 1) := dk_42 (dk_at dksL_law_41 9 rfl rfl)
theorem dL_law_1093 : decode cL_law 1093 = .ok (.iload 4, 2) := dk_21 4 (dk_at dksL_law_41 10 rfl rfl)
theorem dL_law_1095 : decode cL_law 1095 = .ok (.iconst 1, 1) := dk_4 (dk_at dksL_law_41 12 rfl rfl)
theorem dL_law_1096 : decode cL_law 1096 = .ok (.iadd, 1) := dk_96 (dk_at dksL_law_41 13 rfl rfl)
theorem dL_law_1097 : decode cL_law 1097 = .ok (.iaload, 1) := dk_46 (dk_at dksL_law_41 14 rfl rfl)
theorem dL_law_1098 : decode cL_law 1098 = .ok (.aload_n 0, 1) := dk_42 (dk_at dksL_law_41 15 rfl rfl)
theorem dL_law_1099 : decode cL_law 1099 = .ok (.iload 4, 2) := dk_21 4 (dk_at dksL_law_41 16 rfl rfl)
theorem dL_law_1101 : decode cL_law 1101 = .ok (.iconst 2, 1) := dk_5 (dk_at dksL_law_41 18 rfl rfl)
theorem dL_law_1102 : decode cL_law 1102 = .ok (.iadd, 1) := dk_96 (dk_at dksL_law_41 19 rfl rfl)
theorem dL_law_1103 : decode cL_law 1103 = .ok (.iaload, 1) := dk_46 (dk_at dksL_law_41 20 rfl rfl)
theorem dL_law_1104 : decode cL_law 1104 = .ok (.aload_n 3, 1) := dk_45 (dk_at dksL_law_41 21 rfl rfl)
theorem dL_law_1105 : decode cL_law 1105 = .ok (.invokestatic 178, 3) := dk_184 0 178 (dk_at dksL_law_42 0 rfl rfl)
theorem dL_law_1108 : decode cL_law 1108 = .ok (.istore 5, 2) := dk_54 5 (dk_at dksL_law_42 3 rfl rfl)
theorem dL_law_1110 : decode cL_law 1110 = .ok (.aload_n 2, 1) := dk_44 (dk_at dksL_law_42 5 rfl rfl)
theorem dL_law_1111 : decode cL_law 1111 = .ok (.aload_n 0, 1) := dk_42 (dk_at dksL_law_42 6 rfl rfl)
theorem dL_law_1112 : decode cL_law 1112 = .ok (.iload 4, 2) := dk_21 4 (dk_at dksL_law_42 7 rfl rfl)
theorem dL_law_1114 : decode cL_law 1114 = .ok (.iconst 1, 1) := dk_4 (dk_at dksL_law_42 9 rfl rfl)
theorem dL_law_1115 : decode cL_law 1115 = .ok (.iadd, 1) := dk_96 (dk_at dksL_law_42 10 rfl rfl)
theorem dL_law_1116 : decode cL_law 1116 = .ok (.iaload, 1) := dk_46 (dk_at dksL_law_42 11 rfl rfl)
theorem dL_law_1117 : decode cL_law 1117 = .ok (.aload_n 0, 1) := dk_42 (dk_at dksL_law_42 12 rfl rfl)
theorem dL_law_1118 : decode cL_law 1118 = .ok (.iload 4, 2) := dk_21 4 (dk_at dksL_law_42 13 rfl rfl)
theorem dL_law_1120 : decode cL_law 1120 = .ok (.iconst 2, 1) := dk_5 (dk_at dksL_law_42 15 rfl rfl)
theorem dL_law_1121 : decode cL_law 1121 = .ok (.iadd, 1) := dk_96 (dk_at dksL_law_42 16 rfl rfl)
theorem dL_law_1122 : decode cL_law 1122 = .ok (.iaload, 1) := dk_46 (dk_at dksL_law_42 17 rfl rfl)
theorem dL_law_1123 : decode cL_law 1123 = .ok (.invokevirtual 180, 3) := dk_182 0 180 (dk_at dksL_law_42 18 rfl rfl)
theorem dL_law_1126 : decode cL_law 1126 = .ok (.istore 6, 2) := dk_54 6 (dk_at dksL_law_42 21 rfl rfl)
theorem dL_law_1128 : decode cL_law 1128 = .ok (.aload_n 2, 1) := dk_44 (dk_at dksL_law_42 23 rfl rfl)
theorem dL_law_1129 : decode cL_law 1129 = .ok (.invokevirtual 137, 3) := dk_182 0 137 (dk_at dksL_law_43 0 rfl rfl)
theorem dL_law_1132 : decode cL_law 1132 = .ok (.iload 5, 2) := dk_21 5 (dk_at dksL_law_43 3 rfl rfl)
theorem dL_law_1134 : decode cL_law 1134 = .ok (.if_icmp .eq 5, 3) := dk_159 0 5 (dk_at dksL_law_43 5 rfl rfl)
theorem dL_law_1137 : decode cL_law 1137 = .ok (.iconst 0, 1) := dk_3 (dk_at dksL_law_43 8 rfl rfl)
theorem dL_law_1138 : decode cL_law 1138 = .ok (.ireturn, 1) := dk_172 (dk_at dksL_law_43 9 rfl rfl)
theorem dL_law_1139 : decode cL_law 1139 = .ok (.iload 5, 2) := dk_21 5 (dk_at dksL_law_43 10 rfl rfl)
theorem dL_law_1141 : decode cL_law 1141 = .ok (.ifCond .ne 16, 3) := dk_154 0 16 (dk_at dksL_law_43 12 rfl rfl)
theorem dL_law_1144 : decode cL_law 1144 = .ok (.aload_n 3, 1) := dk_45 (dk_at dksL_law_43 15 rfl rfl)
theorem dL_law_1145 : decode cL_law 1145 = .ok (.getfield 13, 3) := dk_180 0 13 (dk_at dksL_law_43 16 rfl rfl)
theorem dL_law_1148 : decode cL_law 1148 = .ok (.iload 6, 2) := dk_21 6 (dk_at dksL_law_43 19 rfl rfl)
theorem dL_law_1150 : decode cL_law 1150 = .ok (.i2l, 1) := dk_133 (dk_at dksL_law_43 21 rfl rfl)
theorem dL_law_1151 : decode cL_law 1151 = .ok (.lcmp, 1) := dk_148 (dk_at dksL_law_43 22 rfl rfl)
theorem dL_law_1152 : decode cL_law 1152 = .ok (.ifCond .eq 5, 3) := dk_153 0 5 (dk_at dksL_law_44 0 rfl rfl)
theorem dL_law_1155 : decode cL_law 1155 = .ok (.iconst 0, 1) := dk_3 (dk_at dksL_law_44 3 rfl rfl)
theorem dL_law_1156 : decode cL_law 1156 = .ok (.ireturn, 1) := dk_172 (dk_at dksL_law_44 4 rfl rfl)
theorem dL_law_1157 : decode cL_law 1157 = .ok (.goto 1378, 3) := dk_167 5 98 (dk_at dksL_law_44 5 rfl rfl)
theorem dL_law_1160 : decode cL_law 1160 = .ok (.aload_n 1, 1) := dk_43 (dk_at dksL_law_44 8 rfl rfl)
theorem dL_law_1161 : decode cL_law 1161 = .ok (.aload_n 0, 1) := dk_42 (dk_at dksL_law_44 9 rfl rfl)
theorem dL_law_1162 : decode cL_law 1162 = .ok (.iload 4, 2) := dk_21 4 (dk_at dksL_law_44 10 rfl rfl)
theorem dL_law_1164 : decode cL_law 1164 = .ok (.iconst 1, 1) := dk_4 (dk_at dksL_law_44 12 rfl rfl)
theorem dL_law_1165 : decode cL_law 1165 = .ok (.iadd, 1) := dk_96 (dk_at dksL_law_44 13 rfl rfl)
theorem dL_law_1166 : decode cL_law 1166 = .ok (.iaload, 1) := dk_46 (dk_at dksL_law_44 14 rfl rfl)
theorem dL_law_1167 : decode cL_law 1167 = .ok (.aload_n 0, 1) := dk_42 (dk_at dksL_law_44 15 rfl rfl)
theorem dL_law_1168 : decode cL_law 1168 = .ok (.iload 4, 2) := dk_21 4 (dk_at dksL_law_44 16 rfl rfl)
theorem dL_law_1170 : decode cL_law 1170 = .ok (.iconst 2, 1) := dk_5 (dk_at dksL_law_44 18 rfl rfl)
theorem dL_law_1171 : decode cL_law 1171 = .ok (.iadd, 1) := dk_96 (dk_at dksL_law_44 19 rfl rfl)
theorem dL_law_1172 : decode cL_law 1172 = .ok (.iaload, 1) := dk_46 (dk_at dksL_law_44 20 rfl rfl)
theorem dL_law_1173 : decode cL_law 1173 = .ok (.ifCond .eq 7, 3) := dk_153 0 7 (dk_at dksL_law_44 21 rfl rfl)
theorem dL_law_1176 : decode cL_law 1176 = .ok (.iconst 1, 1) := dk_4 (dk_at dksL_law_45 0 rfl rfl)
theorem dL_law_1177 : decode cL_law 1177 = .ok (.goto 4, 3) := dk_167 0 4 (dk_at dksL_law_45 1 rfl rfl)
theorem dL_law_1180 : decode cL_law 1180 = .ok (.iconst 0, 1) := dk_3 (dk_at dksL_law_45 4 rfl rfl)
theorem dL_law_1181 : decode cL_law 1181 = .ok (.aload_n 3, 1) := dk_45 (dk_at dksL_law_45 5 rfl rfl)
theorem dL_law_1182 : decode cL_law 1182 = .ok (.invokestatic 181, 3) := dk_184 0 181 (dk_at dksL_law_45 6 rfl rfl)
theorem dL_law_1185 : decode cL_law 1185 = .ok (.istore 5, 2) := dk_54 5 (dk_at dksL_law_45 9 rfl rfl)
theorem dL_law_1187 : decode cL_law 1187 = .ok (.aload_n 2, 1) := dk_44 (dk_at dksL_law_45 11 rfl rfl)
theorem dL_law_1188 : decode cL_law 1188 = .ok (.aload_n 0, 1) := dk_42 (dk_at dksL_law_45 12 rfl rfl)
theorem dL_law_1189 : decode cL_law 1189 = .ok (.iload 4, 2) := dk_21 4 (dk_at dksL_law_45 13 rfl rfl)
theorem dL_law_1191 : decode cL_law 1191 = .ok (.iconst 1, 1) := dk_4 (dk_at dksL_law_45 15 rfl rfl)
theorem dL_law_1192 : decode cL_law 1192 = .ok (.iadd, 1) := dk_96 (dk_at dksL_law_45 16 rfl rfl)
theorem dL_law_1193 : decode cL_law 1193 = .ok (.iaload, 1) := dk_46 (dk_at dksL_law_45 17 rfl rfl)
theorem dL_law_1194 : decode cL_law 1194 = .ok (.aload_n 0, 1) := dk_42 (dk_at dksL_law_45 18 rfl rfl)
theorem dL_law_1195 : decode cL_law 1195 = .ok (.iload 4, 2) := dk_21 4 (dk_at dksL_law_45 19 rfl rfl)
theorem dL_law_1197 : decode cL_law 1197 = .ok (.iconst 2, 1) := dk_5 (dk_at dksL_law_45 21 rfl rfl)
theorem dL_law_1198 : decode cL_law 1198 = .ok (.iadd, 1) := dk_96 (dk_at dksL_law_45 22 rfl rfl)
theorem dL_law_1199 : decode cL_law 1199 = .ok (.iaload, 1) := dk_46 (dk_at dksL_law_45 23 rfl rfl)
theorem dL_law_1200 : decode cL_law 1200 = .ok (.ifCond .eq 7, 3) := dk_153 0 7 (dk_at dksL_law_46 0 rfl rfl)
theorem dL_law_1203 : decode cL_law 1203 = .ok (.iconst 1, 1) := dk_4 (dk_at dksL_law_46 3 rfl rfl)
theorem dL_law_1204 : decode cL_law 1204 = .ok (.goto 4, 3) := dk_167 0 4 (dk_at dksL_law_46 4 rfl rfl)
theorem dL_law_1207 : decode cL_law 1207 = .ok (.iconst 0, 1) := dk_3 (dk_at dksL_law_46 7 rfl rfl)
theorem dL_law_1208 : decode cL_law 1208 = .ok (.invokevirtual 183, 3) := dk_182 0 183 (dk_at dksL_law_46 8 rfl rfl)
theorem dL_law_1211 : decode cL_law 1211 = .ok (.istore 6, 2) := dk_54 6 (dk_at dksL_law_46 11 rfl rfl)
theorem dL_law_1213 : decode cL_law 1213 = .ok (.aload_n 2, 1) := dk_44 (dk_at dksL_law_46 13 rfl rfl)
theorem dL_law_1214 : decode cL_law 1214 = .ok (.invokevirtual 137, 3) := dk_182 0 137 (dk_at dksL_law_46 14 rfl rfl)
theorem dL_law_1217 : decode cL_law 1217 = .ok (.iload 5, 2) := dk_21 5 (dk_at dksL_law_46 17 rfl rfl)
theorem dL_law_1219 : decode cL_law 1219 = .ok (.if_icmp .eq 5, 3) := dk_159 0 5 (dk_at dksL_law_46 19 rfl rfl)
theorem dL_law_1222 : decode cL_law 1222 = .ok (.iconst 0, 1) := dk_3 (dk_at dksL_law_46 22 rfl rfl)
theorem dL_law_1223 : decode cL_law 1223 = .ok (.ireturn, 1) := dk_172 (dk_at dksL_law_46 23 rfl rfl)
theorem dL_law_1224 : decode cL_law 1224 = .ok (.iload 5, 2) := dk_21 5 (dk_at dksL_law_47 0 rfl rfl)
theorem dL_law_1226 : decode cL_law 1226 = .ok (.ifCond .ne 16, 3) := dk_154 0 16 (dk_at dksL_law_47 2 rfl rfl)
theorem dL_law_1229 : decode cL_law 1229 = .ok (.aload_n 3, 1) := dk_45 (dk_at dksL_law_47 5 rfl rfl)
theorem dL_law_1230 : decode cL_law 1230 = .ok (.getfield 13, 3) := dk_180 0 13 (dk_at dksL_law_47 6 rfl rfl)
theorem dL_law_1233 : decode cL_law 1233 = .ok (.iload 6, 2) := dk_21 6 (dk_at dksL_law_47 9 rfl rfl)
theorem dL_law_1235 : decode cL_law 1235 = .ok (.i2l, 1) := dk_133 (dk_at dksL_law_47 11 rfl rfl)
theorem dL_law_1236 : decode cL_law 1236 = .ok (.lcmp, 1) := dk_148 (dk_at dksL_law_47 12 rfl rfl)
theorem dL_law_1237 : decode cL_law 1237 = .ok (.ifCond .eq 5, 3) := dk_153 0 5 (dk_at dksL_law_47 13 rfl rfl)
theorem dL_law_1240 : decode cL_law 1240 = .ok (.iconst 0, 1) := dk_3 (dk_at dksL_law_47 16 rfl rfl)
theorem dL_law_1241 : decode cL_law 1241 = .ok (.ireturn, 1) := dk_172 (dk_at dksL_law_47 17 rfl rfl)
theorem dL_law_1242 : decode cL_law 1242 = .ok (.goto 1293, 3) := dk_167 5 13 (dk_at dksL_law_47 18 rfl rfl)
theorem dL_law_1245 : decode cL_law 1245 = .ok (.aload_n 1, 1) := dk_43 (dk_at dksL_law_47 21 rfl rfl)
theorem dL_law_1246 : decode cL_law 1246 = .ok (.aload_n 0, 1) := dk_42 (dk_at dksL_law_47 22 rfl rfl)
theorem dL_law_1247 : decode cL_law 1247 = .ok (.iload 4, 2) := dk_21 4 (dk_at dksL_law_48 0 rfl rfl)
theorem dL_law_1249 : decode cL_law 1249 = .ok (.iconst 1, 1) := dk_4 (dk_at dksL_law_48 2 rfl rfl)
theorem dL_law_1250 : decode cL_law 1250 = .ok (.iadd, 1) := dk_96 (dk_at dksL_law_48 3 rfl rfl)
theorem dL_law_1251 : decode cL_law 1251 = .ok (.iaload, 1) := dk_46 (dk_at dksL_law_48 4 rfl rfl)
theorem dL_law_1252 : decode cL_law 1252 = .ok (.aload_n 0, 1) := dk_42 (dk_at dksL_law_48 5 rfl rfl)
theorem dL_law_1253 : decode cL_law 1253 = .ok (.iload 4, 2) := dk_21 4 (dk_at dksL_law_48 6 rfl rfl)
theorem dL_law_1255 : decode cL_law 1255 = .ok (.iconst 2, 1) := dk_5 (dk_at dksL_law_48 8 rfl rfl)
theorem dL_law_1256 : decode cL_law 1256 = .ok (.iadd, 1) := dk_96 (dk_at dksL_law_48 9 rfl rfl)
theorem dL_law_1257 : decode cL_law 1257 = .ok (.iaload, 1) := dk_46 (dk_at dksL_law_48 10 rfl rfl)
theorem dL_law_1258 : decode cL_law 1258 = .ok (.aload_n 0, 1) := dk_42 (dk_at dksL_law_48 11 rfl rfl)
theorem dL_law_1259 : decode cL_law 1259 = .ok (.iload 4, 2) := dk_21 4 (dk_at dksL_law_48 12 rfl rfl)
theorem dL_law_1261 : decode cL_law 1261 = .ok (.iconst 3, 1) := dk_6 (dk_at dksL_law_48 14 rfl rfl)
theorem dL_law_1262 : decode cL_law 1262 = .ok (.iadd, 1) := dk_96 (dk_at dksL_law_48 15 rfl rfl)
theorem dL_law_1263 : decode cL_law 1263 = .ok (.iaload, 1) := dk_46 (dk_at dksL_law_48 16 rfl rfl)
theorem dL_law_1264 : decode cL_law 1264 = .ok (.aload_n 3, 1) := dk_45 (dk_at dksL_law_48 17 rfl rfl)
theorem dL_law_1265 : decode cL_law 1265 = .ok (.invokestatic 184, 3) := dk_184 0 184 (dk_at dksL_law_48 18 rfl rfl)
theorem dL_law_1268 : decode cL_law 1268 = .ok (.istore 5, 2) := dk_54 5 (dk_at dksL_law_48 21 rfl rfl)
theorem dL_law_1270 : decode cL_law 1270 = .ok (.aload_n 2, 1) := dk_44 (dk_at dksL_law_48 23 rfl rfl)
theorem dL_law_1271 : decode cL_law 1271 = .ok (.aload_n 0, 1) := dk_42 (dk_at dksL_law_49 0 rfl rfl)
theorem dL_law_1272 : decode cL_law 1272 = .ok (.iload 4, 2) := dk_21 4 (dk_at dksL_law_49 1 rfl rfl)
theorem dL_law_1274 : decode cL_law 1274 = .ok (.iconst 1, 1) := dk_4 (dk_at dksL_law_49 3 rfl rfl)
theorem dL_law_1275 : decode cL_law 1275 = .ok (.iadd, 1) := dk_96 (dk_at dksL_law_49 4 rfl rfl)
theorem dL_law_1276 : decode cL_law 1276 = .ok (.iaload, 1) := dk_46 (dk_at dksL_law_49 5 rfl rfl)
theorem dL_law_1277 : decode cL_law 1277 = .ok (.aload_n 0, 1) := dk_42 (dk_at dksL_law_49 6 rfl rfl)
theorem dL_law_1278 : decode cL_law 1278 = .ok (.iload 4, 2) := dk_21 4 (dk_at dksL_law_49 7 rfl rfl)
theorem dL_law_1280 : decode cL_law 1280 = .ok (.iconst 2, 1) := dk_5 (dk_at dksL_law_49 9 rfl rfl)
theorem dL_law_1281 : decode cL_law 1281 = .ok (.iadd, 1) := dk_96 (dk_at dksL_law_49 10 rfl rfl)
theorem dL_law_1282 : decode cL_law 1282 = .ok (.iaload, 1) := dk_46 (dk_at dksL_law_49 11 rfl rfl)
theorem dL_law_1283 : decode cL_law 1283 = .ok (.aload_n 0, 1) := dk_42 (dk_at dksL_law_49 12 rfl rfl)
theorem dL_law_1284 : decode cL_law 1284 = .ok (.iload 4, 2) := dk_21 4 (dk_at dksL_law_49 13 rfl rfl)
theorem dL_law_1286 : decode cL_law 1286 = .ok (.iconst 3, 1) := dk_6 (dk_at dksL_law_49 15 rfl rfl)
theorem dL_law_1287 : decode cL_law 1287 = .ok (.iadd, 1) := dk_96 (dk_at dksL_law_49 16 rfl rfl)
theorem dL_law_1288 : decode cL_law 1288 = .ok (.iaload, 1) := dk_46 (dk_at dksL_law_49 17 rfl rfl)
theorem dL_law_1289 : decode cL_law 1289 = .ok (.invokevirtual 186, 3) := dk_182 0 186 (dk_at dksL_law_49 18 rfl rfl)
theorem dL_law_1292 : decode cL_law 1292 = .ok (.istore 6, 2) := dk_54 6 (dk_at dksL_law_49 21 rfl rfl)
theorem dL_law_1294 : decode cL_law 1294 = .ok (.aload_n 2, 1) := dk_44 (dk_at dksL_law_49 23 rfl rfl)
theorem dL_law_1295 : decode cL_law 1295 = .ok (.invokevirtual 137, 3) := dk_182 0 137 (dk_at dksL_law_50 0 rfl rfl)
theorem dL_law_1298 : decode cL_law 1298 = .ok (.iload 5, 2) := dk_21 5 (dk_at dksL_law_50 3 rfl rfl)
theorem dL_law_1300 : decode cL_law 1300 = .ok (.if_icmp .eq 5, 3) := dk_159 0 5 (dk_at dksL_law_50 5 rfl rfl)
theorem dL_law_1303 : decode cL_law 1303 = .ok (.iconst 0, 1) := dk_3 (dk_at dksL_law_50 8 rfl rfl)
theorem dL_law_1304 : decode cL_law 1304 = .ok (.ireturn, 1) := dk_172 (dk_at dksL_law_50 9 rfl rfl)
theorem dL_law_1305 : decode cL_law 1305 = .ok (.iload 5, 2) := dk_21 5 (dk_at dksL_law_50 10 rfl rfl)
theorem dL_law_1307 : decode cL_law 1307 = .ok (.ifCond .ne 16, 3) := dk_154 0 16 (dk_at dksL_law_50 12 rfl rfl)
theorem dL_law_1310 : decode cL_law 1310 = .ok (.aload_n 3, 1) := dk_45 (dk_at dksL_law_50 15 rfl rfl)
theorem dL_law_1311 : decode cL_law 1311 = .ok (.getfield 13, 3) := dk_180 0 13 (dk_at dksL_law_50 16 rfl rfl)
theorem dL_law_1314 : decode cL_law 1314 = .ok (.iload 6, 2) := dk_21 6 (dk_at dksL_law_50 19 rfl rfl)
theorem dL_law_1316 : decode cL_law 1316 = .ok (.i2l, 1) := dk_133 (dk_at dksL_law_50 21 rfl rfl)
theorem dL_law_1317 : decode cL_law 1317 = .ok (.lcmp, 1) := dk_148 (dk_at dksL_law_50 22 rfl rfl)
theorem dL_law_1318 : decode cL_law 1318 = .ok (.ifCond .eq 5, 3) := dk_153 0 5 (dk_at dksL_law_51 0 rfl rfl)
theorem dL_law_1321 : decode cL_law 1321 = .ok (.iconst 0, 1) := dk_3 (dk_at dksL_law_51 3 rfl rfl)
theorem dL_law_1322 : decode cL_law 1322 = .ok (.ireturn, 1) := dk_172 (dk_at dksL_law_51 4 rfl rfl)
theorem dL_law_1323 : decode cL_law 1323 = .ok (.goto 1212, 3) := dk_167 4 188 (dk_at dksL_law_51 5 rfl rfl)
theorem dL_law_1326 : decode cL_law 1326 = .ok (.aload_n 1, 1) := dk_43 (dk_at dksL_law_51 8 rfl rfl)
theorem dL_law_1327 : decode cL_law 1327 = .ok (.aload_n 0, 1) := dk_42 (dk_at dksL_law_51 9 rfl rfl)
theorem dL_law_1328 : decode cL_law 1328 = .ok (.iload 4, 2) := dk_21 4 (dk_at dksL_law_51 10 rfl rfl)
theorem dL_law_1330 : decode cL_law 1330 = .ok (.iconst 1, 1) := dk_4 (dk_at dksL_law_51 12 rfl rfl)
theorem dL_law_1331 : decode cL_law 1331 = .ok (.iadd, 1) := dk_96 (dk_at dksL_law_51 13 rfl rfl)
theorem dL_law_1332 : decode cL_law 1332 = .ok (.iaload, 1) := dk_46 (dk_at dksL_law_51 14 rfl rfl)
theorem dL_law_1333 : decode cL_law 1333 = .ok (.aload_n 3, 1) := dk_45 (dk_at dksL_law_51 15 rfl rfl)
theorem dL_law_1334 : decode cL_law 1334 = .ok (.invokestatic 187, 3) := dk_184 0 187 (dk_at dksL_law_51 16 rfl rfl)
theorem dL_law_1337 : decode cL_law 1337 = .ok (.istore 5, 2) := dk_54 5 (dk_at dksL_law_51 19 rfl rfl)
theorem dL_law_1339 : decode cL_law 1339 = .ok (.aload_n 2, 1) := dk_44 (dk_at dksL_law_51 21 rfl rfl)
theorem dL_law_1340 : decode cL_law 1340 = .ok (.aload_n 0, 1) := dk_42 (dk_at dksL_law_51 22 rfl rfl)
theorem dL_law_1341 : decode cL_law 1341 = .ok (.iload 4, 2) := dk_21 4 (dk_at dksL_law_52 0 rfl rfl)
theorem dL_law_1343 : decode cL_law 1343 = .ok (.iconst 1, 1) := dk_4 (dk_at dksL_law_52 2 rfl rfl)
theorem dL_law_1344 : decode cL_law 1344 = .ok (.iadd, 1) := dk_96 (dk_at dksL_law_52 3 rfl rfl)
theorem dL_law_1345 : decode cL_law 1345 = .ok (.iaload, 1) := dk_46 (dk_at dksL_law_52 4 rfl rfl)
theorem dL_law_1346 : decode cL_law 1346 = .ok (.invokevirtual 189, 3) := dk_182 0 189 (dk_at dksL_law_52 5 rfl rfl)
theorem dL_law_1349 : decode cL_law 1349 = .ok (.istore 6, 2) := dk_54 6 (dk_at dksL_law_52 8 rfl rfl)
theorem dL_law_1351 : decode cL_law 1351 = .ok (.aload_n 2, 1) := dk_44 (dk_at dksL_law_52 10 rfl rfl)
theorem dL_law_1352 : decode cL_law 1352 = .ok (.invokevirtual 137, 3) := dk_182 0 137 (dk_at dksL_law_52 11 rfl rfl)
theorem dL_law_1355 : decode cL_law 1355 = .ok (.iload 5, 2) := dk_21 5 (dk_at dksL_law_52 14 rfl rfl)
theorem dL_law_1357 : decode cL_law 1357 = .ok (.if_icmp .eq 5, 3) := dk_159 0 5 (dk_at dksL_law_52 16 rfl rfl)
theorem dL_law_1360 : decode cL_law 1360 = .ok (.iconst 0, 1) := dk_3 (dk_at dksL_law_52 19 rfl rfl)
theorem dL_law_1361 : decode cL_law 1361 = .ok (.ireturn, 1) := dk_172 (dk_at dksL_law_52 20 rfl rfl)
theorem dL_law_1362 : decode cL_law 1362 = .ok (.iload 5, 2) := dk_21 5 (dk_at dksL_law_52 21 rfl rfl)
theorem dL_law_1364 : decode cL_law 1364 = .ok (.ifCond .ne 16, 3) := dk_154 0 16 (dk_at dksL_law_53 0 rfl rfl)
theorem dL_law_1367 : decode cL_law 1367 = .ok (.aload_n 3, 1) := dk_45 (dk_at dksL_law_53 3 rfl rfl)
theorem dL_law_1368 : decode cL_law 1368 = .ok (.getfield 13, 3) := dk_180 0 13 (dk_at dksL_law_53 4 rfl rfl)
theorem dL_law_1371 : decode cL_law 1371 = .ok (.iload 6, 2) := dk_21 6 (dk_at dksL_law_53 7 rfl rfl)
theorem dL_law_1373 : decode cL_law 1373 = .ok (.i2l, 1) := dk_133 (dk_at dksL_law_53 9 rfl rfl)
theorem dL_law_1374 : decode cL_law 1374 = .ok (.lcmp, 1) := dk_148 (dk_at dksL_law_53 10 rfl rfl)
theorem dL_law_1375 : decode cL_law 1375 = .ok (.ifCond .eq 5, 3) := dk_153 0 5 (dk_at dksL_law_53 11 rfl rfl)
theorem dL_law_1378 : decode cL_law 1378 = .ok (.iconst 0, 1) := dk_3 (dk_at dksL_law_53 14 rfl rfl)
theorem dL_law_1379 : decode cL_law 1379 = .ok (.ireturn, 1) := dk_172 (dk_at dksL_law_53 15 rfl rfl)
theorem dL_law_1380 : decode cL_law 1380 = .ok (.goto 1155, 3) := dk_167 4 131 (dk_at dksL_law_53 16 rfl rfl)
theorem dL_law_1383 : decode cL_law 1383 = .ok (.aload_n 1, 1) := dk_43 (dk_at dksL_law_53 19 rfl rfl)
theorem dL_law_1384 : decode cL_law 1384 = .ok (.aload_n 0, 1) := dk_42 (dk_at dksL_law_53 20 rfl rfl)
theorem dL_law_1385 : decode cL_law 1385 = .ok (.iload 4, 2) := dk_21 4 (dk_at dksL_law_53 21 rfl rfl)
theorem dL_law_1387 : decode cL_law 1387 = .ok (.iconst 1, 1) := dk_4 (dk_at dksL_law_53 23 rfl rfl)
theorem dL_law_1388 : decode cL_law 1388 = .ok (.iadd, 1) := dk_96 (dk_at dksL_law_54 0 rfl rfl)
theorem dL_law_1389 : decode cL_law 1389 = .ok (.iaload, 1) := dk_46 (dk_at dksL_law_54 1 rfl rfl)
theorem dL_law_1390 : decode cL_law 1390 = .ok (.aload_n 3, 1) := dk_45 (dk_at dksL_law_54 2 rfl rfl)
theorem dL_law_1391 : decode cL_law 1391 = .ok (.invokestatic 190, 3) := dk_184 0 190 (dk_at dksL_law_54 3 rfl rfl)
theorem dL_law_1394 : decode cL_law 1394 = .ok (.istore 5, 2) := dk_54 5 (dk_at dksL_law_54 6 rfl rfl)
theorem dL_law_1396 : decode cL_law 1396 = .ok (.aload_n 2, 1) := dk_44 (dk_at dksL_law_54 8 rfl rfl)
theorem dL_law_1397 : decode cL_law 1397 = .ok (.aload_n 0, 1) := dk_42 (dk_at dksL_law_54 9 rfl rfl)
theorem dL_law_1398 : decode cL_law 1398 = .ok (.iload 4, 2) := dk_21 4 (dk_at dksL_law_54 10 rfl rfl)
theorem dL_law_1400 : decode cL_law 1400 = .ok (.iconst 1, 1) := dk_4 (dk_at dksL_law_54 12 rfl rfl)
theorem dL_law_1401 : decode cL_law 1401 = .ok (.iadd, 1) := dk_96 (dk_at dksL_law_54 13 rfl rfl)
theorem dL_law_1402 : decode cL_law 1402 = .ok (.iaload, 1) := dk_46 (dk_at dksL_law_54 14 rfl rfl)
theorem dL_law_1403 : decode cL_law 1403 = .ok (.invokevirtual 192, 3) := dk_182 0 192 (dk_at dksL_law_54 15 rfl rfl)
theorem dL_law_1406 : decode cL_law 1406 = .ok (.istore 6, 2) := dk_54 6 (dk_at dksL_law_54 18 rfl rfl)
theorem dL_law_1408 : decode cL_law 1408 = .ok (.aload_n 2, 1) := dk_44 (dk_at dksL_law_54 20 rfl rfl)
theorem dL_law_1409 : decode cL_law 1409 = .ok (.invokevirtual 137, 3) := dk_182 0 137 (dk_at dksL_law_54 21 rfl rfl)
theorem dL_law_1412 : decode cL_law 1412 = .ok (.iload 5, 2) := dk_21 5 (dk_at dksL_law_55 0 rfl rfl)
theorem dL_law_1414 : decode cL_law 1414 = .ok (.if_icmp .eq 5, 3) := dk_159 0 5 (dk_at dksL_law_55 2 rfl rfl)
theorem dL_law_1417 : decode cL_law 1417 = .ok (.iconst 0, 1) := dk_3 (dk_at dksL_law_55 5 rfl rfl)
theorem dL_law_1418 : decode cL_law 1418 = .ok (.ireturn, 1) := dk_172 (dk_at dksL_law_55 6 rfl rfl)
theorem dL_law_1419 : decode cL_law 1419 = .ok (.iload 5, 2) := dk_21 5 (dk_at dksL_law_55 7 rfl rfl)
theorem dL_law_1421 : decode cL_law 1421 = .ok (.ifCond .ne 16, 3) := dk_154 0 16 (dk_at dksL_law_55 9 rfl rfl)
theorem dL_law_1424 : decode cL_law 1424 = .ok (.aload_n 3, 1) := dk_45 (dk_at dksL_law_55 12 rfl rfl)
theorem dL_law_1425 : decode cL_law 1425 = .ok (.getfield 13, 3) := dk_180 0 13 (dk_at dksL_law_55 13 rfl rfl)
theorem dL_law_1428 : decode cL_law 1428 = .ok (.iload 6, 2) := dk_21 6 (dk_at dksL_law_55 16 rfl rfl)
theorem dL_law_1430 : decode cL_law 1430 = .ok (.i2l, 1) := dk_133 (dk_at dksL_law_55 18 rfl rfl)
theorem dL_law_1431 : decode cL_law 1431 = .ok (.lcmp, 1) := dk_148 (dk_at dksL_law_55 19 rfl rfl)
theorem dL_law_1432 : decode cL_law 1432 = .ok (.ifCond .eq 5, 3) := dk_153 0 5 (dk_at dksL_law_55 20 rfl rfl)
theorem dL_law_1435 : decode cL_law 1435 = .ok (.iconst 0, 1) := dk_3 (dk_at dksL_law_55 23 rfl rfl)
theorem dL_law_1436 : decode cL_law 1436 = .ok (.ireturn, 1) := dk_172 (dk_at dksL_law_56 0 rfl rfl)
theorem dL_law_1437 : decode cL_law 1437 = .ok (.goto 1098, 3) := dk_167 4 74 (dk_at dksL_law_56 1 rfl rfl)
theorem dL_law_1440 : decode cL_law 1440 = .ok (.aload_n 1, 1) := dk_43 (dk_at dksL_law_56 4 rfl rfl)
theorem dL_law_1441 : decode cL_law 1441 = .ok (.aload_n 0, 1) := dk_42 (dk_at dksL_law_56 5 rfl rfl)
theorem dL_law_1442 : decode cL_law 1442 = .ok (.iload 4, 2) := dk_21 4 (dk_at dksL_law_56 6 rfl rfl)
theorem dL_law_1444 : decode cL_law 1444 = .ok (.iconst 1, 1) := dk_4 (dk_at dksL_law_56 8 rfl rfl)
theorem dL_law_1445 : decode cL_law 1445 = .ok (.iadd, 1) := dk_96 (dk_at dksL_law_56 9 rfl rfl)
theorem dL_law_1446 : decode cL_law 1446 = .ok (.iaload, 1) := dk_46 (dk_at dksL_law_56 10 rfl rfl)
theorem dL_law_1447 : decode cL_law 1447 = .ok (.aload_n 0, 1) := dk_42 (dk_at dksL_law_56 11 rfl rfl)
theorem dL_law_1448 : decode cL_law 1448 = .ok (.iload 4, 2) := dk_21 4 (dk_at dksL_law_56 12 rfl rfl)
theorem dL_law_1450 : decode cL_law 1450 = .ok (.iconst 2, 1) := dk_5 (dk_at dksL_law_56 14 rfl rfl)
theorem dL_law_1451 : decode cL_law 1451 = .ok (.iadd, 1) := dk_96 (dk_at dksL_law_56 15 rfl rfl)
theorem dL_law_1452 : decode cL_law 1452 = .ok (.iaload, 1) := dk_46 (dk_at dksL_law_56 16 rfl rfl)
theorem dL_law_1453 : decode cL_law 1453 = .ok (.aload_n 0, 1) := dk_42 (dk_at dksL_law_56 17 rfl rfl)
theorem dL_law_1454 : decode cL_law 1454 = .ok (.iload 4, 2) := dk_21 4 (dk_at dksL_law_56 18 rfl rfl)
theorem dL_law_1456 : decode cL_law 1456 = .ok (.iconst 3, 1) := dk_6 (dk_at dksL_law_56 20 rfl rfl)
theorem dL_law_1457 : decode cL_law 1457 = .ok (.iadd, 1) := dk_96 (dk_at dksL_law_56 21 rfl rfl)
theorem dL_law_1458 : decode cL_law 1458 = .ok (.iaload, 1) := dk_46 (dk_at dksL_law_56 22 rfl rfl)
theorem dL_law_1459 : decode cL_law 1459 = .ok (.aload_n 3, 1) := dk_45 (dk_at dksL_law_56 23 rfl rfl)
theorem dL_law_1460 : decode cL_law 1460 = .ok (.invokestatic 193, 3) := dk_184 0 193 (dk_at dksL_law_57 0 rfl rfl)
theorem dL_law_1463 : decode cL_law 1463 = .ok (.istore 5, 2) := dk_54 5 (dk_at dksL_law_57 3 rfl rfl)
theorem dL_law_1465 : decode cL_law 1465 = .ok (.aload_n 2, 1) := dk_44 (dk_at dksL_law_57 5 rfl rfl)
theorem dL_law_1466 : decode cL_law 1466 = .ok (.aload_n 0, 1) := dk_42 (dk_at dksL_law_57 6 rfl rfl)
theorem dL_law_1467 : decode cL_law 1467 = .ok (.iload 4, 2) := dk_21 4 (dk_at dksL_law_57 7 rfl rfl)
theorem dL_law_1469 : decode cL_law 1469 = .ok (.iconst 1, 1) := dk_4 (dk_at dksL_law_57 9 rfl rfl)
theorem dL_law_1470 : decode cL_law 1470 = .ok (.iadd, 1) := dk_96 (dk_at dksL_law_57 10 rfl rfl)
theorem dL_law_1471 : decode cL_law 1471 = .ok (.iaload, 1) := dk_46 (dk_at dksL_law_57 11 rfl rfl)
theorem dL_law_1472 : decode cL_law 1472 = .ok (.aload_n 0, 1) := dk_42 (dk_at dksL_law_57 12 rfl rfl)
theorem dL_law_1473 : decode cL_law 1473 = .ok (.iload 4, 2) := dk_21 4 (dk_at dksL_law_57 13 rfl rfl)
theorem dL_law_1475 : decode cL_law 1475 = .ok (.iconst 2, 1) := dk_5 (dk_at dksL_law_57 15 rfl rfl)
theorem dL_law_1476 : decode cL_law 1476 = .ok (.iadd, 1) := dk_96 (dk_at dksL_law_57 16 rfl rfl)
theorem dL_law_1477 : decode cL_law 1477 = .ok (.iaload, 1) := dk_46 (dk_at dksL_law_57 17 rfl rfl)
theorem dL_law_1478 : decode cL_law 1478 = .ok (.aload_n 0, 1) := dk_42 (dk_at dksL_law_57 18 rfl rfl)
theorem dL_law_1479 : decode cL_law 1479 = .ok (.iload 4, 2) := dk_21 4 (dk_at dksL_law_57 19 rfl rfl)
theorem dL_law_1481 : decode cL_law 1481 = .ok (.iconst 3, 1) := dk_6 (dk_at dksL_law_57 21 rfl rfl)
theorem dL_law_1482 : decode cL_law 1482 = .ok (.iadd, 1) := dk_96 (dk_at dksL_law_57 22 rfl rfl)
theorem dL_law_1483 : decode cL_law 1483 = .ok (.iaload, 1) := dk_46 (dk_at dksL_law_57 23 rfl rfl)
theorem dL_law_1484 : decode cL_law 1484 = .ok (.invokevirtual 195, 3) := dk_182 0 195 (dk_at dksL_law_58 0 rfl rfl)
theorem dL_law_1487 : decode cL_law 1487 = .ok (.istore 6, 2) := dk_54 6 (dk_at dksL_law_58 3 rfl rfl)
theorem dL_law_1489 : decode cL_law 1489 = .ok (.aload_n 2, 1) := dk_44 (dk_at dksL_law_58 5 rfl rfl)
theorem dL_law_1490 : decode cL_law 1490 = .ok (.invokevirtual 137, 3) := dk_182 0 137 (dk_at dksL_law_58 6 rfl rfl)
theorem dL_law_1493 : decode cL_law 1493 = .ok (.iload 5, 2) := dk_21 5 (dk_at dksL_law_58 9 rfl rfl)
theorem dL_law_1495 : decode cL_law 1495 = .ok (.if_icmp .eq 5, 3) := dk_159 0 5 (dk_at dksL_law_58 11 rfl rfl)
theorem dL_law_1498 : decode cL_law 1498 = .ok (.iconst 0, 1) := dk_3 (dk_at dksL_law_58 14 rfl rfl)
theorem dL_law_1499 : decode cL_law 1499 = .ok (.ireturn, 1) := dk_172 (dk_at dksL_law_58 15 rfl rfl)
theorem dL_law_1500 : decode cL_law 1500 = .ok (.iload 5, 2) := dk_21 5 (dk_at dksL_law_58 16 rfl rfl)
theorem dL_law_1502 : decode cL_law 1502 = .ok (.ifCond .ne 16, 3) := dk_154 0 16 (dk_at dksL_law_58 18 rfl rfl)
theorem dL_law_1505 : decode cL_law 1505 = .ok (.aload_n 3, 1) := dk_45 (dk_at dksL_law_58 21 rfl rfl)
theorem dL_law_1506 : decode cL_law 1506 = .ok (.getfield 13, 3) := dk_180 0 13 (dk_at dksL_law_59 0 rfl rfl)
theorem dL_law_1509 : decode cL_law 1509 = .ok (.iload 6, 2) := dk_21 6 (dk_at dksL_law_59 3 rfl rfl)
theorem dL_law_1511 : decode cL_law 1511 = .ok (.i2l, 1) := dk_133 (dk_at dksL_law_59 5 rfl rfl)
theorem dL_law_1512 : decode cL_law 1512 = .ok (.lcmp, 1) := dk_148 (dk_at dksL_law_59 6 rfl rfl)
theorem dL_law_1513 : decode cL_law 1513 = .ok (.ifCond .eq 5, 3) := dk_153 0 5 (dk_at dksL_law_59 7 rfl rfl)
theorem dL_law_1516 : decode cL_law 1516 = .ok (.iconst 0, 1) := dk_3 (dk_at dksL_law_59 10 rfl rfl)
theorem dL_law_1517 : decode cL_law 1517 = .ok (.ireturn, 1) := dk_172 (dk_at dksL_law_59 11 rfl rfl)
theorem dL_law_1518 : decode cL_law 1518 = .ok (.goto 1017, 3) := dk_167 3 249 (dk_at dksL_law_59 12 rfl rfl)
theorem dL_law_1521 : decode cL_law 1521 = .ok (.aload_n 1, 1) := dk_43 (dk_at dksL_law_59 15 rfl rfl)
theorem dL_law_1522 : decode cL_law 1522 = .ok (.aload_n 0, 1) := dk_42 (dk_at dksL_law_59 16 rfl rfl)
theorem dL_law_1523 : decode cL_law 1523 = .ok (.iload 4, 2) := dk_21 4 (dk_at dksL_law_59 17 rfl rfl)
theorem dL_law_1525 : decode cL_law 1525 = .ok (.iconst 1, 1) := dk_4 (dk_at dksL_law_59 19 rfl rfl)
theorem dL_law_1526 : decode cL_law 1526 = .ok (.iadd, 1) := dk_96 (dk_at dksL_law_59 20 rfl rfl)
theorem dL_law_1527 : decode cL_law 1527 = .ok (.iaload, 1) := dk_46 (dk_at dksL_law_59 21 rfl rfl)
theorem dL_law_1528 : decode cL_law 1528 = .ok (.aload_n 0, 1) := dk_42 (dk_at dksL_law_59 22 rfl rfl)
theorem dL_law_1529 : decode cL_law 1529 = .ok (.iload 4, 2) := dk_21 4 (dk_at dksL_law_60 0 rfl rfl)
theorem dL_law_1531 : decode cL_law 1531 = .ok (.iconst 2, 1) := dk_5 (dk_at dksL_law_60 2 rfl rfl)
theorem dL_law_1532 : decode cL_law 1532 = .ok (.iadd, 1) := dk_96 (dk_at dksL_law_60 3 rfl rfl)
theorem dL_law_1533 : decode cL_law 1533 = .ok (.iaload, 1) := dk_46 (dk_at dksL_law_60 4 rfl rfl)
theorem dL_law_1534 : decode cL_law 1534 = .ok (.aload_n 3, 1) := dk_45 (dk_at dksL_law_60 5 rfl rfl)
theorem dL_law_1535 : decode cL_law 1535 = .ok (.invokestatic 196, 3) := dk_184 0 196 (dk_at dksL_law_60 6 rfl rfl)
theorem dL_law_1538 : decode cL_law 1538 = .ok (.istore 5, 2) := dk_54 5 (dk_at dksL_law_60 9 rfl rfl)
theorem dL_law_1540 : decode cL_law 1540 = .ok (.aload_n 2, 1) := dk_44 (dk_at dksL_law_60 11 rfl rfl)
theorem dL_law_1541 : decode cL_law 1541 = .ok (.aload_n 0, 1) := dk_42 (dk_at dksL_law_60 12 rfl rfl)
theorem dL_law_1542 : decode cL_law 1542 = .ok (.iload 4, 2) := dk_21 4 (dk_at dksL_law_60 13 rfl rfl)
theorem dL_law_1544 : decode cL_law 1544 = .ok (.iconst 1, 1) := dk_4 (dk_at dksL_law_60 15 rfl rfl)
theorem dL_law_1545 : decode cL_law 1545 = .ok (.iadd, 1) := dk_96 (dk_at dksL_law_60 16 rfl rfl)
theorem dL_law_1546 : decode cL_law 1546 = .ok (.iaload, 1) := dk_46 (dk_at dksL_law_60 17 rfl rfl)
theorem dL_law_1547 : decode cL_law 1547 = .ok (.aload_n 0, 1) := dk_42 (dk_at dksL_law_60 18 rfl rfl)
theorem dL_law_1548 : decode cL_law 1548 = .ok (.iload 4, 2) := dk_21 4 (dk_at dksL_law_60 19 rfl rfl)
theorem dL_law_1550 : decode cL_law 1550 = .ok (.iconst 2, 1) := dk_5 (dk_at dksL_law_60 21 rfl rfl)
theorem dL_law_1551 : decode cL_law 1551 = .ok (.iadd, 1) := dk_96 (dk_at dksL_law_60 22 rfl rfl)
theorem dL_law_1552 : decode cL_law 1552 = .ok (.iaload, 1) := dk_46 (dk_at dksL_law_60 23 rfl rfl)
theorem dL_law_1553 : decode cL_law 1553 = .ok (.invokevirtual 198, 3) := dk_182 0 198 (dk_at dksL_law_61 0 rfl rfl)
theorem dL_law_1556 : decode cL_law 1556 = .ok (.istore 6, 2) := dk_54 6 (dk_at dksL_law_61 3 rfl rfl)
theorem dL_law_1558 : decode cL_law 1558 = .ok (.aload_n 2, 1) := dk_44 (dk_at dksL_law_61 5 rfl rfl)
theorem dL_law_1559 : decode cL_law 1559 = .ok (.invokevirtual 137, 3) := dk_182 0 137 (dk_at dksL_law_61 6 rfl rfl)
theorem dL_law_1562 : decode cL_law 1562 = .ok (.iload 5, 2) := dk_21 5 (dk_at dksL_law_61 9 rfl rfl)
theorem dL_law_1564 : decode cL_law 1564 = .ok (.if_icmp .eq 5, 3) := dk_159 0 5 (dk_at dksL_law_61 11 rfl rfl)
theorem dL_law_1567 : decode cL_law 1567 = .ok (.iconst 0, 1) := dk_3 (dk_at dksL_law_61 14 rfl rfl)
theorem dL_law_1568 : decode cL_law 1568 = .ok (.ireturn, 1) := dk_172 (dk_at dksL_law_61 15 rfl rfl)
theorem dL_law_1569 : decode cL_law 1569 = .ok (.iload 5, 2) := dk_21 5 (dk_at dksL_law_61 16 rfl rfl)
theorem dL_law_1571 : decode cL_law 1571 = .ok (.ifCond .ne 16, 3) := dk_154 0 16 (dk_at dksL_law_61 18 rfl rfl)
theorem dL_law_1574 : decode cL_law 1574 = .ok (.aload_n 3, 1) := dk_45 (dk_at dksL_law_61 21 rfl rfl)
theorem dL_law_1575 : decode cL_law 1575 = .ok (.getfield 13, 3) := dk_180 0 13 (dk_at dksL_law_62 0 rfl rfl)
theorem dL_law_1578 : decode cL_law 1578 = .ok (.iload 6, 2) := dk_21 6 (dk_at dksL_law_62 3 rfl rfl)
theorem dL_law_1580 : decode cL_law 1580 = .ok (.i2l, 1) := dk_133 (dk_at dksL_law_62 5 rfl rfl)
theorem dL_law_1581 : decode cL_law 1581 = .ok (.lcmp, 1) := dk_148 (dk_at dksL_law_62 6 rfl rfl)
theorem dL_law_1582 : decode cL_law 1582 = .ok (.ifCond .eq 5, 3) := dk_153 0 5 (dk_at dksL_law_62 7 rfl rfl)
theorem dL_law_1585 : decode cL_law 1585 = .ok (.iconst 0, 1) := dk_3 (dk_at dksL_law_62 10 rfl rfl)
theorem dL_law_1586 : decode cL_law 1586 = .ok (.ireturn, 1) := dk_172 (dk_at dksL_law_62 11 rfl rfl)
theorem dL_law_1587 : decode cL_law 1587 = .ok (.goto 948, 3) := dk_167 3 180 (dk_at dksL_law_62 12 rfl rfl)
theorem dL_law_1590 : decode cL_law 1590 = .ok (.aload_n 1, 1) := dk_43 (dk_at dksL_law_62 15 rfl rfl)
theorem dL_law_1591 : decode cL_law 1591 = .ok (.aload_n 0, 1) := dk_42 (dk_at dksL_law_62 16 rfl rfl)
theorem dL_law_1592 : decode cL_law 1592 = .ok (.iload 4, 2) := dk_21 4 (dk_at dksL_law_62 17 rfl rfl)
theorem dL_law_1594 : decode cL_law 1594 = .ok (.iconst 1, 1) := dk_4 (dk_at dksL_law_62 19 rfl rfl)
theorem dL_law_1595 : decode cL_law 1595 = .ok (.iadd, 1) := dk_96 (dk_at dksL_law_62 20 rfl rfl)
theorem dL_law_1596 : decode cL_law 1596 = .ok (.iaload, 1) := dk_46 (dk_at dksL_law_62 21 rfl rfl)
theorem dL_law_1597 : decode cL_law 1597 = .ok (.aload_n 0, 1) := dk_42 (dk_at dksL_law_62 22 rfl rfl)
theorem dL_law_1598 : decode cL_law 1598 = .ok (.iload 4, 2) := dk_21 4 (dk_at dksL_law_63 0 rfl rfl)
theorem dL_law_1600 : decode cL_law 1600 = .ok (.iconst 2, 1) := dk_5 (dk_at dksL_law_63 2 rfl rfl)
theorem dL_law_1601 : decode cL_law 1601 = .ok (.iadd, 1) := dk_96 (dk_at dksL_law_63 3 rfl rfl)
theorem dL_law_1602 : decode cL_law 1602 = .ok (.iaload, 1) := dk_46 (dk_at dksL_law_63 4 rfl rfl)
theorem dL_law_1603 : decode cL_law 1603 = .ok (.aload_n 3, 1) := dk_45 (dk_at dksL_law_63 5 rfl rfl)
theorem dL_law_1604 : decode cL_law 1604 = .ok (.invokestatic 199, 3) := dk_184 0 199 (dk_at dksL_law_63 6 rfl rfl)
theorem dL_law_1607 : decode cL_law 1607 = .ok (.istore 5, 2) := dk_54 5 (dk_at dksL_law_63 9 rfl rfl)
theorem dL_law_1609 : decode cL_law 1609 = .ok (.aload_n 2, 1) := dk_44 (dk_at dksL_law_63 11 rfl rfl)
theorem dL_law_1610 : decode cL_law 1610 = .ok (.aload_n 0, 1) := dk_42 (dk_at dksL_law_63 12 rfl rfl)
theorem dL_law_1611 : decode cL_law 1611 = .ok (.iload 4, 2) := dk_21 4 (dk_at dksL_law_63 13 rfl rfl)
theorem dL_law_1613 : decode cL_law 1613 = .ok (.iconst 1, 1) := dk_4 (dk_at dksL_law_63 15 rfl rfl)
theorem dL_law_1614 : decode cL_law 1614 = .ok (.iadd, 1) := dk_96 (dk_at dksL_law_63 16 rfl rfl)
theorem dL_law_1615 : decode cL_law 1615 = .ok (.iaload, 1) := dk_46 (dk_at dksL_law_63 17 rfl rfl)
theorem dL_law_1616 : decode cL_law 1616 = .ok (.aload_n 0, 1) := dk_42 (dk_at dksL_law_63 18 rfl rfl)
theorem dL_law_1617 : decode cL_law 1617 = .ok (.iload 4, 2) := dk_21 4 (dk_at dksL_law_63 19 rfl rfl)
theorem dL_law_1619 : decode cL_law 1619 = .ok (.iconst 2, 1) := dk_5 (dk_at dksL_law_63 21 rfl rfl)
theorem dL_law_1620 : decode cL_law 1620 = .ok (.iadd, 1) := dk_96 (dk_at dksL_law_63 22 rfl rfl)
theorem dL_law_1621 : decode cL_law 1621 = .ok (.iaload, 1) := dk_46 (dk_at dksL_law_63 23 rfl rfl)
theorem dL_law_1622 : decode cL_law 1622 = .ok (.invokevirtual 201, 3) := dk_182 0 201 (dk_at dksL_law_64 0 rfl rfl)
theorem dL_law_1625 : decode cL_law 1625 = .ok (.istore 6, 2) := dk_54 6 (dk_at dksL_law_64 3 rfl rfl)
theorem dL_law_1627 : decode cL_law 1627 = .ok (.aload_n 2, 1) := dk_44 (dk_at dksL_law_64 5 rfl rfl)
theorem dL_law_1628 : decode cL_law 1628 = .ok (.invokevirtual 137, 3) := dk_182 0 137 (dk_at dksL_law_64 6 rfl rfl)
theorem dL_law_1631 : decode cL_law 1631 = .ok (.iload 5, 2) := dk_21 5 (dk_at dksL_law_64 9 rfl rfl)
theorem dL_law_1633 : decode cL_law 1633 = .ok (.if_icmp .eq 5, 3) := dk_159 0 5 (dk_at dksL_law_64 11 rfl rfl)
theorem dL_law_1636 : decode cL_law 1636 = .ok (.iconst 0, 1) := dk_3 (dk_at dksL_law_64 14 rfl rfl)
theorem dL_law_1637 : decode cL_law 1637 = .ok (.ireturn, 1) := dk_172 (dk_at dksL_law_64 15 rfl rfl)
theorem dL_law_1638 : decode cL_law 1638 = .ok (.iload 5, 2) := dk_21 5 (dk_at dksL_law_64 16 rfl rfl)
theorem dL_law_1640 : decode cL_law 1640 = .ok (.ifCond .ne 16, 3) := dk_154 0 16 (dk_at dksL_law_64 18 rfl rfl)
theorem dL_law_1643 : decode cL_law 1643 = .ok (.aload_n 3, 1) := dk_45 (dk_at dksL_law_64 21 rfl rfl)
theorem dL_law_1644 : decode cL_law 1644 = .ok (.getfield 13, 3) := dk_180 0 13 (dk_at dksL_law_65 0 rfl rfl)
theorem dL_law_1647 : decode cL_law 1647 = .ok (.iload 6, 2) := dk_21 6 (dk_at dksL_law_65 3 rfl rfl)
theorem dL_law_1649 : decode cL_law 1649 = .ok (.i2l, 1) := dk_133 (dk_at dksL_law_65 5 rfl rfl)
theorem dL_law_1650 : decode cL_law 1650 = .ok (.lcmp, 1) := dk_148 (dk_at dksL_law_65 6 rfl rfl)
theorem dL_law_1651 : decode cL_law 1651 = .ok (.ifCond .eq 5, 3) := dk_153 0 5 (dk_at dksL_law_65 7 rfl rfl)
theorem dL_law_1654 : decode cL_law 1654 = .ok (.iconst 0, 1) := dk_3 (dk_at dksL_law_65 10 rfl rfl)
theorem dL_law_1655 : decode cL_law 1655 = .ok (.ireturn, 1) := dk_172 (dk_at dksL_law_65 11 rfl rfl)
theorem dL_law_1656 : decode cL_law 1656 = .ok (.goto 879, 3) := dk_167 3 111 (dk_at dksL_law_65 12 rfl rfl)
theorem dL_law_1659 : decode cL_law 1659 = .ok (.aload_n 1, 1) := dk_43 (dk_at dksL_law_65 15 rfl rfl)
theorem dL_law_1660 : decode cL_law 1660 = .ok (.aload_n 0, 1) := dk_42 (dk_at dksL_law_65 16 rfl rfl)
theorem dL_law_1661 : decode cL_law 1661 = .ok (.iload 4, 2) := dk_21 4 (dk_at dksL_law_65 17 rfl rfl)
theorem dL_law_1663 : decode cL_law 1663 = .ok (.iconst 1, 1) := dk_4 (dk_at dksL_law_65 19 rfl rfl)
theorem dL_law_1664 : decode cL_law 1664 = .ok (.iadd, 1) := dk_96 (dk_at dksL_law_65 20 rfl rfl)
theorem dL_law_1665 : decode cL_law 1665 = .ok (.iaload, 1) := dk_46 (dk_at dksL_law_65 21 rfl rfl)
theorem dL_law_1666 : decode cL_law 1666 = .ok (.aload_n 0, 1) := dk_42 (dk_at dksL_law_65 22 rfl rfl)
theorem dL_law_1667 : decode cL_law 1667 = .ok (.iload 4, 2) := dk_21 4 (dk_at dksL_law_66 0 rfl rfl)
theorem dL_law_1669 : decode cL_law 1669 = .ok (.iconst 2, 1) := dk_5 (dk_at dksL_law_66 2 rfl rfl)
theorem dL_law_1670 : decode cL_law 1670 = .ok (.iadd, 1) := dk_96 (dk_at dksL_law_66 3 rfl rfl)
theorem dL_law_1671 : decode cL_law 1671 = .ok (.iaload, 1) := dk_46 (dk_at dksL_law_66 4 rfl rfl)
theorem dL_law_1672 : decode cL_law 1672 = .ok (.aload_n 0, 1) := dk_42 (dk_at dksL_law_66 5 rfl rfl)
theorem dL_law_1673 : decode cL_law 1673 = .ok (.iload 4, 2) := dk_21 4 (dk_at dksL_law_66 6 rfl rfl)
theorem dL_law_1675 : decode cL_law 1675 = .ok (.iconst 3, 1) := dk_6 (dk_at dksL_law_66 8 rfl rfl)
theorem dL_law_1676 : decode cL_law 1676 = .ok (.iadd, 1) := dk_96 (dk_at dksL_law_66 9 rfl rfl)
theorem dL_law_1677 : decode cL_law 1677 = .ok (.iaload, 1) := dk_46 (dk_at dksL_law_66 10 rfl rfl)
theorem dL_law_1678 : decode cL_law 1678 = .ok (.aload_n 3, 1) := dk_45 (dk_at dksL_law_66 11 rfl rfl)
theorem dL_law_1679 : decode cL_law 1679 = .ok (.invokestatic 202, 3) := dk_184 0 202 (dk_at dksL_law_66 12 rfl rfl)
theorem dL_law_1682 : decode cL_law 1682 = .ok (.istore 5, 2) := dk_54 5 (dk_at dksL_law_66 15 rfl rfl)
theorem dL_law_1684 : decode cL_law 1684 = .ok (.aload_n 2, 1) := dk_44 (dk_at dksL_law_66 17 rfl rfl)
theorem dL_law_1685 : decode cL_law 1685 = .ok (.aload_n 0, 1) := dk_42 (dk_at dksL_law_66 18 rfl rfl)
theorem dL_law_1686 : decode cL_law 1686 = .ok (.iload 4, 2) := dk_21 4 (dk_at dksL_law_66 19 rfl rfl)
theorem dL_law_1688 : decode cL_law 1688 = .ok (.iconst 1, 1) := dk_4 (dk_at dksL_law_66 21 rfl rfl)
theorem dL_law_1689 : decode cL_law 1689 = .ok (.iadd, 1) := dk_96 (dk_at dksL_law_66 22 rfl rfl)
theorem dL_law_1690 : decode cL_law 1690 = .ok (.iaload, 1) := dk_46 (dk_at dksL_law_66 23 rfl rfl)
theorem dL_law_1691 : decode cL_law 1691 = .ok (.aload_n 0, 1) := dk_42 (dk_at dksL_law_67 0 rfl rfl)
theorem dL_law_1692 : decode cL_law 1692 = .ok (.iload 4, 2) := dk_21 4 (dk_at dksL_law_67 1 rfl rfl)
theorem dL_law_1694 : decode cL_law 1694 = .ok (.iconst 2, 1) := dk_5 (dk_at dksL_law_67 3 rfl rfl)
theorem dL_law_1695 : decode cL_law 1695 = .ok (.iadd, 1) := dk_96 (dk_at dksL_law_67 4 rfl rfl)
theorem dL_law_1696 : decode cL_law 1696 = .ok (.iaload, 1) := dk_46 (dk_at dksL_law_67 5 rfl rfl)
theorem dL_law_1697 : decode cL_law 1697 = .ok (.aload_n 0, 1) := dk_42 (dk_at dksL_law_67 6 rfl rfl)
theorem dL_law_1698 : decode cL_law 1698 = .ok (.iload 4, 2) := dk_21 4 (dk_at dksL_law_67 7 rfl rfl)
theorem dL_law_1700 : decode cL_law 1700 = .ok (.iconst 3, 1) := dk_6 (dk_at dksL_law_67 9 rfl rfl)
theorem dL_law_1701 : decode cL_law 1701 = .ok (.iadd, 1) := dk_96 (dk_at dksL_law_67 10 rfl rfl)
theorem dL_law_1702 : decode cL_law 1702 = .ok (.iaload, 1) := dk_46 (dk_at dksL_law_67 11 rfl rfl)
theorem dL_law_1703 : decode cL_law 1703 = .ok (.invokevirtual 204, 3) := dk_182 0 204 (dk_at dksL_law_67 12 rfl rfl)
theorem dL_law_1706 : decode cL_law 1706 = .ok (.istore 6, 2) := dk_54 6 (dk_at dksL_law_67 15 rfl rfl)
theorem dL_law_1708 : decode cL_law 1708 = .ok (.aload_n 2, 1) := dk_44 (dk_at dksL_law_67 17 rfl rfl)
theorem dL_law_1709 : decode cL_law 1709 = .ok (.invokevirtual 137, 3) := dk_182 0 137 (dk_at dksL_law_67 18 rfl rfl)
theorem dL_law_1712 : decode cL_law 1712 = .ok (.iload 5, 2) := dk_21 5 (dk_at dksL_law_67 21 rfl rfl)
theorem dL_law_1714 : decode cL_law 1714 = .ok (.if_icmp .eq 5, 3) := dk_159 0 5 (dk_at dksL_law_68 0 rfl rfl)
theorem dL_law_1717 : decode cL_law 1717 = .ok (.iconst 0, 1) := dk_3 (dk_at dksL_law_68 3 rfl rfl)
theorem dL_law_1718 : decode cL_law 1718 = .ok (.ireturn, 1) := dk_172 (dk_at dksL_law_68 4 rfl rfl)
theorem dL_law_1719 : decode cL_law 1719 = .ok (.iload 5, 2) := dk_21 5 (dk_at dksL_law_68 5 rfl rfl)
theorem dL_law_1721 : decode cL_law 1721 = .ok (.ifCond .ne 16, 3) := dk_154 0 16 (dk_at dksL_law_68 7 rfl rfl)
theorem dL_law_1724 : decode cL_law 1724 = .ok (.aload_n 3, 1) := dk_45 (dk_at dksL_law_68 10 rfl rfl)
theorem dL_law_1725 : decode cL_law 1725 = .ok (.getfield 13, 3) := dk_180 0 13 (dk_at dksL_law_68 11 rfl rfl)
theorem dL_law_1728 : decode cL_law 1728 = .ok (.iload 6, 2) := dk_21 6 (dk_at dksL_law_68 14 rfl rfl)
theorem dL_law_1730 : decode cL_law 1730 = .ok (.i2l, 1) := dk_133 (dk_at dksL_law_68 16 rfl rfl)
theorem dL_law_1731 : decode cL_law 1731 = .ok (.lcmp, 1) := dk_148 (dk_at dksL_law_68 17 rfl rfl)
theorem dL_law_1732 : decode cL_law 1732 = .ok (.ifCond .eq 5, 3) := dk_153 0 5 (dk_at dksL_law_68 18 rfl rfl)
theorem dL_law_1735 : decode cL_law 1735 = .ok (.iconst 0, 1) := dk_3 (dk_at dksL_law_68 21 rfl rfl)
theorem dL_law_1736 : decode cL_law 1736 = .ok (.ireturn, 1) := dk_172 (dk_at dksL_law_68 22 rfl rfl)
theorem dL_law_1737 : decode cL_law 1737 = .ok (.goto 798, 3) := dk_167 3 30 (dk_at dksL_law_69 0 rfl rfl)
theorem dL_law_1740 : decode cL_law 1740 = .ok (.aload_n 1, 1) := dk_43 (dk_at dksL_law_69 3 rfl rfl)
theorem dL_law_1741 : decode cL_law 1741 = .ok (.aload_n 0, 1) := dk_42 (dk_at dksL_law_69 4 rfl rfl)
theorem dL_law_1742 : decode cL_law 1742 = .ok (.iload 4, 2) := dk_21 4 (dk_at dksL_law_69 5 rfl rfl)
theorem dL_law_1744 : decode cL_law 1744 = .ok (.iconst 1, 1) := dk_4 (dk_at dksL_law_69 7 rfl rfl)
theorem dL_law_1745 : decode cL_law 1745 = .ok (.iadd, 1) := dk_96 (dk_at dksL_law_69 8 rfl rfl)
theorem dL_law_1746 : decode cL_law 1746 = .ok (.iaload, 1) := dk_46 (dk_at dksL_law_69 9 rfl rfl)
theorem dL_law_1747 : decode cL_law 1747 = .ok (.aload_n 0, 1) := dk_42 (dk_at dksL_law_69 10 rfl rfl)
theorem dL_law_1748 : decode cL_law 1748 = .ok (.iload 4, 2) := dk_21 4 (dk_at dksL_law_69 11 rfl rfl)
theorem dL_law_1750 : decode cL_law 1750 = .ok (.iconst 2, 1) := dk_5 (dk_at dksL_law_69 13 rfl rfl)
theorem dL_law_1751 : decode cL_law 1751 = .ok (.iadd, 1) := dk_96 (dk_at dksL_law_69 14 rfl rfl)
theorem dL_law_1752 : decode cL_law 1752 = .ok (.iaload, 1) := dk_46 (dk_at dksL_law_69 15 rfl rfl)
theorem dL_law_1753 : decode cL_law 1753 = .ok (.aload_n 3, 1) := dk_45 (dk_at dksL_law_69 16 rfl rfl)
theorem dL_law_1754 : decode cL_law 1754 = .ok (.invokestatic 205, 3) := dk_184 0 205 (dk_at dksL_law_69 17 rfl rfl)
theorem dL_law_1757 : decode cL_law 1757 = .ok (.istore 5, 2) := dk_54 5 (dk_at dksL_law_69 20 rfl rfl)
theorem dL_law_1759 : decode cL_law 1759 = .ok (.aload_n 2, 1) := dk_44 (dk_at dksL_law_69 22 rfl rfl)
theorem dL_law_1760 : decode cL_law 1760 = .ok (.aload_n 0, 1) := dk_42 (dk_at dksL_law_69 23 rfl rfl)
theorem dL_law_1761 : decode cL_law 1761 = .ok (.iload 4, 2) := dk_21 4 (dk_at dksL_law_70 0 rfl rfl)
theorem dL_law_1763 : decode cL_law 1763 = .ok (.iconst 1, 1) := dk_4 (dk_at dksL_law_70 2 rfl rfl)
theorem dL_law_1764 : decode cL_law 1764 = .ok (.iadd, 1) := dk_96 (dk_at dksL_law_70 3 rfl rfl)
theorem dL_law_1765 : decode cL_law 1765 = .ok (.iaload, 1) := dk_46 (dk_at dksL_law_70 4 rfl rfl)
theorem dL_law_1766 : decode cL_law 1766 = .ok (.aload_n 0, 1) := dk_42 (dk_at dksL_law_70 5 rfl rfl)
theorem dL_law_1767 : decode cL_law 1767 = .ok (.iload 4, 2) := dk_21 4 (dk_at dksL_law_70 6 rfl rfl)
theorem dL_law_1769 : decode cL_law 1769 = .ok (.iconst 2, 1) := dk_5 (dk_at dksL_law_70 8 rfl rfl)
theorem dL_law_1770 : decode cL_law 1770 = .ok (.iadd, 1) := dk_96 (dk_at dksL_law_70 9 rfl rfl)
theorem dL_law_1771 : decode cL_law 1771 = .ok (.iaload, 1) := dk_46 (dk_at dksL_law_70 10 rfl rfl)
theorem dL_law_1772 : decode cL_law 1772 = .ok (.invokevirtual 207, 3) := dk_182 0 207 (dk_at dksL_law_70 11 rfl rfl)
theorem dL_law_1775 : decode cL_law 1775 = .ok (.istore 6, 2) := dk_54 6 (dk_at dksL_law_70 14 rfl rfl)
theorem dL_law_1777 : decode cL_law 1777 = .ok (.aload_n 2, 1) := dk_44 (dk_at dksL_law_70 16 rfl rfl)
theorem dL_law_1778 : decode cL_law 1778 = .ok (.invokevirtual 137, 3) := dk_182 0 137 (dk_at dksL_law_70 17 rfl rfl)
theorem dL_law_1781 : decode cL_law 1781 = .ok (.iload 5, 2) := dk_21 5 (dk_at dksL_law_70 20 rfl rfl)
theorem dL_law_1783 : decode cL_law 1783 = .ok (.if_icmp .eq 5, 3) := dk_159 0 5 (dk_at dksL_law_71 0 rfl rfl)
theorem dL_law_1786 : decode cL_law 1786 = .ok (.iconst 0, 1) := dk_3 (dk_at dksL_law_71 3 rfl rfl)
theorem dL_law_1787 : decode cL_law 1787 = .ok (.ireturn, 1) := dk_172 (dk_at dksL_law_71 4 rfl rfl)
theorem dL_law_1788 : decode cL_law 1788 = .ok (.iload 5, 2) := dk_21 5 (dk_at dksL_law_71 5 rfl rfl)
theorem dL_law_1790 : decode cL_law 1790 = .ok (.ifCond .ne 16, 3) := dk_154 0 16 (dk_at dksL_law_71 7 rfl rfl)
theorem dL_law_1793 : decode cL_law 1793 = .ok (.aload_n 3, 1) := dk_45 (dk_at dksL_law_71 10 rfl rfl)
theorem dL_law_1794 : decode cL_law 1794 = .ok (.getfield 13, 3) := dk_180 0 13 (dk_at dksL_law_71 11 rfl rfl)
theorem dL_law_1797 : decode cL_law 1797 = .ok (.iload 6, 2) := dk_21 6 (dk_at dksL_law_71 14 rfl rfl)
theorem dL_law_1799 : decode cL_law 1799 = .ok (.i2l, 1) := dk_133 (dk_at dksL_law_71 16 rfl rfl)
theorem dL_law_1800 : decode cL_law 1800 = .ok (.lcmp, 1) := dk_148 (dk_at dksL_law_71 17 rfl rfl)
theorem dL_law_1801 : decode cL_law 1801 = .ok (.ifCond .eq 5, 3) := dk_153 0 5 (dk_at dksL_law_71 18 rfl rfl)
theorem dL_law_1804 : decode cL_law 1804 = .ok (.iconst 0, 1) := dk_3 (dk_at dksL_law_71 21 rfl rfl)
theorem dL_law_1805 : decode cL_law 1805 = .ok (.ireturn, 1) := dk_172 (dk_at dksL_law_71 22 rfl rfl)
theorem dL_law_1806 : decode cL_law 1806 = .ok (.goto 729, 3) := dk_167 2 217 (dk_at dksL_law_72 0 rfl rfl)
theorem dL_law_1809 : decode cL_law 1809 = .ok (.aload_n 1, 1) := dk_43 (dk_at dksL_law_72 3 rfl rfl)
theorem dL_law_1810 : decode cL_law 1810 = .ok (.aload_n 0, 1) := dk_42 (dk_at dksL_law_72 4 rfl rfl)
theorem dL_law_1811 : decode cL_law 1811 = .ok (.iload 4, 2) := dk_21 4 (dk_at dksL_law_72 5 rfl rfl)
theorem dL_law_1813 : decode cL_law 1813 = .ok (.iconst 1, 1) := dk_4 (dk_at dksL_law_72 7 rfl rfl)
theorem dL_law_1814 : decode cL_law 1814 = .ok (.iadd, 1) := dk_96 (dk_at dksL_law_72 8 rfl rfl)
theorem dL_law_1815 : decode cL_law 1815 = .ok (.iaload, 1) := dk_46 (dk_at dksL_law_72 9 rfl rfl)
theorem dL_law_1816 : decode cL_law 1816 = .ok (.aload_n 0, 1) := dk_42 (dk_at dksL_law_72 10 rfl rfl)
theorem dL_law_1817 : decode cL_law 1817 = .ok (.iload 4, 2) := dk_21 4 (dk_at dksL_law_72 11 rfl rfl)
theorem dL_law_1819 : decode cL_law 1819 = .ok (.iconst 2, 1) := dk_5 (dk_at dksL_law_72 13 rfl rfl)
theorem dL_law_1820 : decode cL_law 1820 = .ok (.iadd, 1) := dk_96 (dk_at dksL_law_72 14 rfl rfl)
theorem dL_law_1821 : decode cL_law 1821 = .ok (.iaload, 1) := dk_46 (dk_at dksL_law_72 15 rfl rfl)
theorem dL_law_1822 : decode cL_law 1822 = .ok (.aload_n 3, 1) := dk_45 (dk_at dksL_law_72 16 rfl rfl)
theorem dL_law_1823 : decode cL_law 1823 = .ok (.invokestatic 208, 3) := dk_184 0 208 (dk_at dksL_law_72 17 rfl rfl)
theorem dL_law_1826 : decode cL_law 1826 = .ok (.istore 5, 2) := dk_54 5 (dk_at dksL_law_72 20 rfl rfl)
theorem dL_law_1828 : decode cL_law 1828 = .ok (.aload_n 2, 1) := dk_44 (dk_at dksL_law_72 22 rfl rfl)
theorem dL_law_1829 : decode cL_law 1829 = .ok (.aload_n 0, 1) := dk_42 (dk_at dksL_law_72 23 rfl rfl)
theorem dL_law_1830 : decode cL_law 1830 = .ok (.iload 4, 2) := dk_21 4 (dk_at dksL_law_73 0 rfl rfl)
theorem dL_law_1832 : decode cL_law 1832 = .ok (.iconst 1, 1) := dk_4 (dk_at dksL_law_73 2 rfl rfl)
theorem dL_law_1833 : decode cL_law 1833 = .ok (.iadd, 1) := dk_96 (dk_at dksL_law_73 3 rfl rfl)
theorem dL_law_1834 : decode cL_law 1834 = .ok (.iaload, 1) := dk_46 (dk_at dksL_law_73 4 rfl rfl)
theorem dL_law_1835 : decode cL_law 1835 = .ok (.aload_n 0, 1) := dk_42 (dk_at dksL_law_73 5 rfl rfl)
theorem dL_law_1836 : decode cL_law 1836 = .ok (.iload 4, 2) := dk_21 4 (dk_at dksL_law_73 6 rfl rfl)
theorem dL_law_1838 : decode cL_law 1838 = .ok (.iconst 2, 1) := dk_5 (dk_at dksL_law_73 8 rfl rfl)
theorem dL_law_1839 : decode cL_law 1839 = .ok (.iadd, 1) := dk_96 (dk_at dksL_law_73 9 rfl rfl)
theorem dL_law_1840 : decode cL_law 1840 = .ok (.iaload, 1) := dk_46 (dk_at dksL_law_73 10 rfl rfl)
theorem dL_law_1841 : decode cL_law 1841 = .ok (.invokevirtual 210, 3) := dk_182 0 210 (dk_at dksL_law_73 11 rfl rfl)
theorem dL_law_1844 : decode cL_law 1844 = .ok (.istore 6, 2) := dk_54 6 (dk_at dksL_law_73 14 rfl rfl)
theorem dL_law_1846 : decode cL_law 1846 = .ok (.aload_n 2, 1) := dk_44 (dk_at dksL_law_73 16 rfl rfl)
theorem dL_law_1847 : decode cL_law 1847 = .ok (.invokevirtual 137, 3) := dk_182 0 137 (dk_at dksL_law_73 17 rfl rfl)
theorem dL_law_1850 : decode cL_law 1850 = .ok (.iload 5, 2) := dk_21 5 (dk_at dksL_law_73 20 rfl rfl)
theorem dL_law_1852 : decode cL_law 1852 = .ok (.if_icmp .eq 5, 3) := dk_159 0 5 (dk_at dksL_law_74 0 rfl rfl)
theorem dL_law_1855 : decode cL_law 1855 = .ok (.iconst 0, 1) := dk_3 (dk_at dksL_law_74 3 rfl rfl)
theorem dL_law_1856 : decode cL_law 1856 = .ok (.ireturn, 1) := dk_172 (dk_at dksL_law_74 4 rfl rfl)
theorem dL_law_1857 : decode cL_law 1857 = .ok (.iload 5, 2) := dk_21 5 (dk_at dksL_law_74 5 rfl rfl)
theorem dL_law_1859 : decode cL_law 1859 = .ok (.ifCond .ne 16, 3) := dk_154 0 16 (dk_at dksL_law_74 7 rfl rfl)
theorem dL_law_1862 : decode cL_law 1862 = .ok (.aload_n 3, 1) := dk_45 (dk_at dksL_law_74 10 rfl rfl)
theorem dL_law_1863 : decode cL_law 1863 = .ok (.getfield 13, 3) := dk_180 0 13 (dk_at dksL_law_74 11 rfl rfl)
theorem dL_law_1866 : decode cL_law 1866 = .ok (.iload 6, 2) := dk_21 6 (dk_at dksL_law_74 14 rfl rfl)
theorem dL_law_1868 : decode cL_law 1868 = .ok (.i2l, 1) := dk_133 (dk_at dksL_law_74 16 rfl rfl)
theorem dL_law_1869 : decode cL_law 1869 = .ok (.lcmp, 1) := dk_148 (dk_at dksL_law_74 17 rfl rfl)
theorem dL_law_1870 : decode cL_law 1870 = .ok (.ifCond .eq 5, 3) := dk_153 0 5 (dk_at dksL_law_74 18 rfl rfl)
theorem dL_law_1873 : decode cL_law 1873 = .ok (.iconst 0, 1) := dk_3 (dk_at dksL_law_74 21 rfl rfl)
theorem dL_law_1874 : decode cL_law 1874 = .ok (.ireturn, 1) := dk_172 (dk_at dksL_law_74 22 rfl rfl)
theorem dL_law_1875 : decode cL_law 1875 = .ok (.goto 660, 3) := dk_167 2 148 (dk_at dksL_law_75 0 rfl rfl)
theorem dL_law_1878 : decode cL_law 1878 = .ok (.aload_n 1, 1) := dk_43 (dk_at dksL_law_75 3 rfl rfl)
theorem dL_law_1879 : decode cL_law 1879 = .ok (.aload_n 0, 1) := dk_42 (dk_at dksL_law_75 4 rfl rfl)
theorem dL_law_1880 : decode cL_law 1880 = .ok (.iload 4, 2) := dk_21 4 (dk_at dksL_law_75 5 rfl rfl)
theorem dL_law_1882 : decode cL_law 1882 = .ok (.iconst 1, 1) := dk_4 (dk_at dksL_law_75 7 rfl rfl)
theorem dL_law_1883 : decode cL_law 1883 = .ok (.iadd, 1) := dk_96 (dk_at dksL_law_75 8 rfl rfl)
theorem dL_law_1884 : decode cL_law 1884 = .ok (.iaload, 1) := dk_46 (dk_at dksL_law_75 9 rfl rfl)
theorem dL_law_1885 : decode cL_law 1885 = .ok (.aload_n 0, 1) := dk_42 (dk_at dksL_law_75 10 rfl rfl)
theorem dL_law_1886 : decode cL_law 1886 = .ok (.iload 4, 2) := dk_21 4 (dk_at dksL_law_75 11 rfl rfl)
theorem dL_law_1888 : decode cL_law 1888 = .ok (.iconst 2, 1) := dk_5 (dk_at dksL_law_75 13 rfl rfl)
theorem dL_law_1889 : decode cL_law 1889 = .ok (.iadd, 1) := dk_96 (dk_at dksL_law_75 14 rfl rfl)
theorem dL_law_1890 : decode cL_law 1890 = .ok (.iaload, 1) := dk_46 (dk_at dksL_law_75 15 rfl rfl)
theorem dL_law_1891 : decode cL_law 1891 = .ok (.aload_n 3, 1) := dk_45 (dk_at dksL_law_75 16 rfl rfl)
theorem dL_law_1892 : decode cL_law 1892 = .ok (.invokestatic 211, 3) := dk_184 0 211 (dk_at dksL_law_75 17 rfl rfl)
theorem dL_law_1895 : decode cL_law 1895 = .ok (.istore 5, 2) := dk_54 5 (dk_at dksL_law_75 20 rfl rfl)
theorem dL_law_1897 : decode cL_law 1897 = .ok (.aload_n 2, 1) := dk_44 (dk_at dksL_law_75 22 rfl rfl)
theorem dL_law_1898 : decode cL_law 1898 = .ok (.aload_n 0, 1) := dk_42 (dk_at dksL_law_75 23 rfl rfl)
theorem dL_law_1899 : decode cL_law 1899 = .ok (.iload 4, 2) := dk_21 4 (dk_at dksL_law_76 0 rfl rfl)
theorem dL_law_1901 : decode cL_law 1901 = .ok (.iconst 1, 1) := dk_4 (dk_at dksL_law_76 2 rfl rfl)
theorem dL_law_1902 : decode cL_law 1902 = .ok (.iadd, 1) := dk_96 (dk_at dksL_law_76 3 rfl rfl)
theorem dL_law_1903 : decode cL_law 1903 = .ok (.iaload, 1) := dk_46 (dk_at dksL_law_76 4 rfl rfl)
theorem dL_law_1904 : decode cL_law 1904 = .ok (.aload_n 0, 1) := dk_42 (dk_at dksL_law_76 5 rfl rfl)
theorem dL_law_1905 : decode cL_law 1905 = .ok (.iload 4, 2) := dk_21 4 (dk_at dksL_law_76 6 rfl rfl)
theorem dL_law_1907 : decode cL_law 1907 = .ok (.iconst 2, 1) := dk_5 (dk_at dksL_law_76 8 rfl rfl)
theorem dL_law_1908 : decode cL_law 1908 = .ok (.iadd, 1) := dk_96 (dk_at dksL_law_76 9 rfl rfl)
theorem dL_law_1909 : decode cL_law 1909 = .ok (.iaload, 1) := dk_46 (dk_at dksL_law_76 10 rfl rfl)
theorem dL_law_1910 : decode cL_law 1910 = .ok (.invokevirtual 213, 3) := dk_182 0 213 (dk_at dksL_law_76 11 rfl rfl)
theorem dL_law_1913 : decode cL_law 1913 = .ok (.istore 6, 2) := dk_54 6 (dk_at dksL_law_76 14 rfl rfl)
theorem dL_law_1915 : decode cL_law 1915 = .ok (.aload_n 2, 1) := dk_44 (dk_at dksL_law_76 16 rfl rfl)
theorem dL_law_1916 : decode cL_law 1916 = .ok (.invokevirtual 137, 3) := dk_182 0 137 (dk_at dksL_law_76 17 rfl rfl)
theorem dL_law_1919 : decode cL_law 1919 = .ok (.iload 5, 2) := dk_21 5 (dk_at dksL_law_76 20 rfl rfl)
theorem dL_law_1921 : decode cL_law 1921 = .ok (.if_icmp .eq 5, 3) := dk_159 0 5 (dk_at dksL_law_77 0 rfl rfl)
theorem dL_law_1924 : decode cL_law 1924 = .ok (.iconst 0, 1) := dk_3 (dk_at dksL_law_77 3 rfl rfl)
theorem dL_law_1925 : decode cL_law 1925 = .ok (.ireturn, 1) := dk_172 (dk_at dksL_law_77 4 rfl rfl)
theorem dL_law_1926 : decode cL_law 1926 = .ok (.iload 5, 2) := dk_21 5 (dk_at dksL_law_77 5 rfl rfl)
theorem dL_law_1928 : decode cL_law 1928 = .ok (.ifCond .ne 16, 3) := dk_154 0 16 (dk_at dksL_law_77 7 rfl rfl)
theorem dL_law_1931 : decode cL_law 1931 = .ok (.aload_n 3, 1) := dk_45 (dk_at dksL_law_77 10 rfl rfl)
theorem dL_law_1932 : decode cL_law 1932 = .ok (.getfield 13, 3) := dk_180 0 13 (dk_at dksL_law_77 11 rfl rfl)
theorem dL_law_1935 : decode cL_law 1935 = .ok (.iload 6, 2) := dk_21 6 (dk_at dksL_law_77 14 rfl rfl)
theorem dL_law_1937 : decode cL_law 1937 = .ok (.i2l, 1) := dk_133 (dk_at dksL_law_77 16 rfl rfl)
theorem dL_law_1938 : decode cL_law 1938 = .ok (.lcmp, 1) := dk_148 (dk_at dksL_law_77 17 rfl rfl)
theorem dL_law_1939 : decode cL_law 1939 = .ok (.ifCond .eq 5, 3) := dk_153 0 5 (dk_at dksL_law_77 18 rfl rfl)
theorem dL_law_1942 : decode cL_law 1942 = .ok (.iconst 0, 1) := dk_3 (dk_at dksL_law_77 21 rfl rfl)
theorem dL_law_1943 : decode cL_law 1943 = .ok (.ireturn, 1) := dk_172 (dk_at dksL_law_77 22 rfl rfl)
theorem dL_law_1944 : decode cL_law 1944 = .ok (.goto 591, 3) := dk_167 2 79 (dk_at dksL_law_78 0 rfl rfl)
theorem dL_law_1947 : decode cL_law 1947 = .ok (.aload_n 1, 1) := dk_43 (dk_at dksL_law_78 3 rfl rfl)
theorem dL_law_1948 : decode cL_law 1948 = .ok (.aload_n 0, 1) := dk_42 (dk_at dksL_law_78 4 rfl rfl)
theorem dL_law_1949 : decode cL_law 1949 = .ok (.iload 4, 2) := dk_21 4 (dk_at dksL_law_78 5 rfl rfl)
theorem dL_law_1951 : decode cL_law 1951 = .ok (.iconst 1, 1) := dk_4 (dk_at dksL_law_78 7 rfl rfl)
theorem dL_law_1952 : decode cL_law 1952 = .ok (.iadd, 1) := dk_96 (dk_at dksL_law_78 8 rfl rfl)
theorem dL_law_1953 : decode cL_law 1953 = .ok (.iaload, 1) := dk_46 (dk_at dksL_law_78 9 rfl rfl)
theorem dL_law_1954 : decode cL_law 1954 = .ok (.aload_n 0, 1) := dk_42 (dk_at dksL_law_78 10 rfl rfl)
theorem dL_law_1955 : decode cL_law 1955 = .ok (.iload 4, 2) := dk_21 4 (dk_at dksL_law_78 11 rfl rfl)
theorem dL_law_1957 : decode cL_law 1957 = .ok (.iconst 2, 1) := dk_5 (dk_at dksL_law_78 13 rfl rfl)
theorem dL_law_1958 : decode cL_law 1958 = .ok (.iadd, 1) := dk_96 (dk_at dksL_law_78 14 rfl rfl)
theorem dL_law_1959 : decode cL_law 1959 = .ok (.iaload, 1) := dk_46 (dk_at dksL_law_78 15 rfl rfl)
theorem dL_law_1960 : decode cL_law 1960 = .ok (.aload_n 0, 1) := dk_42 (dk_at dksL_law_78 16 rfl rfl)
theorem dL_law_1961 : decode cL_law 1961 = .ok (.iload 4, 2) := dk_21 4 (dk_at dksL_law_78 17 rfl rfl)
theorem dL_law_1963 : decode cL_law 1963 = .ok (.iconst 3, 1) := dk_6 (dk_at dksL_law_78 19 rfl rfl)
theorem dL_law_1964 : decode cL_law 1964 = .ok (.iadd, 1) := dk_96 (dk_at dksL_law_78 20 rfl rfl)
theorem dL_law_1965 : decode cL_law 1965 = .ok (.iaload, 1) := dk_46 (dk_at dksL_law_78 21 rfl rfl)
theorem dL_law_1966 : decode cL_law 1966 = .ok (.aload_n 3, 1) := dk_45 (dk_at dksL_law_78 22 rfl rfl)
theorem dL_law_1967 : decode cL_law 1967 = .ok (.invokestatic 214, 3) := dk_184 0 214 (dk_at dksL_law_79 0 rfl rfl)
theorem dL_law_1970 : decode cL_law 1970 = .ok (.istore 5, 2) := dk_54 5 (dk_at dksL_law_79 3 rfl rfl)
theorem dL_law_1972 : decode cL_law 1972 = .ok (.aload_n 2, 1) := dk_44 (dk_at dksL_law_79 5 rfl rfl)
theorem dL_law_1973 : decode cL_law 1973 = .ok (.aload_n 0, 1) := dk_42 (dk_at dksL_law_79 6 rfl rfl)
theorem dL_law_1974 : decode cL_law 1974 = .ok (.iload 4, 2) := dk_21 4 (dk_at dksL_law_79 7 rfl rfl)
theorem dL_law_1976 : decode cL_law 1976 = .ok (.iconst 1, 1) := dk_4 (dk_at dksL_law_79 9 rfl rfl)
theorem dL_law_1977 : decode cL_law 1977 = .ok (.iadd, 1) := dk_96 (dk_at dksL_law_79 10 rfl rfl)
theorem dL_law_1978 : decode cL_law 1978 = .ok (.iaload, 1) := dk_46 (dk_at dksL_law_79 11 rfl rfl)
theorem dL_law_1979 : decode cL_law 1979 = .ok (.aload_n 0, 1) := dk_42 (dk_at dksL_law_79 12 rfl rfl)
theorem dL_law_1980 : decode cL_law 1980 = .ok (.iload 4, 2) := dk_21 4 (dk_at dksL_law_79 13 rfl rfl)
theorem dL_law_1982 : decode cL_law 1982 = .ok (.iconst 2, 1) := dk_5 (dk_at dksL_law_79 15 rfl rfl)
theorem dL_law_1983 : decode cL_law 1983 = .ok (.iadd, 1) := dk_96 (dk_at dksL_law_79 16 rfl rfl)
theorem dL_law_1984 : decode cL_law 1984 = .ok (.iaload, 1) := dk_46 (dk_at dksL_law_79 17 rfl rfl)
theorem dL_law_1985 : decode cL_law 1985 = .ok (.aload_n 0, 1) := dk_42 (dk_at dksL_law_79 18 rfl rfl)
theorem dL_law_1986 : decode cL_law 1986 = .ok (.iload 4, 2) := dk_21 4 (dk_at dksL_law_79 19 rfl rfl)
theorem dL_law_1988 : decode cL_law 1988 = .ok (.iconst 3, 1) := dk_6 (dk_at dksL_law_79 21 rfl rfl)
theorem dL_law_1989 : decode cL_law 1989 = .ok (.iadd, 1) := dk_96 (dk_at dksL_law_79 22 rfl rfl)
theorem dL_law_1990 : decode cL_law 1990 = .ok (.iaload, 1) := dk_46 (dk_at dksL_law_79 23 rfl rfl)
theorem dL_law_1991 : decode cL_law 1991 = .ok (.invokevirtual 216, 3) := dk_182 0 216 (dk_at dksL_law_80 0 rfl rfl)
theorem dL_law_1994 : decode cL_law 1994 = .ok (.istore 6, 2) := dk_54 6 (dk_at dksL_law_80 3 rfl rfl)
theorem dL_law_1996 : decode cL_law 1996 = .ok (.aload_n 2, 1) := dk_44 (dk_at dksL_law_80 5 rfl rfl)
theorem dL_law_1997 : decode cL_law 1997 = .ok (.invokevirtual 137, 3) := dk_182 0 137 (dk_at dksL_law_80 6 rfl rfl)
theorem dL_law_2000 : decode cL_law 2000 = .ok (.iload 5, 2) := dk_21 5 (dk_at dksL_law_80 9 rfl rfl)
theorem dL_law_2002 : decode cL_law 2002 = .ok (.if_icmp .eq 5, 3) := dk_159 0 5 (dk_at dksL_law_80 11 rfl rfl)
theorem dL_law_2005 : decode cL_law 2005 = .ok (.iconst 0, 1) := dk_3 (dk_at dksL_law_80 14 rfl rfl)
theorem dL_law_2006 : decode cL_law 2006 = .ok (.ireturn, 1) := dk_172 (dk_at dksL_law_80 15 rfl rfl)
theorem dL_law_2007 : decode cL_law 2007 = .ok (.iload 5, 2) := dk_21 5 (dk_at dksL_law_80 16 rfl rfl)
theorem dL_law_2009 : decode cL_law 2009 = .ok (.ifCond .ne 16, 3) := dk_154 0 16 (dk_at dksL_law_80 18 rfl rfl)
theorem dL_law_2012 : decode cL_law 2012 = .ok (.aload_n 3, 1) := dk_45 (dk_at dksL_law_80 21 rfl rfl)
theorem dL_law_2013 : decode cL_law 2013 = .ok (.getfield 13, 3) := dk_180 0 13 (dk_at dksL_law_81 0 rfl rfl)
theorem dL_law_2016 : decode cL_law 2016 = .ok (.iload 6, 2) := dk_21 6 (dk_at dksL_law_81 3 rfl rfl)
theorem dL_law_2018 : decode cL_law 2018 = .ok (.i2l, 1) := dk_133 (dk_at dksL_law_81 5 rfl rfl)
theorem dL_law_2019 : decode cL_law 2019 = .ok (.lcmp, 1) := dk_148 (dk_at dksL_law_81 6 rfl rfl)
theorem dL_law_2020 : decode cL_law 2020 = .ok (.ifCond .eq 5, 3) := dk_153 0 5 (dk_at dksL_law_81 7 rfl rfl)
theorem dL_law_2023 : decode cL_law 2023 = .ok (.iconst 0, 1) := dk_3 (dk_at dksL_law_81 10 rfl rfl)
theorem dL_law_2024 : decode cL_law 2024 = .ok (.ireturn, 1) := dk_172 (dk_at dksL_law_81 11 rfl rfl)
theorem dL_law_2025 : decode cL_law 2025 = .ok (.goto 510, 3) := dk_167 1 254 (dk_at dksL_law_81 12 rfl rfl)
theorem dL_law_2028 : decode cL_law 2028 = .ok (.aload_n 1, 1) := dk_43 (dk_at dksL_law_81 15 rfl rfl)
theorem dL_law_2029 : decode cL_law 2029 = .ok (.aload_n 0, 1) := dk_42 (dk_at dksL_law_81 16 rfl rfl)
theorem dL_law_2030 : decode cL_law 2030 = .ok (.iload 4, 2) := dk_21 4 (dk_at dksL_law_81 17 rfl rfl)
theorem dL_law_2032 : decode cL_law 2032 = .ok (.iconst 1, 1) := dk_4 (dk_at dksL_law_81 19 rfl rfl)
theorem dL_law_2033 : decode cL_law 2033 = .ok (.iadd, 1) := dk_96 (dk_at dksL_law_81 20 rfl rfl)
theorem dL_law_2034 : decode cL_law 2034 = .ok (.iaload, 1) := dk_46 (dk_at dksL_law_81 21 rfl rfl)
theorem dL_law_2035 : decode cL_law 2035 = .ok (.aload_n 0, 1) := dk_42 (dk_at dksL_law_81 22 rfl rfl)
theorem dL_law_2036 : decode cL_law 2036 = .ok (.iload 4, 2) := dk_21 4 (dk_at dksL_law_82 0 rfl rfl)
theorem dL_law_2038 : decode cL_law 2038 = .ok (.iconst 2, 1) := dk_5 (dk_at dksL_law_82 2 rfl rfl)
theorem dL_law_2039 : decode cL_law 2039 = .ok (.iadd, 1) := dk_96 (dk_at dksL_law_82 3 rfl rfl)
theorem dL_law_2040 : decode cL_law 2040 = .ok (.iaload, 1) := dk_46 (dk_at dksL_law_82 4 rfl rfl)
theorem dL_law_2041 : decode cL_law 2041 = .ok (.aload_n 3, 1) := dk_45 (dk_at dksL_law_82 5 rfl rfl)
theorem dL_law_2042 : decode cL_law 2042 = .ok (.invokestatic 217, 3) := dk_184 0 217 (dk_at dksL_law_82 6 rfl rfl)
theorem dL_law_2045 : decode cL_law 2045 = .ok (.istore 5, 2) := dk_54 5 (dk_at dksL_law_82 9 rfl rfl)
theorem dL_law_2047 : decode cL_law 2047 = .ok (.aload_n 2, 1) := dk_44 (dk_at dksL_law_82 11 rfl rfl)
theorem dL_law_2048 : decode cL_law 2048 = .ok (.aload_n 0, 1) := dk_42 (dk_at dksL_law_82 12 rfl rfl)
theorem dL_law_2049 : decode cL_law 2049 = .ok (.iload 4, 2) := dk_21 4 (dk_at dksL_law_82 13 rfl rfl)
theorem dL_law_2051 : decode cL_law 2051 = .ok (.iconst 1, 1) := dk_4 (dk_at dksL_law_82 15 rfl rfl)
theorem dL_law_2052 : decode cL_law 2052 = .ok (.iadd, 1) := dk_96 (dk_at dksL_law_82 16 rfl rfl)
theorem dL_law_2053 : decode cL_law 2053 = .ok (.iaload, 1) := dk_46 (dk_at dksL_law_82 17 rfl rfl)
theorem dL_law_2054 : decode cL_law 2054 = .ok (.aload_n 0, 1) := dk_42 (dk_at dksL_law_82 18 rfl rfl)
theorem dL_law_2055 : decode cL_law 2055 = .ok (.iload 4, 2) := dk_21 4 (dk_at dksL_law_82 19 rfl rfl)
theorem dL_law_2057 : decode cL_law 2057 = .ok (.iconst 2, 1) := dk_5 (dk_at dksL_law_82 21 rfl rfl)
theorem dL_law_2058 : decode cL_law 2058 = .ok (.iadd, 1) := dk_96 (dk_at dksL_law_82 22 rfl rfl)
theorem dL_law_2059 : decode cL_law 2059 = .ok (.iaload, 1) := dk_46 (dk_at dksL_law_82 23 rfl rfl)
theorem dL_law_2060 : decode cL_law 2060 = .ok (.invokevirtual 219, 3) := dk_182 0 219 (dk_at dksL_law_83 0 rfl rfl)
theorem dL_law_2063 : decode cL_law 2063 = .ok (.istore 6, 2) := dk_54 6 (dk_at dksL_law_83 3 rfl rfl)
theorem dL_law_2065 : decode cL_law 2065 = .ok (.aload_n 2, 1) := dk_44 (dk_at dksL_law_83 5 rfl rfl)
theorem dL_law_2066 : decode cL_law 2066 = .ok (.invokevirtual 137, 3) := dk_182 0 137 (dk_at dksL_law_83 6 rfl rfl)
theorem dL_law_2069 : decode cL_law 2069 = .ok (.iload 5, 2) := dk_21 5 (dk_at dksL_law_83 9 rfl rfl)
theorem dL_law_2071 : decode cL_law 2071 = .ok (.if_icmp .eq 5, 3) := dk_159 0 5 (dk_at dksL_law_83 11 rfl rfl)
theorem dL_law_2074 : decode cL_law 2074 = .ok (.iconst 0, 1) := dk_3 (dk_at dksL_law_83 14 rfl rfl)
theorem dL_law_2075 : decode cL_law 2075 = .ok (.ireturn, 1) := dk_172 (dk_at dksL_law_83 15 rfl rfl)
theorem dL_law_2076 : decode cL_law 2076 = .ok (.iload 5, 2) := dk_21 5 (dk_at dksL_law_83 16 rfl rfl)
theorem dL_law_2078 : decode cL_law 2078 = .ok (.ifCond .ne 16, 3) := dk_154 0 16 (dk_at dksL_law_83 18 rfl rfl)
theorem dL_law_2081 : decode cL_law 2081 = .ok (.aload_n 3, 1) := dk_45 (dk_at dksL_law_83 21 rfl rfl)
theorem dL_law_2082 : decode cL_law 2082 = .ok (.getfield 13, 3) := dk_180 0 13 (dk_at dksL_law_84 0 rfl rfl)
theorem dL_law_2085 : decode cL_law 2085 = .ok (.iload 6, 2) := dk_21 6 (dk_at dksL_law_84 3 rfl rfl)
theorem dL_law_2087 : decode cL_law 2087 = .ok (.i2l, 1) := dk_133 (dk_at dksL_law_84 5 rfl rfl)
theorem dL_law_2088 : decode cL_law 2088 = .ok (.lcmp, 1) := dk_148 (dk_at dksL_law_84 6 rfl rfl)
theorem dL_law_2089 : decode cL_law 2089 = .ok (.ifCond .eq 5, 3) := dk_153 0 5 (dk_at dksL_law_84 7 rfl rfl)
theorem dL_law_2092 : decode cL_law 2092 = .ok (.iconst 0, 1) := dk_3 (dk_at dksL_law_84 10 rfl rfl)
theorem dL_law_2093 : decode cL_law 2093 = .ok (.ireturn, 1) := dk_172 (dk_at dksL_law_84 11 rfl rfl)
theorem dL_law_2094 : decode cL_law 2094 = .ok (.goto 441, 3) := dk_167 1 185 (dk_at dksL_law_84 12 rfl rfl)
theorem dL_law_2097 : decode cL_law 2097 = .ok (.aload_n 1, 1) := dk_43 (dk_at dksL_law_84 15 rfl rfl)
theorem dL_law_2098 : decode cL_law 2098 = .ok (.aload_n 0, 1) := dk_42 (dk_at dksL_law_84 16 rfl rfl)
theorem dL_law_2099 : decode cL_law 2099 = .ok (.iload 4, 2) := dk_21 4 (dk_at dksL_law_84 17 rfl rfl)
theorem dL_law_2101 : decode cL_law 2101 = .ok (.iconst 1, 1) := dk_4 (dk_at dksL_law_84 19 rfl rfl)
theorem dL_law_2102 : decode cL_law 2102 = .ok (.iadd, 1) := dk_96 (dk_at dksL_law_84 20 rfl rfl)
theorem dL_law_2103 : decode cL_law 2103 = .ok (.iaload, 1) := dk_46 (dk_at dksL_law_84 21 rfl rfl)
theorem dL_law_2104 : decode cL_law 2104 = .ok (.aload_n 0, 1) := dk_42 (dk_at dksL_law_84 22 rfl rfl)
theorem dL_law_2105 : decode cL_law 2105 = .ok (.iload 4, 2) := dk_21 4 (dk_at dksL_law_85 0 rfl rfl)
theorem dL_law_2107 : decode cL_law 2107 = .ok (.iconst 2, 1) := dk_5 (dk_at dksL_law_85 2 rfl rfl)
theorem dL_law_2108 : decode cL_law 2108 = .ok (.iadd, 1) := dk_96 (dk_at dksL_law_85 3 rfl rfl)
theorem dL_law_2109 : decode cL_law 2109 = .ok (.iaload, 1) := dk_46 (dk_at dksL_law_85 4 rfl rfl)
theorem dL_law_2110 : decode cL_law 2110 = .ok (.aload_n 0, 1) := dk_42 (dk_at dksL_law_85 5 rfl rfl)
theorem dL_law_2111 : decode cL_law 2111 = .ok (.iload 4, 2) := dk_21 4 (dk_at dksL_law_85 6 rfl rfl)
theorem dL_law_2113 : decode cL_law 2113 = .ok (.iconst 3, 1) := dk_6 (dk_at dksL_law_85 8 rfl rfl)
theorem dL_law_2114 : decode cL_law 2114 = .ok (.iadd, 1) := dk_96 (dk_at dksL_law_85 9 rfl rfl)
theorem dL_law_2115 : decode cL_law 2115 = .ok (.iaload, 1) := dk_46 (dk_at dksL_law_85 10 rfl rfl)
theorem dL_law_2116 : decode cL_law 2116 = .ok (.aload_n 0, 1) := dk_42 (dk_at dksL_law_85 11 rfl rfl)
theorem dL_law_2117 : decode cL_law 2117 = .ok (.iload 4, 2) := dk_21 4 (dk_at dksL_law_85 12 rfl rfl)
theorem dL_law_2119 : decode cL_law 2119 = .ok (.iconst 4, 1) := dk_7 (dk_at dksL_law_85 14 rfl rfl)
theorem dL_law_2120 : decode cL_law 2120 = .ok (.iadd, 1) := dk_96 (dk_at dksL_law_85 15 rfl rfl)
theorem dL_law_2121 : decode cL_law 2121 = .ok (.iaload, 1) := dk_46 (dk_at dksL_law_85 16 rfl rfl)
theorem dL_law_2122 : decode cL_law 2122 = .ok (.aload_n 3, 1) := dk_45 (dk_at dksL_law_85 17 rfl rfl)
theorem dL_law_2123 : decode cL_law 2123 = .ok (.invokestatic 220, 3) := dk_184 0 220 (dk_at dksL_law_85 18 rfl rfl)
theorem dL_law_2126 : decode cL_law 2126 = .ok (.istore 5, 2) := dk_54 5 (dk_at dksL_law_85 21 rfl rfl)
theorem dL_law_2128 : decode cL_law 2128 = .ok (.aload_n 2, 1) := dk_44 (dk_at dksL_law_85 23 rfl rfl)
theorem dL_law_2129 : decode cL_law 2129 = .ok (.aload_n 0, 1) := dk_42 (dk_at dksL_law_86 0 rfl rfl)
theorem dL_law_2130 : decode cL_law 2130 = .ok (.iload 4, 2) := dk_21 4 (dk_at dksL_law_86 1 rfl rfl)
theorem dL_law_2132 : decode cL_law 2132 = .ok (.iconst 1, 1) := dk_4 (dk_at dksL_law_86 3 rfl rfl)
theorem dL_law_2133 : decode cL_law 2133 = .ok (.iadd, 1) := dk_96 (dk_at dksL_law_86 4 rfl rfl)
theorem dL_law_2134 : decode cL_law 2134 = .ok (.iaload, 1) := dk_46 (dk_at dksL_law_86 5 rfl rfl)
theorem dL_law_2135 : decode cL_law 2135 = .ok (.aload_n 0, 1) := dk_42 (dk_at dksL_law_86 6 rfl rfl)
theorem dL_law_2136 : decode cL_law 2136 = .ok (.iload 4, 2) := dk_21 4 (dk_at dksL_law_86 7 rfl rfl)
theorem dL_law_2138 : decode cL_law 2138 = .ok (.iconst 2, 1) := dk_5 (dk_at dksL_law_86 9 rfl rfl)
theorem dL_law_2139 : decode cL_law 2139 = .ok (.iadd, 1) := dk_96 (dk_at dksL_law_86 10 rfl rfl)
theorem dL_law_2140 : decode cL_law 2140 = .ok (.iaload, 1) := dk_46 (dk_at dksL_law_86 11 rfl rfl)
theorem dL_law_2141 : decode cL_law 2141 = .ok (.aload_n 0, 1) := dk_42 (dk_at dksL_law_86 12 rfl rfl)
theorem dL_law_2142 : decode cL_law 2142 = .ok (.iload 4, 2) := dk_21 4 (dk_at dksL_law_86 13 rfl rfl)
theorem dL_law_2144 : decode cL_law 2144 = .ok (.iconst 3, 1) := dk_6 (dk_at dksL_law_86 15 rfl rfl)
theorem dL_law_2145 : decode cL_law 2145 = .ok (.iadd, 1) := dk_96 (dk_at dksL_law_86 16 rfl rfl)
theorem dL_law_2146 : decode cL_law 2146 = .ok (.iaload, 1) := dk_46 (dk_at dksL_law_86 17 rfl rfl)
theorem dL_law_2147 : decode cL_law 2147 = .ok (.aload_n 0, 1) := dk_42 (dk_at dksL_law_86 18 rfl rfl)
theorem dL_law_2148 : decode cL_law 2148 = .ok (.iload 4, 2) := dk_21 4 (dk_at dksL_law_86 19 rfl rfl)
theorem dL_law_2150 : decode cL_law 2150 = .ok (.iconst 4, 1) := dk_7 (dk_at dksL_law_86 21 rfl rfl)
theorem dL_law_2151 : decode cL_law 2151 = .ok (.iadd, 1) := dk_96 (dk_at dksL_law_86 22 rfl rfl)
theorem dL_law_2152 : decode cL_law 2152 = .ok (.iaload, 1) := dk_46 (dk_at dksL_law_86 23 rfl rfl)
theorem dL_law_2153 : decode cL_law 2153 = .ok (.invokevirtual 222, 3) := dk_182 0 222 (dk_at dksL_law_87 0 rfl rfl)
theorem dL_law_2156 : decode cL_law 2156 = .ok (.istore 6, 2) := dk_54 6 (dk_at dksL_law_87 3 rfl rfl)
theorem dL_law_2158 : decode cL_law 2158 = .ok (.aload_n 2, 1) := dk_44 (dk_at dksL_law_87 5 rfl rfl)
theorem dL_law_2159 : decode cL_law 2159 = .ok (.invokevirtual 137, 3) := dk_182 0 137 (dk_at dksL_law_87 6 rfl rfl)
theorem dL_law_2162 : decode cL_law 2162 = .ok (.iload 5, 2) := dk_21 5 (dk_at dksL_law_87 9 rfl rfl)
theorem dL_law_2164 : decode cL_law 2164 = .ok (.if_icmp .eq 5, 3) := dk_159 0 5 (dk_at dksL_law_87 11 rfl rfl)
theorem dL_law_2167 : decode cL_law 2167 = .ok (.iconst 0, 1) := dk_3 (dk_at dksL_law_87 14 rfl rfl)
theorem dL_law_2168 : decode cL_law 2168 = .ok (.ireturn, 1) := dk_172 (dk_at dksL_law_87 15 rfl rfl)
theorem dL_law_2169 : decode cL_law 2169 = .ok (.iload 5, 2) := dk_21 5 (dk_at dksL_law_87 16 rfl rfl)
theorem dL_law_2171 : decode cL_law 2171 = .ok (.ifCond .ne 16, 3) := dk_154 0 16 (dk_at dksL_law_87 18 rfl rfl)
theorem dL_law_2174 : decode cL_law 2174 = .ok (.aload_n 3, 1) := dk_45 (dk_at dksL_law_87 21 rfl rfl)
theorem dL_law_2175 : decode cL_law 2175 = .ok (.getfield 13, 3) := dk_180 0 13 (dk_at dksL_law_88 0 rfl rfl)
theorem dL_law_2178 : decode cL_law 2178 = .ok (.iload 6, 2) := dk_21 6 (dk_at dksL_law_88 3 rfl rfl)
theorem dL_law_2180 : decode cL_law 2180 = .ok (.i2l, 1) := dk_133 (dk_at dksL_law_88 5 rfl rfl)
theorem dL_law_2181 : decode cL_law 2181 = .ok (.lcmp, 1) := dk_148 (dk_at dksL_law_88 6 rfl rfl)
theorem dL_law_2182 : decode cL_law 2182 = .ok (.ifCond .eq 5, 3) := dk_153 0 5 (dk_at dksL_law_88 7 rfl rfl)
theorem dL_law_2185 : decode cL_law 2185 = .ok (.iconst 0, 1) := dk_3 (dk_at dksL_law_88 10 rfl rfl)
theorem dL_law_2186 : decode cL_law 2186 = .ok (.ireturn, 1) := dk_172 (dk_at dksL_law_88 11 rfl rfl)
theorem dL_law_2187 : decode cL_law 2187 = .ok (.goto 348, 3) := dk_167 1 92 (dk_at dksL_law_88 12 rfl rfl)
theorem dL_law_2190 : decode cL_law 2190 = .ok (.aload_n 1, 1) := dk_43 (dk_at dksL_law_88 15 rfl rfl)
theorem dL_law_2191 : decode cL_law 2191 = .ok (.aload_n 0, 1) := dk_42 (dk_at dksL_law_88 16 rfl rfl)
theorem dL_law_2192 : decode cL_law 2192 = .ok (.iload 4, 2) := dk_21 4 (dk_at dksL_law_88 17 rfl rfl)
theorem dL_law_2194 : decode cL_law 2194 = .ok (.iconst 1, 1) := dk_4 (dk_at dksL_law_88 19 rfl rfl)
theorem dL_law_2195 : decode cL_law 2195 = .ok (.iadd, 1) := dk_96 (dk_at dksL_law_88 20 rfl rfl)
theorem dL_law_2196 : decode cL_law 2196 = .ok (.iaload, 1) := dk_46 (dk_at dksL_law_88 21 rfl rfl)
theorem dL_law_2197 : decode cL_law 2197 = .ok (.aload_n 0, 1) := dk_42 (dk_at dksL_law_88 22 rfl rfl)
theorem dL_law_2198 : decode cL_law 2198 = .ok (.iload 4, 2) := dk_21 4 (dk_at dksL_law_89 0 rfl rfl)
theorem dL_law_2200 : decode cL_law 2200 = .ok (.iconst 2, 1) := dk_5 (dk_at dksL_law_89 2 rfl rfl)
theorem dL_law_2201 : decode cL_law 2201 = .ok (.iadd, 1) := dk_96 (dk_at dksL_law_89 3 rfl rfl)
theorem dL_law_2202 : decode cL_law 2202 = .ok (.iaload, 1) := dk_46 (dk_at dksL_law_89 4 rfl rfl)
theorem dL_law_2203 : decode cL_law 2203 = .ok (.aload_n 0, 1) := dk_42 (dk_at dksL_law_89 5 rfl rfl)
theorem dL_law_2204 : decode cL_law 2204 = .ok (.iload 4, 2) := dk_21 4 (dk_at dksL_law_89 6 rfl rfl)
theorem dL_law_2206 : decode cL_law 2206 = .ok (.iconst 3, 1) := dk_6 (dk_at dksL_law_89 8 rfl rfl)
theorem dL_law_2207 : decode cL_law 2207 = .ok (.iadd, 1) := dk_96 (dk_at dksL_law_89 9 rfl rfl)
theorem dL_law_2208 : decode cL_law 2208 = .ok (.iaload, 1) := dk_46 (dk_at dksL_law_89 10 rfl rfl)
theorem dL_law_2209 : decode cL_law 2209 = .ok (.aload_n 3, 1) := dk_45 (dk_at dksL_law_89 11 rfl rfl)
theorem dL_law_2210 : decode cL_law 2210 = .ok (.invokestatic 223, 3) := dk_184 0 223 (dk_at dksL_law_89 12 rfl rfl)
theorem dL_law_2213 : decode cL_law 2213 = .ok (.istore 5, 2) := dk_54 5 (dk_at dksL_law_89 15 rfl rfl)
theorem dL_law_2215 : decode cL_law 2215 = .ok (.aload_n 2, 1) := dk_44 (dk_at dksL_law_89 17 rfl rfl)
theorem dL_law_2216 : decode cL_law 2216 = .ok (.aload_n 0, 1) := dk_42 (dk_at dksL_law_89 18 rfl rfl)
theorem dL_law_2217 : decode cL_law 2217 = .ok (.iload 4, 2) := dk_21 4 (dk_at dksL_law_89 19 rfl rfl)
theorem dL_law_2219 : decode cL_law 2219 = .ok (.iconst 1, 1) := dk_4 (dk_at dksL_law_89 21 rfl rfl)
theorem dL_law_2220 : decode cL_law 2220 = .ok (.iadd, 1) := dk_96 (dk_at dksL_law_89 22 rfl rfl)
theorem dL_law_2221 : decode cL_law 2221 = .ok (.iaload, 1) := dk_46 (dk_at dksL_law_89 23 rfl rfl)
theorem dL_law_2222 : decode cL_law 2222 = .ok (.aload_n 0, 1) := dk_42 (dk_at dksL_law_90 0 rfl rfl)
theorem dL_law_2223 : decode cL_law 2223 = .ok (.iload 4, 2) := dk_21 4 (dk_at dksL_law_90 1 rfl rfl)
theorem dL_law_2225 : decode cL_law 2225 = .ok (.iconst 2, 1) := dk_5 (dk_at dksL_law_90 3 rfl rfl)
theorem dL_law_2226 : decode cL_law 2226 = .ok (.iadd, 1) := dk_96 (dk_at dksL_law_90 4 rfl rfl)
theorem dL_law_2227 : decode cL_law 2227 = .ok (.iaload, 1) := dk_46 (dk_at dksL_law_90 5 rfl rfl)
theorem dL_law_2228 : decode cL_law 2228 = .ok (.aload_n 0, 1) := dk_42 (dk_at dksL_law_90 6 rfl rfl)
theorem dL_law_2229 : decode cL_law 2229 = .ok (.iload 4, 2) := dk_21 4 (dk_at dksL_law_90 7 rfl rfl)
theorem dL_law_2231 : decode cL_law 2231 = .ok (.iconst 3, 1) := dk_6 (dk_at dksL_law_90 9 rfl rfl)
theorem dL_law_2232 : decode cL_law 2232 = .ok (.iadd, 1) := dk_96 (dk_at dksL_law_90 10 rfl rfl)
theorem dL_law_2233 : decode cL_law 2233 = .ok (.iaload, 1) := dk_46 (dk_at dksL_law_90 11 rfl rfl)
theorem dL_law_2234 : decode cL_law 2234 = .ok (.invokevirtual 225, 3) := dk_182 0 225 (dk_at dksL_law_90 12 rfl rfl)
theorem dL_law_2237 : decode cL_law 2237 = .ok (.istore 6, 2) := dk_54 6 (dk_at dksL_law_90 15 rfl rfl)
theorem dL_law_2239 : decode cL_law 2239 = .ok (.aload_n 2, 1) := dk_44 (dk_at dksL_law_90 17 rfl rfl)
theorem dL_law_2240 : decode cL_law 2240 = .ok (.invokevirtual 137, 3) := dk_182 0 137 (dk_at dksL_law_90 18 rfl rfl)
theorem dL_law_2243 : decode cL_law 2243 = .ok (.iload 5, 2) := dk_21 5 (dk_at dksL_law_90 21 rfl rfl)
theorem dL_law_2245 : decode cL_law 2245 = .ok (.if_icmp .eq 5, 3) := dk_159 0 5 (dk_at dksL_law_91 0 rfl rfl)
theorem dL_law_2248 : decode cL_law 2248 = .ok (.iconst 0, 1) := dk_3 (dk_at dksL_law_91 3 rfl rfl)
theorem dL_law_2249 : decode cL_law 2249 = .ok (.ireturn, 1) := dk_172 (dk_at dksL_law_91 4 rfl rfl)
theorem dL_law_2250 : decode cL_law 2250 = .ok (.iload 5, 2) := dk_21 5 (dk_at dksL_law_91 5 rfl rfl)
theorem dL_law_2252 : decode cL_law 2252 = .ok (.ifCond .ne 16, 3) := dk_154 0 16 (dk_at dksL_law_91 7 rfl rfl)
theorem dL_law_2255 : decode cL_law 2255 = .ok (.aload_n 3, 1) := dk_45 (dk_at dksL_law_91 10 rfl rfl)
theorem dL_law_2256 : decode cL_law 2256 = .ok (.getfield 13, 3) := dk_180 0 13 (dk_at dksL_law_91 11 rfl rfl)
theorem dL_law_2259 : decode cL_law 2259 = .ok (.iload 6, 2) := dk_21 6 (dk_at dksL_law_91 14 rfl rfl)
theorem dL_law_2261 : decode cL_law 2261 = .ok (.i2l, 1) := dk_133 (dk_at dksL_law_91 16 rfl rfl)
theorem dL_law_2262 : decode cL_law 2262 = .ok (.lcmp, 1) := dk_148 (dk_at dksL_law_91 17 rfl rfl)
theorem dL_law_2263 : decode cL_law 2263 = .ok (.ifCond .eq 5, 3) := dk_153 0 5 (dk_at dksL_law_91 18 rfl rfl)
theorem dL_law_2266 : decode cL_law 2266 = .ok (.iconst 0, 1) := dk_3 (dk_at dksL_law_91 21 rfl rfl)
theorem dL_law_2267 : decode cL_law 2267 = .ok (.ireturn, 1) := dk_172 (dk_at dksL_law_91 22 rfl rfl)
theorem dL_law_2268 : decode cL_law 2268 = .ok (.goto 267, 3) := dk_167 1 11 (dk_at dksL_law_92 0 rfl rfl)
theorem dL_law_2271 : decode cL_law 2271 = .ok (.aload_n 1, 1) := dk_43 (dk_at dksL_law_92 3 rfl rfl)
theorem dL_law_2272 : decode cL_law 2272 = .ok (.aload_n 0, 1) := dk_42 (dk_at dksL_law_92 4 rfl rfl)
theorem dL_law_2273 : decode cL_law 2273 = .ok (.iload 4, 2) := dk_21 4 (dk_at dksL_law_92 5 rfl rfl)
theorem dL_law_2275 : decode cL_law 2275 = .ok (.iconst 1, 1) := dk_4 (dk_at dksL_law_92 7 rfl rfl)
theorem dL_law_2276 : decode cL_law 2276 = .ok (.iadd, 1) := dk_96 (dk_at dksL_law_92 8 rfl rfl)
theorem dL_law_2277 : decode cL_law 2277 = .ok (.iaload, 1) := dk_46 (dk_at dksL_law_92 9 rfl rfl)
theorem dL_law_2278 : decode cL_law 2278 = .ok (.aload_n 0, 1) := dk_42 (dk_at dksL_law_92 10 rfl rfl)
theorem dL_law_2279 : decode cL_law 2279 = .ok (.iload 4, 2) := dk_21 4 (dk_at dksL_law_92 11 rfl rfl)
theorem dL_law_2281 : decode cL_law 2281 = .ok (.iconst 2, 1) := dk_5 (dk_at dksL_law_92 13 rfl rfl)
theorem dL_law_2282 : decode cL_law 2282 = .ok (.iadd, 1) := dk_96 (dk_at dksL_law_92 14 rfl rfl)
theorem dL_law_2283 : decode cL_law 2283 = .ok (.iaload, 1) := dk_46 (dk_at dksL_law_92 15 rfl rfl)
theorem dL_law_2284 : decode cL_law 2284 = .ok (.aload_n 0, 1) := dk_42 (dk_at dksL_law_92 16 rfl rfl)
theorem dL_law_2285 : decode cL_law 2285 = .ok (.iload 4, 2) := dk_21 4 (dk_at dksL_law_92 17 rfl rfl)
theorem dL_law_2287 : decode cL_law 2287 = .ok (.iconst 3, 1) := dk_6 (dk_at dksL_law_92 19 rfl rfl)
theorem dL_law_2288 : decode cL_law 2288 = .ok (.iadd, 1) := dk_96 (dk_at dksL_law_92 20 rfl rfl)
theorem dL_law_2289 : decode cL_law 2289 = .ok (.iaload, 1) := dk_46 (dk_at dksL_law_92 21 rfl rfl)
theorem dL_law_2290 : decode cL_law 2290 = .ok (.ifCond .eq 7, 3) := dk_153 0 7 (dk_at dksL_law_93 0 rfl rfl)
theorem dL_law_2293 : decode cL_law 2293 = .ok (.iconst 1, 1) := dk_4 (dk_at dksL_law_93 3 rfl rfl)
theorem dL_law_2294 : decode cL_law 2294 = .ok (.goto 4, 3) := dk_167 0 4 (dk_at dksL_law_93 4 rfl rfl)
theorem dL_law_2297 : decode cL_law 2297 = .ok (.iconst 0, 1) := dk_3 (dk_at dksL_law_93 7 rfl rfl)
theorem dL_law_2298 : decode cL_law 2298 = .ok (.aload_n 3, 1) := dk_45 (dk_at dksL_law_93 8 rfl rfl)
theorem dL_law_2299 : decode cL_law 2299 = .ok (.invokestatic 226, 3) := dk_184 0 226 (dk_at dksL_law_93 9 rfl rfl)
theorem dL_law_2302 : decode cL_law 2302 = .ok (.istore 5, 2) := dk_54 5 (dk_at dksL_law_93 12 rfl rfl)
theorem dL_law_2304 : decode cL_law 2304 = .ok (.aload_n 2, 1) := dk_44 (dk_at dksL_law_93 14 rfl rfl)
theorem dL_law_2305 : decode cL_law 2305 = .ok (.aload_n 0, 1) := dk_42 (dk_at dksL_law_93 15 rfl rfl)
theorem dL_law_2306 : decode cL_law 2306 = .ok (.iload 4, 2) := dk_21 4 (dk_at dksL_law_93 16 rfl rfl)
theorem dL_law_2308 : decode cL_law 2308 = .ok (.iconst 1, 1) := dk_4 (dk_at dksL_law_93 18 rfl rfl)
theorem dL_law_2309 : decode cL_law 2309 = .ok (.iadd, 1) := dk_96 (dk_at dksL_law_93 19 rfl rfl)
theorem dL_law_2310 : decode cL_law 2310 = .ok (.iaload, 1) := dk_46 (dk_at dksL_law_93 20 rfl rfl)
theorem dL_law_2311 : decode cL_law 2311 = .ok (.aload_n 0, 1) := dk_42 (dk_at dksL_law_93 21 rfl rfl)
theorem dL_law_2312 : decode cL_law 2312 = .ok (.iload 4, 2) := dk_21 4 (dk_at dksL_law_93 22 rfl rfl)
theorem dL_law_2314 : decode cL_law 2314 = .ok (.iconst 2, 1) := dk_5 (dk_at dksL_law_94 0 rfl rfl)
theorem dL_law_2315 : decode cL_law 2315 = .ok (.iadd, 1) := dk_96 (dk_at dksL_law_94 1 rfl rfl)
theorem dL_law_2316 : decode cL_law 2316 = .ok (.iaload, 1) := dk_46 (dk_at dksL_law_94 2 rfl rfl)
theorem dL_law_2317 : decode cL_law 2317 = .ok (.aload_n 0, 1) := dk_42 (dk_at dksL_law_94 3 rfl rfl)
theorem dL_law_2318 : decode cL_law 2318 = .ok (.iload 4, 2) := dk_21 4 (dk_at dksL_law_94 4 rfl rfl)
theorem dL_law_2320 : decode cL_law 2320 = .ok (.iconst 3, 1) := dk_6 (dk_at dksL_law_94 6 rfl rfl)
theorem dL_law_2321 : decode cL_law 2321 = .ok (.iadd, 1) := dk_96 (dk_at dksL_law_94 7 rfl rfl)
theorem dL_law_2322 : decode cL_law 2322 = .ok (.iaload, 1) := dk_46 (dk_at dksL_law_94 8 rfl rfl)
theorem dL_law_2323 : decode cL_law 2323 = .ok (.ifCond .eq 7, 3) := dk_153 0 7 (dk_at dksL_law_94 9 rfl rfl)
theorem dL_law_2326 : decode cL_law 2326 = .ok (.iconst 1, 1) := dk_4 (dk_at dksL_law_94 12 rfl rfl)
theorem dL_law_2327 : decode cL_law 2327 = .ok (.goto 4, 3) := dk_167 0 4 (dk_at dksL_law_94 13 rfl rfl)
theorem dL_law_2330 : decode cL_law 2330 = .ok (.iconst 0, 1) := dk_3 (dk_at dksL_law_94 16 rfl rfl)
theorem dL_law_2331 : decode cL_law 2331 = .ok (.invokevirtual 229, 3) := dk_182 0 229 (dk_at dksL_law_94 17 rfl rfl)
theorem dL_law_2334 : decode cL_law 2334 = .ok (.istore 6, 2) := dk_54 6 (dk_at dksL_law_94 20 rfl rfl)
theorem dL_law_2336 : decode cL_law 2336 = .ok (.aload_n 2, 1) := dk_44 (dk_at dksL_law_94 22 rfl rfl)
theorem dL_law_2337 : decode cL_law 2337 = .ok (.invokevirtual 137, 3) := dk_182 0 137 (dk_at dksL_law_95 0 rfl rfl)
theorem dL_law_2340 : decode cL_law 2340 = .ok (.iload 5, 2) := dk_21 5 (dk_at dksL_law_95 3 rfl rfl)
theorem dL_law_2342 : decode cL_law 2342 = .ok (.if_icmp .eq 5, 3) := dk_159 0 5 (dk_at dksL_law_95 5 rfl rfl)
theorem dL_law_2345 : decode cL_law 2345 = .ok (.iconst 0, 1) := dk_3 (dk_at dksL_law_95 8 rfl rfl)
theorem dL_law_2346 : decode cL_law 2346 = .ok (.ireturn, 1) := dk_172 (dk_at dksL_law_95 9 rfl rfl)
theorem dL_law_2347 : decode cL_law 2347 = .ok (.iload 5, 2) := dk_21 5 (dk_at dksL_law_95 10 rfl rfl)
theorem dL_law_2349 : decode cL_law 2349 = .ok (.ifCond .ne 16, 3) := dk_154 0 16 (dk_at dksL_law_95 12 rfl rfl)
theorem dL_law_2352 : decode cL_law 2352 = .ok (.aload_n 3, 1) := dk_45 (dk_at dksL_law_95 15 rfl rfl)
theorem dL_law_2353 : decode cL_law 2353 = .ok (.getfield 13, 3) := dk_180 0 13 (dk_at dksL_law_95 16 rfl rfl)
theorem dL_law_2356 : decode cL_law 2356 = .ok (.iload 6, 2) := dk_21 6 (dk_at dksL_law_95 19 rfl rfl)
theorem dL_law_2358 : decode cL_law 2358 = .ok (.i2l, 1) := dk_133 (dk_at dksL_law_95 21 rfl rfl)
theorem dL_law_2359 : decode cL_law 2359 = .ok (.lcmp, 1) := dk_148 (dk_at dksL_law_95 22 rfl rfl)
theorem dL_law_2360 : decode cL_law 2360 = .ok (.ifCond .eq 5, 3) := dk_153 0 5 (dk_at dksL_law_96 0 rfl rfl)
theorem dL_law_2363 : decode cL_law 2363 = .ok (.iconst 0, 1) := dk_3 (dk_at dksL_law_96 3 rfl rfl)
theorem dL_law_2364 : decode cL_law 2364 = .ok (.ireturn, 1) := dk_172 (dk_at dksL_law_96 4 rfl rfl)
theorem dL_law_2365 : decode cL_law 2365 = .ok (.goto 170, 3) := dk_167 0 170 (dk_at dksL_law_96 5 rfl rfl)
theorem dL_law_2368 : decode cL_law 2368 = .ok (.aload_n 1, 1) := dk_43 (dk_at dksL_law_96 8 rfl rfl)
theorem dL_law_2369 : decode cL_law 2369 = .ok (.aload_n 0, 1) := dk_42 (dk_at dksL_law_96 9 rfl rfl)
theorem dL_law_2370 : decode cL_law 2370 = .ok (.iload 4, 2) := dk_21 4 (dk_at dksL_law_96 10 rfl rfl)
theorem dL_law_2372 : decode cL_law 2372 = .ok (.iconst 1, 1) := dk_4 (dk_at dksL_law_96 12 rfl rfl)
theorem dL_law_2373 : decode cL_law 2373 = .ok (.iadd, 1) := dk_96 (dk_at dksL_law_96 13 rfl rfl)
theorem dL_law_2374 : decode cL_law 2374 = .ok (.iaload, 1) := dk_46 (dk_at dksL_law_96 14 rfl rfl)
theorem dL_law_2375 : decode cL_law 2375 = .ok (.aload_n 3, 1) := dk_45 (dk_at dksL_law_96 15 rfl rfl)
theorem dL_law_2376 : decode cL_law 2376 = .ok (.invokestatic 230, 3) := dk_184 0 230 (dk_at dksL_law_96 16 rfl rfl)
theorem dL_law_2379 : decode cL_law 2379 = .ok (.istore 5, 2) := dk_54 5 (dk_at dksL_law_96 19 rfl rfl)
theorem dL_law_2381 : decode cL_law 2381 = .ok (.aload_n 2, 1) := dk_44 (dk_at dksL_law_96 21 rfl rfl)
theorem dL_law_2382 : decode cL_law 2382 = .ok (.aload_n 0, 1) := dk_42 (dk_at dksL_law_96 22 rfl rfl)
theorem dL_law_2383 : decode cL_law 2383 = .ok (.iload 4, 2) := dk_21 4 (dk_at dksL_law_97 0 rfl rfl)
theorem dL_law_2385 : decode cL_law 2385 = .ok (.iconst 1, 1) := dk_4 (dk_at dksL_law_97 2 rfl rfl)
theorem dL_law_2386 : decode cL_law 2386 = .ok (.iadd, 1) := dk_96 (dk_at dksL_law_97 3 rfl rfl)
theorem dL_law_2387 : decode cL_law 2387 = .ok (.iaload, 1) := dk_46 (dk_at dksL_law_97 4 rfl rfl)
theorem dL_law_2388 : decode cL_law 2388 = .ok (.invokevirtual 232, 3) := dk_182 0 232 (dk_at dksL_law_97 5 rfl rfl)
theorem dL_law_2391 : decode cL_law 2391 = .ok (.istore 6, 2) := dk_54 6 (dk_at dksL_law_97 8 rfl rfl)
theorem dL_law_2393 : decode cL_law 2393 = .ok (.aload_n 2, 1) := dk_44 (dk_at dksL_law_97 10 rfl rfl)
theorem dL_law_2394 : decode cL_law 2394 = .ok (.invokevirtual 137, 3) := dk_182 0 137 (dk_at dksL_law_97 11 rfl rfl)
theorem dL_law_2397 : decode cL_law 2397 = .ok (.iload 5, 2) := dk_21 5 (dk_at dksL_law_97 14 rfl rfl)
theorem dL_law_2399 : decode cL_law 2399 = .ok (.if_icmp .eq 5, 3) := dk_159 0 5 (dk_at dksL_law_97 16 rfl rfl)
theorem dL_law_2402 : decode cL_law 2402 = .ok (.iconst 0, 1) := dk_3 (dk_at dksL_law_97 19 rfl rfl)
theorem dL_law_2403 : decode cL_law 2403 = .ok (.ireturn, 1) := dk_172 (dk_at dksL_law_97 20 rfl rfl)
theorem dL_law_2404 : decode cL_law 2404 = .ok (.iload 5, 2) := dk_21 5 (dk_at dksL_law_97 21 rfl rfl)
theorem dL_law_2406 : decode cL_law 2406 = .ok (.ifCond .ne 16, 3) := dk_154 0 16 (dk_at dksL_law_98 0 rfl rfl)
theorem dL_law_2409 : decode cL_law 2409 = .ok (.aload_n 3, 1) := dk_45 (dk_at dksL_law_98 3 rfl rfl)
theorem dL_law_2410 : decode cL_law 2410 = .ok (.getfield 13, 3) := dk_180 0 13 (dk_at dksL_law_98 4 rfl rfl)
theorem dL_law_2413 : decode cL_law 2413 = .ok (.iload 6, 2) := dk_21 6 (dk_at dksL_law_98 7 rfl rfl)
theorem dL_law_2415 : decode cL_law 2415 = .ok (.i2l, 1) := dk_133 (dk_at dksL_law_98 9 rfl rfl)
theorem dL_law_2416 : decode cL_law 2416 = .ok (.lcmp, 1) := dk_148 (dk_at dksL_law_98 10 rfl rfl)
theorem dL_law_2417 : decode cL_law 2417 = .ok (.ifCond .eq 5, 3) := dk_153 0 5 (dk_at dksL_law_98 11 rfl rfl)
theorem dL_law_2420 : decode cL_law 2420 = .ok (.iconst 0, 1) := dk_3 (dk_at dksL_law_98 14 rfl rfl)
theorem dL_law_2421 : decode cL_law 2421 = .ok (.ireturn, 1) := dk_172 (dk_at dksL_law_98 15 rfl rfl)
theorem dL_law_2422 : decode cL_law 2422 = .ok (.goto 113, 3) := dk_167 0 113 (dk_at dksL_law_98 16 rfl rfl)
theorem dL_law_2425 : decode cL_law 2425 = .ok (.aload_n 1, 1) := dk_43 (dk_at dksL_law_98 19 rfl rfl)
theorem dL_law_2426 : decode cL_law 2426 = .ok (.aload_n 0, 1) := dk_42 (dk_at dksL_law_98 20 rfl rfl)
theorem dL_law_2427 : decode cL_law 2427 = .ok (.iload 4, 2) := dk_21 4 (dk_at dksL_law_98 21 rfl rfl)
theorem dL_law_2429 : decode cL_law 2429 = .ok (.iconst 1, 1) := dk_4 (dk_at dksL_law_98 23 rfl rfl)
theorem dL_law_2430 : decode cL_law 2430 = .ok (.iadd, 1) := dk_96 (dk_at dksL_law_99 0 rfl rfl)
theorem dL_law_2431 : decode cL_law 2431 = .ok (.iaload, 1) := dk_46 (dk_at dksL_law_99 1 rfl rfl)
theorem dL_law_2432 : decode cL_law 2432 = .ok (.aload_n 0, 1) := dk_42 (dk_at dksL_law_99 2 rfl rfl)
theorem dL_law_2433 : decode cL_law 2433 = .ok (.iload 4, 2) := dk_21 4 (dk_at dksL_law_99 3 rfl rfl)
theorem dL_law_2435 : decode cL_law 2435 = .ok (.iconst 2, 1) := dk_5 (dk_at dksL_law_99 5 rfl rfl)
theorem dL_law_2436 : decode cL_law 2436 = .ok (.iadd, 1) := dk_96 (dk_at dksL_law_99 6 rfl rfl)
theorem dL_law_2437 : decode cL_law 2437 = .ok (.iaload, 1) := dk_46 (dk_at dksL_law_99 7 rfl rfl)
theorem dL_law_2438 : decode cL_law 2438 = .ok (.aload_n 3, 1) := dk_45 (dk_at dksL_law_99 8 rfl rfl)
theorem dL_law_2439 : decode cL_law 2439 = .ok (.invokestatic 233, 3) := dk_184 0 233 (dk_at dksL_law_99 9 rfl rfl)
theorem dL_law_2442 : decode cL_law 2442 = .ok (.istore 5, 2) := dk_54 5 (dk_at dksL_law_99 12 rfl rfl)
theorem dL_law_2444 : decode cL_law 2444 = .ok (.aload_n 2, 1) := dk_44 (dk_at dksL_law_99 14 rfl rfl)
theorem dL_law_2445 : decode cL_law 2445 = .ok (.aload_n 0, 1) := dk_42 (dk_at dksL_law_99 15 rfl rfl)
theorem dL_law_2446 : decode cL_law 2446 = .ok (.iload 4, 2) := dk_21 4 (dk_at dksL_law_99 16 rfl rfl)
theorem dL_law_2448 : decode cL_law 2448 = .ok (.iconst 1, 1) := dk_4 (dk_at dksL_law_99 18 rfl rfl)
theorem dL_law_2449 : decode cL_law 2449 = .ok (.iadd, 1) := dk_96 (dk_at dksL_law_99 19 rfl rfl)
theorem dL_law_2450 : decode cL_law 2450 = .ok (.iaload, 1) := dk_46 (dk_at dksL_law_99 20 rfl rfl)
theorem dL_law_2451 : decode cL_law 2451 = .ok (.aload_n 0, 1) := dk_42 (dk_at dksL_law_99 21 rfl rfl)
theorem dL_law_2452 : decode cL_law 2452 = .ok (.iload 4, 2) := dk_21 4 (dk_at dksL_law_99 22 rfl rfl)
theorem dL_law_2454 : decode cL_law 2454 = .ok (.iconst 2, 1) := dk_5 (dk_at dksL_law_100 0 rfl rfl)
theorem dL_law_2455 : decode cL_law 2455 = .ok (.iadd, 1) := dk_96 (dk_at dksL_law_100 1 rfl rfl)
theorem dL_law_2456 : decode cL_law 2456 = .ok (.iaload, 1) := dk_46 (dk_at dksL_law_100 2 rfl rfl)
theorem dL_law_2457 : decode cL_law 2457 = .ok (.invokevirtual 235, 3) := dk_182 0 235 (dk_at dksL_law_100 3 rfl rfl)
theorem dL_law_2460 : decode cL_law 2460 = .ok (.astore 6, 2) := dk_58 6 (dk_at dksL_law_100 6 rfl rfl)
theorem dL_law_2462 : decode cL_law 2462 = .ok (.aload_n 2, 1) := dk_44 (dk_at dksL_law_100 8 rfl rfl)
theorem dL_law_2463 : decode cL_law 2463 = .ok (.invokevirtual 137, 3) := dk_182 0 137 (dk_at dksL_law_100 9 rfl rfl)
theorem dL_law_2466 : decode cL_law 2466 = .ok (.iload 5, 2) := dk_21 5 (dk_at dksL_law_100 12 rfl rfl)
theorem dL_law_2468 : decode cL_law 2468 = .ok (.if_icmp .eq 5, 3) := dk_159 0 5 (dk_at dksL_law_100 14 rfl rfl)
theorem dL_law_2471 : decode cL_law 2471 = .ok (.iconst 0, 1) := dk_3 (dk_at dksL_law_100 17 rfl rfl)
theorem dL_law_2472 : decode cL_law 2472 = .ok (.ireturn, 1) := dk_172 (dk_at dksL_law_100 18 rfl rfl)
theorem dL_law_2473 : decode cL_law 2473 = .ok (.iload 5, 2) := dk_21 5 (dk_at dksL_law_100 19 rfl rfl)
theorem dL_law_2475 : decode cL_law 2475 = .ok (.ifCond .ne 17, 3) := dk_154 0 17 (dk_at dksL_law_100 21 rfl rfl)
theorem dL_law_2478 : decode cL_law 2478 = .ok (.aload_n 3, 1) := dk_45 (dk_at dksL_law_101 0 rfl rfl)
theorem dL_law_2479 : decode cL_law 2479 = .ok (.getfield 122, 3) := dk_180 0 122 (dk_at dksL_law_101 1 rfl rfl)
theorem dL_law_2482 : decode cL_law 2482 = .ok (.aload 6, 2) := dk_25 6 (dk_at dksL_law_101 4 rfl rfl)
theorem dL_law_2484 : decode cL_law 2484 = .ok (.invokevirtual 236, 3) := dk_182 0 236 (dk_at dksL_law_101 6 rfl rfl)
theorem dL_law_2487 : decode cL_law 2487 = .ok (.ifCond .ne 5, 3) := dk_154 0 5 (dk_at dksL_law_101 9 rfl rfl)
theorem dL_law_2490 : decode cL_law 2490 = .ok (.iconst 0, 1) := dk_3 (dk_at dksL_law_101 12 rfl rfl)
theorem dL_law_2491 : decode cL_law 2491 = .ok (.ireturn, 1) := dk_172 (dk_at dksL_law_101 13 rfl rfl)
theorem dL_law_2492 : decode cL_law 2492 = .ok (.goto 43, 3) := dk_167 0 43 (dk_at dksL_law_101 14 rfl rfl)
theorem dL_law_2495 : decode cL_law 2495 = .ok (.aload_n 1, 1) := dk_43 (dk_at dksL_law_101 17 rfl rfl)
theorem dL_law_2496 : decode cL_law 2496 = .ok (.invokevirtual 242, 3) := dk_182 0 242 (dk_at dksL_law_101 18 rfl rfl)
theorem dL_law_2499 : decode cL_law 2499 = .ok (.aload_n 2, 1) := dk_44 (dk_at dksL_law_101 21 rfl rfl)
theorem dL_law_2500 : decode cL_law 2500 = .ok (.invokevirtual 246, 3) := dk_182 0 246 (dk_at dksL_law_102 0 rfl rfl)
theorem dL_law_2503 : decode cL_law 2503 = .ok (.if_icmp .eq 32, 3) := dk_159 0 32 (dk_at dksL_law_102 3 rfl rfl)
theorem dL_law_2506 : decode cL_law 2506 = .ok (.iconst 0, 1) := dk_3 (dk_at dksL_law_102 6 rfl rfl)
theorem dL_law_2507 : decode cL_law 2507 = .ok (.ireturn, 1) := dk_172 (dk_at dksL_law_102 7 rfl rfl)
theorem dL_law_2508 : decode cL_law 2508 = .ok (.aload_n 1, 1) := dk_43 (dk_at dksL_law_102 8 rfl rfl)
theorem dL_law_2509 : decode cL_law 2509 = .ok (.invokevirtual 247, 3) := dk_182 0 247 (dk_at dksL_law_102 9 rfl rfl)
theorem dL_law_2512 : decode cL_law 2512 = .ok (.aload_n 2, 1) := dk_44 (dk_at dksL_law_102 12 rfl rfl)
theorem dL_law_2513 : decode cL_law 2513 = .ok (.invokevirtual 250, 3) := dk_182 0 250 (dk_at dksL_law_102 13 rfl rfl)
theorem dL_law_2516 : decode cL_law 2516 = .ok (.if_icmp .eq 19, 3) := dk_159 0 19 (dk_at dksL_law_102 16 rfl rfl)
theorem dL_law_2519 : decode cL_law 2519 = .ok (.iconst 0, 1) := dk_3 (dk_at dksL_law_102 19 rfl rfl)
theorem dL_law_2520 : decode cL_law 2520 = .ok (.ireturn, 1) := dk_172 (dk_at dksL_law_102 20 rfl rfl)
theorem dL_law_2521 : decode cL_law 2521 = .ok (.aload_n 1, 1) := dk_43 (dk_at dksL_law_102 21 rfl rfl)
theorem dL_law_2522 : decode cL_law 2522 = .ok (.invokevirtual 251, 3) := dk_182 0 251 (dk_at dksL_law_103 0 rfl rfl)
theorem dL_law_2525 : decode cL_law 2525 = .ok (.aload_n 2, 1) := dk_44 (dk_at dksL_law_103 3 rfl rfl)
theorem dL_law_2526 : decode cL_law 2526 = .ok (.invokevirtual 255, 3) := dk_182 0 255 (dk_at dksL_law_103 4 rfl rfl)
theorem dL_law_2529 : decode cL_law 2529 = .ok (.lcmp, 1) := dk_148 (dk_at dksL_law_103 7 rfl rfl)
theorem dL_law_2530 : decode cL_law 2530 = .ok (.ifCond .eq 5, 3) := dk_153 0 5 (dk_at dksL_law_103 8 rfl rfl)
theorem dL_law_2533 : decode cL_law 2533 = .ok (.iconst 0, 1) := dk_3 (dk_at dksL_law_103 11 rfl rfl)
theorem dL_law_2534 : decode cL_law 2534 = .ok (.ireturn, 1) := dk_172 (dk_at dksL_law_103 12 rfl rfl)
theorem dL_law_2535 : decode cL_law 2535 = .ok (.iinc 4 5, 3) := dk_132 4 5 (dk_at dksL_law_103 13 rfl rfl)
theorem dL_law_2538 : decode cL_law 2538 = .ok (.goto (-2511), 3) := dk_167 246 49 (dk_at dksL_law_103 16 rfl rfl)
theorem dL_law_2541 : decode cL_law 2541 = .ok (.iconst 1, 1) := dk_4 (dk_at dksL_law_103 19 rfl rfl)
theorem dL_law_2542 : decode cL_law 2542 = .ok (.ireturn, 1) := dk_172 (dk_at dksL_law_103 20 rfl rfl)
