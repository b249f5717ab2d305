/-! SkerryLightsLaw -/
set_option maxRecDepth 100000
def RX0 : String := "SkerryLightsLaw"
abbrev cX0_tower : ByteArray := method_3_code
def yX0_tower : MethodName := ⟨RX0, "tower", "(LSkerryLights;III[J)I"⟩
def dkwX0_tower_1 : List UInt8 := [58, 5, 6, 172, 58, 5, 7, 172, 3, 172]
abbrev dktX0_tower_1 : List UInt8 := dkwX0_tower_1 ++ []
def dkwX0_tower_0 : List UInt8 := [25, 4, 3, 42, 27, 28, 29, 182, 0, 7, 133, 80, 167, 0, 19, 58, 5, 4, 172, 58, 5, 5, 172]
abbrev dktX0_tower_0 : List UInt8 := dkwX0_tower_0 ++ dktX0_tower_1
theorem dksX0_tower_0 : cX0_tower.data.toList.drop 0 = dktX0_tower_0 := by decide +kernel
theorem dksX0_tower_1 : cX0_tower.data.toList.drop 23 = dktX0_tower_1 := dk_seg dksX0_tower_0 23 rfl rfl
theorem dX0_tower_0 : decode cX0_tower 0 = .ok (.aload 4, 2) := dk_25 4 (dk_at dksX0_tower_0 0 rfl rfl)
theorem dX0_tower_2 : decode cX0_tower 2 = .ok (.iconst 0, 1) := dk_3 (dk_at dksX0_tower_0 2 rfl rfl)
theorem dX0_tower_3 : decode cX0_tower 3 = .ok (.aload_n 0, 1) := dk_42 (dk_at dksX0_tower_0 3 rfl rfl)
theorem dX0_tower_4 : decode cX0_tower 4 = .ok (.iload_n 1, 1) := dk_27 (dk_at dksX0_tower_0 4 rfl rfl)
theorem dX0_tower_5 : decode cX0_tower 5 = .ok (.iload_n 2, 1) := dk_28 (dk_at dksX0_tower_0 5 rfl rfl)
theorem dX0_tower_6 : decode cX0_tower 6 = .ok (.iload_n 3, 1) := dk_29 (dk_at dksX0_tower_0 6 rfl rfl)
theorem dX0_tower_7 : decode cX0_tower 7 = .ok (.invokevirtual 7, 3) := dk_182 0 7 (dk_at dksX0_tower_0 7 rfl rfl)
theorem dX0_tower_10 : decode cX0_tower 10 = .ok (.i2l, 1) := dk_133 (dk_at dksX0_tower_0 10 rfl rfl)
theorem dX0_tower_11 : decode cX0_tower 11 = .ok (.lastore, 1) := dk_80 (dk_at dksX0_tower_0 11 rfl rfl)
theorem dX0_tower_12 : decode cX0_tower 12 = .ok (.goto 19, 3) := dk_167 0 19 (dk_at dksX0_tower_0 12 rfl rfl)
theorem dX0_tower_15 : decode cX0_tower 15 = .ok (.astore 5, 2) := dk_58 5 (dk_at dksX0_tower_0 15 rfl rfl)
theorem dX0_tower_17 : decode cX0_tower 17 = .ok (.iconst 1, 1) := dk_4 (dk_at dksX0_tower_0 17 rfl rfl)
theorem dX0_tower_18 : decode cX0_tower 18 = .ok (.ireturn, 1) := dk_172 (dk_at dksX0_tower_0 18 rfl rfl)
theorem dX0_tower_19 : decode cX0_tower 19 = .ok (.astore 5, 2) := dk_58 5 (dk_at dksX0_tower_0 19 rfl rfl)
theorem dX0_tower_21 : decode cX0_tower 21 = .ok (.iconst 2, 1) := dk_5 (dk_at dksX0_tower_0 21 rfl rfl)
theorem dX0_tower_22 : decode cX0_tower 22 = .ok (.ireturn, 1) := dk_172 (dk_at dksX0_tower_0 22 rfl rfl)
theorem dX0_tower_23 : decode cX0_tower 23 = .ok (.astore 5, 2) := dk_58 5 (dk_at dksX0_tower_1 0 rfl rfl)
theorem dX0_tower_25 : decode cX0_tower 25 = .ok (.iconst 3, 1) := dk_6 (dk_at dksX0_tower_1 2 rfl rfl)
theorem dX0_tower_26 : decode cX0_tower 26 = .ok (.ireturn, 1) := dk_172 (dk_at dksX0_tower_1 3 rfl rfl)
theorem dX0_tower_27 : decode cX0_tower 27 = .ok (.astore 5, 2) := dk_58 5 (dk_at dksX0_tower_1 4 rfl rfl)
theorem dX0_tower_29 : decode cX0_tower 29 = .ok (.iconst 4, 1) := dk_7 (dk_at dksX0_tower_1 6 rfl rfl)
theorem dX0_tower_30 : decode cX0_tower 30 = .ok (.ireturn, 1) := dk_172 (dk_at dksX0_tower_1 7 rfl rfl)
theorem dX0_tower_31 : decode cX0_tower 31 = .ok (.iconst 0, 1) := dk_3 (dk_at dksX0_tower_1 8 rfl rfl)
theorem dX0_tower_32 : decode cX0_tower 32 = .ok (.ireturn, 1) := dk_172 (dk_at dksX0_tower_1 9 rfl rfl)
abbrev cX0_lens : ByteArray := method_4_code
def yX0_lens : MethodName := ⟨RX0, "lens", "(LSkerryLights;I[J)I"⟩
def dkwX0_lens_0 : List UInt8 := [44, 3, 42, 27, 182, 0, 21, 133, 80, 167, 0, 9, 78, 4, 172, 78, 5, 172, 3, 172]
abbrev dktX0_lens_0 : List UInt8 := dkwX0_lens_0 ++ []
theorem dksX0_lens_0 : cX0_lens.data.toList.drop 0 = dktX0_lens_0 := by decide +kernel
theorem dX0_lens_0 : decode cX0_lens 0 = .ok (.aload_n 2, 1) := dk_44 (dk_at dksX0_lens_0 0 rfl rfl)
theorem dX0_lens_1 : decode cX0_lens 1 = .ok (.iconst 0, 1) := dk_3 (dk_at dksX0_lens_0 1 rfl rfl)
theorem dX0_lens_2 : decode cX0_lens 2 = .ok (.aload_n 0, 1) := dk_42 (dk_at dksX0_lens_0 2 rfl rfl)
theorem dX0_lens_3 : decode cX0_lens 3 = .ok (.iload_n 1, 1) := dk_27 (dk_at dksX0_lens_0 3 rfl rfl)
theorem dX0_lens_4 : decode cX0_lens 4 = .ok (.invokevirtual 21, 3) := dk_182 0 21 (dk_at dksX0_lens_0 4 rfl rfl)
theorem dX0_lens_7 : decode cX0_lens 7 = .ok (.i2l, 1) := dk_133 (dk_at dksX0_lens_0 7 rfl rfl)
theorem dX0_lens_8 : decode cX0_lens 8 = .ok (.lastore, 1) := dk_80 (dk_at dksX0_lens_0 8 rfl rfl)
theorem dX0_lens_9 : decode cX0_lens 9 = .ok (.goto 9, 3) := dk_167 0 9 (dk_at dksX0_lens_0 9 rfl rfl)
theorem dX0_lens_12 : decode cX0_lens 12 = .ok (.astore_n 3, 1) := dk_78 (dk_at dksX0_lens_0 12 rfl rfl)
theorem dX0_lens_13 : decode cX0_lens 13 = .ok (.iconst 1, 1) := dk_4 (dk_at dksX0_lens_0 13 rfl rfl)
theorem dX0_lens_14 : decode cX0_lens 14 = .ok (.ireturn, 1) := dk_172 (dk_at dksX0_lens_0 14 rfl rfl)
theorem dX0_lens_15 : decode cX0_lens 15 = .ok (.astore_n 3, 1) := dk_78 (dk_at dksX0_lens_0 15 rfl rfl)
theorem dX0_lens_16 : decode cX0_lens 16 = .ok (.iconst 2, 1) := dk_5 (dk_at dksX0_lens_0 16 rfl rfl)
theorem dX0_lens_17 : decode cX0_lens 17 = .ok (.ireturn, 1) := dk_172 (dk_at dksX0_lens_0 17 rfl rfl)
theorem dX0_lens_18 : decode cX0_lens 18 = .ok (.iconst 0, 1) := dk_3 (dk_at dksX0_lens_0 18 rfl rfl)
theorem dX0_lens_19 : decode cX0_lens 19 = .ok (.ireturn, 1) := dk_172 (dk_at dksX0_lens_0 19 rfl rfl)
abbrev cX0_pattern : ByteArray := method_5_code
def yX0_pattern : MethodName := ⟨RX0, "pattern", "(LSkerryLights;III[J)I"⟩
def dkwX0_pattern_1 : List UInt8 := [172]
abbrev dktX0_pattern_1 : List UInt8 := dkwX0_pattern_1 ++ []
def dkwX0_pattern_0 : List UInt8 := [25, 4, 3, 42, 27, 28, 29, 182, 0, 25, 133, 80, 167, 0, 11, 58, 5, 4, 172, 58, 5, 5, 172, 3]
abbrev dktX0_pattern_0 : List UInt8 := dkwX0_pattern_0 ++ dktX0_pattern_1
theorem dksX0_pattern_0 : cX0_pattern.data.toList.drop 0 = dktX0_pattern_0 := by decide +kernel
theorem dksX0_pattern_1 : cX0_pattern.data.toList.drop 24 = dktX0_pattern_1 := dk_seg dksX0_pattern_0 24 rfl rfl
theorem dX0_pattern_0 : decode cX0_pattern 0 = .ok (.aload 4, 2) := dk_25 4 (dk_at dksX0_pattern_0 0 rfl rfl)
theorem dX0_pattern_2 : decode cX0_pattern 2 = .ok (.iconst 0, 1) := dk_3 (dk_at dksX0_pattern_0 2 rfl rfl)
theorem dX0_pattern_3 : decode cX0_pattern 3 = .ok (.aload_n 0, 1) := dk_42 (dk_at dksX0_pattern_0 3 rfl rfl)
theorem dX0_pattern_4 : decode cX0_pattern 4 = .ok (.iload_n 1, 1) := dk_27 (dk_at dksX0_pattern_0 4 rfl rfl)
theorem dX0_pattern_5 : decode cX0_pattern 5 = .ok (.iload_n 2, 1) := dk_28 (dk_at dksX0_pattern_0 5 rfl rfl)
theorem dX0_pattern_6 : decode cX0_pattern 6 = .ok (.iload_n 3, 1) := dk_29 (dk_at dksX0_pattern_0 6 rfl rfl)
theorem dX0_pattern_7 : decode cX0_pattern 7 = .ok (.invokevirtual 25, 3) := dk_182 0 25 (dk_at dksX0_pattern_0 7 rfl rfl)
theorem dX0_pattern_10 : decode cX0_pattern 10 = .ok (.i2l, 1) := dk_133 (dk_at dksX0_pattern_0 10 rfl rfl)
theorem dX0_pattern_11 : decode cX0_pattern 11 = .ok (.lastore, 1) := dk_80 (dk_at dksX0_pattern_0 11 rfl rfl)
theorem dX0_pattern_12 : decode cX0_pattern 12 = .ok (.goto 11, 3) := dk_167 0 11 (dk_at dksX0_pattern_0 12 rfl rfl)
theorem dX0_pattern_15 : decode cX0_pattern 15 = .ok (.astore 5, 2) := dk_58 5 (dk_at dksX0_pattern_0 15 rfl rfl)
theorem dX0_pattern_17 : decode cX0_pattern 17 = .ok (.iconst 1, 1) := dk_4 (dk_at dksX0_pattern_0 17 rfl rfl)
theorem dX0_pattern_18 : decode cX0_pattern 18 = .ok (.ireturn, 1) := dk_172 (dk_at dksX0_pattern_0 18 rfl rfl)
theorem dX0_pattern_19 : decode cX0_pattern 19 = .ok (.astore 5, 2) := dk_58 5 (dk_at dksX0_pattern_0 19 rfl rfl)
theorem dX0_pattern_21 : decode cX0_pattern 21 = .ok (.iconst 2, 1) := dk_5 (dk_at dksX0_pattern_0 21 rfl rfl)
theorem dX0_pattern_22 : decode cX0_pattern 22 = .ok (.ireturn, 1) := dk_172 (dk_at dksX0_pattern_0 22 rfl rfl)
theorem dX0_pattern_23 : decode cX0_pattern 23 = .ok (.iconst 0, 1) := dk_3 (dk_at dksX0_pattern_0 23 rfl rfl)
theorem dX0_pattern_24 : decode cX0_pattern 24 = .ok (.ireturn, 1) := dk_172 (dk_at dksX0_pattern_1 0 rfl rfl)
abbrev cX0_fit : ByteArray := method_6_code
def yX0_fit : MethodName := ⟨RX0, "fit", "(LSkerryLights;I[J)I"⟩
def dkwX0_fit_0 : List UInt8 := [44, 3, 42, 27, 182, 0, 28, 133, 80, 167, 0, 9, 78, 4, 172, 78, 5, 172, 3, 172]
abbrev dktX0_fit_0 : List UInt8 := dkwX0_fit_0 ++ []
theorem dksX0_fit_0 : cX0_fit.data.toList.drop 0 = dktX0_fit_0 := by decide +kernel
theorem dX0_fit_0 : decode cX0_fit 0 = .ok (.aload_n 2, 1) := dk_44 (dk_at dksX0_fit_0 0 rfl rfl)
theorem dX0_fit_1 : decode cX0_fit 1 = .ok (.iconst 0, 1) := dk_3 (dk_at dksX0_fit_0 1 rfl rfl)
theorem dX0_fit_2 : decode cX0_fit 2 = .ok (.aload_n 0, 1) := dk_42 (dk_at dksX0_fit_0 2 rfl rfl)
theorem dX0_fit_3 : decode cX0_fit 3 = .ok (.iload_n 1, 1) := dk_27 (dk_at dksX0_fit_0 3 rfl rfl)
theorem dX0_fit_4 : decode cX0_fit 4 = .ok (.invokevirtual 28, 3) := dk_182 0 28 (dk_at dksX0_fit_0 4 rfl rfl)
theorem dX0_fit_7 : decode cX0_fit 7 = .ok (.i2l, 1) := dk_133 (dk_at dksX0_fit_0 7 rfl rfl)
theorem dX0_fit_8 : decode cX0_fit 8 = .ok (.lastore, 1) := dk_80 (dk_at dksX0_fit_0 8 rfl rfl)
theorem dX0_fit_9 : decode cX0_fit 9 = .ok (.goto 9, 3) := dk_167 0 9 (dk_at dksX0_fit_0 9 rfl rfl)
theorem dX0_fit_12 : decode cX0_fit 12 = .ok (.astore_n 3, 1) := dk_78 (dk_at dksX0_fit_0 12 rfl rfl)
theorem dX0_fit_13 : decode cX0_fit 13 = .ok (.iconst 1, 1) := dk_4 (dk_at dksX0_fit_0 13 rfl rfl)
theorem dX0_fit_14 : decode cX0_fit 14 = .ok (.ireturn, 1) := dk_172 (dk_at dksX0_fit_0 14 rfl rfl)
theorem dX0_fit_15 : decode cX0_fit 15 = .ok (.astore_n 3, 1) := dk_78 (dk_at dksX0_fit_0 15 rfl rfl)
theorem dX0_fit_16 : decode cX0_fit 16 = .ok (.iconst 2, 1) := dk_5 (dk_at dksX0_fit_0 16 rfl rfl)
theorem dX0_fit_17 : decode cX0_fit 17 = .ok (.ireturn, 1) := dk_172 (dk_at dksX0_fit_0 17 rfl rfl)
theorem dX0_fit_18 : decode cX0_fit 18 = .ok (.iconst 0, 1) := dk_3 (dk_at dksX0_fit_0 18 rfl rfl)
theorem dX0_fit_19 : decode cX0_fit 19 = .ok (.ireturn, 1) := dk_172 (dk_at dksX0_fit_0 19 rfl rfl)
abbrev cX0_light : ByteArray := method_7_code
def yX0_light : MethodName := ⟨RX0, "light", "(LSkerryLights;I[J)I"⟩
def dkwX0_light_0 : List UInt8 := [44, 3, 42, 27, 182, 0, 31, 133, 80, 167, 0, 9, 78, 4, 172, 78, 5, 172, 3, 172]
abbrev dktX0_light_0 : List UInt8 := dkwX0_light_0 ++ []
theorem dksX0_light_0 : cX0_light.data.toList.drop 0 = dktX0_light_0 := by decide +kernel
theorem dX0_light_0 : decode cX0_light 0 = .ok (.aload_n 2, 1) := dk_44 (dk_at dksX0_light_0 0 rfl rfl)
theorem dX0_light_1 : decode cX0_light 1 = .ok (.iconst 0, 1) := dk_3 (dk_at dksX0_light_0 1 rfl rfl)
theorem dX0_light_2 : decode cX0_light 2 = .ok (.aload_n 0, 1) := dk_42 (dk_at dksX0_light_0 2 rfl rfl)
theorem dX0_light_3 : decode cX0_light 3 = .ok (.iload_n 1, 1) := dk_27 (dk_at dksX0_light_0 3 rfl rfl)
theorem dX0_light_4 : decode cX0_light 4 = .ok (.invokevirtual 31, 3) := dk_182 0 31 (dk_at dksX0_light_0 4 rfl rfl)
theorem dX0_light_7 : decode cX0_light 7 = .ok (.i2l, 1) := dk_133 (dk_at dksX0_light_0 7 rfl rfl)
theorem dX0_light_8 : decode cX0_light 8 = .ok (.lastore, 1) := dk_80 (dk_at dksX0_light_0 8 rfl rfl)
theorem dX0_light_9 : decode cX0_light 9 = .ok (.goto 9, 3) := dk_167 0 9 (dk_at dksX0_light_0 9 rfl rfl)
theorem dX0_light_12 : decode cX0_light 12 = .ok (.astore_n 3, 1) := dk_78 (dk_at dksX0_light_0 12 rfl rfl)
theorem dX0_light_13 : decode cX0_light 13 = .ok (.iconst 1, 1) := dk_4 (dk_at dksX0_light_0 13 rfl rfl)
theorem dX0_light_14 : decode cX0_light 14 = .ok (.ireturn, 1) := dk_172 (dk_at dksX0_light_0 14 rfl rfl)
theorem dX0_light_15 : decode cX0_light 15 = .ok (.astore_n 3, 1) := dk_78 (dk_at dksX0_light_0 15 rfl rfl)
theorem dX0_light_16 : decode cX0_light 16 = .ok (.iconst 2, 1) := dk_5 (dk_at dksX0_light_0 16 rfl rfl)
theorem dX0_light_17 : decode cX0_light 17 = .ok (.ireturn, 1) := dk_172 (dk_at dksX0_light_0 17 rfl rfl)
theorem dX0_light_18 : decode cX0_light 18 = .ok (.iconst 0, 1) := dk_3 (dk_at dksX0_light_0 18 rfl rfl)
theorem dX0_light_19 : decode cX0_light 19 = .ok (.ireturn, 1) := dk_172 (dk_at dksX0_light_0 19 rfl rfl)
abbrev cX0_darken : ByteArray := method_8_code
def yX0_darken : MethodName := ⟨RX0, "darken", "(LSkerryLights;I[J)I"⟩
def dkwX0_darken_0 : List UInt8 := [44, 3, 42, 27, 182, 0, 34, 133, 80, 167, 0, 9, 78, 4, 172, 78, 5, 172, 3, 172]
abbrev dktX0_darken_0 : List UInt8 := dkwX0_darken_0 ++ []
theorem dksX0_darken_0 : cX0_darken.data.toList.drop 0 = dktX0_darken_0 := by decide +kernel
theorem dX0_darken_0 : decode cX0_darken 0 = .ok (.aload_n 2, 1) := dk_44 (dk_at dksX0_darken_0 0 rfl rfl)
theorem dX0_darken_1 : decode cX0_darken 1 = .ok (.iconst 0, 1) := dk_3 (dk_at dksX0_darken_0 1 rfl rfl)
theorem dX0_darken_2 : decode cX0_darken 2 = .ok (.aload_n 0, 1) := dk_42 (dk_at dksX0_darken_0 2 rfl rfl)
theorem dX0_darken_3 : decode cX0_darken 3 = .ok (.iload_n 1, 1) := dk_27 (dk_at dksX0_darken_0 3 rfl rfl)
theorem dX0_darken_4 : decode cX0_darken 4 = .ok (.invokevirtual 34, 3) := dk_182 0 34 (dk_at dksX0_darken_0 4 rfl rfl)
theorem dX0_darken_7 : decode cX0_darken 7 = .ok (.i2l, 1) := dk_133 (dk_at dksX0_darken_0 7 rfl rfl)
theorem dX0_darken_8 : decode cX0_darken 8 = .ok (.lastore, 1) := dk_80 (dk_at dksX0_darken_0 8 rfl rfl)
theorem dX0_darken_9 : decode cX0_darken 9 = .ok (.goto 9, 3) := dk_167 0 9 (dk_at dksX0_darken_0 9 rfl rfl)
theorem dX0_darken_12 : decode cX0_darken 12 = .ok (.astore_n 3, 1) := dk_78 (dk_at dksX0_darken_0 12 rfl rfl)
theorem dX0_darken_13 : decode cX0_darken 13 = .ok (.iconst 1, 1) := dk_4 (dk_at dksX0_darken_0 13 rfl rfl)
theorem dX0_darken_14 : decode cX0_darken 14 = .ok (.ireturn, 1) := dk_172 (dk_at dksX0_darken_0 14 rfl rfl)
theorem dX0_darken_15 : decode cX0_darken 15 = .ok (.astore_n 3, 1) := dk_78 (dk_at dksX0_darken_0 15 rfl rfl)
theorem dX0_darken_16 : decode cX0_darken 16 = .ok (.iconst 2, 1) := dk_5 (dk_at dksX0_darken_0 16 rfl rfl)
theorem dX0_darken_17 : decode cX0_darken 17 = .ok (.ireturn, 1) := dk_172 (dk_at dksX0_darken_0 17 rfl rfl)
theorem dX0_darken_18 : decode cX0_darken 18 = .ok (.iconst 0, 1) := dk_3 (dk_at dksX0_darken_0 18 rfl rfl)
theorem dX0_darken_19 : decode cX0_darken 19 = .ok (.ireturn, 1) := dk_172 (dk_at dksX0_darken_0 19 rfl rfl)
abbrev cX0_breakDown : ByteArray := method_9_code
def yX0_breakDown : MethodName := ⟨RX0, "breakDown", "(LSkerryLights;I[J)I"⟩
def dkwX0_breakDown_0 : List UInt8 := [44, 3, 42, 27, 182, 0, 37, 133, 80, 167, 0, 9, 78, 4, 172, 78, 5, 172, 3, 172]
abbrev dktX0_breakDown_0 : List UInt8 := dkwX0_breakDown_0 ++ []
theorem dksX0_breakDown_0 : cX0_breakDown.data.toList.drop 0 = dktX0_breakDown_0 := by decide +kernel
theorem dX0_breakDown_0 : decode cX0_breakDown 0 = .ok (.aload_n 2, 1) := dk_44 (dk_at dksX0_breakDown_0 0 rfl rfl)
theorem dX0_breakDown_1 : decode cX0_breakDown 1 = .ok (.iconst 0, 1) := dk_3 (dk_at dksX0_breakDown_0 1 rfl rfl)
theorem dX0_breakDown_2 : decode cX0_breakDown 2 = .ok (.aload_n 0, 1) := dk_42 (dk_at dksX0_breakDown_0 2 rfl rfl)
theorem dX0_breakDown_3 : decode cX0_breakDown 3 = .ok (.iload_n 1, 1) := dk_27 (dk_at dksX0_breakDown_0 3 rfl rfl)
theorem dX0_breakDown_4 : decode cX0_breakDown 4 = .ok (.invokevirtual 37, 3) := dk_182 0 37 (dk_at dksX0_breakDown_0 4 rfl rfl)
theorem dX0_breakDown_7 : decode cX0_breakDown 7 = .ok (.i2l, 1) := dk_133 (dk_at dksX0_breakDown_0 7 rfl rfl)
theorem dX0_breakDown_8 : decode cX0_breakDown 8 = .ok (.lastore, 1) := dk_80 (dk_at dksX0_breakDown_0 8 rfl rfl)
theorem dX0_breakDown_9 : decode cX0_breakDown 9 = .ok (.goto 9, 3) := dk_167 0 9 (dk_at dksX0_breakDown_0 9 rfl rfl)
theorem dX0_breakDown_12 : decode cX0_breakDown 12 = .ok (.astore_n 3, 1) := dk_78 (dk_at dksX0_breakDown_0 12 rfl rfl)
theorem dX0_breakDown_13 : decode cX0_breakDown 13 = .ok (.iconst 1, 1) := dk_4 (dk_at dksX0_breakDown_0 13 rfl rfl)
theorem dX0_breakDown_14 : decode cX0_breakDown 14 = .ok (.ireturn, 1) := dk_172 (dk_at dksX0_breakDown_0 14 rfl rfl)
theorem dX0_breakDown_15 : decode cX0_breakDown 15 = .ok (.astore_n 3, 1) := dk_78 (dk_at dksX0_breakDown_0 15 rfl rfl)
theorem dX0_breakDown_16 : decode cX0_breakDown 16 = .ok (.iconst 2, 1) := dk_5 (dk_at dksX0_breakDown_0 16 rfl rfl)
theorem dX0_breakDown_17 : decode cX0_breakDown 17 = .ok (.ireturn, 1) := dk_172 (dk_at dksX0_breakDown_0 17 rfl rfl)
theorem dX0_breakDown_18 : decode cX0_breakDown 18 = .ok (.iconst 0, 1) := dk_3 (dk_at dksX0_breakDown_0 18 rfl rfl)
theorem dX0_breakDown_19 : decode cX0_breakDown 19 = .ok (.ireturn, 1) := dk_172 (dk_at dksX0_breakDown_0 19 rfl rfl)
abbrev cX0_mend : ByteArray := method_10_code
def yX0_mend : MethodName := ⟨RX0, "mend", "(LSkerryLights;I[J)I"⟩
def dkwX0_mend_0 : List UInt8 := [44, 3, 42, 27, 182, 0, 40, 133, 80, 167, 0, 9, 78, 4, 172, 78, 5, 172, 3, 172]
abbrev dktX0_mend_0 : List UInt8 := dkwX0_mend_0 ++ []
theorem dksX0_mend_0 : cX0_mend.data.toList.drop 0 = dktX0_mend_0 := by decide +kernel
theorem dX0_mend_0 : decode cX0_mend 0 = .ok (.aload_n 2, 1) := dk_44 (dk_at dksX0_mend_0 0 rfl rfl)
theorem dX0_mend_1 : decode cX0_mend 1 = .ok (.iconst 0, 1) := dk_3 (dk_at dksX0_mend_0 1 rfl rfl)
theorem dX0_mend_2 : decode cX0_mend 2 = .ok (.aload_n 0, 1) := dk_42 (dk_at dksX0_mend_0 2 rfl rfl)
theorem dX0_mend_3 : decode cX0_mend 3 = .ok (.iload_n 1, 1) := dk_27 (dk_at dksX0_mend_0 3 rfl rfl)
theorem dX0_mend_4 : decode cX0_mend 4 = .ok (.invokevirtual 40, 3) := dk_182 0 40 (dk_at dksX0_mend_0 4 rfl rfl)
theorem dX0_mend_7 : decode cX0_mend 7 = .ok (.i2l, 1) := dk_133 (dk_at dksX0_mend_0 7 rfl rfl)
theorem dX0_mend_8 : decode cX0_mend 8 = .ok (.lastore, 1) := dk_80 (dk_at dksX0_mend_0 8 rfl rfl)
theorem dX0_mend_9 : decode cX0_mend 9 = .ok (.goto 9, 3) := dk_167 0 9 (dk_at dksX0_mend_0 9 rfl rfl)
theorem dX0_mend_12 : decode cX0_mend 12 = .ok (.astore_n 3, 1) := dk_78 (dk_at dksX0_mend_0 12 rfl rfl)
theorem dX0_mend_13 : decode cX0_mend 13 = .ok (.iconst 1, 1) := dk_4 (dk_at dksX0_mend_0 13 rfl rfl)
theorem dX0_mend_14 : decode cX0_mend 14 = .ok (.ireturn, 1) := dk_172 (dk_at dksX0_mend_0 14 rfl rfl)
theorem dX0_mend_15 : decode cX0_mend 15 = .ok (.astore_n 3, 1) := dk_78 (dk_at dksX0_mend_0 15 rfl rfl)
theorem dX0_mend_16 : decode cX0_mend 16 = .ok (.iconst 2, 1) := dk_5 (dk_at dksX0_mend_0 16 rfl rfl)
theorem dX0_mend_17 : decode cX0_mend 17 = .ok (.ireturn, 1) := dk_172 (dk_at dksX0_mend_0 17 rfl rfl)
theorem dX0_mend_18 : decode cX0_mend 18 = .ok (.iconst 0, 1) := dk_3 (dk_at dksX0_mend_0 18 rfl rfl)
theorem dX0_mend_19 : decode cX0_mend 19 = .ok (.ireturn, 1) := dk_172 (dk_at dksX0_mend_0 19 rfl rfl)
abbrev cX0_fog : ByteArray := method_11_code
def yX0_fog : MethodName := ⟨RX0, "fog", "(LSkerryLights;II[J)I"⟩
def dkwX0_fog_0 : List UInt8 := [45, 3, 42, 27, 28, 182, 0, 43, 133, 80, 167, 0, 11, 58, 4, 4, 172, 58, 4, 5, 172, 3, 172]
abbrev dktX0_fog_0 : List UInt8 := dkwX0_fog_0 ++ []
theorem dksX0_fog_0 : cX0_fog.data.toList.drop 0 = dktX0_fog_0 := by decide +kernel
theorem dX0_fog_0 : decode cX0_fog 0 = .ok (.aload_n 3, 1) := dk_45 (dk_at dksX0_fog_0 0 rfl rfl)
theorem dX0_fog_1 : decode cX0_fog 1 = .ok (.iconst 0, 1) := dk_3 (dk_at dksX0_fog_0 1 rfl rfl)
theorem dX0_fog_2 : decode cX0_fog 2 = .ok (.aload_n 0, 1) := dk_42 (dk_at dksX0_fog_0 2 rfl rfl)
theorem dX0_fog_3 : decode cX0_fog 3 = .ok (.iload_n 1, 1) := dk_27 (dk_at dksX0_fog_0 3 rfl rfl)
theorem dX0_fog_4 : decode cX0_fog 4 = .ok (.iload_n 2, 1) := dk_28 (dk_at dksX0_fog_0 4 rfl rfl)
theorem dX0_fog_5 : decode cX0_fog 5 = .ok (.invokevirtual 43, 3) := dk_182 0 43 (dk_at dksX0_fog_0 5 rfl rfl)
theorem dX0_fog_8 : decode cX0_fog 8 = .ok (.i2l, 1) := dk_133 (dk_at dksX0_fog_0 8 rfl rfl)
theorem dX0_fog_9 : decode cX0_fog 9 = .ok (.lastore, 1) := dk_80 (dk_at dksX0_fog_0 9 rfl rfl)
theorem dX0_fog_10 : decode cX0_fog 10 = .ok (.goto 11, 3) := dk_167 0 11 (dk_at dksX0_fog_0 10 rfl rfl)
theorem dX0_fog_13 : decode cX0_fog 13 = .ok (.astore 4, 2) := dk_58 4 (dk_at dksX0_fog_0 13 rfl rfl)
theorem dX0_fog_15 : decode cX0_fog 15 = .ok (.iconst 1, 1) := dk_4 (dk_at dksX0_fog_0 15 rfl rfl)
theorem dX0_fog_16 : decode cX0_fog 16 = .ok (.ireturn, 1) := dk_172 (dk_at dksX0_fog_0 16 rfl rfl)
theorem dX0_fog_17 : decode cX0_fog 17 = .ok (.astore 4, 2) := dk_58 4 (dk_at dksX0_fog_0 17 rfl rfl)
theorem dX0_fog_19 : decode cX0_fog 19 = .ok (.iconst 2, 1) := dk_5 (dk_at dksX0_fog_0 19 rfl rfl)
theorem dX0_fog_20 : decode cX0_fog 20 = .ok (.ireturn, 1) := dk_172 (dk_at dksX0_fog_0 20 rfl rfl)
theorem dX0_fog_21 : decode cX0_fog 21 = .ok (.iconst 0, 1) := dk_3 (dk_at dksX0_fog_0 21 rfl rfl)
theorem dX0_fog_22 : decode cX0_fog 22 = .ok (.ireturn, 1) := dk_172 (dk_at dksX0_fog_0 22 rfl rfl)
abbrev cX0_nights : ByteArray := method_12_code
def yX0_nights : MethodName := ⟨RX0, "nights", "(LSkerryLights;I[J)I"⟩
def dkwX0_nights_0 : List UInt8 := [44, 3, 42, 27, 182, 0, 47, 133, 80, 167, 0, 6, 78, 4, 172, 3, 172]
abbrev dktX0_nights_0 : List UInt8 := dkwX0_nights_0 ++ []
theorem dksX0_nights_0 : cX0_nights.data.toList.drop 0 = dktX0_nights_0 := by decide +kernel
theorem dX0_nights_0 : decode cX0_nights 0 = .ok (.aload_n 2, 1) := dk_44 (dk_at dksX0_nights_0 0 rfl rfl)
theorem dX0_nights_1 : decode cX0_nights 1 = .ok (.iconst 0, 1) := dk_3 (dk_at dksX0_nights_0 1 rfl rfl)
theorem dX0_nights_2 : decode cX0_nights 2 = .ok (.aload_n 0, 1) := dk_42 (dk_at dksX0_nights_0 2 rfl rfl)
theorem dX0_nights_3 : decode cX0_nights 3 = .ok (.iload_n 1, 1) := dk_27 (dk_at dksX0_nights_0 3 rfl rfl)
theorem dX0_nights_4 : decode cX0_nights 4 = .ok (.invokevirtual 47, 3) := dk_182 0 47 (dk_at dksX0_nights_0 4 rfl rfl)
theorem dX0_nights_7 : decode cX0_nights 7 = .ok (.i2l, 1) := dk_133 (dk_at dksX0_nights_0 7 rfl rfl)
theorem dX0_nights_8 : decode cX0_nights 8 = .ok (.lastore, 1) := dk_80 (dk_at dksX0_nights_0 8 rfl rfl)
theorem dX0_nights_9 : decode cX0_nights 9 = .ok (.goto 6, 3) := dk_167 0 6 (dk_at dksX0_nights_0 9 rfl rfl)
theorem dX0_nights_12 : decode cX0_nights 12 = .ok (.astore_n 3, 1) := dk_78 (dk_at dksX0_nights_0 12 rfl rfl)
theorem dX0_nights_13 : decode cX0_nights 13 = .ok (.iconst 1, 1) := dk_4 (dk_at dksX0_nights_0 13 rfl rfl)
theorem dX0_nights_14 : decode cX0_nights 14 = .ok (.ireturn, 1) := dk_172 (dk_at dksX0_nights_0 14 rfl rfl)
theorem dX0_nights_15 : decode cX0_nights 15 = .ok (.iconst 0, 1) := dk_3 (dk_at dksX0_nights_0 15 rfl rfl)
theorem dX0_nights_16 : decode cX0_nights 16 = .ok (.ireturn, 1) := dk_172 (dk_at dksX0_nights_0 16 rfl rfl)
abbrev cX0_cost : ByteArray := method_13_code
def yX0_cost : MethodName := ⟨RX0, "cost", "(LSkerryLights;II[J)I"⟩
def dkwX0_cost_0 : List UInt8 := [45, 3, 42, 27, 28, 182, 0, 50, 133, 80, 167, 0, 7, 58, 4, 4, 172, 3, 172]
abbrev dktX0_cost_0 : List UInt8 := dkwX0_cost_0 ++ []
theorem dksX0_cost_0 : cX0_cost.data.toList.drop 0 = dktX0_cost_0 := by decide +kernel
theorem dX0_cost_0 : decode cX0_cost 0 = .ok (.aload_n 3, 1) := dk_45 (dk_at dksX0_cost_0 0 rfl rfl)
theorem dX0_cost_1 : decode cX0_cost 1 = .ok (.iconst 0, 1) := dk_3 (dk_at dksX0_cost_0 1 rfl rfl)
theorem dX0_cost_2 : decode cX0_cost 2 = .ok (.aload_n 0, 1) := dk_42 (dk_at dksX0_cost_0 2 rfl rfl)
theorem dX0_cost_3 : decode cX0_cost 3 = .ok (.iload_n 1, 1) := dk_27 (dk_at dksX0_cost_0 3 rfl rfl)
theorem dX0_cost_4 : decode cX0_cost 4 = .ok (.iload_n 2, 1) := dk_28 (dk_at dksX0_cost_0 4 rfl rfl)
theorem dX0_cost_5 : decode cX0_cost 5 = .ok (.invokevirtual 50, 3) := dk_182 0 50 (dk_at dksX0_cost_0 5 rfl rfl)
theorem dX0_cost_8 : decode cX0_cost 8 = .ok (.i2l, 1) := dk_133 (dk_at dksX0_cost_0 8 rfl rfl)
theorem dX0_cost_9 : decode cX0_cost 9 = .ok (.lastore, 1) := dk_80 (dk_at dksX0_cost_0 9 rfl rfl)
theorem dX0_cost_10 : decode cX0_cost 10 = .ok (.goto 7, 3) := dk_167 0 7 (dk_at dksX0_cost_0 10 rfl rfl)
theorem dX0_cost_13 : decode cX0_cost 13 = .ok (.astore 4, 2) := dk_58 4 (dk_at dksX0_cost_0 13 rfl rfl)
theorem dX0_cost_15 : decode cX0_cost 15 = .ok (.iconst 1, 1) := dk_4 (dk_at dksX0_cost_0 15 rfl rfl)
theorem dX0_cost_16 : decode cX0_cost 16 = .ok (.ireturn, 1) := dk_172 (dk_at dksX0_cost_0 16 rfl rfl)
theorem dX0_cost_17 : decode cX0_cost 17 = .ok (.iconst 0, 1) := dk_3 (dk_at dksX0_cost_0 17 rfl rfl)
theorem dX0_cost_18 : decode cX0_cost 18 = .ok (.ireturn, 1) := dk_172 (dk_at dksX0_cost_0 18 rfl rfl)
abbrev cX0_reaches : ByteArray := method_14_code
def yX0_reaches : MethodName := ⟨RX0, "reaches", "(LSkerryLights;II[J)I"⟩
def dkwX0_reaches_1 : List UInt8 := [3, 172]
abbrev dktX0_reaches_1 : List UInt8 := dkwX0_reaches_1 ++ []
def dkwX0_reaches_0 : List UInt8 := [45, 3, 42, 27, 28, 182, 0, 53, 153, 0, 7, 10, 167, 0, 4, 9, 80, 167, 0, 7, 58, 4, 4, 172]
abbrev dktX0_reaches_0 : List UInt8 := dkwX0_reaches_0 ++ dktX0_reaches_1
theorem dksX0_reaches_0 : cX0_reaches.data.toList.drop 0 = dktX0_reaches_0 := by decide +kernel
theorem dksX0_reaches_1 : cX0_reaches.data.toList.drop 24 = dktX0_reaches_1 := dk_seg dksX0_reaches_0 24 rfl rfl
theorem dX0_reaches_0 : decode cX0_reaches 0 = .ok (.aload_n 3, 1) := dk_45 (dk_at dksX0_reaches_0 0 rfl rfl)
theorem dX0_reaches_1 : decode cX0_reaches 1 = .ok (.iconst 0, 1) := dk_3 (dk_at dksX0_reaches_0 1 rfl rfl)
theorem dX0_reaches_2 : decode cX0_reaches 2 = .ok (.aload_n 0, 1) := dk_42 (dk_at dksX0_reaches_0 2 rfl rfl)
theorem dX0_reaches_3 : decode cX0_reaches 3 = .ok (.iload_n 1, 1) := dk_27 (dk_at dksX0_reaches_0 3 rfl rfl)
theorem dX0_reaches_4 : decode cX0_reaches 4 = .ok (.iload_n 2, 1) := dk_28 (dk_at dksX0_reaches_0 4 rfl rfl)
theorem dX0_reaches_5 : decode cX0_reaches 5 = .ok (.invokevirtual 53, 3) := dk_182 0 53 (dk_at dksX0_reaches_0 5 rfl rfl)
theorem dX0_reaches_8 : decode cX0_reaches 8 = .ok (.ifCond .eq 7, 3) := dk_153 0 7 (dk_at dksX0_reaches_0 8 rfl rfl)
theorem dX0_reaches_11 : decode cX0_reaches 11 = .ok (.lconst 1, 1) := dk_10 (dk_at dksX0_reaches_0 11 rfl rfl)
theorem dX0_reaches_12 : decode cX0_reaches 12 = .ok (.goto 4, 3) := dk_167 0 4 (dk_at dksX0_reaches_0 12 rfl rfl)
theorem dX0_reaches_15 : decode cX0_reaches 15 = .ok (.lconst 0, 1) := dk_9 (dk_at dksX0_reaches_0 15 rfl rfl)
theorem dX0_reaches_16 : decode cX0_reaches 16 = .ok (.lastore, 1) := dk_80 (dk_at dksX0_reaches_0 16 rfl rfl)
theorem dX0_reaches_17 : decode cX0_reaches 17 = .ok (.goto 7, 3) := dk_167 0 7 (dk_at dksX0_reaches_0 17 rfl rfl)
theorem dX0_reaches_20 : decode cX0_reaches 20 = .ok (.astore 4, 2) := dk_58 4 (dk_at dksX0_reaches_0 20 rfl rfl)
theorem dX0_reaches_22 : decode cX0_reaches 22 = .ok (.iconst 1, 1) := dk_4 (dk_at dksX0_reaches_0 22 rfl rfl)
theorem dX0_reaches_23 : decode cX0_reaches 23 = .ok (.ireturn, 1) := dk_172 (dk_at dksX0_reaches_0 23 rfl rfl)
theorem dX0_reaches_24 : decode cX0_reaches 24 = .ok (.iconst 0, 1) := dk_3 (dk_at dksX0_reaches_1 0 rfl rfl)
theorem dX0_reaches_25 : decode cX0_reaches 25 = .ok (.ireturn, 1) := dk_172 (dk_at dksX0_reaches_1 1 rfl rfl)
abbrev cX0_farthest : ByteArray := method_15_code
def yX0_farthest : MethodName := ⟨RX0, "farthest", "(LSkerryLights;IZ[J)I"⟩
def dkwX0_farthest_0 : List UInt8 := [45, 3, 42, 27, 28, 182, 0, 57, 133, 80, 167, 0, 11, 58, 4, 4, 172, 58, 4, 5, 172, 3, 172]
abbrev dktX0_farthest_0 : List UInt8 := dkwX0_farthest_0 ++ []
theorem dksX0_farthest_0 : cX0_farthest.data.toList.drop 0 = dktX0_farthest_0 := by decide +kernel
theorem dX0_farthest_0 : decode cX0_farthest 0 = .ok (.aload_n 3, 1) := dk_45 (dk_at dksX0_farthest_0 0 rfl rfl)
theorem dX0_farthest_1 : decode cX0_farthest 1 = .ok (.iconst 0, 1) := dk_3 (dk_at dksX0_farthest_0 1 rfl rfl)
theorem dX0_farthest_2 : decode cX0_farthest 2 = .ok (.aload_n 0, 1) := dk_42 (dk_at dksX0_farthest_0 2 rfl rfl)
theorem dX0_farthest_3 : decode cX0_farthest 3 = .ok (.iload_n 1, 1) := dk_27 (dk_at dksX0_farthest_0 3 rfl rfl)
theorem dX0_farthest_4 : decode cX0_farthest 4 = .ok (.iload_n 2, 1) := dk_28 (dk_at dksX0_farthest_0 4 rfl rfl)
theorem dX0_farthest_5 : decode cX0_farthest 5 = .ok (.invokevirtual 57, 3) := dk_182 0 57 (dk_at dksX0_farthest_0 5 rfl rfl)
theorem dX0_farthest_8 : decode cX0_farthest 8 = .ok (.i2l, 1) := dk_133 (dk_at dksX0_farthest_0 8 rfl rfl)
theorem dX0_farthest_9 : decode cX0_farthest 9 = .ok (.lastore, 1) := dk_80 (dk_at dksX0_farthest_0 9 rfl rfl)
theorem dX0_farthest_10 : decode cX0_farthest 10 = .ok (.goto 11, 3) := dk_167 0 11 (dk_at dksX0_farthest_0 10 rfl rfl)
theorem dX0_farthest_13 : decode cX0_farthest 13 = .ok (.astore 4, 2) := dk_58 4 (dk_at dksX0_farthest_0 13 rfl rfl)
theorem dX0_farthest_15 : decode cX0_farthest 15 = .ok (.iconst 1, 1) := dk_4 (dk_at dksX0_farthest_0 15 rfl rfl)
theorem dX0_farthest_16 : decode cX0_farthest 16 = .ok (.ireturn, 1) := dk_172 (dk_at dksX0_farthest_0 16 rfl rfl)
theorem dX0_farthest_17 : decode cX0_farthest 17 = .ok (.astore 4, 2) := dk_58 4 (dk_at dksX0_farthest_0 17 rfl rfl)
theorem dX0_farthest_19 : decode cX0_farthest 19 = .ok (.iconst 2, 1) := dk_5 (dk_at dksX0_farthest_0 19 rfl rfl)
theorem dX0_farthest_20 : decode cX0_farthest 20 = .ok (.ireturn, 1) := dk_172 (dk_at dksX0_farthest_0 20 rfl rfl)
theorem dX0_farthest_21 : decode cX0_farthest 21 = .ok (.iconst 0, 1) := dk_3 (dk_at dksX0_farthest_0 21 rfl rfl)
theorem dX0_farthest_22 : decode cX0_farthest 22 = .ok (.ireturn, 1) := dk_172 (dk_at dksX0_farthest_0 22 rfl rfl)
abbrev cX0_areAlike : ByteArray := method_16_code
def yX0_areAlike : MethodName := ⟨RX0, "areAlike", "(LSkerryLights;II[J)I"⟩
def dkwX0_areAlike_1 : List UInt8 := [3, 172]
abbrev dktX0_areAlike_1 : List UInt8 := dkwX0_areAlike_1 ++ []
def dkwX0_areAlike_0 : List UInt8 := [45, 3, 42, 27, 28, 182, 0, 63, 153, 0, 7, 10, 167, 0, 4, 9, 80, 167, 0, 7, 58, 4, 4, 172]
abbrev dktX0_areAlike_0 : List UInt8 := dkwX0_areAlike_0 ++ dktX0_areAlike_1
theorem dksX0_areAlike_0 : cX0_areAlike.data.toList.drop 0 = dktX0_areAlike_0 := by decide +kernel
theorem dksX0_areAlike_1 : cX0_areAlike.data.toList.drop 24 = dktX0_areAlike_1 := dk_seg dksX0_areAlike_0 24 rfl rfl
theorem dX0_areAlike_0 : decode cX0_areAlike 0 = .ok (.aload_n 3, 1) := dk_45 (dk_at dksX0_areAlike_0 0 rfl rfl)
theorem dX0_areAlike_1 : decode cX0_areAlike 1 = .ok (.iconst 0, 1) := dk_3 (dk_at dksX0_areAlike_0 1 rfl rfl)
theorem dX0_areAlike_2 : decode cX0_areAlike 2 = .ok (.aload_n 0, 1) := dk_42 (dk_at dksX0_areAlike_0 2 rfl rfl)
theorem dX0_areAlike_3 : decode cX0_areAlike 3 = .ok (.iload_n 1, 1) := dk_27 (dk_at dksX0_areAlike_0 3 rfl rfl)
theorem dX0_areAlike_4 : decode cX0_areAlike 4 = .ok (.iload_n 2, 1) := dk_28 (dk_at dksX0_areAlike_0 4 rfl rfl)
theorem dX0_areAlike_5 : decode cX0_areAlike 5 = .ok (.invokevirtual 63, 3) := dk_182 0 63 (dk_at dksX0_areAlike_0 5 rfl rfl)
theorem dX0_areAlike_8 : decode cX0_areAlike 8 = .ok (.ifCond .eq 7, 3) := dk_153 0 7 (dk_at dksX0_areAlike_0 8 rfl rfl)
theorem dX0_areAlike_11 : decode cX0_areAlike 11 = .ok (.lconst 1, 1) := dk_10 (dk_at dksX0_areAlike_0 11 rfl rfl)
theorem dX0_areAlike_12 : decode cX0_areAlike 12 = .ok (.goto 4, 3) := dk_167 0 4 (dk_at dksX0_areAlike_0 12 rfl rfl)
theorem dX0_areAlike_15 : decode cX0_areAlike 15 = .ok (.lconst 0, 1) := dk_9 (dk_at dksX0_areAlike_0 15 rfl rfl)
theorem dX0_areAlike_16 : decode cX0_areAlike 16 = .ok (.lastore, 1) := dk_80 (dk_at dksX0_areAlike_0 16 rfl rfl)
theorem dX0_areAlike_17 : decode cX0_areAlike 17 = .ok (.goto 7, 3) := dk_167 0 7 (dk_at dksX0_areAlike_0 17 rfl rfl)
theorem dX0_areAlike_20 : decode cX0_areAlike 20 = .ok (.astore 4, 2) := dk_58 4 (dk_at dksX0_areAlike_0 20 rfl rfl)
theorem dX0_areAlike_22 : decode cX0_areAlike 22 = .ok (.iconst 1, 1) := dk_4 (dk_at dksX0_areAlike_0 22 rfl rfl)
theorem dX0_areAlike_23 : decode cX0_areAlike 23 = .ok (.ireturn, 1) := dk_172 (dk_at dksX0_areAlike_0 23 rfl rfl)
theorem dX0_areAlike_24 : decode cX0_areAlike 24 = .ok (.iconst 0, 1) := dk_3 (dk_at dksX0_areAlike_1 0 rfl rfl)
theorem dX0_areAlike_25 : decode cX0_areAlike 25 = .ok (.ireturn, 1) := dk_172 (dk_at dksX0_areAlike_1 1 rfl rfl)
abbrev cX0_watcher : ByteArray := method_17_code
def yX0_watcher : MethodName := ⟨RX0, "watcher", "(LSkerryLights;I[J)I"⟩
def dkwX0_watcher_0 : List UInt8 := [44, 3, 42, 27, 182, 0, 66, 133, 80, 167, 0, 9, 78, 4, 172, 78, 5, 172, 3, 172]
abbrev dktX0_watcher_0 : List UInt8 := dkwX0_watcher_0 ++ []
theorem dksX0_watcher_0 : cX0_watcher.data.toList.drop 0 = dktX0_watcher_0 := by decide +kernel
theorem dX0_watcher_0 : decode cX0_watcher 0 = .ok (.aload_n 2, 1) := dk_44 (dk_at dksX0_watcher_0 0 rfl rfl)
theorem dX0_watcher_1 : decode cX0_watcher 1 = .ok (.iconst 0, 1) := dk_3 (dk_at dksX0_watcher_0 1 rfl rfl)
theorem dX0_watcher_2 : decode cX0_watcher 2 = .ok (.aload_n 0, 1) := dk_42 (dk_at dksX0_watcher_0 2 rfl rfl)
theorem dX0_watcher_3 : decode cX0_watcher 3 = .ok (.iload_n 1, 1) := dk_27 (dk_at dksX0_watcher_0 3 rfl rfl)
theorem dX0_watcher_4 : decode cX0_watcher 4 = .ok (.invokevirtual 66, 3) := dk_182 0 66 (dk_at dksX0_watcher_0 4 rfl rfl)
theorem dX0_watcher_7 : decode cX0_watcher 7 = .ok (.i2l, 1) := dk_133 (dk_at dksX0_watcher_0 7 rfl rfl)
theorem dX0_watcher_8 : decode cX0_watcher 8 = .ok (.lastore, 1) := dk_80 (dk_at dksX0_watcher_0 8 rfl rfl)
theorem dX0_watcher_9 : decode cX0_watcher 9 = .ok (.goto 9, 3) := dk_167 0 9 (dk_at dksX0_watcher_0 9 rfl rfl)
theorem dX0_watcher_12 : decode cX0_watcher 12 = .ok (.astore_n 3, 1) := dk_78 (dk_at dksX0_watcher_0 12 rfl rfl)
theorem dX0_watcher_13 : decode cX0_watcher 13 = .ok (.iconst 1, 1) := dk_4 (dk_at dksX0_watcher_0 13 rfl rfl)
theorem dX0_watcher_14 : decode cX0_watcher 14 = .ok (.ireturn, 1) := dk_172 (dk_at dksX0_watcher_0 14 rfl rfl)
theorem dX0_watcher_15 : decode cX0_watcher 15 = .ok (.astore_n 3, 1) := dk_78 (dk_at dksX0_watcher_0 15 rfl rfl)
theorem dX0_watcher_16 : decode cX0_watcher 16 = .ok (.iconst 2, 1) := dk_5 (dk_at dksX0_watcher_0 16 rfl rfl)
theorem dX0_watcher_17 : decode cX0_watcher 17 = .ok (.ireturn, 1) := dk_172 (dk_at dksX0_watcher_0 17 rfl rfl)
theorem dX0_watcher_18 : decode cX0_watcher 18 = .ok (.iconst 0, 1) := dk_3 (dk_at dksX0_watcher_0 18 rfl rfl)
theorem dX0_watcher_19 : decode cX0_watcher 19 = .ok (.ireturn, 1) := dk_172 (dk_at dksX0_watcher_0 19 rfl rfl)
abbrev cX0_watched : ByteArray := method_18_code
def yX0_watched : MethodName := ⟨RX0, "watched", "(LSkerryLights;I[J)I"⟩
def dkwX0_watched_0 : List UInt8 := [44, 3, 42, 27, 182, 0, 69, 133, 80, 167, 0, 6, 78, 4, 172, 3, 172]
abbrev dktX0_watched_0 : List UInt8 := dkwX0_watched_0 ++ []
theorem dksX0_watched_0 : cX0_watched.data.toList.drop 0 = dktX0_watched_0 := by decide +kernel
theorem dX0_watched_0 : decode cX0_watched 0 = .ok (.aload_n 2, 1) := dk_44 (dk_at dksX0_watched_0 0 rfl rfl)
theorem dX0_watched_1 : decode cX0_watched 1 = .ok (.iconst 0, 1) := dk_3 (dk_at dksX0_watched_0 1 rfl rfl)
theorem dX0_watched_2 : decode cX0_watched 2 = .ok (.aload_n 0, 1) := dk_42 (dk_at dksX0_watched_0 2 rfl rfl)
theorem dX0_watched_3 : decode cX0_watched 3 = .ok (.iload_n 1, 1) := dk_27 (dk_at dksX0_watched_0 3 rfl rfl)
theorem dX0_watched_4 : decode cX0_watched 4 = .ok (.invokevirtual 69, 3) := dk_182 0 69 (dk_at dksX0_watched_0 4 rfl rfl)
theorem dX0_watched_7 : decode cX0_watched 7 = .ok (.i2l, 1) := dk_133 (dk_at dksX0_watched_0 7 rfl rfl)
theorem dX0_watched_8 : decode cX0_watched 8 = .ok (.lastore, 1) := dk_80 (dk_at dksX0_watched_0 8 rfl rfl)
theorem dX0_watched_9 : decode cX0_watched 9 = .ok (.goto 6, 3) := dk_167 0 6 (dk_at dksX0_watched_0 9 rfl rfl)
theorem dX0_watched_12 : decode cX0_watched 12 = .ok (.astore_n 3, 1) := dk_78 (dk_at dksX0_watched_0 12 rfl rfl)
theorem dX0_watched_13 : decode cX0_watched 13 = .ok (.iconst 1, 1) := dk_4 (dk_at dksX0_watched_0 13 rfl rfl)
theorem dX0_watched_14 : decode cX0_watched 14 = .ok (.ireturn, 1) := dk_172 (dk_at dksX0_watched_0 14 rfl rfl)
theorem dX0_watched_15 : decode cX0_watched 15 = .ok (.iconst 0, 1) := dk_3 (dk_at dksX0_watched_0 15 rfl rfl)
theorem dX0_watched_16 : decode cX0_watched 16 = .ok (.ireturn, 1) := dk_172 (dk_at dksX0_watched_0 16 rfl rfl)
abbrev cX0_margin : ByteArray := method_19_code
def yX0_margin : MethodName := ⟨RX0, "margin", "(LSkerryLights;II[J)I"⟩
def dkwX0_margin_0 : List UInt8 := [45, 3, 42, 27, 28, 182, 0, 72, 133, 80, 167, 0, 11, 58, 4, 4, 172, 58, 4, 5, 172, 3, 172]
abbrev dktX0_margin_0 : List UInt8 := dkwX0_margin_0 ++ []
theorem dksX0_margin_0 : cX0_margin.data.toList.drop 0 = dktX0_margin_0 := by decide +kernel
theorem dX0_margin_0 : decode cX0_margin 0 = .ok (.aload_n 3, 1) := dk_45 (dk_at dksX0_margin_0 0 rfl rfl)
theorem dX0_margin_1 : decode cX0_margin 1 = .ok (.iconst 0, 1) := dk_3 (dk_at dksX0_margin_0 1 rfl rfl)
theorem dX0_margin_2 : decode cX0_margin 2 = .ok (.aload_n 0, 1) := dk_42 (dk_at dksX0_margin_0 2 rfl rfl)
theorem dX0_margin_3 : decode cX0_margin 3 = .ok (.iload_n 1, 1) := dk_27 (dk_at dksX0_margin_0 3 rfl rfl)
theorem dX0_margin_4 : decode cX0_margin 4 = .ok (.iload_n 2, 1) := dk_28 (dk_at dksX0_margin_0 4 rfl rfl)
theorem dX0_margin_5 : decode cX0_margin 5 = .ok (.invokevirtual 72, 3) := dk_182 0 72 (dk_at dksX0_margin_0 5 rfl rfl)
theorem dX0_margin_8 : decode cX0_margin 8 = .ok (.i2l, 1) := dk_133 (dk_at dksX0_margin_0 8 rfl rfl)
theorem dX0_margin_9 : decode cX0_margin 9 = .ok (.lastore, 1) := dk_80 (dk_at dksX0_margin_0 9 rfl rfl)
theorem dX0_margin_10 : decode cX0_margin 10 = .ok (.goto 11, 3) := dk_167 0 11 (dk_at dksX0_margin_0 10 rfl rfl)
theorem dX0_margin_13 : decode cX0_margin 13 = .ok (.astore 4, 2) := dk_58 4 (dk_at dksX0_margin_0 13 rfl rfl)
theorem dX0_margin_15 : decode cX0_margin 15 = .ok (.iconst 1, 1) := dk_4 (dk_at dksX0_margin_0 15 rfl rfl)
theorem dX0_margin_16 : decode cX0_margin 16 = .ok (.ireturn, 1) := dk_172 (dk_at dksX0_margin_0 16 rfl rfl)
theorem dX0_margin_17 : decode cX0_margin 17 = .ok (.astore 4, 2) := dk_58 4 (dk_at dksX0_margin_0 17 rfl rfl)
theorem dX0_margin_19 : decode cX0_margin 19 = .ok (.iconst 2, 1) := dk_5 (dk_at dksX0_margin_0 19 rfl rfl)
theorem dX0_margin_20 : decode cX0_margin 20 = .ok (.ireturn, 1) := dk_172 (dk_at dksX0_margin_0 20 rfl rfl)
theorem dX0_margin_21 : decode cX0_margin 21 = .ok (.iconst 0, 1) := dk_3 (dk_at dksX0_margin_0 21 rfl rfl)
theorem dX0_margin_22 : decode cX0_margin 22 = .ok (.ireturn, 1) := dk_172 (dk_at dksX0_margin_0 22 rfl rfl)
abbrev cX0_signals : ByteArray := method_20_code
def yX0_signals : MethodName := ⟨RX0, "signals", "(LSkerryLights;II[J)I"⟩
def dkwX0_signals_0 : List UInt8 := [45, 3, 42, 27, 28, 182, 0, 75, 133, 80, 167, 0, 11, 58, 4, 4, 172, 58, 4, 5, 172, 3, 172]
abbrev dktX0_signals_0 : List UInt8 := dkwX0_signals_0 ++ []
theorem dksX0_signals_0 : cX0_signals.data.toList.drop 0 = dktX0_signals_0 := by decide +kernel
theorem dX0_signals_0 : decode cX0_signals 0 = .ok (.aload_n 3, 1) := dk_45 (dk_at dksX0_signals_0 0 rfl rfl)
theorem dX0_signals_1 : decode cX0_signals 1 = .ok (.iconst 0, 1) := dk_3 (dk_at dksX0_signals_0 1 rfl rfl)
theorem dX0_signals_2 : decode cX0_signals 2 = .ok (.aload_n 0, 1) := dk_42 (dk_at dksX0_signals_0 2 rfl rfl)
theorem dX0_signals_3 : decode cX0_signals 3 = .ok (.iload_n 1, 1) := dk_27 (dk_at dksX0_signals_0 3 rfl rfl)
theorem dX0_signals_4 : decode cX0_signals 4 = .ok (.iload_n 2, 1) := dk_28 (dk_at dksX0_signals_0 4 rfl rfl)
theorem dX0_signals_5 : decode cX0_signals 5 = .ok (.invokevirtual 75, 3) := dk_182 0 75 (dk_at dksX0_signals_0 5 rfl rfl)
theorem dX0_signals_8 : decode cX0_signals 8 = .ok (.i2l, 1) := dk_133 (dk_at dksX0_signals_0 8 rfl rfl)
theorem dX0_signals_9 : decode cX0_signals 9 = .ok (.lastore, 1) := dk_80 (dk_at dksX0_signals_0 9 rfl rfl)
theorem dX0_signals_10 : decode cX0_signals 10 = .ok (.goto 11, 3) := dk_167 0 11 (dk_at dksX0_signals_0 10 rfl rfl)
theorem dX0_signals_13 : decode cX0_signals 13 = .ok (.astore 4, 2) := dk_58 4 (dk_at dksX0_signals_0 13 rfl rfl)
theorem dX0_signals_15 : decode cX0_signals 15 = .ok (.iconst 1, 1) := dk_4 (dk_at dksX0_signals_0 15 rfl rfl)
theorem dX0_signals_16 : decode cX0_signals 16 = .ok (.ireturn, 1) := dk_172 (dk_at dksX0_signals_0 16 rfl rfl)
theorem dX0_signals_17 : decode cX0_signals 17 = .ok (.astore 4, 2) := dk_58 4 (dk_at dksX0_signals_0 17 rfl rfl)
theorem dX0_signals_19 : decode cX0_signals 19 = .ok (.iconst 2, 1) := dk_5 (dk_at dksX0_signals_0 19 rfl rfl)
theorem dX0_signals_20 : decode cX0_signals 20 = .ok (.ireturn, 1) := dk_172 (dk_at dksX0_signals_0 20 rfl rfl)
theorem dX0_signals_21 : decode cX0_signals 21 = .ok (.iconst 0, 1) := dk_3 (dk_at dksX0_signals_0 21 rfl rfl)
theorem dX0_signals_22 : decode cX0_signals 22 = .ok (.ireturn, 1) := dk_172 (dk_at dksX0_signals_0 22 rfl rfl)
abbrev cX0_signalsAgain : ByteArray := method_21_code
def yX0_signalsAgain : MethodName := ⟨RX0, "signalsAgain", "(LSkerryLights;II[J)I"⟩
def dkwX0_signalsAgain_0 : List UInt8 := [45, 3, 42, 27, 28, 182, 0, 78, 133, 80, 167, 0, 11, 58, 4, 4, 172, 58, 4, 5, 172, 3, 172]
abbrev dktX0_signalsAgain_0 : List UInt8 := dkwX0_signalsAgain_0 ++ []
theorem dksX0_signalsAgain_0 : cX0_signalsAgain.data.toList.drop 0 = dktX0_signalsAgain_0 := by decide +kernel
theorem dX0_signalsAgain_0 : decode cX0_signalsAgain 0 = .ok (.aload_n 3, 1) := dk_45 (dk_at dksX0_signalsAgain_0 0 rfl rfl)
theorem dX0_signalsAgain_1 : decode cX0_signalsAgain 1 = .ok (.iconst 0, 1) := dk_3 (dk_at dksX0_signalsAgain_0 1 rfl rfl)
theorem dX0_signalsAgain_2 : decode cX0_signalsAgain 2 = .ok (.aload_n 0, 1) := dk_42 (dk_at dksX0_signalsAgain_0 2 rfl rfl)
theorem dX0_signalsAgain_3 : decode cX0_signalsAgain 3 = .ok (.iload_n 1, 1) := dk_27 (dk_at dksX0_signalsAgain_0 3 rfl rfl)
theorem dX0_signalsAgain_4 : decode cX0_signalsAgain 4 = .ok (.iload_n 2, 1) := dk_28 (dk_at dksX0_signalsAgain_0 4 rfl rfl)
theorem dX0_signalsAgain_5 : decode cX0_signalsAgain 5 = .ok (.invokevirtual 78, 3) := dk_182 0 78 (dk_at dksX0_signalsAgain_0 5 rfl rfl)
theorem dX0_signalsAgain_8 : decode cX0_signalsAgain 8 = .ok (.i2l, 1) := dk_133 (dk_at dksX0_signalsAgain_0 8 rfl rfl)
theorem dX0_signalsAgain_9 : decode cX0_signalsAgain 9 = .ok (.lastore, 1) := dk_80 (dk_at dksX0_signalsAgain_0 9 rfl rfl)
theorem dX0_signalsAgain_10 : decode cX0_signalsAgain 10 = .ok (.goto 11, 3) := dk_167 0 11 (dk_at dksX0_signalsAgain_0 10 rfl rfl)
theorem dX0_signalsAgain_13 : decode cX0_signalsAgain 13 = .ok (.astore 4, 2) := dk_58 4 (dk_at dksX0_signalsAgain_0 13 rfl rfl)
theorem dX0_signalsAgain_15 : decode cX0_signalsAgain 15 = .ok (.iconst 1, 1) := dk_4 (dk_at dksX0_signalsAgain_0 15 rfl rfl)
theorem dX0_signalsAgain_16 : decode cX0_signalsAgain 16 = .ok (.ireturn, 1) := dk_172 (dk_at dksX0_signalsAgain_0 16 rfl rfl)
theorem dX0_signalsAgain_17 : decode cX0_signalsAgain 17 = .ok (.astore 4, 2) := dk_58 4 (dk_at dksX0_signalsAgain_0 17 rfl rfl)
theorem dX0_signalsAgain_19 : decode cX0_signalsAgain 19 = .ok (.iconst 2, 1) := dk_5 (dk_at dksX0_signalsAgain_0 19 rfl rfl)
theorem dX0_signalsAgain_20 : decode cX0_signalsAgain 20 = .ok (.ireturn, 1) := dk_172 (dk_at dksX0_signalsAgain_0 20 rfl rfl)
theorem dX0_signalsAgain_21 : decode cX0_signalsAgain 21 = .ok (.iconst 0, 1) := dk_3 (dk_at dksX0_signalsAgain_0 21 rfl rfl)
theorem dX0_signalsAgain_22 : decode cX0_signalsAgain 22 = .ok (.ireturn, 1) := dk_172 (dk_at dksX0_signalsAgain_0 22 rfl rfl)
abbrev cX0_route : ByteArray := method_22_code
def yX0_route : MethodName := ⟨RX0, "route", "(LSkerryLights;III[J)I"⟩
def dkwX0_route_1 : List UInt8 := [172]
abbrev dktX0_route_1 : List UInt8 := dkwX0_route_1 ++ []
def dkwX0_route_0 : List UInt8 := [25, 4, 3, 42, 27, 28, 29, 182, 0, 81, 133, 80, 167, 0, 11, 58, 5, 4, 172, 58, 5, 5, 172, 3]
abbrev dktX0_route_0 : List UInt8 := dkwX0_route_0 ++ dktX0_route_1
theorem dksX0_route_0 : cX0_route.data.toList.drop 0 = dktX0_route_0 := by decide +kernel
theorem dksX0_route_1 : cX0_route.data.toList.drop 24 = dktX0_route_1 := dk_seg dksX0_route_0 24 rfl rfl
theorem dX0_route_0 : decode cX0_route 0 = .ok (.aload 4, 2) := dk_25 4 (dk_at dksX0_route_0 0 rfl rfl)
theorem dX0_route_2 : decode cX0_route 2 = .ok (.iconst 0, 1) := dk_3 (dk_at dksX0_route_0 2 rfl rfl)
theorem dX0_route_3 : decode cX0_route 3 = .ok (.aload_n 0, 1) := dk_42 (dk_at dksX0_route_0 3 rfl rfl)
theorem dX0_route_4 : decode cX0_route 4 = .ok (.iload_n 1, 1) := dk_27 (dk_at dksX0_route_0 4 rfl rfl)
theorem dX0_route_5 : decode cX0_route 5 = .ok (.iload_n 2, 1) := dk_28 (dk_at dksX0_route_0 5 rfl rfl)
theorem dX0_route_6 : decode cX0_route 6 = .ok (.iload_n 3, 1) := dk_29 (dk_at dksX0_route_0 6 rfl rfl)
theorem dX0_route_7 : decode cX0_route 7 = .ok (.invokevirtual 81, 3) := dk_182 0 81 (dk_at dksX0_route_0 7 rfl rfl)
theorem dX0_route_10 : decode cX0_route 10 = .ok (.i2l, 1) := dk_133 (dk_at dksX0_route_0 10 rfl rfl)
theorem dX0_route_11 : decode cX0_route 11 = .ok (.lastore, 1) := dk_80 (dk_at dksX0_route_0 11 rfl rfl)
theorem dX0_route_12 : decode cX0_route 12 = .ok (.goto 11, 3) := dk_167 0 11 (dk_at dksX0_route_0 12 rfl rfl)
theorem dX0_route_15 : decode cX0_route 15 = .ok (.astore 5, 2) := dk_58 5 (dk_at dksX0_route_0 15 rfl rfl)
theorem dX0_route_17 : decode cX0_route 17 = .ok (.iconst 1, 1) := dk_4 (dk_at dksX0_route_0 17 rfl rfl)
theorem dX0_route_18 : decode cX0_route 18 = .ok (.ireturn, 1) := dk_172 (dk_at dksX0_route_0 18 rfl rfl)
theorem dX0_route_19 : decode cX0_route 19 = .ok (.astore 5, 2) := dk_58 5 (dk_at dksX0_route_0 19 rfl rfl)
theorem dX0_route_21 : decode cX0_route 21 = .ok (.iconst 2, 1) := dk_5 (dk_at dksX0_route_0 21 rfl rfl)
theorem dX0_route_22 : decode cX0_route 22 = .ok (.ireturn, 1) := dk_172 (dk_at dksX0_route_0 22 rfl rfl)
theorem dX0_route_23 : decode cX0_route 23 = .ok (.iconst 0, 1) := dk_3 (dk_at dksX0_route_0 23 rfl rfl)
theorem dX0_route_24 : decode cX0_route 24 = .ok (.ireturn, 1) := dk_172 (dk_at dksX0_route_1 0 rfl rfl)
abbrev cX0_append : ByteArray := method_23_code
def yX0_append : MethodName := ⟨RX0, "append", "(LSkerryLights;C[J)I"⟩
def dkwX0_append_0 : List UInt8 := [44, 3, 42, 27, 182, 0, 84, 133, 80, 167, 0, 9, 78, 4, 172, 78, 5, 172, 3, 172]
abbrev dktX0_append_0 : List UInt8 := dkwX0_append_0 ++ []
theorem dksX0_append_0 : cX0_append.data.toList.drop 0 = dktX0_append_0 := by decide +kernel
theorem dX0_append_0 : decode cX0_append 0 = .ok (.aload_n 2, 1) := dk_44 (dk_at dksX0_append_0 0 rfl rfl)
theorem dX0_append_1 : decode cX0_append 1 = .ok (.iconst 0, 1) := dk_3 (dk_at dksX0_append_0 1 rfl rfl)
theorem dX0_append_2 : decode cX0_append 2 = .ok (.aload_n 0, 1) := dk_42 (dk_at dksX0_append_0 2 rfl rfl)
theorem dX0_append_3 : decode cX0_append 3 = .ok (.iload_n 1, 1) := dk_27 (dk_at dksX0_append_0 3 rfl rfl)
theorem dX0_append_4 : decode cX0_append 4 = .ok (.invokevirtual 84, 3) := dk_182 0 84 (dk_at dksX0_append_0 4 rfl rfl)
theorem dX0_append_7 : decode cX0_append 7 = .ok (.i2l, 1) := dk_133 (dk_at dksX0_append_0 7 rfl rfl)
theorem dX0_append_8 : decode cX0_append 8 = .ok (.lastore, 1) := dk_80 (dk_at dksX0_append_0 8 rfl rfl)
theorem dX0_append_9 : decode cX0_append 9 = .ok (.goto 9, 3) := dk_167 0 9 (dk_at dksX0_append_0 9 rfl rfl)
theorem dX0_append_12 : decode cX0_append 12 = .ok (.astore_n 3, 1) := dk_78 (dk_at dksX0_append_0 12 rfl rfl)
theorem dX0_append_13 : decode cX0_append 13 = .ok (.iconst 1, 1) := dk_4 (dk_at dksX0_append_0 13 rfl rfl)
theorem dX0_append_14 : decode cX0_append 14 = .ok (.ireturn, 1) := dk_172 (dk_at dksX0_append_0 14 rfl rfl)
theorem dX0_append_15 : decode cX0_append 15 = .ok (.astore_n 3, 1) := dk_78 (dk_at dksX0_append_0 15 rfl rfl)
theorem dX0_append_16 : decode cX0_append 16 = .ok (.iconst 2, 1) := dk_5 (dk_at dksX0_append_0 16 rfl rfl)
theorem dX0_append_17 : decode cX0_append 17 = .ok (.ireturn, 1) := dk_172 (dk_at dksX0_append_0 17 rfl rfl)
theorem dX0_append_18 : decode cX0_append 18 = .ok (.iconst 0, 1) := dk_3 (dk_at dksX0_append_0 18 rfl rfl)
theorem dX0_append_19 : decode cX0_append 19 = .ok (.ireturn, 1) := dk_172 (dk_at dksX0_append_0 19 rfl rfl)
abbrev cX0_send : ByteArray := method_24_code
def yX0_send : MethodName := ⟨RX0, "send", "(LSkerryLights;II[J)I"⟩
def dkwX0_send_1 : List UInt8 := [172, 3, 172]
abbrev dktX0_send_1 : List UInt8 := dkwX0_send_1 ++ []
def dkwX0_send_0 : List UInt8 := [45, 3, 42, 27, 28, 182, 0, 88, 133, 80, 167, 0, 15, 58, 4, 4, 172, 58, 4, 5, 172, 58, 4, 6]
abbrev dktX0_send_0 : List UInt8 := dkwX0_send_0 ++ dktX0_send_1
theorem dksX0_send_0 : cX0_send.data.toList.drop 0 = dktX0_send_0 := by decide +kernel
theorem dksX0_send_1 : cX0_send.data.toList.drop 24 = dktX0_send_1 := dk_seg dksX0_send_0 24 rfl rfl
theorem dX0_send_0 : decode cX0_send 0 = .ok (.aload_n 3, 1) := dk_45 (dk_at dksX0_send_0 0 rfl rfl)
theorem dX0_send_1 : decode cX0_send 1 = .ok (.iconst 0, 1) := dk_3 (dk_at dksX0_send_0 1 rfl rfl)
theorem dX0_send_2 : decode cX0_send 2 = .ok (.aload_n 0, 1) := dk_42 (dk_at dksX0_send_0 2 rfl rfl)
theorem dX0_send_3 : decode cX0_send 3 = .ok (.iload_n 1, 1) := dk_27 (dk_at dksX0_send_0 3 rfl rfl)
theorem dX0_send_4 : decode cX0_send 4 = .ok (.iload_n 2, 1) := dk_28 (dk_at dksX0_send_0 4 rfl rfl)
theorem dX0_send_5 : decode cX0_send 5 = .ok (.invokevirtual 88, 3) := dk_182 0 88 (dk_at dksX0_send_0 5 rfl rfl)
theorem dX0_send_8 : decode cX0_send 8 = .ok (.i2l, 1) := dk_133 (dk_at dksX0_send_0 8 rfl rfl)
theorem dX0_send_9 : decode cX0_send 9 = .ok (.lastore, 1) := dk_80 (dk_at dksX0_send_0 9 rfl rfl)
theorem dX0_send_10 : decode cX0_send 10 = .ok (.goto 15, 3) := dk_167 0 15 (dk_at dksX0_send_0 10 rfl rfl)
theorem dX0_send_13 : decode cX0_send 13 = .ok (.astore 4, 2) := dk_58 4 (dk_at dksX0_send_0 13 rfl rfl)
theorem dX0_send_15 : decode cX0_send 15 = .ok (.iconst 1, 1) := dk_4 (dk_at dksX0_send_0 15 rfl rfl)
theorem dX0_send_16 : decode cX0_send 16 = .ok (.ireturn, 1) := dk_172 (dk_at dksX0_send_0 16 rfl rfl)
theorem dX0_send_17 : decode cX0_send 17 = .ok (.astore 4, 2) := dk_58 4 (dk_at dksX0_send_0 17 rfl rfl)
theorem dX0_send_19 : decode cX0_send 19 = .ok (.iconst 2, 1) := dk_5 (dk_at dksX0_send_0 19 rfl rfl)
theorem dX0_send_20 : decode cX0_send 20 = .ok (.ireturn, 1) := dk_172 (dk_at dksX0_send_0 20 rfl rfl)
theorem dX0_send_21 : decode cX0_send 21 = .ok (.astore 4, 2) := dk_58 4 (dk_at dksX0_send_0 21 rfl rfl)
theorem dX0_send_23 : decode cX0_send 23 = .ok (.iconst 3, 1) := dk_6 (dk_at dksX0_send_0 23 rfl rfl)
theorem dX0_send_24 : decode cX0_send 24 = .ok (.ireturn, 1) := dk_172 (dk_at dksX0_send_1 0 rfl rfl)
theorem dX0_send_25 : decode cX0_send 25 = .ok (.iconst 0, 1) := dk_3 (dk_at dksX0_send_1 1 rfl rfl)
theorem dX0_send_26 : decode cX0_send 26 = .ok (.ireturn, 1) := dk_172 (dk_at dksX0_send_1 2 rfl rfl)
abbrev cX0_letter : ByteArray := method_25_code
def yX0_letter : MethodName := ⟨RX0, "letter", "(LSkerryLights;I[J)I"⟩
def dkwX0_letter_0 : List UInt8 := [44, 3, 42, 27, 182, 0, 91, 133, 80, 167, 0, 6, 78, 4, 172, 3, 172]
abbrev dktX0_letter_0 : List UInt8 := dkwX0_letter_0 ++ []
theorem dksX0_letter_0 : cX0_letter.data.toList.drop 0 = dktX0_letter_0 := by decide +kernel
theorem dX0_letter_0 : decode cX0_letter 0 = .ok (.aload_n 2, 1) := dk_44 (dk_at dksX0_letter_0 0 rfl rfl)
theorem dX0_letter_1 : decode cX0_letter 1 = .ok (.iconst 0, 1) := dk_3 (dk_at dksX0_letter_0 1 rfl rfl)
theorem dX0_letter_2 : decode cX0_letter 2 = .ok (.aload_n 0, 1) := dk_42 (dk_at dksX0_letter_0 2 rfl rfl)
theorem dX0_letter_3 : decode cX0_letter 3 = .ok (.iload_n 1, 1) := dk_27 (dk_at dksX0_letter_0 3 rfl rfl)
theorem dX0_letter_4 : decode cX0_letter 4 = .ok (.invokevirtual 91, 3) := dk_182 0 91 (dk_at dksX0_letter_0 4 rfl rfl)
theorem dX0_letter_7 : decode cX0_letter 7 = .ok (.i2l, 1) := dk_133 (dk_at dksX0_letter_0 7 rfl rfl)
theorem dX0_letter_8 : decode cX0_letter 8 = .ok (.lastore, 1) := dk_80 (dk_at dksX0_letter_0 8 rfl rfl)
theorem dX0_letter_9 : decode cX0_letter 9 = .ok (.goto 6, 3) := dk_167 0 6 (dk_at dksX0_letter_0 9 rfl rfl)
theorem dX0_letter_12 : decode cX0_letter 12 = .ok (.astore_n 3, 1) := dk_78 (dk_at dksX0_letter_0 12 rfl rfl)
theorem dX0_letter_13 : decode cX0_letter 13 = .ok (.iconst 1, 1) := dk_4 (dk_at dksX0_letter_0 13 rfl rfl)
theorem dX0_letter_14 : decode cX0_letter 14 = .ok (.ireturn, 1) := dk_172 (dk_at dksX0_letter_0 14 rfl rfl)
theorem dX0_letter_15 : decode cX0_letter 15 = .ok (.iconst 0, 1) := dk_3 (dk_at dksX0_letter_0 15 rfl rfl)
theorem dX0_letter_16 : decode cX0_letter 16 = .ok (.ireturn, 1) := dk_172 (dk_at dksX0_letter_0 16 rfl rfl)
abbrev cX0_isWhole : ByteArray := method_26_code
def yX0_isWhole : MethodName := ⟨RX0, "isWhole", "(LSkerryLights;[J)I"⟩
def dkwX0_isWhole_0 : List UInt8 := [43, 3, 42, 182, 0, 95, 153, 0, 7, 10, 167, 0, 4, 9, 80, 167, 0, 6, 77, 4, 172, 3, 172]
abbrev dktX0_isWhole_0 : List UInt8 := dkwX0_isWhole_0 ++ []
theorem dksX0_isWhole_0 : cX0_isWhole.data.toList.drop 0 = dktX0_isWhole_0 := by decide +kernel
theorem dX0_isWhole_0 : decode cX0_isWhole 0 = .ok (.aload_n 1, 1) := dk_43 (dk_at dksX0_isWhole_0 0 rfl rfl)
theorem dX0_isWhole_1 : decode cX0_isWhole 1 = .ok (.iconst 0, 1) := dk_3 (dk_at dksX0_isWhole_0 1 rfl rfl)
theorem dX0_isWhole_2 : decode cX0_isWhole 2 = .ok (.aload_n 0, 1) := dk_42 (dk_at dksX0_isWhole_0 2 rfl rfl)
theorem dX0_isWhole_3 : decode cX0_isWhole 3 = .ok (.invokevirtual 95, 3) := dk_182 0 95 (dk_at dksX0_isWhole_0 3 rfl rfl)
theorem dX0_isWhole_6 : decode cX0_isWhole 6 = .ok (.ifCond .eq 7, 3) := dk_153 0 7 (dk_at dksX0_isWhole_0 6 rfl rfl)
theorem dX0_isWhole_9 : decode cX0_isWhole 9 = .ok (.lconst 1, 1) := dk_10 (dk_at dksX0_isWhole_0 9 rfl rfl)
theorem dX0_isWhole_10 : decode cX0_isWhole 10 = .ok (.goto 4, 3) := dk_167 0 4 (dk_at dksX0_isWhole_0 10 rfl rfl)
theorem dX0_isWhole_13 : decode cX0_isWhole 13 = .ok (.lconst 0, 1) := dk_9 (dk_at dksX0_isWhole_0 13 rfl rfl)
theorem dX0_isWhole_14 : decode cX0_isWhole 14 = .ok (.lastore, 1) := dk_80 (dk_at dksX0_isWhole_0 14 rfl rfl)
theorem dX0_isWhole_15 : decode cX0_isWhole 15 = .ok (.goto 6, 3) := dk_167 0 6 (dk_at dksX0_isWhole_0 15 rfl rfl)
theorem dX0_isWhole_18 : decode cX0_isWhole 18 = .ok (.astore_n 2, 1) := dk_77 (dk_at dksX0_isWhole_0 18 rfl rfl)
theorem dX0_isWhole_19 : decode cX0_isWhole 19 = .ok (.iconst 1, 1) := dk_4 (dk_at dksX0_isWhole_0 19 rfl rfl)
theorem dX0_isWhole_20 : decode cX0_isWhole 20 = .ok (.ireturn, 1) := dk_172 (dk_at dksX0_isWhole_0 20 rfl rfl)
theorem dX0_isWhole_21 : decode cX0_isWhole 21 = .ok (.iconst 0, 1) := dk_3 (dk_at dksX0_isWhole_0 21 rfl rfl)
theorem dX0_isWhole_22 : decode cX0_isWhole 22 = .ok (.ireturn, 1) := dk_172 (dk_at dksX0_isWhole_0 22 rfl rfl)
abbrev cX0_read : ByteArray := method_27_code
def yX0_read : MethodName := ⟨RX0, "read", "(LSkerryLights;[J)I"⟩
def dkwX0_read_0 : List UInt8 := [43, 3, 42, 182, 0, 99, 133, 80, 167, 0, 9, 77, 4, 172, 77, 5, 172, 3, 172]
abbrev dktX0_read_0 : List UInt8 := dkwX0_read_0 ++ []
theorem dksX0_read_0 : cX0_read.data.toList.drop 0 = dktX0_read_0 := by decide +kernel
theorem dX0_read_0 : decode cX0_read 0 = .ok (.aload_n 1, 1) := dk_43 (dk_at dksX0_read_0 0 rfl rfl)
theorem dX0_read_1 : decode cX0_read 1 = .ok (.iconst 0, 1) := dk_3 (dk_at dksX0_read_0 1 rfl rfl)
theorem dX0_read_2 : decode cX0_read 2 = .ok (.aload_n 0, 1) := dk_42 (dk_at dksX0_read_0 2 rfl rfl)
theorem dX0_read_3 : decode cX0_read 3 = .ok (.invokevirtual 99, 3) := dk_182 0 99 (dk_at dksX0_read_0 3 rfl rfl)
theorem dX0_read_6 : decode cX0_read 6 = .ok (.i2l, 1) := dk_133 (dk_at dksX0_read_0 6 rfl rfl)
theorem dX0_read_7 : decode cX0_read 7 = .ok (.lastore, 1) := dk_80 (dk_at dksX0_read_0 7 rfl rfl)
theorem dX0_read_8 : decode cX0_read 8 = .ok (.goto 9, 3) := dk_167 0 9 (dk_at dksX0_read_0 8 rfl rfl)
theorem dX0_read_11 : decode cX0_read 11 = .ok (.astore_n 2, 1) := dk_77 (dk_at dksX0_read_0 11 rfl rfl)
theorem dX0_read_12 : decode cX0_read 12 = .ok (.iconst 1, 1) := dk_4 (dk_at dksX0_read_0 12 rfl rfl)
theorem dX0_read_13 : decode cX0_read 13 = .ok (.ireturn, 1) := dk_172 (dk_at dksX0_read_0 13 rfl rfl)
theorem dX0_read_14 : decode cX0_read 14 = .ok (.astore_n 2, 1) := dk_77 (dk_at dksX0_read_0 14 rfl rfl)
theorem dX0_read_15 : decode cX0_read 15 = .ok (.iconst 2, 1) := dk_5 (dk_at dksX0_read_0 15 rfl rfl)
theorem dX0_read_16 : decode cX0_read 16 = .ok (.ireturn, 1) := dk_172 (dk_at dksX0_read_0 16 rfl rfl)
theorem dX0_read_17 : decode cX0_read 17 = .ok (.iconst 0, 1) := dk_3 (dk_at dksX0_read_0 17 rfl rfl)
theorem dX0_read_18 : decode cX0_read 18 = .ok (.ireturn, 1) := dk_172 (dk_at dksX0_read_0 18 rfl rfl)
abbrev cX0_faultPosition : ByteArray := method_28_code
def yX0_faultPosition : MethodName := ⟨RX0, "faultPosition", "(LSkerryLights;[J)I"⟩
def dkwX0_faultPosition_0 : List UInt8 := [43, 3, 42, 182, 0, 103, 133, 80, 167, 0, 6, 77, 4, 172, 3, 172]
abbrev dktX0_faultPosition_0 : List UInt8 := dkwX0_faultPosition_0 ++ []
theorem dksX0_faultPosition_0 : cX0_faultPosition.data.toList.drop 0 = dktX0_faultPosition_0 := by decide +kernel
theorem dX0_faultPosition_0 : decode cX0_faultPosition 0 = .ok (.aload_n 1, 1) := dk_43 (dk_at dksX0_faultPosition_0 0 rfl rfl)
theorem dX0_faultPosition_1 : decode cX0_faultPosition 1 = .ok (.iconst 0, 1) := dk_3 (dk_at dksX0_faultPosition_0 1 rfl rfl)
theorem dX0_faultPosition_2 : decode cX0_faultPosition 2 = .ok (.aload_n 0, 1) := dk_42 (dk_at dksX0_faultPosition_0 2 rfl rfl)
theorem dX0_faultPosition_3 : decode cX0_faultPosition 3 = .ok (.invokevirtual 103, 3) := dk_182 0 103 (dk_at dksX0_faultPosition_0 3 rfl rfl)
theorem dX0_faultPosition_6 : decode cX0_faultPosition 6 = .ok (.i2l, 1) := dk_133 (dk_at dksX0_faultPosition_0 6 rfl rfl)
theorem dX0_faultPosition_7 : decode cX0_faultPosition 7 = .ok (.lastore, 1) := dk_80 (dk_at dksX0_faultPosition_0 7 rfl rfl)
theorem dX0_faultPosition_8 : decode cX0_faultPosition 8 = .ok (.goto 6, 3) := dk_167 0 6 (dk_at dksX0_faultPosition_0 8 rfl rfl)
theorem dX0_faultPosition_11 : decode cX0_faultPosition 11 = .ok (.astore_n 2, 1) := dk_77 (dk_at dksX0_faultPosition_0 11 rfl rfl)
theorem dX0_faultPosition_12 : decode cX0_faultPosition 12 = .ok (.iconst 1, 1) := dk_4 (dk_at dksX0_faultPosition_0 12 rfl rfl)
theorem dX0_faultPosition_13 : decode cX0_faultPosition 13 = .ok (.ireturn, 1) := dk_172 (dk_at dksX0_faultPosition_0 13 rfl rfl)
theorem dX0_faultPosition_14 : decode cX0_faultPosition 14 = .ok (.iconst 0, 1) := dk_3 (dk_at dksX0_faultPosition_0 14 rfl rfl)
theorem dX0_faultPosition_15 : decode cX0_faultPosition 15 = .ok (.ireturn, 1) := dk_172 (dk_at dksX0_faultPosition_0 15 rfl rfl)
abbrev cX0_reason : ByteArray := method_29_code
def yX0_reason : MethodName := ⟨RX0, "reason", "(LSkerryLights;IZ[J)I"⟩
def dkwX0_reason_0 : List UInt8 := [45, 3, 42, 27, 28, 182, 0, 106, 133, 80, 167, 0, 11, 58, 4, 4, 172, 58, 4, 5, 172, 3, 172]
abbrev dktX0_reason_0 : List UInt8 := dkwX0_reason_0 ++ []
theorem dksX0_reason_0 : cX0_reason.data.toList.drop 0 = dktX0_reason_0 := by decide +kernel
theorem dX0_reason_0 : decode cX0_reason 0 = .ok (.aload_n 3, 1) := dk_45 (dk_at dksX0_reason_0 0 rfl rfl)
theorem dX0_reason_1 : decode cX0_reason 1 = .ok (.iconst 0, 1) := dk_3 (dk_at dksX0_reason_0 1 rfl rfl)
theorem dX0_reason_2 : decode cX0_reason 2 = .ok (.aload_n 0, 1) := dk_42 (dk_at dksX0_reason_0 2 rfl rfl)
theorem dX0_reason_3 : decode cX0_reason 3 = .ok (.iload_n 1, 1) := dk_27 (dk_at dksX0_reason_0 3 rfl rfl)
theorem dX0_reason_4 : decode cX0_reason 4 = .ok (.iload_n 2, 1) := dk_28 (dk_at dksX0_reason_0 4 rfl rfl)
theorem dX0_reason_5 : decode cX0_reason 5 = .ok (.invokevirtual 106, 3) := dk_182 0 106 (dk_at dksX0_reason_0 5 rfl rfl)
theorem dX0_reason_8 : decode cX0_reason 8 = .ok (.i2l, 1) := dk_133 (dk_at dksX0_reason_0 8 rfl rfl)
theorem dX0_reason_9 : decode cX0_reason 9 = .ok (.lastore, 1) := dk_80 (dk_at dksX0_reason_0 9 rfl rfl)
theorem dX0_reason_10 : decode cX0_reason 10 = .ok (.goto 11, 3) := dk_167 0 11 (dk_at dksX0_reason_0 10 rfl rfl)
theorem dX0_reason_13 : decode cX0_reason 13 = .ok (.astore 4, 2) := dk_58 4 (dk_at dksX0_reason_0 13 rfl rfl)
theorem dX0_reason_15 : decode cX0_reason 15 = .ok (.iconst 1, 1) := dk_4 (dk_at dksX0_reason_0 15 rfl rfl)
theorem dX0_reason_16 : decode cX0_reason 16 = .ok (.ireturn, 1) := dk_172 (dk_at dksX0_reason_0 16 rfl rfl)
theorem dX0_reason_17 : decode cX0_reason 17 = .ok (.astore 4, 2) := dk_58 4 (dk_at dksX0_reason_0 17 rfl rfl)
theorem dX0_reason_19 : decode cX0_reason 19 = .ok (.iconst 2, 1) := dk_5 (dk_at dksX0_reason_0 19 rfl rfl)
theorem dX0_reason_20 : decode cX0_reason 20 = .ok (.ireturn, 1) := dk_172 (dk_at dksX0_reason_0 20 rfl rfl)
theorem dX0_reason_21 : decode cX0_reason 21 = .ok (.iconst 0, 1) := dk_3 (dk_at dksX0_reason_0 21 rfl rfl)
theorem dX0_reason_22 : decode cX0_reason 22 = .ok (.ireturn, 1) := dk_172 (dk_at dksX0_reason_0 22 rfl rfl)
abbrev cX0_towerOf : ByteArray := method_30_code
def yX0_towerOf : MethodName := ⟨RX0, "towerOf", "(LSkerryLights;II[J)I"⟩
def dkwX0_towerOf_0 : List UInt8 := [45, 3, 42, 27, 28, 182, 0, 109, 133, 80, 167, 0, 11, 58, 4, 4, 172, 58, 4, 5, 172, 3, 172]
abbrev dktX0_towerOf_0 : List UInt8 := dkwX0_towerOf_0 ++ []
theorem dksX0_towerOf_0 : cX0_towerOf.data.toList.drop 0 = dktX0_towerOf_0 := by decide +kernel
theorem dX0_towerOf_0 : decode cX0_towerOf 0 = .ok (.aload_n 3, 1) := dk_45 (dk_at dksX0_towerOf_0 0 rfl rfl)
theorem dX0_towerOf_1 : decode cX0_towerOf 1 = .ok (.iconst 0, 1) := dk_3 (dk_at dksX0_towerOf_0 1 rfl rfl)
theorem dX0_towerOf_2 : decode cX0_towerOf 2 = .ok (.aload_n 0, 1) := dk_42 (dk_at dksX0_towerOf_0 2 rfl rfl)
theorem dX0_towerOf_3 : decode cX0_towerOf 3 = .ok (.iload_n 1, 1) := dk_27 (dk_at dksX0_towerOf_0 3 rfl rfl)
theorem dX0_towerOf_4 : decode cX0_towerOf 4 = .ok (.iload_n 2, 1) := dk_28 (dk_at dksX0_towerOf_0 4 rfl rfl)
theorem dX0_towerOf_5 : decode cX0_towerOf 5 = .ok (.invokevirtual 109, 3) := dk_182 0 109 (dk_at dksX0_towerOf_0 5 rfl rfl)
theorem dX0_towerOf_8 : decode cX0_towerOf 8 = .ok (.i2l, 1) := dk_133 (dk_at dksX0_towerOf_0 8 rfl rfl)
theorem dX0_towerOf_9 : decode cX0_towerOf 9 = .ok (.lastore, 1) := dk_80 (dk_at dksX0_towerOf_0 9 rfl rfl)
theorem dX0_towerOf_10 : decode cX0_towerOf 10 = .ok (.goto 11, 3) := dk_167 0 11 (dk_at dksX0_towerOf_0 10 rfl rfl)
theorem dX0_towerOf_13 : decode cX0_towerOf 13 = .ok (.astore 4, 2) := dk_58 4 (dk_at dksX0_towerOf_0 13 rfl rfl)
theorem dX0_towerOf_15 : decode cX0_towerOf 15 = .ok (.iconst 1, 1) := dk_4 (dk_at dksX0_towerOf_0 15 rfl rfl)
theorem dX0_towerOf_16 : decode cX0_towerOf 16 = .ok (.ireturn, 1) := dk_172 (dk_at dksX0_towerOf_0 16 rfl rfl)
theorem dX0_towerOf_17 : decode cX0_towerOf 17 = .ok (.astore 4, 2) := dk_58 4 (dk_at dksX0_towerOf_0 17 rfl rfl)
theorem dX0_towerOf_19 : decode cX0_towerOf 19 = .ok (.iconst 2, 1) := dk_5 (dk_at dksX0_towerOf_0 19 rfl rfl)
theorem dX0_towerOf_20 : decode cX0_towerOf 20 = .ok (.ireturn, 1) := dk_172 (dk_at dksX0_towerOf_0 20 rfl rfl)
theorem dX0_towerOf_21 : decode cX0_towerOf 21 = .ok (.iconst 0, 1) := dk_3 (dk_at dksX0_towerOf_0 21 rfl rfl)
theorem dX0_towerOf_22 : decode cX0_towerOf 22 = .ok (.ireturn, 1) := dk_172 (dk_at dksX0_towerOf_0 22 rfl rfl)
abbrev cX0_sign : ByteArray := method_31_code
def yX0_sign : MethodName := ⟨RX0, "sign", "(LSkerryLights;II[J)I"⟩
def dkwX0_sign_0 : List UInt8 := [45, 3, 42, 27, 28, 182, 0, 112, 133, 80, 167, 0, 7, 58, 4, 4, 172, 3, 172]
abbrev dktX0_sign_0 : List UInt8 := dkwX0_sign_0 ++ []
theorem dksX0_sign_0 : cX0_sign.data.toList.drop 0 = dktX0_sign_0 := by decide +kernel
theorem dX0_sign_0 : decode cX0_sign 0 = .ok (.aload_n 3, 1) := dk_45 (dk_at dksX0_sign_0 0 rfl rfl)
theorem dX0_sign_1 : decode cX0_sign 1 = .ok (.iconst 0, 1) := dk_3 (dk_at dksX0_sign_0 1 rfl rfl)
theorem dX0_sign_2 : decode cX0_sign 2 = .ok (.aload_n 0, 1) := dk_42 (dk_at dksX0_sign_0 2 rfl rfl)
theorem dX0_sign_3 : decode cX0_sign 3 = .ok (.iload_n 1, 1) := dk_27 (dk_at dksX0_sign_0 3 rfl rfl)
theorem dX0_sign_4 : decode cX0_sign 4 = .ok (.iload_n 2, 1) := dk_28 (dk_at dksX0_sign_0 4 rfl rfl)
theorem dX0_sign_5 : decode cX0_sign 5 = .ok (.invokevirtual 112, 3) := dk_182 0 112 (dk_at dksX0_sign_0 5 rfl rfl)
theorem dX0_sign_8 : decode cX0_sign 8 = .ok (.i2l, 1) := dk_133 (dk_at dksX0_sign_0 8 rfl rfl)
theorem dX0_sign_9 : decode cX0_sign 9 = .ok (.lastore, 1) := dk_80 (dk_at dksX0_sign_0 9 rfl rfl)
theorem dX0_sign_10 : decode cX0_sign 10 = .ok (.goto 7, 3) := dk_167 0 7 (dk_at dksX0_sign_0 10 rfl rfl)
theorem dX0_sign_13 : decode cX0_sign 13 = .ok (.astore 4, 2) := dk_58 4 (dk_at dksX0_sign_0 13 rfl rfl)
theorem dX0_sign_15 : decode cX0_sign 15 = .ok (.iconst 1, 1) := dk_4 (dk_at dksX0_sign_0 15 rfl rfl)
theorem dX0_sign_16 : decode cX0_sign 16 = .ok (.ireturn, 1) := dk_172 (dk_at dksX0_sign_0 16 rfl rfl)
theorem dX0_sign_17 : decode cX0_sign 17 = .ok (.iconst 0, 1) := dk_3 (dk_at dksX0_sign_0 17 rfl rfl)
theorem dX0_sign_18 : decode cX0_sign 18 = .ok (.ireturn, 1) := dk_172 (dk_at dksX0_sign_0 18 rfl rfl)
abbrev cX0_lensOf : ByteArray := method_32_code
def yX0_lensOf : MethodName := ⟨RX0, "lensOf", "(LSkerryLights;II[J)I"⟩
def dkwX0_lensOf_0 : List UInt8 := [45, 3, 42, 27, 28, 182, 0, 116, 133, 80, 167, 0, 11, 58, 4, 4, 172, 58, 4, 5, 172, 3, 172]
abbrev dktX0_lensOf_0 : List UInt8 := dkwX0_lensOf_0 ++ []
theorem dksX0_lensOf_0 : cX0_lensOf.data.toList.drop 0 = dktX0_lensOf_0 := by decide +kernel
theorem dX0_lensOf_0 : decode cX0_lensOf 0 = .ok (.aload_n 3, 1) := dk_45 (dk_at dksX0_lensOf_0 0 rfl rfl)
theorem dX0_lensOf_1 : decode cX0_lensOf 1 = .ok (.iconst 0, 1) := dk_3 (dk_at dksX0_lensOf_0 1 rfl rfl)
theorem dX0_lensOf_2 : decode cX0_lensOf 2 = .ok (.aload_n 0, 1) := dk_42 (dk_at dksX0_lensOf_0 2 rfl rfl)
theorem dX0_lensOf_3 : decode cX0_lensOf 3 = .ok (.iload_n 1, 1) := dk_27 (dk_at dksX0_lensOf_0 3 rfl rfl)
theorem dX0_lensOf_4 : decode cX0_lensOf 4 = .ok (.iload_n 2, 1) := dk_28 (dk_at dksX0_lensOf_0 4 rfl rfl)
theorem dX0_lensOf_5 : decode cX0_lensOf 5 = .ok (.invokevirtual 116, 3) := dk_182 0 116 (dk_at dksX0_lensOf_0 5 rfl rfl)
theorem dX0_lensOf_8 : decode cX0_lensOf 8 = .ok (.i2l, 1) := dk_133 (dk_at dksX0_lensOf_0 8 rfl rfl)
theorem dX0_lensOf_9 : decode cX0_lensOf 9 = .ok (.lastore, 1) := dk_80 (dk_at dksX0_lensOf_0 9 rfl rfl)
theorem dX0_lensOf_10 : decode cX0_lensOf 10 = .ok (.goto 11, 3) := dk_167 0 11 (dk_at dksX0_lensOf_0 10 rfl rfl)
theorem dX0_lensOf_13 : decode cX0_lensOf 13 = .ok (.astore 4, 2) := dk_58 4 (dk_at dksX0_lensOf_0 13 rfl rfl)
theorem dX0_lensOf_15 : decode cX0_lensOf 15 = .ok (.iconst 1, 1) := dk_4 (dk_at dksX0_lensOf_0 15 rfl rfl)
theorem dX0_lensOf_16 : decode cX0_lensOf 16 = .ok (.ireturn, 1) := dk_172 (dk_at dksX0_lensOf_0 16 rfl rfl)
theorem dX0_lensOf_17 : decode cX0_lensOf 17 = .ok (.astore 4, 2) := dk_58 4 (dk_at dksX0_lensOf_0 17 rfl rfl)
theorem dX0_lensOf_19 : decode cX0_lensOf 19 = .ok (.iconst 2, 1) := dk_5 (dk_at dksX0_lensOf_0 19 rfl rfl)
theorem dX0_lensOf_20 : decode cX0_lensOf 20 = .ok (.ireturn, 1) := dk_172 (dk_at dksX0_lensOf_0 20 rfl rfl)
theorem dX0_lensOf_21 : decode cX0_lensOf 21 = .ok (.iconst 0, 1) := dk_3 (dk_at dksX0_lensOf_0 21 rfl rfl)
theorem dX0_lensOf_22 : decode cX0_lensOf 22 = .ok (.ireturn, 1) := dk_172 (dk_at dksX0_lensOf_0 22 rfl rfl)
abbrev cX0_account : ByteArray := method_33_code
def yX0_account : MethodName := ⟨RX0, "account", "(LSkerryLights;I[J)I"⟩
def dkwX0_account_0 : List UInt8 := [44, 3, 42, 27, 182, 0, 119, 133, 80, 167, 0, 6, 78, 4, 172, 3, 172]
abbrev dktX0_account_0 : List UInt8 := dkwX0_account_0 ++ []
theorem dksX0_account_0 : cX0_account.data.toList.drop 0 = dktX0_account_0 := by decide +kernel
theorem dX0_account_0 : decode cX0_account 0 = .ok (.aload_n 2, 1) := dk_44 (dk_at dksX0_account_0 0 rfl rfl)
theorem dX0_account_1 : decode cX0_account 1 = .ok (.iconst 0, 1) := dk_3 (dk_at dksX0_account_0 1 rfl rfl)
theorem dX0_account_2 : decode cX0_account 2 = .ok (.aload_n 0, 1) := dk_42 (dk_at dksX0_account_0 2 rfl rfl)
theorem dX0_account_3 : decode cX0_account 3 = .ok (.iload_n 1, 1) := dk_27 (dk_at dksX0_account_0 3 rfl rfl)
theorem dX0_account_4 : decode cX0_account 4 = .ok (.invokevirtual 119, 3) := dk_182 0 119 (dk_at dksX0_account_0 4 rfl rfl)
theorem dX0_account_7 : decode cX0_account 7 = .ok (.i2l, 1) := dk_133 (dk_at dksX0_account_0 7 rfl rfl)
theorem dX0_account_8 : decode cX0_account 8 = .ok (.lastore, 1) := dk_80 (dk_at dksX0_account_0 8 rfl rfl)
theorem dX0_account_9 : decode cX0_account 9 = .ok (.goto 6, 3) := dk_167 0 6 (dk_at dksX0_account_0 9 rfl rfl)
theorem dX0_account_12 : decode cX0_account 12 = .ok (.astore_n 3, 1) := dk_78 (dk_at dksX0_account_0 12 rfl rfl)
theorem dX0_account_13 : decode cX0_account 13 = .ok (.iconst 1, 1) := dk_4 (dk_at dksX0_account_0 13 rfl rfl)
theorem dX0_account_14 : decode cX0_account 14 = .ok (.ireturn, 1) := dk_172 (dk_at dksX0_account_0 14 rfl rfl)
theorem dX0_account_15 : decode cX0_account 15 = .ok (.iconst 0, 1) := dk_3 (dk_at dksX0_account_0 15 rfl rfl)
theorem dX0_account_16 : decode cX0_account 16 = .ok (.ireturn, 1) := dk_172 (dk_at dksX0_account_0 16 rfl rfl)
abbrev cX0_meanPower : ByteArray := method_34_code
def yX0_meanPower : MethodName := ⟨RX0, "meanPower", "(LSkerryLights;[D)I"⟩
def dkwX0_meanPower_0 : List UInt8 := [43, 3, 42, 182, 0, 122, 82, 167, 0, 6, 77, 4, 172, 3, 172]
abbrev dktX0_meanPower_0 : List UInt8 := dkwX0_meanPower_0 ++ []
theorem dksX0_meanPower_0 : cX0_meanPower.data.toList.drop 0 = dktX0_meanPower_0 := by decide +kernel
theorem dX0_meanPower_0 : decode cX0_meanPower 0 = .ok (.aload_n 1, 1) := dk_43 (dk_at dksX0_meanPower_0 0 rfl rfl)
theorem dX0_meanPower_1 : decode cX0_meanPower 1 = .ok (.iconst 0, 1) := dk_3 (dk_at dksX0_meanPower_0 1 rfl rfl)
theorem dX0_meanPower_2 : decode cX0_meanPower 2 = .ok (.aload_n 0, 1) := dk_42 (dk_at dksX0_meanPower_0 2 rfl rfl)
theorem dX0_meanPower_3 : decode cX0_meanPower 3 = .ok (.invokevirtual 122, 3) := dk_182 0 122 (dk_at dksX0_meanPower_0 3 rfl rfl)
theorem dX0_meanPower_6 : decode cX0_meanPower 6 = .ok (.dastore, 1) := dk_82 (dk_at dksX0_meanPower_0 6 rfl rfl)
theorem dX0_meanPower_7 : decode cX0_meanPower 7 = .ok (.goto 6, 3) := dk_167 0 6 (dk_at dksX0_meanPower_0 7 rfl rfl)
theorem dX0_meanPower_10 : decode cX0_meanPower 10 = .ok (.astore_n 2, 1) := dk_77 (dk_at dksX0_meanPower_0 10 rfl rfl)
theorem dX0_meanPower_11 : decode cX0_meanPower 11 = .ok (.iconst 1, 1) := dk_4 (dk_at dksX0_meanPower_0 11 rfl rfl)
theorem dX0_meanPower_12 : decode cX0_meanPower 12 = .ok (.ireturn, 1) := dk_172 (dk_at dksX0_meanPower_0 12 rfl rfl)
theorem dX0_meanPower_13 : decode cX0_meanPower 13 = .ok (.iconst 0, 1) := dk_3 (dk_at dksX0_meanPower_0 13 rfl rfl)
theorem dX0_meanPower_14 : decode cX0_meanPower 14 = .ok (.ireturn, 1) := dk_172 (dk_at dksX0_meanPower_0 14 rfl rfl)
abbrev cX0_undo : ByteArray := method_35_code
def yX0_undo : MethodName := ⟨RX0, "undo", "(LSkerryLights;[J)I"⟩
def dkwX0_undo_0 : List UInt8 := [43, 3, 42, 182, 0, 128, 133, 80, 167, 0, 6, 77, 4, 172, 3, 172]
abbrev dktX0_undo_0 : List UInt8 := dkwX0_undo_0 ++ []
theorem dksX0_undo_0 : cX0_undo.data.toList.drop 0 = dktX0_undo_0 := by decide +kernel
theorem dX0_undo_0 : decode cX0_undo 0 = .ok (.aload_n 1, 1) := dk_43 (dk_at dksX0_undo_0 0 rfl rfl)
theorem dX0_undo_1 : decode cX0_undo 1 = .ok (.iconst 0, 1) := dk_3 (dk_at dksX0_undo_0 1 rfl rfl)
theorem dX0_undo_2 : decode cX0_undo 2 = .ok (.aload_n 0, 1) := dk_42 (dk_at dksX0_undo_0 2 rfl rfl)
theorem dX0_undo_3 : decode cX0_undo 3 = .ok (.invokevirtual 128, 3) := dk_182 0 128 (dk_at dksX0_undo_0 3 rfl rfl)
theorem dX0_undo_6 : decode cX0_undo 6 = .ok (.i2l, 1) := dk_133 (dk_at dksX0_undo_0 6 rfl rfl)
theorem dX0_undo_7 : decode cX0_undo 7 = .ok (.lastore, 1) := dk_80 (dk_at dksX0_undo_0 7 rfl rfl)
theorem dX0_undo_8 : decode cX0_undo 8 = .ok (.goto 6, 3) := dk_167 0 6 (dk_at dksX0_undo_0 8 rfl rfl)
theorem dX0_undo_11 : decode cX0_undo 11 = .ok (.astore_n 2, 1) := dk_77 (dk_at dksX0_undo_0 11 rfl rfl)
theorem dX0_undo_12 : decode cX0_undo 12 = .ok (.iconst 1, 1) := dk_4 (dk_at dksX0_undo_0 12 rfl rfl)
theorem dX0_undo_13 : decode cX0_undo 13 = .ok (.ireturn, 1) := dk_172 (dk_at dksX0_undo_0 13 rfl rfl)
theorem dX0_undo_14 : decode cX0_undo 14 = .ok (.iconst 0, 1) := dk_3 (dk_at dksX0_undo_0 14 rfl rfl)
theorem dX0_undo_15 : decode cX0_undo 15 = .ok (.ireturn, 1) := dk_172 (dk_at dksX0_undo_0 15 rfl rfl)
abbrev cX0_restore : ByteArray := method_36_code
def yX0_restore : MethodName := ⟨RX0, "restore", "(LSkerryLights;[J)I"⟩
def dkwX0_restore_0 : List UInt8 := [43, 3, 42, 182, 0, 131, 133, 80, 167, 0, 6, 77, 4, 172, 3, 172]
abbrev dktX0_restore_0 : List UInt8 := dkwX0_restore_0 ++ []
theorem dksX0_restore_0 : cX0_restore.data.toList.drop 0 = dktX0_restore_0 := by decide +kernel
theorem dX0_restore_0 : decode cX0_restore 0 = .ok (.aload_n 1, 1) := dk_43 (dk_at dksX0_restore_0 0 rfl rfl)
theorem dX0_restore_1 : decode cX0_restore 1 = .ok (.iconst 0, 1) := dk_3 (dk_at dksX0_restore_0 1 rfl rfl)
theorem dX0_restore_2 : decode cX0_restore 2 = .ok (.aload_n 0, 1) := dk_42 (dk_at dksX0_restore_0 2 rfl rfl)
theorem dX0_restore_3 : decode cX0_restore 3 = .ok (.invokevirtual 131, 3) := dk_182 0 131 (dk_at dksX0_restore_0 3 rfl rfl)
theorem dX0_restore_6 : decode cX0_restore 6 = .ok (.i2l, 1) := dk_133 (dk_at dksX0_restore_0 6 rfl rfl)
theorem dX0_restore_7 : decode cX0_restore 7 = .ok (.lastore, 1) := dk_80 (dk_at dksX0_restore_0 7 rfl rfl)
theorem dX0_restore_8 : decode cX0_restore 8 = .ok (.goto 6, 3) := dk_167 0 6 (dk_at dksX0_restore_0 8 rfl rfl)
theorem dX0_restore_11 : decode cX0_restore 11 = .ok (.astore_n 2, 1) := dk_77 (dk_at dksX0_restore_0 11 rfl rfl)
theorem dX0_restore_12 : decode cX0_restore 12 = .ok (.iconst 1, 1) := dk_4 (dk_at dksX0_restore_0 12 rfl rfl)
theorem dX0_restore_13 : decode cX0_restore 13 = .ok (.ireturn, 1) := dk_172 (dk_at dksX0_restore_0 13 rfl rfl)
theorem dX0_restore_14 : decode cX0_restore 14 = .ok (.iconst 0, 1) := dk_3 (dk_at dksX0_restore_0 14 rfl rfl)
theorem dX0_restore_15 : decode cX0_restore 15 = .ok (.ireturn, 1) := dk_172 (dk_at dksX0_restore_0 15 rfl rfl)
theorem q104 : (Jvm.Cond.initialized "SkerryLightsLaw") ∈ lw_all := lw_g (lw_at lw_m1 0 rfl) rfl
theorem q161 : (Jvm.Cond.classLink "SkerryLightsLaw" (8 : Nat) "SkerryLights") ∈ lw_all := lw_g (lw_at lw_m1 57 rfl) rfl
theorem q163 : (Jvm.Cond.methodLink "SkerryLightsLaw" (134 : Nat) ({ cls := "SkerryLights", name := "<init>", desc := "()V" } : Jvm.MethodName)) ∈ lw_all := lw_g (lw_at lw_m1 59 rfl) rfl
theorem q421 : (Jvm.Cond.methodLink "SkerryLightsLaw" (173 : Nat) ({ cls := "SkerryLights", name := "handOn", desc := "()I" } : Jvm.MethodName)) ∈ lw_all := lw_g (lw_at lw_m2 77 rfl) rfl
theorem q1323 : (Jvm.Cond.methodLink "SkerryLightsLaw" (177 : Nat) ({ cls := "SkerryLights", name := "scrap", desc := "()I" } : Jvm.MethodName)) ∈ lw_all := lw_g (lw_at lw_m6 19 rfl) rfl
theorem q1406 : (Jvm.Cond.methodLink "SkerryLightsLaw" (197 : Nat) ({ cls := "SkerryLights", name := "mistakes", desc := "()I" } : Jvm.MethodName)) ∈ lw_all := lw_g (lw_at lw_m6 102 rfl) rfl
theorem q1411 : (Jvm.Cond.methodLink "SkerryLightsLaw" (207 : Nat) ({ cls := "SkerryLights", name := "unwatched", desc := "()I" } : Jvm.MethodName)) ∈ lw_all := lw_g (lw_at lw_m6 107 rfl) rfl
theorem q1421 : (Jvm.Cond.methodLink "SkerryLightsLaw" (211 : Nat) ({ cls := "SkerryLights", name := "unwatchedAgain", desc := "()I" } : Jvm.MethodName)) ∈ lw_all := lw_g (lw_at lw_m6 117 rfl) rfl
theorem q1459 : (Jvm.Cond.methodLink "SkerryLightsLaw" (266 : Nat) ({ cls := "SkerryLights", name := "watchedShare", desc := "()F" } : Jvm.MethodName)) ∈ lw_all := lw_g (lw_at lw_m6 155 rfl) rfl
theorem q1465 : (Jvm.Cond.methodLink "SkerryLightsLaw" (274 : Nat) ({ cls := "SkerryLights", name := "save", desc := "()I" } : Jvm.MethodName)) ∈ lw_all := lw_g (lw_at lw_m6 161 rfl) rfl
theorem q1473 : (Jvm.Cond.methodLink "SkerryLightsLaw" (138 : Nat) ({ cls := "SkerryLightsLaw", name := "tower", desc := "(LSkerryLights;III[J)I" } : Jvm.MethodName)) ∈ lw_all := lw_g (lw_at lw_m6 169 rfl) rfl
theorem q1474 : (Jvm.Cond.static ({ cls := "SkerryLightsLaw", name := "tower", desc := "(LSkerryLights;III[J)I" } : Jvm.MethodName)) ∈ lw_all := lw_g (lw_at lw_m6 170 rfl) rfl
theorem q1475 : (Jvm.Cond.codeWith ({ cls := "SkerryLightsLaw", name := "tower", desc := "(LSkerryLights;III[J)I" } : Jvm.MethodName) method_3_code (6 : Nat) (Option.some Jvm.ClassFile.FieldType.int) [((0 : Nat), (12 : Nat), (15 : Nat), (13 : Nat)), ((0 : Nat), (12 : Nat), (19 : Nat), (15 : Nat)), ((0 : Nat), (12 : Nat), (23 : Nat), (17 : Nat)), ((0 : Nat), (12 : Nat), (27 : Nat), (19 : Nat))]) ∈ lw_all := lw_g (lw_at lw_m6 171 rfl) rfl
theorem q1476 : (Jvm.Cond.classLink "SkerryLightsLaw" (13 : Nat) "java/lang/IndexOutOfBoundsException") ∈ lw_all := lw_g (lw_at lw_m6 172 rfl) rfl
theorem q1492 : (Jvm.Cond.classLink "SkerryLightsLaw" (15 : Nat) "java/lang/IllegalArgumentException") ∈ lw_all := lw_g (lw_at lw_m6 188 rfl) rfl
theorem q1493 : (Jvm.Cond.classLink "SkerryLightsLaw" (17 : Nat) "java/lang/IllegalStateException") ∈ lw_all := lw_g (lw_at lw_m6 189 rfl) rfl
theorem q1494 : (Jvm.Cond.classLink "SkerryLightsLaw" (19 : Nat) "java/lang/UnsupportedOperationException") ∈ lw_all := lw_g (lw_at lw_m6 190 rfl) rfl
theorem q1495 : (Jvm.Cond.methodLink "SkerryLightsLaw" (7 : Nat) ({ cls := "SkerryLights", name := "tower", desc := "(III)I" } : Jvm.MethodName)) ∈ lw_all := lw_g (lw_at lw_m6 191 rfl) rfl
theorem q1610 : (Jvm.Cond.methodLink "SkerryLightsLaw" (147 : Nat) ({ cls := "SkerryLightsLaw", name := "lens", desc := "(LSkerryLights;I[J)I" } : Jvm.MethodName)) ∈ lw_all := lw_g (lw_at lw_m7 66 rfl) rfl
theorem q1611 : (Jvm.Cond.static ({ cls := "SkerryLightsLaw", name := "lens", desc := "(LSkerryLights;I[J)I" } : Jvm.MethodName)) ∈ lw_all := lw_g (lw_at lw_m7 67 rfl) rfl
theorem q1612 : (Jvm.Cond.codeWith ({ cls := "SkerryLightsLaw", name := "lens", desc := "(LSkerryLights;I[J)I" } : Jvm.MethodName) method_4_code (4 : Nat) (Option.some Jvm.ClassFile.FieldType.int) [((0 : Nat), (9 : Nat), (12 : Nat), (15 : Nat)), ((0 : Nat), (9 : Nat), (15 : Nat), (17 : Nat))]) ∈ lw_all := lw_g (lw_at lw_m7 68 rfl) rfl
theorem q1613 : (Jvm.Cond.methodLink "SkerryLightsLaw" (21 : Nat) ({ cls := "SkerryLights", name := "lens", desc := "(I)I" } : Jvm.MethodName)) ∈ lw_all := lw_g (lw_at lw_m7 69 rfl) rfl
theorem q1618 : (Jvm.Cond.methodLink "SkerryLightsLaw" (151 : Nat) ({ cls := "SkerryLightsLaw", name := "pattern", desc := "(LSkerryLights;III[J)I" } : Jvm.MethodName)) ∈ lw_all := lw_g (lw_at lw_m7 74 rfl) rfl
theorem q1619 : (Jvm.Cond.static ({ cls := "SkerryLightsLaw", name := "pattern", desc := "(LSkerryLights;III[J)I" } : Jvm.MethodName)) ∈ lw_all := lw_g (lw_at lw_m7 75 rfl) rfl
theorem q1620 : (Jvm.Cond.codeWith ({ cls := "SkerryLightsLaw", name := "pattern", desc := "(LSkerryLights;III[J)I" } : Jvm.MethodName) method_5_code (6 : Nat) (Option.some Jvm.ClassFile.FieldType.int) [((0 : Nat), (12 : Nat), (15 : Nat), (13 : Nat)), ((0 : Nat), (12 : Nat), (19 : Nat), (15 : Nat))]) ∈ lw_all := lw_g (lw_at lw_m7 76 rfl) rfl
theorem q1621 : (Jvm.Cond.methodLink "SkerryLightsLaw" (25 : Nat) ({ cls := "SkerryLights", name := "pattern", desc := "(III)I" } : Jvm.MethodName)) ∈ lw_all := lw_g (lw_at lw_m7 77 rfl) rfl
theorem q1642 : (Jvm.Cond.methodLink "SkerryLightsLaw" (154 : Nat) ({ cls := "SkerryLightsLaw", name := "fit", desc := "(LSkerryLights;I[J)I" } : Jvm.MethodName)) ∈ lw_all := lw_g (lw_at lw_m7 98 rfl) rfl
theorem q1643 : (Jvm.Cond.static ({ cls := "SkerryLightsLaw", name := "fit", desc := "(LSkerryLights;I[J)I" } : Jvm.MethodName)) ∈ lw_all := lw_g (lw_at lw_m7 99 rfl) rfl
theorem q1644 : (Jvm.Cond.codeWith ({ cls := "SkerryLightsLaw", name := "fit", desc := "(LSkerryLights;I[J)I" } : Jvm.MethodName) method_6_code (4 : Nat) (Option.some Jvm.ClassFile.FieldType.int) [((0 : Nat), (9 : Nat), (12 : Nat), (13 : Nat)), ((0 : Nat), (9 : Nat), (15 : Nat), (19 : Nat))]) ∈ lw_all := lw_g (lw_at lw_m7 100 rfl) rfl
theorem q1645 : (Jvm.Cond.methodLink "SkerryLightsLaw" (28 : Nat) ({ cls := "SkerryLights", name := "fit", desc := "(I)I" } : Jvm.MethodName)) ∈ lw_all := lw_g (lw_at lw_m7 101 rfl) rfl
theorem q1673 : (Jvm.Cond.methodLink "SkerryLightsLaw" (157 : Nat) ({ cls := "SkerryLightsLaw", name := "light", desc := "(LSkerryLights;I[J)I" } : Jvm.MethodName)) ∈ lw_all := lw_g (lw_at lw_m7 129 rfl) rfl
theorem q1674 : (Jvm.Cond.static ({ cls := "SkerryLightsLaw", name := "light", desc := "(LSkerryLights;I[J)I" } : Jvm.MethodName)) ∈ lw_all := lw_g (lw_at lw_m7 130 rfl) rfl
theorem q1675 : (Jvm.Cond.codeWith ({ cls := "SkerryLightsLaw", name := "light", desc := "(LSkerryLights;I[J)I" } : Jvm.MethodName) method_7_code (4 : Nat) (Option.some Jvm.ClassFile.FieldType.int) [((0 : Nat), (9 : Nat), (12 : Nat), (13 : Nat)), ((0 : Nat), (9 : Nat), (15 : Nat), (19 : Nat))]) ∈ lw_all := lw_g (lw_at lw_m7 131 rfl) rfl
theorem q1676 : (Jvm.Cond.methodLink "SkerryLightsLaw" (31 : Nat) ({ cls := "SkerryLights", name := "light", desc := "(I)I" } : Jvm.MethodName)) ∈ lw_all := lw_g (lw_at lw_m7 132 rfl) rfl
theorem q1684 : (Jvm.Cond.methodLink "SkerryLightsLaw" (160 : Nat) ({ cls := "SkerryLightsLaw", name := "darken", desc := "(LSkerryLights;I[J)I" } : Jvm.MethodName)) ∈ lw_all := lw_g (lw_at lw_m7 140 rfl) rfl
theorem q1685 : (Jvm.Cond.static ({ cls := "SkerryLightsLaw", name := "darken", desc := "(LSkerryLights;I[J)I" } : Jvm.MethodName)) ∈ lw_all := lw_g (lw_at lw_m7 141 rfl) rfl
theorem q1686 : (Jvm.Cond.codeWith ({ cls := "SkerryLightsLaw", name := "darken", desc := "(LSkerryLights;I[J)I" } : Jvm.MethodName) method_8_code (4 : Nat) (Option.some Jvm.ClassFile.FieldType.int) [((0 : Nat), (9 : Nat), (12 : Nat), (13 : Nat)), ((0 : Nat), (9 : Nat), (15 : Nat), (19 : Nat))]) ∈ lw_all := lw_g (lw_at lw_m7 142 rfl) rfl
theorem q1687 : (Jvm.Cond.methodLink "SkerryLightsLaw" (34 : Nat) ({ cls := "SkerryLights", name := "darken", desc := "(I)I" } : Jvm.MethodName)) ∈ lw_all := lw_g (lw_at lw_m7 143 rfl) rfl
theorem q1695 : (Jvm.Cond.methodLink "SkerryLightsLaw" (163 : Nat) ({ cls := "SkerryLightsLaw", name := "breakDown", desc := "(LSkerryLights;I[J)I" } : Jvm.MethodName)) ∈ lw_all := lw_g (lw_at lw_m7 151 rfl) rfl
theorem q1696 : (Jvm.Cond.static ({ cls := "SkerryLightsLaw", name := "breakDown", desc := "(LSkerryLights;I[J)I" } : Jvm.MethodName)) ∈ lw_all := lw_g (lw_at lw_m7 152 rfl) rfl
theorem q1697 : (Jvm.Cond.codeWith ({ cls := "SkerryLightsLaw", name := "breakDown", desc := "(LSkerryLights;I[J)I" } : Jvm.MethodName) method_9_code (4 : Nat) (Option.some Jvm.ClassFile.FieldType.int) [((0 : Nat), (9 : Nat), (12 : Nat), (13 : Nat)), ((0 : Nat), (9 : Nat), (15 : Nat), (19 : Nat))]) ∈ lw_all := lw_g (lw_at lw_m7 153 rfl) rfl
theorem q1698 : (Jvm.Cond.methodLink "SkerryLightsLaw" (37 : Nat) ({ cls := "SkerryLights", name := "breakDown", desc := "(I)I" } : Jvm.MethodName)) ∈ lw_all := lw_g (lw_at lw_m7 154 rfl) rfl
theorem q1710 : (Jvm.Cond.methodLink "SkerryLightsLaw" (166 : Nat) ({ cls := "SkerryLightsLaw", name := "mend", desc := "(LSkerryLights;I[J)I" } : Jvm.MethodName)) ∈ lw_all := lw_g (lw_at lw_m7 166 rfl) rfl
theorem q1711 : (Jvm.Cond.static ({ cls := "SkerryLightsLaw", name := "mend", desc := "(LSkerryLights;I[J)I" } : Jvm.MethodName)) ∈ lw_all := lw_g (lw_at lw_m7 167 rfl) rfl
theorem q1712 : (Jvm.Cond.codeWith ({ cls := "SkerryLightsLaw", name := "mend", desc := "(LSkerryLights;I[J)I" } : Jvm.MethodName) method_10_code (4 : Nat) (Option.some Jvm.ClassFile.FieldType.int) [((0 : Nat), (9 : Nat), (12 : Nat), (13 : Nat)), ((0 : Nat), (9 : Nat), (15 : Nat), (19 : Nat))]) ∈ lw_all := lw_g (lw_at lw_m7 168 rfl) rfl
theorem q1713 : (Jvm.Cond.methodLink "SkerryLightsLaw" (40 : Nat) ({ cls := "SkerryLights", name := "mend", desc := "(I)I" } : Jvm.MethodName)) ∈ lw_all := lw_g (lw_at lw_m7 169 rfl) rfl
theorem q1725 : (Jvm.Cond.methodLink "SkerryLightsLaw" (169 : Nat) ({ cls := "SkerryLightsLaw", name := "fog", desc := "(LSkerryLights;II[J)I" } : Jvm.MethodName)) ∈ lw_all := lw_g (lw_at lw_m7 181 rfl) rfl
theorem q1726 : (Jvm.Cond.static ({ cls := "SkerryLightsLaw", name := "fog", desc := "(LSkerryLights;II[J)I" } : Jvm.MethodName)) ∈ lw_all := lw_g (lw_at lw_m7 182 rfl) rfl
theorem q1727 : (Jvm.Cond.codeWith ({ cls := "SkerryLightsLaw", name := "fog", desc := "(LSkerryLights;II[J)I" } : Jvm.MethodName) method_11_code (5 : Nat) (Option.some Jvm.ClassFile.FieldType.int) [((0 : Nat), (10 : Nat), (13 : Nat), (13 : Nat)), ((0 : Nat), (10 : Nat), (17 : Nat), (15 : Nat))]) ∈ lw_all := lw_g (lw_at lw_m7 183 rfl) rfl
theorem q1728 : (Jvm.Cond.methodLink "SkerryLightsLaw" (43 : Nat) ({ cls := "SkerryLights", name := "fog", desc := "(II)I" } : Jvm.MethodName)) ∈ lw_all := lw_g (lw_at lw_m7 184 rfl) rfl
theorem q1732 : (Jvm.Cond.methodLink "SkerryLightsLaw" (181 : Nat) ({ cls := "SkerryLightsLaw", name := "nights", desc := "(LSkerryLights;I[J)I" } : Jvm.MethodName)) ∈ lw_all := lw_g (lw_at lw_m7 188 rfl) rfl
theorem q1733 : (Jvm.Cond.static ({ cls := "SkerryLightsLaw", name := "nights", desc := "(LSkerryLights;I[J)I" } : Jvm.MethodName)) ∈ lw_all := lw_g (lw_at lw_m7 189 rfl) rfl
theorem q1734 : (Jvm.Cond.codeWith ({ cls := "SkerryLightsLaw", name := "nights", desc := "(LSkerryLights;I[J)I" } : Jvm.MethodName) method_12_code (4 : Nat) (Option.some Jvm.ClassFile.FieldType.int) [((0 : Nat), (9 : Nat), (12 : Nat), (15 : Nat))]) ∈ lw_all := lw_g (lw_at lw_m7 190 rfl) rfl
theorem q1735 : (Jvm.Cond.methodLink "SkerryLightsLaw" (47 : Nat) ({ cls := "SkerryLights", name := "nights", desc := "(I)I" } : Jvm.MethodName)) ∈ lw_all := lw_g (lw_at lw_m7 191 rfl) rfl
theorem q1761 : (Jvm.Cond.methodLink "SkerryLightsLaw" (184 : Nat) ({ cls := "SkerryLightsLaw", name := "cost", desc := "(LSkerryLights;II[J)I" } : Jvm.MethodName)) ∈ lw_all := lw_g (lw_at lw_m7 217 rfl) rfl
theorem q1762 : (Jvm.Cond.static ({ cls := "SkerryLightsLaw", name := "cost", desc := "(LSkerryLights;II[J)I" } : Jvm.MethodName)) ∈ lw_all := lw_g (lw_at lw_m7 218 rfl) rfl
theorem q1763 : (Jvm.Cond.codeWith ({ cls := "SkerryLightsLaw", name := "cost", desc := "(LSkerryLights;II[J)I" } : Jvm.MethodName) method_13_code (5 : Nat) (Option.some Jvm.ClassFile.FieldType.int) [((0 : Nat), (10 : Nat), (13 : Nat), (13 : Nat))]) ∈ lw_all := lw_g (lw_at lw_m7 219 rfl) rfl
theorem q1764 : (Jvm.Cond.methodLink "SkerryLightsLaw" (50 : Nat) ({ cls := "SkerryLights", name := "cost", desc := "(II)I" } : Jvm.MethodName)) ∈ lw_all := lw_g (lw_at lw_m7 220 rfl) rfl
theorem q1768 : (Jvm.Cond.methodLink "SkerryLightsLaw" (187 : Nat) ({ cls := "SkerryLightsLaw", name := "reaches", desc := "(LSkerryLights;II[J)I" } : Jvm.MethodName)) ∈ lw_all := lw_g (lw_at lw_m7 224 rfl) rfl
theorem q1769 : (Jvm.Cond.static ({ cls := "SkerryLightsLaw", name := "reaches", desc := "(LSkerryLights;II[J)I" } : Jvm.MethodName)) ∈ lw_all := lw_g (lw_at lw_m7 225 rfl) rfl
theorem q1770 : (Jvm.Cond.codeWith ({ cls := "SkerryLightsLaw", name := "reaches", desc := "(LSkerryLights;II[J)I" } : Jvm.MethodName) method_14_code (5 : Nat) (Option.some Jvm.ClassFile.FieldType.int) [((0 : Nat), (17 : Nat), (20 : Nat), (13 : Nat))]) ∈ lw_all := lw_g (lw_at lw_m7 226 rfl) rfl
theorem q1771 : (Jvm.Cond.methodLink "SkerryLightsLaw" (53 : Nat) ({ cls := "SkerryLights", name := "reaches", desc := "(II)Z" } : Jvm.MethodName)) ∈ lw_all := lw_g (lw_at lw_m7 227 rfl) rfl
theorem q1775 : (Jvm.Cond.methodLink "SkerryLightsLaw" (190 : Nat) ({ cls := "SkerryLightsLaw", name := "farthest", desc := "(LSkerryLights;IZ[J)I" } : Jvm.MethodName)) ∈ lw_all := lw_g (lw_at lw_m7 231 rfl) rfl
theorem q1776 : (Jvm.Cond.static ({ cls := "SkerryLightsLaw", name := "farthest", desc := "(LSkerryLights;IZ[J)I" } : Jvm.MethodName)) ∈ lw_all := lw_g (lw_at lw_m7 232 rfl) rfl
theorem q1777 : (Jvm.Cond.codeWith ({ cls := "SkerryLightsLaw", name := "farthest", desc := "(LSkerryLights;IZ[J)I" } : Jvm.MethodName) method_15_code (5 : Nat) (Option.some Jvm.ClassFile.FieldType.int) [((0 : Nat), (10 : Nat), (13 : Nat), (13 : Nat)), ((0 : Nat), (10 : Nat), (17 : Nat), (61 : Nat))]) ∈ lw_all := lw_g (lw_at lw_m7 233 rfl) rfl
theorem q1778 : (Jvm.Cond.classLink "SkerryLightsLaw" (61 : Nat) "java/util/NoSuchElementException") ∈ lw_all := lw_g (lw_at lw_m7 234 rfl) rfl
theorem q1779 : (Jvm.Cond.methodLink "SkerryLightsLaw" (57 : Nat) ({ cls := "SkerryLights", name := "farthest", desc := "(IZ)I" } : Jvm.MethodName)) ∈ lw_all := lw_g (lw_at lw_m7 235 rfl) rfl
theorem q1810 : (Jvm.Cond.methodLink "SkerryLightsLaw" (194 : Nat) ({ cls := "SkerryLightsLaw", name := "areAlike", desc := "(LSkerryLights;II[J)I" } : Jvm.MethodName)) ∈ lw_all := lw_g (lw_at lw_m8 26 rfl) rfl
theorem q1811 : (Jvm.Cond.static ({ cls := "SkerryLightsLaw", name := "areAlike", desc := "(LSkerryLights;II[J)I" } : Jvm.MethodName)) ∈ lw_all := lw_g (lw_at lw_m8 27 rfl) rfl
theorem q1812 : (Jvm.Cond.codeWith ({ cls := "SkerryLightsLaw", name := "areAlike", desc := "(LSkerryLights;II[J)I" } : Jvm.MethodName) method_16_code (5 : Nat) (Option.some Jvm.ClassFile.FieldType.int) [((0 : Nat), (17 : Nat), (20 : Nat), (13 : Nat))]) ∈ lw_all := lw_g (lw_at lw_m8 28 rfl) rfl
theorem q1813 : (Jvm.Cond.methodLink "SkerryLightsLaw" (63 : Nat) ({ cls := "SkerryLights", name := "areAlike", desc := "(II)Z" } : Jvm.MethodName)) ∈ lw_all := lw_g (lw_at lw_m8 29 rfl) rfl
theorem q1818 : (Jvm.Cond.methodLink "SkerryLightsLaw" (201 : Nat) ({ cls := "SkerryLightsLaw", name := "watcher", desc := "(LSkerryLights;I[J)I" } : Jvm.MethodName)) ∈ lw_all := lw_g (lw_at lw_m8 34 rfl) rfl
theorem q1819 : (Jvm.Cond.static ({ cls := "SkerryLightsLaw", name := "watcher", desc := "(LSkerryLights;I[J)I" } : Jvm.MethodName)) ∈ lw_all := lw_g (lw_at lw_m8 35 rfl) rfl
theorem q1820 : (Jvm.Cond.codeWith ({ cls := "SkerryLightsLaw", name := "watcher", desc := "(LSkerryLights;I[J)I" } : Jvm.MethodName) method_17_code (4 : Nat) (Option.some Jvm.ClassFile.FieldType.int) [((0 : Nat), (9 : Nat), (12 : Nat), (13 : Nat)), ((0 : Nat), (9 : Nat), (15 : Nat), (61 : Nat))]) ∈ lw_all := lw_g (lw_at lw_m8 36 rfl) rfl
theorem q1821 : (Jvm.Cond.methodLink "SkerryLightsLaw" (66 : Nat) ({ cls := "SkerryLights", name := "watcher", desc := "(I)I" } : Jvm.MethodName)) ∈ lw_all := lw_g (lw_at lw_m8 37 rfl) rfl
theorem q1825 : (Jvm.Cond.methodLink "SkerryLightsLaw" (204 : Nat) ({ cls := "SkerryLightsLaw", name := "watched", desc := "(LSkerryLights;I[J)I" } : Jvm.MethodName)) ∈ lw_all := lw_g (lw_at lw_m8 41 rfl) rfl
theorem q1826 : (Jvm.Cond.static ({ cls := "SkerryLightsLaw", name := "watched", desc := "(LSkerryLights;I[J)I" } : Jvm.MethodName)) ∈ lw_all := lw_g (lw_at lw_m8 42 rfl) rfl
theorem q1827 : (Jvm.Cond.codeWith ({ cls := "SkerryLightsLaw", name := "watched", desc := "(LSkerryLights;I[J)I" } : Jvm.MethodName) method_18_code (4 : Nat) (Option.some Jvm.ClassFile.FieldType.int) [((0 : Nat), (9 : Nat), (12 : Nat), (13 : Nat))]) ∈ lw_all := lw_g (lw_at lw_m8 43 rfl) rfl
theorem q1828 : (Jvm.Cond.methodLink "SkerryLightsLaw" (69 : Nat) ({ cls := "SkerryLights", name := "watched", desc := "(I)I" } : Jvm.MethodName)) ∈ lw_all := lw_g (lw_at lw_m8 44 rfl) rfl
theorem q1832 : (Jvm.Cond.methodLink "SkerryLightsLaw" (215 : Nat) ({ cls := "SkerryLightsLaw", name := "margin", desc := "(LSkerryLights;II[J)I" } : Jvm.MethodName)) ∈ lw_all := lw_g (lw_at lw_m8 48 rfl) rfl
theorem q1833 : (Jvm.Cond.static ({ cls := "SkerryLightsLaw", name := "margin", desc := "(LSkerryLights;II[J)I" } : Jvm.MethodName)) ∈ lw_all := lw_g (lw_at lw_m8 49 rfl) rfl
theorem q1834 : (Jvm.Cond.codeWith ({ cls := "SkerryLightsLaw", name := "margin", desc := "(LSkerryLights;II[J)I" } : Jvm.MethodName) method_19_code (5 : Nat) (Option.some Jvm.ClassFile.FieldType.int) [((0 : Nat), (10 : Nat), (13 : Nat), (13 : Nat)), ((0 : Nat), (10 : Nat), (17 : Nat), (61 : Nat))]) ∈ lw_all := lw_g (lw_at lw_m8 50 rfl) rfl
theorem q1835 : (Jvm.Cond.methodLink "SkerryLightsLaw" (72 : Nat) ({ cls := "SkerryLights", name := "margin", desc := "(II)I" } : Jvm.MethodName)) ∈ lw_all := lw_g (lw_at lw_m8 51 rfl) rfl
theorem q1847 : (Jvm.Cond.methodLink "SkerryLightsLaw" (218 : Nat) ({ cls := "SkerryLightsLaw", name := "signals", desc := "(LSkerryLights;II[J)I" } : Jvm.MethodName)) ∈ lw_all := lw_g (lw_at lw_m8 63 rfl) rfl
theorem q1848 : (Jvm.Cond.static ({ cls := "SkerryLightsLaw", name := "signals", desc := "(LSkerryLights;II[J)I" } : Jvm.MethodName)) ∈ lw_all := lw_g (lw_at lw_m8 64 rfl) rfl
theorem q1849 : (Jvm.Cond.codeWith ({ cls := "SkerryLightsLaw", name := "signals", desc := "(LSkerryLights;II[J)I" } : Jvm.MethodName) method_20_code (5 : Nat) (Option.some Jvm.ClassFile.FieldType.int) [((0 : Nat), (10 : Nat), (13 : Nat), (13 : Nat)), ((0 : Nat), (10 : Nat), (17 : Nat), (61 : Nat))]) ∈ lw_all := lw_g (lw_at lw_m8 65 rfl) rfl
theorem q1850 : (Jvm.Cond.methodLink "SkerryLightsLaw" (75 : Nat) ({ cls := "SkerryLights", name := "signals", desc := "(II)I" } : Jvm.MethodName)) ∈ lw_all := lw_g (lw_at lw_m8 66 rfl) rfl
theorem q1920 : (Jvm.Cond.methodLink "SkerryLightsLaw" (221 : Nat) ({ cls := "SkerryLightsLaw", name := "signalsAgain", desc := "(LSkerryLights;II[J)I" } : Jvm.MethodName)) ∈ lw_all := lw_g (lw_at lw_m8 136 rfl) rfl
theorem q1921 : (Jvm.Cond.static ({ cls := "SkerryLightsLaw", name := "signalsAgain", desc := "(LSkerryLights;II[J)I" } : Jvm.MethodName)) ∈ lw_all := lw_g (lw_at lw_m8 137 rfl) rfl
theorem q1922 : (Jvm.Cond.codeWith ({ cls := "SkerryLightsLaw", name := "signalsAgain", desc := "(LSkerryLights;II[J)I" } : Jvm.MethodName) method_21_code (5 : Nat) (Option.some Jvm.ClassFile.FieldType.int) [((0 : Nat), (10 : Nat), (13 : Nat), (13 : Nat)), ((0 : Nat), (10 : Nat), (17 : Nat), (61 : Nat))]) ∈ lw_all := lw_g (lw_at lw_m8 138 rfl) rfl
theorem q1923 : (Jvm.Cond.methodLink "SkerryLightsLaw" (78 : Nat) ({ cls := "SkerryLights", name := "signalsAgain", desc := "(II)I" } : Jvm.MethodName)) ∈ lw_all := lw_g (lw_at lw_m8 139 rfl) rfl
theorem q1933 : (Jvm.Cond.methodLink "SkerryLightsLaw" (224 : Nat) ({ cls := "SkerryLightsLaw", name := "route", desc := "(LSkerryLights;III[J)I" } : Jvm.MethodName)) ∈ lw_all := lw_g (lw_at lw_m8 149 rfl) rfl
theorem q1934 : (Jvm.Cond.static ({ cls := "SkerryLightsLaw", name := "route", desc := "(LSkerryLights;III[J)I" } : Jvm.MethodName)) ∈ lw_all := lw_g (lw_at lw_m8 150 rfl) rfl
theorem q1935 : (Jvm.Cond.codeWith ({ cls := "SkerryLightsLaw", name := "route", desc := "(LSkerryLights;III[J)I" } : Jvm.MethodName) method_22_code (6 : Nat) (Option.some Jvm.ClassFile.FieldType.int) [((0 : Nat), (12 : Nat), (15 : Nat), (13 : Nat)), ((0 : Nat), (12 : Nat), (19 : Nat), (61 : Nat))]) ∈ lw_all := lw_g (lw_at lw_m8 151 rfl) rfl
theorem q1936 : (Jvm.Cond.methodLink "SkerryLightsLaw" (81 : Nat) ({ cls := "SkerryLights", name := "route", desc := "(III)I" } : Jvm.MethodName)) ∈ lw_all := lw_g (lw_at lw_m8 152 rfl) rfl
theorem q1951 : (Jvm.Cond.methodLink "SkerryLightsLaw" (227 : Nat) ({ cls := "SkerryLightsLaw", name := "append", desc := "(LSkerryLights;C[J)I" } : Jvm.MethodName)) ∈ lw_all := lw_g (lw_at lw_m8 167 rfl) rfl
theorem q1952 : (Jvm.Cond.static ({ cls := "SkerryLightsLaw", name := "append", desc := "(LSkerryLights;C[J)I" } : Jvm.MethodName)) ∈ lw_all := lw_g (lw_at lw_m8 168 rfl) rfl
theorem q1953 : (Jvm.Cond.codeWith ({ cls := "SkerryLightsLaw", name := "append", desc := "(LSkerryLights;C[J)I" } : Jvm.MethodName) method_23_code (4 : Nat) (Option.some Jvm.ClassFile.FieldType.int) [((0 : Nat), (9 : Nat), (12 : Nat), (15 : Nat)), ((0 : Nat), (9 : Nat), (15 : Nat), (17 : Nat))]) ∈ lw_all := lw_g (lw_at lw_m8 169 rfl) rfl
theorem q1954 : (Jvm.Cond.methodLink "SkerryLightsLaw" (84 : Nat) ({ cls := "SkerryLights", name := "append", desc := "(C)I" } : Jvm.MethodName)) ∈ lw_all := lw_g (lw_at lw_m8 170 rfl) rfl
theorem q1979 : (Jvm.Cond.methodLink "SkerryLightsLaw" (231 : Nat) ({ cls := "SkerryLightsLaw", name := "send", desc := "(LSkerryLights;II[J)I" } : Jvm.MethodName)) ∈ lw_all := lw_g (lw_at lw_m8 195 rfl) rfl
theorem q1980 : (Jvm.Cond.static ({ cls := "SkerryLightsLaw", name := "send", desc := "(LSkerryLights;II[J)I" } : Jvm.MethodName)) ∈ lw_all := lw_g (lw_at lw_m8 196 rfl) rfl
theorem q1981 : (Jvm.Cond.codeWith ({ cls := "SkerryLightsLaw", name := "send", desc := "(LSkerryLights;II[J)I" } : Jvm.MethodName) method_24_code (5 : Nat) (Option.some Jvm.ClassFile.FieldType.int) [((0 : Nat), (10 : Nat), (13 : Nat), (13 : Nat)), ((0 : Nat), (10 : Nat), (17 : Nat), (15 : Nat)), ((0 : Nat), (10 : Nat), (21 : Nat), (19 : Nat))]) ∈ lw_all := lw_g (lw_at lw_m8 197 rfl) rfl
theorem q1982 : (Jvm.Cond.methodLink "SkerryLightsLaw" (88 : Nat) ({ cls := "SkerryLights", name := "send", desc := "(II)I" } : Jvm.MethodName)) ∈ lw_all := lw_g (lw_at lw_m8 198 rfl) rfl
theorem q2187 : (Jvm.Cond.methodLink "SkerryLightsLaw" (234 : Nat) ({ cls := "SkerryLightsLaw", name := "letter", desc := "(LSkerryLights;I[J)I" } : Jvm.MethodName)) ∈ lw_all := lw_g (lw_at lw_m9 163 rfl) rfl
theorem q2188 : (Jvm.Cond.static ({ cls := "SkerryLightsLaw", name := "letter", desc := "(LSkerryLights;I[J)I" } : Jvm.MethodName)) ∈ lw_all := lw_g (lw_at lw_m9 164 rfl) rfl
theorem q2189 : (Jvm.Cond.codeWith ({ cls := "SkerryLightsLaw", name := "letter", desc := "(LSkerryLights;I[J)I" } : Jvm.MethodName) method_25_code (4 : Nat) (Option.some Jvm.ClassFile.FieldType.int) [((0 : Nat), (9 : Nat), (12 : Nat), (13 : Nat))]) ∈ lw_all := lw_g (lw_at lw_m9 165 rfl) rfl
theorem q2190 : (Jvm.Cond.methodLink "SkerryLightsLaw" (91 : Nat) ({ cls := "SkerryLights", name := "letter", desc := "(I)C" } : Jvm.MethodName)) ∈ lw_all := lw_g (lw_at lw_m9 166 rfl) rfl
theorem q2194 : (Jvm.Cond.methodLink "SkerryLightsLaw" (237 : Nat) ({ cls := "SkerryLightsLaw", name := "isWhole", desc := "(LSkerryLights;[J)I" } : Jvm.MethodName)) ∈ lw_all := lw_g (lw_at lw_m9 170 rfl) rfl
theorem q2195 : (Jvm.Cond.static ({ cls := "SkerryLightsLaw", name := "isWhole", desc := "(LSkerryLights;[J)I" } : Jvm.MethodName)) ∈ lw_all := lw_g (lw_at lw_m9 171 rfl) rfl
theorem q2196 : (Jvm.Cond.codeWith ({ cls := "SkerryLightsLaw", name := "isWhole", desc := "(LSkerryLights;[J)I" } : Jvm.MethodName) method_26_code (3 : Nat) (Option.some Jvm.ClassFile.FieldType.int) [((0 : Nat), (15 : Nat), (18 : Nat), (61 : Nat))]) ∈ lw_all := lw_g (lw_at lw_m9 172 rfl) rfl
theorem q2197 : (Jvm.Cond.methodLink "SkerryLightsLaw" (95 : Nat) ({ cls := "SkerryLights", name := "isWhole", desc := "()Z" } : Jvm.MethodName)) ∈ lw_all := lw_g (lw_at lw_m9 173 rfl) rfl
theorem q2201 : (Jvm.Cond.methodLink "SkerryLightsLaw" (241 : Nat) ({ cls := "SkerryLightsLaw", name := "read", desc := "(LSkerryLights;[J)I" } : Jvm.MethodName)) ∈ lw_all := lw_g (lw_at lw_m9 177 rfl) rfl
theorem q2202 : (Jvm.Cond.static ({ cls := "SkerryLightsLaw", name := "read", desc := "(LSkerryLights;[J)I" } : Jvm.MethodName)) ∈ lw_all := lw_g (lw_at lw_m9 178 rfl) rfl
theorem q2203 : (Jvm.Cond.codeWith ({ cls := "SkerryLightsLaw", name := "read", desc := "(LSkerryLights;[J)I" } : Jvm.MethodName) method_27_code (3 : Nat) (Option.some Jvm.ClassFile.FieldType.int) [((0 : Nat), (8 : Nat), (11 : Nat), (15 : Nat)), ((0 : Nat), (8 : Nat), (14 : Nat), (19 : Nat))]) ∈ lw_all := lw_g (lw_at lw_m9 179 rfl) rfl
theorem q2204 : (Jvm.Cond.methodLink "SkerryLightsLaw" (99 : Nat) ({ cls := "SkerryLights", name := "read", desc := "()I" } : Jvm.MethodName)) ∈ lw_all := lw_g (lw_at lw_m9 180 rfl) rfl
theorem q2346 : (Jvm.Cond.methodLink "SkerryLightsLaw" (244 : Nat) ({ cls := "SkerryLightsLaw", name := "faultPosition", desc := "(LSkerryLights;[J)I" } : Jvm.MethodName)) ∈ lw_all := lw_g (lw_at lw_m10 82 rfl) rfl
theorem q2347 : (Jvm.Cond.static ({ cls := "SkerryLightsLaw", name := "faultPosition", desc := "(LSkerryLights;[J)I" } : Jvm.MethodName)) ∈ lw_all := lw_g (lw_at lw_m10 83 rfl) rfl
theorem q2348 : (Jvm.Cond.codeWith ({ cls := "SkerryLightsLaw", name := "faultPosition", desc := "(LSkerryLights;[J)I" } : Jvm.MethodName) method_28_code (3 : Nat) (Option.some Jvm.ClassFile.FieldType.int) [((0 : Nat), (8 : Nat), (11 : Nat), (61 : Nat))]) ∈ lw_all := lw_g (lw_at lw_m10 84 rfl) rfl
theorem q2349 : (Jvm.Cond.methodLink "SkerryLightsLaw" (103 : Nat) ({ cls := "SkerryLights", name := "faultPosition", desc := "()I" } : Jvm.MethodName)) ∈ lw_all := lw_g (lw_at lw_m10 85 rfl) rfl
theorem q2353 : (Jvm.Cond.methodLink "SkerryLightsLaw" (247 : Nat) ({ cls := "SkerryLightsLaw", name := "reason", desc := "(LSkerryLights;IZ[J)I" } : Jvm.MethodName)) ∈ lw_all := lw_g (lw_at lw_m10 89 rfl) rfl
theorem q2354 : (Jvm.Cond.static ({ cls := "SkerryLightsLaw", name := "reason", desc := "(LSkerryLights;IZ[J)I" } : Jvm.MethodName)) ∈ lw_all := lw_g (lw_at lw_m10 90 rfl) rfl
theorem q2355 : (Jvm.Cond.codeWith ({ cls := "SkerryLightsLaw", name := "reason", desc := "(LSkerryLights;IZ[J)I" } : Jvm.MethodName) method_29_code (5 : Nat) (Option.some Jvm.ClassFile.FieldType.int) [((0 : Nat), (10 : Nat), (13 : Nat), (15 : Nat)), ((0 : Nat), (10 : Nat), (17 : Nat), (61 : Nat))]) ∈ lw_all := lw_g (lw_at lw_m10 91 rfl) rfl
theorem q2356 : (Jvm.Cond.methodLink "SkerryLightsLaw" (106 : Nat) ({ cls := "SkerryLights", name := "reason", desc := "(IZ)I" } : Jvm.MethodName)) ∈ lw_all := lw_g (lw_at lw_m10 92 rfl) rfl
theorem q2360 : (Jvm.Cond.methodLink "SkerryLightsLaw" (250 : Nat) ({ cls := "SkerryLightsLaw", name := "towerOf", desc := "(LSkerryLights;II[J)I" } : Jvm.MethodName)) ∈ lw_all := lw_g (lw_at lw_m10 96 rfl) rfl
theorem q2361 : (Jvm.Cond.static ({ cls := "SkerryLightsLaw", name := "towerOf", desc := "(LSkerryLights;II[J)I" } : Jvm.MethodName)) ∈ lw_all := lw_g (lw_at lw_m10 97 rfl) rfl
theorem q2362 : (Jvm.Cond.codeWith ({ cls := "SkerryLightsLaw", name := "towerOf", desc := "(LSkerryLights;II[J)I" } : Jvm.MethodName) method_30_code (5 : Nat) (Option.some Jvm.ClassFile.FieldType.int) [((0 : Nat), (10 : Nat), (13 : Nat), (13 : Nat)), ((0 : Nat), (10 : Nat), (17 : Nat), (15 : Nat))]) ∈ lw_all := lw_g (lw_at lw_m10 98 rfl) rfl
theorem q2363 : (Jvm.Cond.methodLink "SkerryLightsLaw" (109 : Nat) ({ cls := "SkerryLights", name := "towerOf", desc := "(II)I" } : Jvm.MethodName)) ∈ lw_all := lw_g (lw_at lw_m10 99 rfl) rfl
theorem q2434 : (Jvm.Cond.methodLink "SkerryLightsLaw" (253 : Nat) ({ cls := "SkerryLightsLaw", name := "sign", desc := "(LSkerryLights;II[J)I" } : Jvm.MethodName)) ∈ lw_all := lw_g (lw_at lw_m10 170 rfl) rfl
theorem q2435 : (Jvm.Cond.static ({ cls := "SkerryLightsLaw", name := "sign", desc := "(LSkerryLights;II[J)I" } : Jvm.MethodName)) ∈ lw_all := lw_g (lw_at lw_m10 171 rfl) rfl
theorem q2436 : (Jvm.Cond.codeWith ({ cls := "SkerryLightsLaw", name := "sign", desc := "(LSkerryLights;II[J)I" } : Jvm.MethodName) method_31_code (5 : Nat) (Option.some Jvm.ClassFile.FieldType.int) [((0 : Nat), (10 : Nat), (13 : Nat), (13 : Nat))]) ∈ lw_all := lw_g (lw_at lw_m10 172 rfl) rfl
theorem q2437 : (Jvm.Cond.methodLink "SkerryLightsLaw" (112 : Nat) ({ cls := "SkerryLights", name := "sign", desc := "(II)C" } : Jvm.MethodName)) ∈ lw_all := lw_g (lw_at lw_m10 173 rfl) rfl
theorem q2442 : (Jvm.Cond.methodLink "SkerryLightsLaw" (256 : Nat) ({ cls := "SkerryLightsLaw", name := "lensOf", desc := "(LSkerryLights;II[J)I" } : Jvm.MethodName)) ∈ lw_all := lw_g (lw_at lw_m10 178 rfl) rfl
theorem q2443 : (Jvm.Cond.static ({ cls := "SkerryLightsLaw", name := "lensOf", desc := "(LSkerryLights;II[J)I" } : Jvm.MethodName)) ∈ lw_all := lw_g (lw_at lw_m10 179 rfl) rfl
theorem q2444 : (Jvm.Cond.codeWith ({ cls := "SkerryLightsLaw", name := "lensOf", desc := "(LSkerryLights;II[J)I" } : Jvm.MethodName) method_32_code (5 : Nat) (Option.some Jvm.ClassFile.FieldType.int) [((0 : Nat), (10 : Nat), (13 : Nat), (13 : Nat)), ((0 : Nat), (10 : Nat), (17 : Nat), (15 : Nat))]) ∈ lw_all := lw_g (lw_at lw_m10 180 rfl) rfl
theorem q2445 : (Jvm.Cond.methodLink "SkerryLightsLaw" (116 : Nat) ({ cls := "SkerryLights", name := "lensOf", desc := "(II)I" } : Jvm.MethodName)) ∈ lw_all := lw_g (lw_at lw_m10 181 rfl) rfl
theorem q2454 : (Jvm.Cond.methodLink "SkerryLightsLaw" (259 : Nat) ({ cls := "SkerryLightsLaw", name := "account", desc := "(LSkerryLights;I[J)I" } : Jvm.MethodName)) ∈ lw_all := lw_g (lw_at lw_m10 190 rfl) rfl
theorem q2455 : (Jvm.Cond.static ({ cls := "SkerryLightsLaw", name := "account", desc := "(LSkerryLights;I[J)I" } : Jvm.MethodName)) ∈ lw_all := lw_g (lw_at lw_m10 191 rfl) rfl
theorem q2456 : (Jvm.Cond.codeWith ({ cls := "SkerryLightsLaw", name := "account", desc := "(LSkerryLights;I[J)I" } : Jvm.MethodName) method_33_code (4 : Nat) (Option.some Jvm.ClassFile.FieldType.int) [((0 : Nat), (9 : Nat), (12 : Nat), (15 : Nat))]) ∈ lw_all := lw_g (lw_at lw_m10 192 rfl) rfl
theorem q2457 : (Jvm.Cond.methodLink "SkerryLightsLaw" (119 : Nat) ({ cls := "SkerryLights", name := "account", desc := "(I)I" } : Jvm.MethodName)) ∈ lw_all := lw_g (lw_at lw_m10 193 rfl) rfl
theorem q2473 : (Jvm.Cond.methodLink "SkerryLightsLaw" (262 : Nat) ({ cls := "SkerryLightsLaw", name := "meanPower", desc := "(LSkerryLights;[D)I" } : Jvm.MethodName)) ∈ lw_all := lw_g (lw_at lw_m10 209 rfl) rfl
theorem q2474 : (Jvm.Cond.static ({ cls := "SkerryLightsLaw", name := "meanPower", desc := "(LSkerryLights;[D)I" } : Jvm.MethodName)) ∈ lw_all := lw_g (lw_at lw_m10 210 rfl) rfl
theorem q2475 : (Jvm.Cond.codeWith ({ cls := "SkerryLightsLaw", name := "meanPower", desc := "(LSkerryLights;[D)I" } : Jvm.MethodName) method_34_code (3 : Nat) (Option.some Jvm.ClassFile.FieldType.int) [((0 : Nat), (7 : Nat), (10 : Nat), (126 : Nat))]) ∈ lw_all := lw_g (lw_at lw_m10 211 rfl) rfl
theorem q2476 : (Jvm.Cond.classLink "SkerryLightsLaw" (126 : Nat) "java/lang/ArithmeticException") ∈ lw_all := lw_g (lw_at lw_m10 212 rfl) rfl
theorem q2490 : (Jvm.Cond.methodLink "SkerryLightsLaw" (122 : Nat) ({ cls := "SkerryLights", name := "meanPower", desc := "()D" } : Jvm.MethodName)) ∈ lw_all := lw_g (lw_at lw_m10 226 rfl) rfl
theorem q2499 : (Jvm.Cond.methodLink "SkerryLightsLaw" (271 : Nat) ({ cls := "SkerryLightsLaw", name := "undo", desc := "(LSkerryLights;[J)I" } : Jvm.MethodName)) ∈ lw_all := lw_g (lw_at lw_m10 235 rfl) rfl
theorem q2500 : (Jvm.Cond.static ({ cls := "SkerryLightsLaw", name := "undo", desc := "(LSkerryLights;[J)I" } : Jvm.MethodName)) ∈ lw_all := lw_g (lw_at lw_m10 236 rfl) rfl
theorem q2501 : (Jvm.Cond.codeWith ({ cls := "SkerryLightsLaw", name := "undo", desc := "(LSkerryLights;[J)I" } : Jvm.MethodName) method_35_code (3 : Nat) (Option.some Jvm.ClassFile.FieldType.int) [((0 : Nat), (8 : Nat), (11 : Nat), (17 : Nat))]) ∈ lw_all := lw_g (lw_at lw_m10 237 rfl) rfl
theorem q2502 : (Jvm.Cond.methodLink "SkerryLightsLaw" (128 : Nat) ({ cls := "SkerryLights", name := "undo", desc := "()I" } : Jvm.MethodName)) ∈ lw_all := lw_g (lw_at lw_m10 238 rfl) rfl
theorem q2514 : (Jvm.Cond.methodLink "SkerryLightsLaw" (278 : Nat) ({ cls := "SkerryLightsLaw", name := "restore", desc := "(LSkerryLights;[J)I" } : Jvm.MethodName)) ∈ lw_all := lw_g (lw_at lw_m11 10 rfl) rfl
theorem q2515 : (Jvm.Cond.static ({ cls := "SkerryLightsLaw", name := "restore", desc := "(LSkerryLights;[J)I" } : Jvm.MethodName)) ∈ lw_all := lw_g (lw_at lw_m11 11 rfl) rfl
theorem q2516 : (Jvm.Cond.codeWith ({ cls := "SkerryLightsLaw", name := "restore", desc := "(LSkerryLights;[J)I" } : Jvm.MethodName) method_36_code (3 : Nat) (Option.some Jvm.ClassFile.FieldType.int) [((0 : Nat), (8 : Nat), (11 : Nat), (17 : Nat))]) ∈ lw_all := lw_g (lw_at lw_m11 12 rfl) rfl
theorem q2517 : (Jvm.Cond.methodLink "SkerryLightsLaw" (131 : Nat) ({ cls := "SkerryLights", name := "restore", desc := "()I" } : Jvm.MethodName)) ∈ lw_all := lw_g (lw_at lw_m11 13 rfl) rfl
theorem q2525 : (Jvm.Cond.classLink "SkerryLightsLaw" (135 : Nat) "SkerryLightsModel") ∈ lw_all := lw_g (lw_at lw_m11 21 rfl) rfl
theorem q2527 : (Jvm.Cond.methodLink "SkerryLightsLaw" (137 : Nat) ({ cls := "SkerryLightsModel", name := "<init>", desc := "()V" } : Jvm.MethodName)) ∈ lw_all := lw_g (lw_at lw_m11 23 rfl) rfl
theorem q2608 : (Jvm.Cond.methodLink "SkerryLightsLaw" (144 : Nat) ({ cls := "SkerryLightsModel", name := "thrown", desc := "()I" } : Jvm.MethodName)) ∈ lw_all := lw_g (lw_at lw_m11 104 rfl) rfl
theorem q2612 : (Jvm.Cond.methodLink "SkerryLightsLaw" (143 : Nat) ({ cls := "SkerryLightsModel", name := "tower", desc := "(III)I" } : Jvm.MethodName)) ∈ lw_all := lw_g (lw_at lw_m11 108 rfl) rfl
theorem q2701 : (Jvm.Cond.methodLink "SkerryLightsLaw" (150 : Nat) ({ cls := "SkerryLightsModel", name := "lens", desc := "(I)I" } : Jvm.MethodName)) ∈ lw_all := lw_g (lw_at lw_m11 197 rfl) rfl
theorem q2709 : (Jvm.Cond.methodLink "SkerryLightsLaw" (153 : Nat) ({ cls := "SkerryLightsModel", name := "pattern", desc := "(III)I" } : Jvm.MethodName)) ∈ lw_all := lw_g (lw_at lw_m11 205 rfl) rfl
theorem q2727 : (Jvm.Cond.methodLink "SkerryLightsLaw" (156 : Nat) ({ cls := "SkerryLightsModel", name := "fit", desc := "(I)I" } : Jvm.MethodName)) ∈ lw_all := lw_g (lw_at lw_m11 223 rfl) rfl
theorem q2743 : (Jvm.Cond.methodLink "SkerryLightsLaw" (159 : Nat) ({ cls := "SkerryLightsModel", name := "light", desc := "(I)I" } : Jvm.MethodName)) ∈ lw_all := lw_g (lw_at lw_m11 239 rfl) rfl
theorem q2755 : (Jvm.Cond.methodLink "SkerryLightsLaw" (162 : Nat) ({ cls := "SkerryLightsModel", name := "darken", desc := "(I)I" } : Jvm.MethodName)) ∈ lw_all := lw_g (lw_at lw_m12 11 rfl) rfl
theorem q2763 : (Jvm.Cond.methodLink "SkerryLightsLaw" (165 : Nat) ({ cls := "SkerryLightsModel", name := "breakDown", desc := "(I)I" } : Jvm.MethodName)) ∈ lw_all := lw_g (lw_at lw_m12 19 rfl) rfl
theorem q2775 : (Jvm.Cond.methodLink "SkerryLightsLaw" (168 : Nat) ({ cls := "SkerryLightsModel", name := "mend", desc := "(I)I" } : Jvm.MethodName)) ∈ lw_all := lw_g (lw_at lw_m12 31 rfl) rfl
theorem q2787 : (Jvm.Cond.methodLink "SkerryLightsLaw" (172 : Nat) ({ cls := "SkerryLightsModel", name := "fog", desc := "(II)I" } : Jvm.MethodName)) ∈ lw_all := lw_g (lw_at lw_m12 43 rfl) rfl
theorem q2791 : (Jvm.Cond.methodLink "SkerryLightsLaw" (176 : Nat) ({ cls := "SkerryLightsModel", name := "handOn", desc := "()I" } : Jvm.MethodName)) ∈ lw_all := lw_g (lw_at lw_m12 47 rfl) rfl
theorem q2799 : (Jvm.Cond.methodLink "SkerryLightsLaw" (180 : Nat) ({ cls := "SkerryLightsModel", name := "scrap", desc := "()I" } : Jvm.MethodName)) ∈ lw_all := lw_g (lw_at lw_m12 55 rfl) rfl
theorem q2803 : (Jvm.Cond.methodLink "SkerryLightsLaw" (183 : Nat) ({ cls := "SkerryLightsModel", name := "nights", desc := "(I)I" } : Jvm.MethodName)) ∈ lw_all := lw_g (lw_at lw_m12 59 rfl) rfl
theorem q2815 : (Jvm.Cond.methodLink "SkerryLightsLaw" (186 : Nat) ({ cls := "SkerryLightsModel", name := "cost", desc := "(II)I" } : Jvm.MethodName)) ∈ lw_all := lw_g (lw_at lw_m12 71 rfl) rfl
theorem q2819 : (Jvm.Cond.methodLink "SkerryLightsLaw" (189 : Nat) ({ cls := "SkerryLightsModel", name := "reaches", desc := "(II)Z" } : Jvm.MethodName)) ∈ lw_all := lw_g (lw_at lw_m12 75 rfl) rfl
theorem q2823 : (Jvm.Cond.methodLink "SkerryLightsLaw" (193 : Nat) ({ cls := "SkerryLightsModel", name := "farthest", desc := "(IZ)I" } : Jvm.MethodName)) ∈ lw_all := lw_g (lw_at lw_m12 79 rfl) rfl
theorem q2831 : (Jvm.Cond.methodLink "SkerryLightsLaw" (196 : Nat) ({ cls := "SkerryLightsModel", name := "areAlike", desc := "(II)Z" } : Jvm.MethodName)) ∈ lw_all := lw_g (lw_at lw_m12 87 rfl) rfl
theorem q2835 : (Jvm.Cond.methodLink "SkerryLightsLaw" (200 : Nat) ({ cls := "SkerryLightsModel", name := "mistakes", desc := "()I" } : Jvm.MethodName)) ∈ lw_all := lw_g (lw_at lw_m12 91 rfl) rfl
theorem q2839 : (Jvm.Cond.methodLink "SkerryLightsLaw" (203 : Nat) ({ cls := "SkerryLightsModel", name := "watcher", desc := "(I)I" } : Jvm.MethodName)) ∈ lw_all := lw_g (lw_at lw_m12 95 rfl) rfl
theorem q2847 : (Jvm.Cond.methodLink "SkerryLightsLaw" (206 : Nat) ({ cls := "SkerryLightsModel", name := "watched", desc := "(I)I" } : Jvm.MethodName)) ∈ lw_all := lw_g (lw_at lw_m12 103 rfl) rfl
theorem q2855 : (Jvm.Cond.methodLink "SkerryLightsLaw" (210 : Nat) ({ cls := "SkerryLightsModel", name := "unwatched", desc := "()I" } : Jvm.MethodName)) ∈ lw_all := lw_g (lw_at lw_m12 111 rfl) rfl
theorem q2859 : (Jvm.Cond.methodLink "SkerryLightsLaw" (214 : Nat) ({ cls := "SkerryLightsModel", name := "unwatchedAgain", desc := "()I" } : Jvm.MethodName)) ∈ lw_all := lw_g (lw_at lw_m12 115 rfl) rfl
theorem q2867 : (Jvm.Cond.methodLink "SkerryLightsLaw" (217 : Nat) ({ cls := "SkerryLightsModel", name := "margin", desc := "(II)I" } : Jvm.MethodName)) ∈ lw_all := lw_g (lw_at lw_m12 123 rfl) rfl
theorem q2879 : (Jvm.Cond.methodLink "SkerryLightsLaw" (220 : Nat) ({ cls := "SkerryLightsModel", name := "signals", desc := "(II)I" } : Jvm.MethodName)) ∈ lw_all := lw_g (lw_at lw_m12 135 rfl) rfl
theorem q2895 : (Jvm.Cond.methodLink "SkerryLightsLaw" (223 : Nat) ({ cls := "SkerryLightsModel", name := "signalsAgain", desc := "(II)I" } : Jvm.MethodName)) ∈ lw_all := lw_g (lw_at lw_m12 151 rfl) rfl
theorem q2899 : (Jvm.Cond.methodLink "SkerryLightsLaw" (226 : Nat) ({ cls := "SkerryLightsModel", name := "route", desc := "(III)I" } : Jvm.MethodName)) ∈ lw_all := lw_g (lw_at lw_m12 155 rfl) rfl
theorem q2903 : (Jvm.Cond.methodLink "SkerryLightsLaw" (230 : Nat) ({ cls := "SkerryLightsModel", name := "append", desc := "(C)I" } : Jvm.MethodName)) ∈ lw_all := lw_g (lw_at lw_m12 159 rfl) rfl
theorem q2907 : (Jvm.Cond.methodLink "SkerryLightsLaw" (233 : Nat) ({ cls := "SkerryLightsModel", name := "send", desc := "(II)I" } : Jvm.MethodName)) ∈ lw_all := lw_g (lw_at lw_m12 163 rfl) rfl
theorem q2923 : (Jvm.Cond.methodLink "SkerryLightsLaw" (236 : Nat) ({ cls := "SkerryLightsModel", name := "letter", desc := "(I)C" } : Jvm.MethodName)) ∈ lw_all := lw_g (lw_at lw_m12 179 rfl) rfl
theorem q2927 : (Jvm.Cond.methodLink "SkerryLightsLaw" (240 : Nat) ({ cls := "SkerryLightsModel", name := "isWhole", desc := "()Z" } : Jvm.MethodName)) ∈ lw_all := lw_g (lw_at lw_m12 183 rfl) rfl
theorem q2931 : (Jvm.Cond.methodLink "SkerryLightsLaw" (243 : Nat) ({ cls := "SkerryLightsModel", name := "read", desc := "()I" } : Jvm.MethodName)) ∈ lw_all := lw_g (lw_at lw_m12 187 rfl) rfl
theorem q2986 : (Jvm.Cond.methodLink "SkerryLightsLaw" (246 : Nat) ({ cls := "SkerryLightsModel", name := "faultPosition", desc := "()I" } : Jvm.MethodName)) ∈ lw_all := lw_g (lw_at lw_m13 2 rfl) rfl
theorem q2990 : (Jvm.Cond.methodLink "SkerryLightsLaw" (249 : Nat) ({ cls := "SkerryLightsModel", name := "reason", desc := "(IZ)I" } : Jvm.MethodName)) ∈ lw_all := lw_g (lw_at lw_m13 6 rfl) rfl
theorem q2994 : (Jvm.Cond.methodLink "SkerryLightsLaw" (252 : Nat) ({ cls := "SkerryLightsModel", name := "towerOf", desc := "(II)I" } : Jvm.MethodName)) ∈ lw_all := lw_g (lw_at lw_m13 10 rfl) rfl
theorem q3002 : (Jvm.Cond.methodLink "SkerryLightsLaw" (255 : Nat) ({ cls := "SkerryLightsModel", name := "sign", desc := "(II)C" } : Jvm.MethodName)) ∈ lw_all := lw_g (lw_at lw_m13 18 rfl) rfl
theorem q3006 : (Jvm.Cond.methodLink "SkerryLightsLaw" (258 : Nat) ({ cls := "SkerryLightsModel", name := "lensOf", desc := "(II)I" } : Jvm.MethodName)) ∈ lw_all := lw_g (lw_at lw_m13 22 rfl) rfl
theorem q3014 : (Jvm.Cond.methodLink "SkerryLightsLaw" (261 : Nat) ({ cls := "SkerryLightsModel", name := "account", desc := "(I)I" } : Jvm.MethodName)) ∈ lw_all := lw_g (lw_at lw_m13 30 rfl) rfl
theorem q3030 : (Jvm.Cond.methodLink "SkerryLightsLaw" (265 : Nat) ({ cls := "SkerryLightsModel", name := "meanPower", desc := "()D" } : Jvm.MethodName)) ∈ lw_all := lw_g (lw_at lw_m13 46 rfl) rfl
theorem q3034 : (Jvm.Cond.methodLink "SkerryLightsLaw" (270 : Nat) ({ cls := "SkerryLightsModel", name := "watchedShare", desc := "()F" } : Jvm.MethodName)) ∈ lw_all := lw_g (lw_at lw_m13 50 rfl) rfl
theorem q3039 : (Jvm.Cond.methodLink "SkerryLightsLaw" (273 : Nat) ({ cls := "SkerryLightsModel", name := "undo", desc := "()I" } : Jvm.MethodName)) ∈ lw_all := lw_g (lw_at lw_m13 55 rfl) rfl
theorem q3043 : (Jvm.Cond.methodLink "SkerryLightsLaw" (277 : Nat) ({ cls := "SkerryLightsModel", name := "save", desc := "()I" } : Jvm.MethodName)) ∈ lw_all := lw_g (lw_at lw_m13 59 rfl) rfl
theorem q3047 : (Jvm.Cond.methodLink "SkerryLightsLaw" (280 : Nat) ({ cls := "SkerryLightsModel", name := "restore", desc := "()I" } : Jvm.MethodName)) ∈ lw_all := lw_g (lw_at lw_m13 63 rfl) rfl

/-! the law's own entry -/
set_option maxRecDepth 100000
abbrev cL_law : ByteArray := code
def dkwL_law_100 : List UInt8 := [4, 172]
abbrev dktL_law_100 : List UInt8 := dkwL_law_100 ++ []
def dkwL_law_99 : List UInt8 := [154, 0, 15, 45, 3, 47, 21, 7, 133, 148, 153, 0, 5, 3, 172, 167, 0, 3, 132, 5, 4, 167, 246, 104]
abbrev dktL_law_99 : List UInt8 := dkwL_law_99 ++ dktL_law_100
def dkwL_law_98 : List UInt8 := [184, 1, 22, 54, 6, 44, 182, 1, 24, 54, 7, 44, 182, 0, 144, 21, 6, 159, 0, 5, 3, 172, 21, 6]
abbrev dktL_law_98 : List UInt8 := dkwL_law_98 ++ dktL_law_99
def dkwL_law_97 : List UInt8 := [153, 0, 5, 3, 172, 167, 0, 60, 43, 182, 1, 18, 44, 182, 1, 21, 159, 0, 49, 3, 172, 43, 45]
abbrev dktL_law_97 : List UInt8 := dkwL_law_97 ++ dktL_law_98
def dkwL_law_96 : List UInt8 := [182, 0, 144, 21, 6, 159, 0, 5, 3, 172, 21, 6, 154, 0, 15, 45, 3, 47, 21, 7, 133, 148]
abbrev dktL_law_96 : List UInt8 := dkwL_law_96 ++ dktL_law_97
def dkwL_law_95 : List UInt8 := [154, 0, 5, 3, 172, 167, 0, 104, 43, 45, 184, 1, 15, 54, 6, 44, 182, 1, 17, 54, 7, 44]
abbrev dktL_law_95 : List UInt8 := dkwL_law_95 ++ dktL_law_96
def dkwL_law_94 : List UInt8 := [57, 8, 24, 6, 24, 8, 151, 153, 0, 21, 24, 6, 24, 6, 151, 153, 0, 11, 24, 8, 24, 8, 151]
abbrev dktL_law_94 : List UInt8 := dkwL_law_94 ++ dktL_law_95
def dkwL_law_93 : List UInt8 := [24, 7, 151, 154, 0, 5, 3, 172, 167, 0, 147, 43, 182, 1, 10, 141, 57, 6, 44, 182, 1, 14, 141]
abbrev dktL_law_93 : List UInt8 := dkwL_law_93 ++ dktL_law_94
def dkwL_law_92 : List UInt8 := [25, 4, 3, 49, 24, 7, 151, 153, 0, 25, 25, 4, 3, 49, 25, 4, 3, 49, 151, 153, 0, 11, 24, 7]
abbrev dktL_law_92 : List UInt8 := dkwL_law_92 ++ dktL_law_93
def dkwL_law_91 : List UInt8 := [54, 6, 44, 182, 1, 9, 57, 7, 44, 182, 0, 144, 21, 6, 159, 0, 5, 3, 172, 21, 6, 154, 0, 35]
abbrev dktL_law_91 : List UInt8 := dkwL_law_91 ++ dktL_law_92
def dkwL_law_90 : List UInt8 := [154, 0, 15, 45, 3, 47, 21, 7, 133, 148, 153, 0, 5, 3, 172, 167, 0, 212, 43, 25, 4, 184, 1, 6]
abbrev dktL_law_90 : List UInt8 := dkwL_law_90 ++ dktL_law_91
def dkwL_law_89 : List UInt8 := [21, 5, 4, 96, 46, 182, 1, 5, 54, 7, 44, 182, 0, 144, 21, 6, 159, 0, 5, 3, 172, 21, 6]
abbrev dktL_law_89 : List UInt8 := dkwL_law_89 ++ dktL_law_90
def dkwL_law_88 : List UInt8 := [153, 0, 5, 3, 172, 167, 1, 12, 43, 42, 21, 5, 4, 96, 46, 45, 184, 1, 3, 54, 6, 44, 42]
abbrev dktL_law_88 : List UInt8 := dkwL_law_88 ++ dktL_law_89
def dkwL_law_87 : List UInt8 := [182, 0, 144, 21, 6, 159, 0, 5, 3, 172, 21, 6, 154, 0, 15, 45, 3, 47, 21, 7, 133, 148]
abbrev dktL_law_87 : List UInt8 := dkwL_law_87 ++ dktL_law_88
def dkwL_law_86 : List UInt8 := [184, 1, 0, 54, 6, 44, 42, 21, 5, 4, 96, 46, 42, 21, 5, 5, 96, 46, 182, 1, 2, 54, 7, 44]
abbrev dktL_law_86 : List UInt8 := dkwL_law_86 ++ dktL_law_87
def dkwL_law_85 : List UInt8 := [153, 0, 5, 3, 172, 167, 1, 80, 43, 42, 21, 5, 4, 96, 46, 42, 21, 5, 5, 96, 46, 45]
abbrev dktL_law_85 : List UInt8 := dkwL_law_85 ++ dktL_law_86
def dkwL_law_84 : List UInt8 := [182, 0, 144, 21, 6, 159, 0, 5, 3, 172, 21, 6, 154, 0, 15, 45, 3, 47, 21, 7, 133, 148]
abbrev dktL_law_84 : List UInt8 := dkwL_law_84 ++ dktL_law_85
def dkwL_law_83 : List UInt8 := [184, 0, 253, 54, 6, 44, 42, 21, 5, 4, 96, 46, 42, 21, 5, 5, 96, 46, 182, 0, 255, 54, 7, 44]
abbrev dktL_law_83 : List UInt8 := dkwL_law_83 ++ dktL_law_84
def dkwL_law_82 : List UInt8 := [153, 0, 5, 3, 172, 167, 1, 148, 43, 42, 21, 5, 4, 96, 46, 42, 21, 5, 5, 96, 46, 45]
abbrev dktL_law_82 : List UInt8 := dkwL_law_82 ++ dktL_law_83
def dkwL_law_81 : List UInt8 := [182, 0, 144, 21, 6, 159, 0, 5, 3, 172, 21, 6, 154, 0, 15, 45, 3, 47, 21, 7, 133, 148]
abbrev dktL_law_81 : List UInt8 := dkwL_law_81 ++ dktL_law_82
def dkwL_law_80 : List UInt8 := [184, 0, 250, 54, 6, 44, 42, 21, 5, 4, 96, 46, 42, 21, 5, 5, 96, 46, 182, 0, 252, 54, 7, 44]
abbrev dktL_law_80 : List UInt8 := dkwL_law_80 ++ dktL_law_81
def dkwL_law_79 : List UInt8 := [153, 0, 5, 3, 172, 167, 1, 216, 43, 42, 21, 5, 4, 96, 46, 42, 21, 5, 5, 96, 46, 45]
abbrev dktL_law_79 : List UInt8 := dkwL_law_79 ++ dktL_law_80
def dkwL_law_78 : List UInt8 := [182, 0, 144, 21, 6, 159, 0, 5, 3, 172, 21, 6, 154, 0, 15, 45, 3, 47, 21, 7, 133, 148]
abbrev dktL_law_78 : List UInt8 := dkwL_law_78 ++ dktL_law_79
def dkwL_law_77 : List UInt8 := [96, 46, 42, 21, 5, 5, 96, 46, 153, 0, 7, 4, 167, 0, 4, 3, 182, 0, 249, 54, 7, 44]
abbrev dktL_law_77 : List UInt8 := dkwL_law_77 ++ dktL_law_78
def dkwL_law_76 : List UInt8 := [21, 5, 5, 96, 46, 153, 0, 7, 4, 167, 0, 4, 3, 45, 184, 0, 247, 54, 6, 44, 42, 21, 5, 4]
abbrev dktL_law_76 : List UInt8 := dkwL_law_76 ++ dktL_law_77
def dkwL_law_75 : List UInt8 := [45, 3, 47, 21, 7, 133, 148, 153, 0, 5, 3, 172, 167, 2, 44, 43, 42, 21, 5, 4, 96, 46, 42]
abbrev dktL_law_75 : List UInt8 := dkwL_law_75 ++ dktL_law_76
def dkwL_law_74 : List UInt8 := [54, 6, 44, 182, 0, 246, 54, 7, 44, 182, 0, 144, 21, 6, 159, 0, 5, 3, 172, 21, 6, 154, 0, 15]
abbrev dktL_law_74 : List UInt8 := dkwL_law_74 ++ dktL_law_75
def dkwL_law_73 : List UInt8 := [154, 0, 15, 45, 3, 47, 21, 7, 133, 148, 153, 0, 5, 3, 172, 167, 2, 88, 43, 45, 184, 0, 244]
abbrev dktL_law_73 : List UInt8 := dkwL_law_73 ++ dktL_law_74
def dkwL_law_72 : List UInt8 := [184, 0, 241, 54, 6, 44, 182, 0, 243, 54, 7, 44, 182, 0, 144, 21, 6, 159, 0, 5, 3, 172, 21, 6]
abbrev dktL_law_72 : List UInt8 := dkwL_law_72 ++ dktL_law_73
def dkwL_law_71 : List UInt8 := [45, 3, 47, 21, 7, 153, 0, 7, 10, 167, 0, 4, 9, 148, 153, 0, 5, 3, 172, 167, 2, 132, 43, 45]
abbrev dktL_law_71 : List UInt8 := dkwL_law_71 ++ dktL_law_72
def dkwL_law_70 : List UInt8 := [54, 6, 44, 182, 0, 240, 54, 7, 44, 182, 0, 144, 21, 6, 159, 0, 5, 3, 172, 21, 6, 154, 0, 22]
abbrev dktL_law_70 : List UInt8 := dkwL_law_70 ++ dktL_law_71
def dkwL_law_69 : List UInt8 := [154, 0, 15, 45, 3, 47, 21, 7, 133, 148, 153, 0, 5, 3, 172, 167, 2, 183, 43, 45, 184, 0, 237]
abbrev dktL_law_69 : List UInt8 := dkwL_law_69 ++ dktL_law_70
def dkwL_law_68 : List UInt8 := [21, 5, 4, 96, 46, 182, 0, 236, 54, 7, 44, 182, 0, 144, 21, 6, 159, 0, 5, 3, 172, 21, 6]
abbrev dktL_law_68 : List UInt8 := dkwL_law_68 ++ dktL_law_69
def dkwL_law_67 : List UInt8 := [153, 0, 5, 3, 172, 167, 2, 239, 43, 42, 21, 5, 4, 96, 46, 45, 184, 0, 234, 54, 6, 44, 42]
abbrev dktL_law_67 : List UInt8 := dkwL_law_67 ++ dktL_law_68
def dkwL_law_66 : List UInt8 := [182, 0, 144, 21, 6, 159, 0, 5, 3, 172, 21, 6, 154, 0, 15, 45, 3, 47, 21, 7, 133, 148]
abbrev dktL_law_66 : List UInt8 := dkwL_law_66 ++ dktL_law_67
def dkwL_law_65 : List UInt8 := [184, 0, 231, 54, 6, 44, 42, 21, 5, 4, 96, 46, 42, 21, 5, 5, 96, 46, 182, 0, 233, 54, 7, 44]
abbrev dktL_law_65 : List UInt8 := dkwL_law_65 ++ dktL_law_66
def dkwL_law_64 : List UInt8 := [153, 0, 5, 3, 172, 167, 3, 51, 43, 42, 21, 5, 4, 96, 46, 42, 21, 5, 5, 96, 46, 45]
abbrev dktL_law_64 : List UInt8 := dkwL_law_64 ++ dktL_law_65
def dkwL_law_63 : List UInt8 := [182, 0, 144, 21, 6, 159, 0, 5, 3, 172, 21, 6, 154, 0, 15, 45, 3, 47, 21, 7, 133, 148]
abbrev dktL_law_63 : List UInt8 := dkwL_law_63 ++ dktL_law_64
def dkwL_law_62 : List UInt8 := [4, 96, 46, 146, 45, 184, 0, 227, 54, 6, 44, 42, 21, 5, 4, 96, 46, 146, 182, 0, 230, 54, 7, 44]
abbrev dktL_law_62 : List UInt8 := dkwL_law_62 ++ dktL_law_63
def dkwL_law_61 : List UInt8 := [21, 6, 154, 0, 15, 45, 3, 47, 21, 7, 133, 148, 153, 0, 5, 3, 172, 167, 3, 109, 43, 42, 21, 5]
abbrev dktL_law_61 : List UInt8 := dkwL_law_61 ++ dktL_law_62
def dkwL_law_60 : List UInt8 := [96, 46, 42, 21, 5, 6, 96, 46, 182, 0, 226, 54, 7, 44, 182, 0, 144, 21, 6, 159, 0, 5, 3, 172]
abbrev dktL_law_60 : List UInt8 := dkwL_law_60 ++ dktL_law_61
def dkwL_law_59 : List UInt8 := [46, 42, 21, 5, 6, 96, 46, 45, 184, 0, 224, 54, 6, 44, 42, 21, 5, 4, 96, 46, 42, 21, 5, 5]
abbrev dktL_law_59 : List UInt8 := dkwL_law_59 ++ dktL_law_60
def dkwL_law_58 : List UInt8 := [21, 7, 133, 148, 153, 0, 5, 3, 172, 167, 3, 189, 43, 42, 21, 5, 4, 96, 46, 42, 21, 5, 5, 96]
abbrev dktL_law_58 : List UInt8 := dkwL_law_58 ++ dktL_law_59
def dkwL_law_57 : List UInt8 := [182, 0, 223, 54, 7, 44, 182, 0, 144, 21, 6, 159, 0, 5, 3, 172, 21, 6, 154, 0, 15, 45, 3, 47]
abbrev dktL_law_57 : List UInt8 := dkwL_law_57 ++ dktL_law_58
def dkwL_law_56 : List UInt8 := [5, 96, 46, 45, 184, 0, 221, 54, 6, 44, 42, 21, 5, 4, 96, 46, 42, 21, 5, 5, 96, 46]
abbrev dktL_law_56 : List UInt8 := dkwL_law_56 ++ dktL_law_57
def dkwL_law_55 : List UInt8 := [3, 47, 21, 7, 133, 148, 153, 0, 5, 3, 172, 167, 4, 1, 43, 42, 21, 5, 4, 96, 46, 42, 21, 5]
abbrev dktL_law_55 : List UInt8 := dkwL_law_55 ++ dktL_law_56
def dkwL_law_54 : List UInt8 := [96, 46, 182, 0, 220, 54, 7, 44, 182, 0, 144, 21, 6, 159, 0, 5, 3, 172, 21, 6, 154, 0, 15, 45]
abbrev dktL_law_54 : List UInt8 := dkwL_law_54 ++ dktL_law_55
def dkwL_law_53 : List UInt8 := [46, 42, 21, 5, 5, 96, 46, 45, 184, 0, 218, 54, 6, 44, 42, 21, 5, 4, 96, 46, 42, 21, 5, 5]
abbrev dktL_law_53 : List UInt8 := dkwL_law_53 ++ dktL_law_54
def dkwL_law_52 : List UInt8 := [154, 0, 15, 45, 3, 47, 21, 7, 133, 148, 153, 0, 5, 3, 172, 167, 4, 69, 43, 42, 21, 5, 4, 96]
abbrev dktL_law_52 : List UInt8 := dkwL_law_52 ++ dktL_law_53
def dkwL_law_51 : List UInt8 := [42, 21, 5, 5, 96, 46, 182, 0, 217, 54, 7, 44, 182, 0, 144, 21, 6, 159, 0, 5, 3, 172, 21, 6]
abbrev dktL_law_51 : List UInt8 := dkwL_law_51 ++ dktL_law_52
def dkwL_law_50 : List UInt8 := [21, 5, 4, 96, 46, 42, 21, 5, 5, 96, 46, 45, 184, 0, 215, 54, 6, 44, 42, 21, 5, 4, 96, 46]
abbrev dktL_law_50 : List UInt8 := dkwL_law_50 ++ dktL_law_51
def dkwL_law_49 : List UInt8 := [182, 0, 210, 159, 4, 152, 3, 172, 43, 182, 0, 211, 44, 182, 0, 214, 159, 4, 139, 3, 172, 43, 42]
abbrev dktL_law_49 : List UInt8 := dkwL_law_49 ++ dktL_law_50
def dkwL_law_48 : List UInt8 := [154, 0, 15, 45, 3, 47, 21, 7, 133, 148, 153, 0, 5, 3, 172, 167, 4, 163, 43, 182, 0, 207, 44]
abbrev dktL_law_48 : List UInt8 := dkwL_law_48 ++ dktL_law_49
def dkwL_law_47 : List UInt8 := [21, 5, 4, 96, 46, 182, 0, 206, 54, 7, 44, 182, 0, 144, 21, 6, 159, 0, 5, 3, 172, 21, 6]
abbrev dktL_law_47 : List UInt8 := dkwL_law_47 ++ dktL_law_48
def dkwL_law_46 : List UInt8 := [153, 0, 5, 3, 172, 167, 4, 219, 43, 42, 21, 5, 4, 96, 46, 45, 184, 0, 204, 54, 6, 44, 42]
abbrev dktL_law_46 : List UInt8 := dkwL_law_46 ++ dktL_law_47
def dkwL_law_45 : List UInt8 := [182, 0, 144, 21, 6, 159, 0, 5, 3, 172, 21, 6, 154, 0, 15, 45, 3, 47, 21, 7, 133, 148]
abbrev dktL_law_45 : List UInt8 := dkwL_law_45 ++ dktL_law_46
def dkwL_law_44 : List UInt8 := [21, 5, 4, 96, 46, 45, 184, 0, 201, 54, 6, 44, 42, 21, 5, 4, 96, 46, 182, 0, 203, 54, 7, 44]
abbrev dktL_law_44 : List UInt8 := dkwL_law_44 ++ dktL_law_45
def dkwL_law_43 : List UInt8 := [153, 0, 5, 3, 172, 167, 5, 32, 43, 182, 0, 197, 44, 182, 0, 200, 159, 5, 21, 3, 172, 43, 42]
abbrev dktL_law_43 : List UInt8 := dkwL_law_43 ++ dktL_law_44
def dkwL_law_42 : List UInt8 := [159, 0, 5, 3, 172, 21, 6, 154, 0, 22, 45, 3, 47, 21, 7, 153, 0, 7, 10, 167, 0, 4, 9, 148]
abbrev dktL_law_42 : List UInt8 := dkwL_law_42 ++ dktL_law_43
def dkwL_law_41 : List UInt8 := [21, 5, 4, 96, 46, 42, 21, 5, 5, 96, 46, 182, 0, 196, 54, 7, 44, 182, 0, 144, 21, 6]
abbrev dktL_law_41 : List UInt8 := dkwL_law_41 ++ dktL_law_42
def dkwL_law_40 : List UInt8 := [167, 5, 107, 43, 42, 21, 5, 4, 96, 46, 42, 21, 5, 5, 96, 46, 45, 184, 0, 194, 54, 6, 44, 42]
abbrev dktL_law_40 : List UInt8 := dkwL_law_40 ++ dktL_law_41
def dkwL_law_39 : List UInt8 := [159, 0, 5, 3, 172, 21, 6, 154, 0, 15, 45, 3, 47, 21, 7, 133, 148, 153, 0, 5, 3, 172]
abbrev dktL_law_39 : List UInt8 := dkwL_law_39 ++ dktL_law_40
def dkwL_law_38 : List UInt8 := [21, 5, 5, 96, 46, 153, 0, 7, 4, 167, 0, 4, 3, 182, 0, 193, 54, 7, 44, 182, 0, 144, 21, 6]
abbrev dktL_law_38 : List UInt8 := dkwL_law_38 ++ dktL_law_39
def dkwL_law_37 : List UInt8 := [96, 46, 153, 0, 7, 4, 167, 0, 4, 3, 45, 184, 0, 190, 54, 6, 44, 42, 21, 5, 4, 96, 46, 42]
abbrev dktL_law_37 : List UInt8 := dkwL_law_37 ++ dktL_law_38
def dkwL_law_36 : List UInt8 := [167, 0, 4, 9, 148, 153, 0, 5, 3, 172, 167, 5, 191, 43, 42, 21, 5, 4, 96, 46, 42, 21, 5, 5]
abbrev dktL_law_36 : List UInt8 := dkwL_law_36 ++ dktL_law_37
def dkwL_law_35 : List UInt8 := [182, 0, 144, 21, 6, 159, 0, 5, 3, 172, 21, 6, 154, 0, 22, 45, 3, 47, 21, 7, 153, 0, 7, 10]
abbrev dktL_law_35 : List UInt8 := dkwL_law_35 ++ dktL_law_36
def dkwL_law_34 : List UInt8 := [184, 0, 187, 54, 6, 44, 42, 21, 5, 4, 96, 46, 42, 21, 5, 5, 96, 46, 182, 0, 189, 54, 7, 44]
abbrev dktL_law_34 : List UInt8 := dkwL_law_34 ++ dktL_law_35
def dkwL_law_33 : List UInt8 := [148, 153, 0, 5, 3, 172, 167, 6, 10, 43, 42, 21, 5, 4, 96, 46, 42, 21, 5, 5, 96, 46, 45]
abbrev dktL_law_33 : List UInt8 := dkwL_law_33 ++ dktL_law_34
def dkwL_law_32 : List UInt8 := [54, 7, 44, 182, 0, 144, 21, 6, 159, 0, 5, 3, 172, 21, 6, 154, 0, 15, 45, 3, 47, 21, 7, 133]
abbrev dktL_law_32 : List UInt8 := dkwL_law_32 ++ dktL_law_33
def dkwL_law_31 : List UInt8 := [96, 46, 45, 184, 0, 184, 54, 6, 44, 42, 21, 5, 4, 96, 46, 42, 21, 5, 5, 96, 46, 182, 0, 186]
abbrev dktL_law_31 : List UInt8 := dkwL_law_31 ++ dktL_law_32
def dkwL_law_30 : List UInt8 := [47, 21, 7, 133, 148, 153, 0, 5, 3, 172, 167, 6, 78, 43, 42, 21, 5, 4, 96, 46, 42, 21, 5, 5]
abbrev dktL_law_30 : List UInt8 := dkwL_law_30 ++ dktL_law_31
def dkwL_law_29 : List UInt8 := [46, 182, 0, 183, 54, 7, 44, 182, 0, 144, 21, 6, 159, 0, 5, 3, 172, 21, 6, 154, 0, 15, 45, 3]
abbrev dktL_law_29 : List UInt8 := dkwL_law_29 ++ dktL_law_30
def dkwL_law_28 : List UInt8 := [159, 6, 136, 3, 172, 43, 42, 21, 5, 4, 96, 46, 45, 184, 0, 181, 54, 6, 44, 42, 21, 5, 4, 96]
abbrev dktL_law_28 : List UInt8 := dkwL_law_28 ++ dktL_law_29
def dkwL_law_27 : List UInt8 := [167, 6, 160, 43, 182, 0, 173, 44, 182, 0, 176, 159, 6, 149, 3, 172, 43, 182, 0, 177, 44, 182, 0, 180]
abbrev dktL_law_27 : List UInt8 := dkwL_law_27 ++ dktL_law_28
def dkwL_law_26 : List UInt8 := [159, 0, 5, 3, 172, 21, 6, 154, 0, 15, 45, 3, 47, 21, 7, 133, 148, 153, 0, 5, 3, 172]
abbrev dktL_law_26 : List UInt8 := dkwL_law_26 ++ dktL_law_27
def dkwL_law_25 : List UInt8 := [21, 5, 4, 96, 46, 42, 21, 5, 5, 96, 46, 182, 0, 172, 54, 7, 44, 182, 0, 144, 21, 6]
abbrev dktL_law_25 : List UInt8 := dkwL_law_25 ++ dktL_law_26
def dkwL_law_24 : List UInt8 := [167, 6, 228, 43, 42, 21, 5, 4, 96, 46, 42, 21, 5, 5, 96, 46, 45, 184, 0, 169, 54, 6, 44, 42]
abbrev dktL_law_24 : List UInt8 := dkwL_law_24 ++ dktL_law_25
def dkwL_law_23 : List UInt8 := [21, 6, 159, 0, 5, 3, 172, 21, 6, 154, 0, 15, 45, 3, 47, 21, 7, 133, 148, 153, 0, 5, 3, 172]
abbrev dktL_law_23 : List UInt8 := dkwL_law_23 ++ dktL_law_24
def dkwL_law_22 : List UInt8 := [46, 45, 184, 0, 166, 54, 6, 44, 42, 21, 5, 4, 96, 46, 182, 0, 168, 54, 7, 44, 182, 0, 144]
abbrev dktL_law_22 : List UInt8 := dkwL_law_22 ++ dktL_law_23
def dkwL_law_21 : List UInt8 := [154, 0, 15, 45, 3, 47, 21, 7, 133, 148, 153, 0, 5, 3, 172, 167, 7, 28, 43, 42, 21, 5, 4, 96]
abbrev dktL_law_21 : List UInt8 := dkwL_law_21 ++ dktL_law_22
def dkwL_law_20 : List UInt8 := [21, 5, 4, 96, 46, 182, 0, 165, 54, 7, 44, 182, 0, 144, 21, 6, 159, 0, 5, 3, 172, 21, 6]
abbrev dktL_law_20 : List UInt8 := dkwL_law_20 ++ dktL_law_21
def dkwL_law_19 : List UInt8 := [153, 0, 5, 3, 172, 167, 7, 84, 43, 42, 21, 5, 4, 96, 46, 45, 184, 0, 163, 54, 6, 44, 42]
abbrev dktL_law_19 : List UInt8 := dkwL_law_19 ++ dktL_law_20
def dkwL_law_18 : List UInt8 := [182, 0, 144, 21, 6, 159, 0, 5, 3, 172, 21, 6, 154, 0, 15, 45, 3, 47, 21, 7, 133, 148]
abbrev dktL_law_18 : List UInt8 := dkwL_law_18 ++ dktL_law_19
def dkwL_law_17 : List UInt8 := [21, 5, 4, 96, 46, 45, 184, 0, 160, 54, 6, 44, 42, 21, 5, 4, 96, 46, 182, 0, 162, 54, 7, 44]
abbrev dktL_law_17 : List UInt8 := dkwL_law_17 ++ dktL_law_18
def dkwL_law_16 : List UInt8 := [172, 21, 6, 154, 0, 15, 45, 3, 47, 21, 7, 133, 148, 153, 0, 5, 3, 172, 167, 7, 140, 43, 42]
abbrev dktL_law_16 : List UInt8 := dkwL_law_16 ++ dktL_law_17
def dkwL_law_15 : List UInt8 := [54, 6, 44, 42, 21, 5, 4, 96, 46, 182, 0, 159, 54, 7, 44, 182, 0, 144, 21, 6, 159, 0, 5, 3]
abbrev dktL_law_15 : List UInt8 := dkwL_law_15 ++ dktL_law_16
def dkwL_law_14 : List UInt8 := [21, 7, 133, 148, 153, 0, 5, 3, 172, 167, 7, 196, 43, 42, 21, 5, 4, 96, 46, 45, 184, 0, 157]
abbrev dktL_law_14 : List UInt8 := dkwL_law_14 ++ dktL_law_15
def dkwL_law_13 : List UInt8 := [182, 0, 156, 54, 7, 44, 182, 0, 144, 21, 6, 159, 0, 5, 3, 172, 21, 6, 154, 0, 15, 45, 3, 47]
abbrev dktL_law_13 : List UInt8 := dkwL_law_13 ++ dktL_law_14
def dkwL_law_12 : List UInt8 := [167, 7, 252, 43, 42, 21, 5, 4, 96, 46, 45, 184, 0, 154, 54, 6, 44, 42, 21, 5, 4, 96, 46]
abbrev dktL_law_12 : List UInt8 := dkwL_law_12 ++ dktL_law_13
def dkwL_law_11 : List UInt8 := [21, 6, 159, 0, 5, 3, 172, 21, 6, 154, 0, 15, 45, 3, 47, 21, 7, 133, 148, 153, 0, 5, 3, 172]
abbrev dktL_law_11 : List UInt8 := dkwL_law_11 ++ dktL_law_12
def dkwL_law_10 : List UInt8 := [96, 46, 42, 21, 5, 5, 96, 46, 42, 21, 5, 6, 96, 46, 182, 0, 153, 54, 7, 44, 182, 0, 144]
abbrev dktL_law_10 : List UInt8 := dkwL_law_10 ++ dktL_law_11
def dkwL_law_9 : List UInt8 := [46, 42, 21, 5, 5, 96, 46, 42, 21, 5, 6, 96, 46, 45, 184, 0, 151, 54, 6, 44, 42, 21, 5, 4]
abbrev dktL_law_9 : List UInt8 := dkwL_law_9 ++ dktL_law_10
def dkwL_law_8 : List UInt8 := [154, 0, 15, 45, 3, 47, 21, 7, 133, 148, 153, 0, 5, 3, 172, 167, 8, 76, 43, 42, 21, 5, 4, 96]
abbrev dktL_law_8 : List UInt8 := dkwL_law_8 ++ dktL_law_9
def dkwL_law_7 : List UInt8 := [21, 5, 4, 96, 46, 182, 0, 150, 54, 7, 44, 182, 0, 144, 21, 6, 159, 0, 5, 3, 172, 21, 6]
abbrev dktL_law_7 : List UInt8 := dkwL_law_7 ++ dktL_law_8
def dkwL_law_6 : List UInt8 := [148, 153, 0, 5, 3, 172, 167, 8, 132, 43, 42, 21, 5, 4, 96, 46, 45, 184, 0, 147, 54, 6, 44, 42]
abbrev dktL_law_6 : List UInt8 := dkwL_law_6 ++ dktL_law_7
def dkwL_law_5 : List UInt8 := [54, 7, 44, 182, 0, 144, 21, 6, 159, 0, 5, 3, 172, 21, 6, 154, 0, 15, 45, 3, 47, 21, 7, 133]
abbrev dktL_law_5 : List UInt8 := dkwL_law_5 ++ dktL_law_6
def dkwL_law_4 : List UInt8 := [54, 6, 44, 42, 21, 5, 4, 96, 46, 42, 21, 5, 5, 96, 46, 42, 21, 5, 6, 96, 46, 182, 0, 143]
abbrev dktL_law_4 : List UInt8 := dkwL_law_4 ++ dktL_law_5
def dkwL_law_3 : List UInt8 := [43, 42, 21, 5, 4, 96, 46, 42, 21, 5, 5, 96, 46, 42, 21, 5, 6, 96, 46, 45, 184, 0, 138]
abbrev dktL_law_3 : List UInt8 := dkwL_law_3 ++ dktL_law_4
def dkwL_law_2 : List UInt8 := [170, 0, 0, 0, 0, 0, 9, 133, 0, 0, 0, 0, 0, 0, 0, 40, 0, 0, 0, 180, 0, 0, 1, 4, 0, 0, 1, 60, 0, 0, 1, 140, 0, 0, 1, 196, 0, 0, 1, 252, 0, 0, 2, 52, 0, 0, 2, 108, 0, 0, 2, 164, 0, 0, 2, 232, 0, 0, 2, 245, 0, 0, 3, 2, 0, 0, 3, 58, 0, 0, 3, 126, 0, 0, 3, 201, 0, 0, 4, 29, 0, 0, 4, 104, 0, 0, 4, 117, 0, 0, 4, 173, 0, 0, 4, 229, 0, 0, 4, 242, 0, 0, 4, 255, 0, 0, 5, 67, 0, 0, 5, 135, 0, 0, 5, 203, 0, 0, 6, 27, 0, 0, 6, 85, 0, 0, 6, 153, 0, 0, 6, 209, 0, 0, 7, 4, 0, 0, 7, 48, 0, 0, 7, 92, 0, 0, 7, 176, 0, 0, 7, 244, 0, 0, 8, 56, 0, 0, 8, 124, 0, 0, 8, 180, 0, 0, 8, 245, 0, 0, 9, 32, 0, 0, 9, 76, 0, 0, 9, 89]
abbrev dktL_law_2 : List UInt8 := dkwL_law_2 ++ dktL_law_3
def dkwL_law_1 : List UInt8 := [58, 4, 3, 54, 5, 21, 5, 42, 190, 7, 100, 163, 9, 149, 42, 21, 5, 46, 16, 63, 126]
abbrev dktL_law_1 : List UInt8 := dkwL_law_1 ++ dktL_law_2
def dkwL_law_0 : List UInt8 := [187, 0, 8, 89, 183, 0, 134, 76, 187, 0, 135, 89, 183, 0, 137, 77, 4, 188, 11, 78, 4, 188, 7]
abbrev dktL_law_0 : List UInt8 := dkwL_law_0 ++ dktL_law_1
theorem dksL_law_0 : cL_law.data.toList.drop 0 = dktL_law_0 := by decide +kernel
theorem dksL_law_1 : cL_law.data.toList.drop 23 = dktL_law_1 := dk_seg dksL_law_0 23 rfl rfl
theorem dksL_law_2 : cL_law.data.toList.drop 44 = dktL_law_2 := dk_seg dksL_law_1 21 rfl rfl
theorem dksL_law_3 : cL_law.data.toList.drop 224 = dktL_law_3 := dk_seg dksL_law_2 180 rfl rfl
theorem dksL_law_4 : cL_law.data.toList.drop 247 = dktL_law_4 := dk_seg dksL_law_3 23 rfl rfl
theorem dksL_law_5 : cL_law.data.toList.drop 271 = dktL_law_5 := dk_seg dksL_law_4 24 rfl rfl
theorem dksL_law_6 : cL_law.data.toList.drop 295 = dktL_law_6 := dk_seg dksL_law_5 24 rfl rfl
theorem dksL_law_7 : cL_law.data.toList.drop 319 = dktL_law_7 := dk_seg dksL_law_6 24 rfl rfl
theorem dksL_law_8 : cL_law.data.toList.drop 342 = dktL_law_8 := dk_seg dksL_law_7 23 rfl rfl
theorem dksL_law_9 : cL_law.data.toList.drop 366 = dktL_law_9 := dk_seg dksL_law_8 24 rfl rfl
theorem dksL_law_10 : cL_law.data.toList.drop 390 = dktL_law_10 := dk_seg dksL_law_9 24 rfl rfl
theorem dksL_law_11 : cL_law.data.toList.drop 413 = dktL_law_11 := dk_seg dksL_law_10 23 rfl rfl
theorem dksL_law_12 : cL_law.data.toList.drop 437 = dktL_law_12 := dk_seg dksL_law_11 24 rfl rfl
theorem dksL_law_13 : cL_law.data.toList.drop 460 = dktL_law_13 := dk_seg dksL_law_12 23 rfl rfl
theorem dksL_law_14 : cL_law.data.toList.drop 484 = dktL_law_14 := dk_seg dksL_law_13 24 rfl rfl
theorem dksL_law_15 : cL_law.data.toList.drop 507 = dktL_law_15 := dk_seg dksL_law_14 23 rfl rfl
theorem dksL_law_16 : cL_law.data.toList.drop 531 = dktL_law_16 := dk_seg dksL_law_15 24 rfl rfl
theorem dksL_law_17 : cL_law.data.toList.drop 554 = dktL_law_17 := dk_seg dksL_law_16 23 rfl rfl
theorem dksL_law_18 : cL_law.data.toList.drop 578 = dktL_law_18 := dk_seg dksL_law_17 24 rfl rfl
theorem dksL_law_19 : cL_law.data.toList.drop 600 = dktL_law_19 := dk_seg dksL_law_18 22 rfl rfl
theorem dksL_law_20 : cL_law.data.toList.drop 623 = dktL_law_20 := dk_seg dksL_law_19 23 rfl rfl
theorem dksL_law_21 : cL_law.data.toList.drop 646 = dktL_law_21 := dk_seg dksL_law_20 23 rfl rfl
theorem dksL_law_22 : cL_law.data.toList.drop 670 = dktL_law_22 := dk_seg dksL_law_21 24 rfl rfl
theorem dksL_law_23 : cL_law.data.toList.drop 693 = dktL_law_23 := dk_seg dksL_law_22 23 rfl rfl
theorem dksL_law_24 : cL_law.data.toList.drop 717 = dktL_law_24 := dk_seg dksL_law_23 24 rfl rfl
theorem dksL_law_25 : cL_law.data.toList.drop 741 = dktL_law_25 := dk_seg dksL_law_24 24 rfl rfl
theorem dksL_law_26 : cL_law.data.toList.drop 763 = dktL_law_26 := dk_seg dksL_law_25 22 rfl rfl
theorem dksL_law_27 : cL_law.data.toList.drop 785 = dktL_law_27 := dk_seg dksL_law_26 22 rfl rfl
theorem dksL_law_28 : cL_law.data.toList.drop 809 = dktL_law_28 := dk_seg dksL_law_27 24 rfl rfl
theorem dksL_law_29 : cL_law.data.toList.drop 833 = dktL_law_29 := dk_seg dksL_law_28 24 rfl rfl
theorem dksL_law_30 : cL_law.data.toList.drop 857 = dktL_law_30 := dk_seg dksL_law_29 24 rfl rfl
theorem dksL_law_31 : cL_law.data.toList.drop 881 = dktL_law_31 := dk_seg dksL_law_30 24 rfl rfl
theorem dksL_law_32 : cL_law.data.toList.drop 905 = dktL_law_32 := dk_seg dksL_law_31 24 rfl rfl
theorem dksL_law_33 : cL_law.data.toList.drop 929 = dktL_law_33 := dk_seg dksL_law_32 24 rfl rfl
theorem dksL_law_34 : cL_law.data.toList.drop 952 = dktL_law_34 := dk_seg dksL_law_33 23 rfl rfl
theorem dksL_law_35 : cL_law.data.toList.drop 976 = dktL_law_35 := dk_seg dksL_law_34 24 rfl rfl
theorem dksL_law_36 : cL_law.data.toList.drop 1000 = dktL_law_36 := dk_seg dksL_law_35 24 rfl rfl
theorem dksL_law_37 : cL_law.data.toList.drop 1024 = dktL_law_37 := dk_seg dksL_law_36 24 rfl rfl
theorem dksL_law_38 : cL_law.data.toList.drop 1048 = dktL_law_38 := dk_seg dksL_law_37 24 rfl rfl
theorem dksL_law_39 : cL_law.data.toList.drop 1072 = dktL_law_39 := dk_seg dksL_law_38 24 rfl rfl
theorem dksL_law_40 : cL_law.data.toList.drop 1094 = dktL_law_40 := dk_seg dksL_law_39 22 rfl rfl
theorem dksL_law_41 : cL_law.data.toList.drop 1118 = dktL_law_41 := dk_seg dksL_law_40 24 rfl rfl
theorem dksL_law_42 : cL_law.data.toList.drop 1140 = dktL_law_42 := dk_seg dksL_law_41 22 rfl rfl
theorem dksL_law_43 : cL_law.data.toList.drop 1164 = dktL_law_43 := dk_seg dksL_law_42 24 rfl rfl
theorem dksL_law_44 : cL_law.data.toList.drop 1187 = dktL_law_44 := dk_seg dksL_law_43 23 rfl rfl
theorem dksL_law_45 : cL_law.data.toList.drop 1211 = dktL_law_45 := dk_seg dksL_law_44 24 rfl rfl
theorem dksL_law_46 : cL_law.data.toList.drop 1233 = dktL_law_46 := dk_seg dksL_law_45 22 rfl rfl
theorem dksL_law_47 : cL_law.data.toList.drop 1256 = dktL_law_47 := dk_seg dksL_law_46 23 rfl rfl
theorem dksL_law_48 : cL_law.data.toList.drop 1279 = dktL_law_48 := dk_seg dksL_law_47 23 rfl rfl
theorem dksL_law_49 : cL_law.data.toList.drop 1302 = dktL_law_49 := dk_seg dksL_law_48 23 rfl rfl
theorem dksL_law_50 : cL_law.data.toList.drop 1325 = dktL_law_50 := dk_seg dksL_law_49 23 rfl rfl
theorem dksL_law_51 : cL_law.data.toList.drop 1349 = dktL_law_51 := dk_seg dksL_law_50 24 rfl rfl
theorem dksL_law_52 : cL_law.data.toList.drop 1373 = dktL_law_52 := dk_seg dksL_law_51 24 rfl rfl
theorem dksL_law_53 : cL_law.data.toList.drop 1397 = dktL_law_53 := dk_seg dksL_law_52 24 rfl rfl
theorem dksL_law_54 : cL_law.data.toList.drop 1421 = dktL_law_54 := dk_seg dksL_law_53 24 rfl rfl
theorem dksL_law_55 : cL_law.data.toList.drop 1445 = dktL_law_55 := dk_seg dksL_law_54 24 rfl rfl
theorem dksL_law_56 : cL_law.data.toList.drop 1469 = dktL_law_56 := dk_seg dksL_law_55 24 rfl rfl
theorem dksL_law_57 : cL_law.data.toList.drop 1491 = dktL_law_57 := dk_seg dksL_law_56 22 rfl rfl
theorem dksL_law_58 : cL_law.data.toList.drop 1515 = dktL_law_58 := dk_seg dksL_law_57 24 rfl rfl
theorem dksL_law_59 : cL_law.data.toList.drop 1539 = dktL_law_59 := dk_seg dksL_law_58 24 rfl rfl
theorem dksL_law_60 : cL_law.data.toList.drop 1563 = dktL_law_60 := dk_seg dksL_law_59 24 rfl rfl
theorem dksL_law_61 : cL_law.data.toList.drop 1587 = dktL_law_61 := dk_seg dksL_law_60 24 rfl rfl
theorem dksL_law_62 : cL_law.data.toList.drop 1611 = dktL_law_62 := dk_seg dksL_law_61 24 rfl rfl
theorem dksL_law_63 : cL_law.data.toList.drop 1635 = dktL_law_63 := dk_seg dksL_law_62 24 rfl rfl
theorem dksL_law_64 : cL_law.data.toList.drop 1657 = dktL_law_64 := dk_seg dksL_law_63 22 rfl rfl
theorem dksL_law_65 : cL_law.data.toList.drop 1679 = dktL_law_65 := dk_seg dksL_law_64 22 rfl rfl
theorem dksL_law_66 : cL_law.data.toList.drop 1703 = dktL_law_66 := dk_seg dksL_law_65 24 rfl rfl
theorem dksL_law_67 : cL_law.data.toList.drop 1725 = dktL_law_67 := dk_seg dksL_law_66 22 rfl rfl
theorem dksL_law_68 : cL_law.data.toList.drop 1748 = dktL_law_68 := dk_seg dksL_law_67 23 rfl rfl
theorem dksL_law_69 : cL_law.data.toList.drop 1771 = dktL_law_69 := dk_seg dksL_law_68 23 rfl rfl
theorem dksL_law_70 : cL_law.data.toList.drop 1794 = dktL_law_70 := dk_seg dksL_law_69 23 rfl rfl
theorem dksL_law_71 : cL_law.data.toList.drop 1818 = dktL_law_71 := dk_seg dksL_law_70 24 rfl rfl
theorem dksL_law_72 : cL_law.data.toList.drop 1842 = dktL_law_72 := dk_seg dksL_law_71 24 rfl rfl
theorem dksL_law_73 : cL_law.data.toList.drop 1866 = dktL_law_73 := dk_seg dksL_law_72 24 rfl rfl
theorem dksL_law_74 : cL_law.data.toList.drop 1889 = dktL_law_74 := dk_seg dksL_law_73 23 rfl rfl
theorem dksL_law_75 : cL_law.data.toList.drop 1913 = dktL_law_75 := dk_seg dksL_law_74 24 rfl rfl
theorem dksL_law_76 : cL_law.data.toList.drop 1936 = dktL_law_76 := dk_seg dksL_law_75 23 rfl rfl
theorem dksL_law_77 : cL_law.data.toList.drop 1960 = dktL_law_77 := dk_seg dksL_law_76 24 rfl rfl
theorem dksL_law_78 : cL_law.data.toList.drop 1982 = dktL_law_78 := dk_seg dksL_law_77 22 rfl rfl
theorem dksL_law_79 : cL_law.data.toList.drop 2004 = dktL_law_79 := dk_seg dksL_law_78 22 rfl rfl
theorem dksL_law_80 : cL_law.data.toList.drop 2026 = dktL_law_80 := dk_seg dksL_law_79 22 rfl rfl
theorem dksL_law_81 : cL_law.data.toList.drop 2050 = dktL_law_81 := dk_seg dksL_law_80 24 rfl rfl
theorem dksL_law_82 : cL_law.data.toList.drop 2072 = dktL_law_82 := dk_seg dksL_law_81 22 rfl rfl
theorem dksL_law_83 : cL_law.data.toList.drop 2094 = dktL_law_83 := dk_seg dksL_law_82 22 rfl rfl
theorem dksL_law_84 : cL_law.data.toList.drop 2118 = dktL_law_84 := dk_seg dksL_law_83 24 rfl rfl
theorem dksL_law_85 : cL_law.data.toList.drop 2140 = dktL_law_85 := dk_seg dksL_law_84 22 rfl rfl
theorem dksL_law_86 : cL_law.data.toList.drop 2162 = dktL_law_86 := dk_seg dksL_law_85 22 rfl rfl
theorem dksL_law_87 : cL_law.data.toList.drop 2186 = dktL_law_87 := dk_seg dksL_law_86 24 rfl rfl
theorem dksL_law_88 : cL_law.data.toList.drop 2208 = dktL_law_88 := dk_seg dksL_law_87 22 rfl rfl
theorem dksL_law_89 : cL_law.data.toList.drop 2231 = dktL_law_89 := dk_seg dksL_law_88 23 rfl rfl
theorem dksL_law_90 : cL_law.data.toList.drop 2254 = dktL_law_90 := dk_seg dksL_law_89 23 rfl rfl
theorem dksL_law_91 : cL_law.data.toList.drop 2278 = dktL_law_91 := dk_seg dksL_law_90 24 rfl rfl
theorem dksL_law_92 : cL_law.data.toList.drop 2302 = dktL_law_92 := dk_seg dksL_law_91 24 rfl rfl
theorem dksL_law_93 : cL_law.data.toList.drop 2326 = dktL_law_93 := dk_seg dksL_law_92 24 rfl rfl
theorem dksL_law_94 : cL_law.data.toList.drop 2349 = dktL_law_94 := dk_seg dksL_law_93 23 rfl rfl
theorem dksL_law_95 : cL_law.data.toList.drop 2372 = dktL_law_95 := dk_seg dksL_law_94 23 rfl rfl
theorem dksL_law_96 : cL_law.data.toList.drop 2394 = dktL_law_96 := dk_seg dksL_law_95 22 rfl rfl
theorem dksL_law_97 : cL_law.data.toList.drop 2416 = dktL_law_97 := dk_seg dksL_law_96 22 rfl rfl
theorem dksL_law_98 : cL_law.data.toList.drop 2439 = dktL_law_98 := dk_seg dksL_law_97 23 rfl rfl
theorem dksL_law_99 : cL_law.data.toList.drop 2463 = dktL_law_99 := dk_seg dksL_law_98 24 rfl rfl
theorem dksL_law_100 : cL_law.data.toList.drop 2487 = dktL_law_100 := dk_seg dksL_law_99 24 rfl rfl
theorem dL_law_0 : decode cL_law 0 = .ok (.new 8, 3) := dk_187 0 8 (dk_at dksL_law_0 0 rfl rfl)
theorem dL_law_3 : decode cL_law 3 = .ok (.dup, 1) := dk_89 (dk_at dksL_law_0 3 rfl rfl)
theorem dL_law_4 : decode cL_law 4 = .ok (.invokespecial 134, 3) := dk_183 0 134 (dk_at dksL_law_0 4 rfl rfl)
theorem dL_law_7 : decode cL_law 7 = .ok (.astore_n 1, 1) := dk_76 (dk_at dksL_law_0 7 rfl rfl)
theorem dL_law_8 : decode cL_law 8 = .ok (.new 135, 3) := dk_187 0 135 (dk_at dksL_law_0 8 rfl rfl)
theorem dL_law_11 : decode cL_law 11 = .ok (.dup, 1) := dk_89 (dk_at dksL_law_0 11 rfl rfl)
theorem dL_law_12 : decode cL_law 12 = .ok (.invokespecial 137, 3) := dk_183 0 137 (dk_at dksL_law_0 12 rfl rfl)
theorem dL_law_15 : decode cL_law 15 = .ok (.astore_n 2, 1) := dk_77 (dk_at dksL_law_0 15 rfl rfl)
theorem dL_law_16 : decode cL_law 16 = .ok (.iconst 1, 1) := dk_4 (dk_at dksL_law_0 16 rfl rfl)
theorem dL_law_17 : decode cL_law 17 = .ok (.newarray .long, 2) := dk_188_11 (dk_at dksL_law_0 17 rfl rfl)
theorem dL_law_19 : decode cL_law 19 = .ok (.astore_n 3, 1) := dk_78 (dk_at dksL_law_0 19 rfl rfl)
theorem dL_law_20 : decode cL_law 20 = .ok (.iconst 1, 1) := dk_4 (dk_at dksL_law_0 20 rfl rfl)
theorem dL_law_21 : decode cL_law 21 = .ok (.newarray .double, 2) := dk_188_7 (dk_at dksL_law_0 21 rfl rfl)
theorem dL_law_23 : decode cL_law 23 = .ok (.astore 4, 2) := dk_58 4 (dk_at dksL_law_1 0 rfl rfl)
theorem dL_law_25 : decode cL_law 25 = .ok (.iconst 0, 1) := dk_3 (dk_at dksL_law_1 2 rfl rfl)
theorem dL_law_26 : decode cL_law 26 = .ok (.istore 5, 2) := dk_54 5 (dk_at dksL_law_1 3 rfl rfl)
theorem dL_law_28 : decode cL_law 28 = .ok (.iload 5, 2) := dk_21 5 (dk_at dksL_law_1 5 rfl rfl)
theorem dL_law_30 : decode cL_law 30 = .ok (.aload_n 0, 1) := dk_42 (dk_at dksL_law_1 7 rfl rfl)
theorem dL_law_31 : decode cL_law 31 = .ok (.arraylength, 1) := dk_190 (dk_at dksL_law_1 8 rfl rfl)
theorem dL_law_32 : decode cL_law 32 = .ok (.iconst 4, 1) := dk_7 (dk_at dksL_law_1 9 rfl rfl)
theorem dL_law_33 : decode cL_law 33 = .ok (.isub, 1) := dk_100 (dk_at dksL_law_1 10 rfl rfl)
theorem dL_law_34 : decode cL_law 34 = .ok (.if_icmp .gt 2453, 3) := dk_163 9 149 (dk_at dksL_law_1 11 rfl rfl)
theorem dL_law_37 : decode cL_law 37 = .ok (.aload_n 0, 1) := dk_42 (dk_at dksL_law_1 14 rfl rfl)
theorem dL_law_38 : decode cL_law 38 = .ok (.iload 5, 2) := dk_21 5 (dk_at dksL_law_1 15 rfl rfl)
theorem dL_law_40 : decode cL_law 40 = .ok (.iaload, 1) := dk_46 (dk_at dksL_law_1 17 rfl rfl)
theorem dL_law_41 : decode cL_law 41 = .ok (.bipush 63, 2) := dk_16 63 (dk_at dksL_law_1 18 rfl rfl)
theorem dL_law_43 : decode cL_law 43 = .ok (.iand, 1) := dk_126 (dk_at dksL_law_1 20 rfl rfl)
theorem dL_law_44 : decode cL_law 44 = .ok (.tableswitch 2437 0 40 #[180, 260, 316, 396, 452, 508, 564, 620, 676, 744, 757, 770, 826, 894, 969, 1053, 1128, 1141, 1197, 1253, 1266, 1279, 1347, 1415, 1483, 1563, 1621, 1689, 1745, 1796, 1840, 1884, 1968, 2036, 2104, 2172, 2228, 2293, 2336, 2380, 2393], 180) := by decide +kernel
theorem dL_law_224 : decode cL_law 224 = .ok (.aload_n 1, 1) := dk_43 (dk_at dksL_law_3 0 rfl rfl)
theorem dL_law_225 : decode cL_law 225 = .ok (.aload_n 0, 1) := dk_42 (dk_at dksL_law_3 1 rfl rfl)
theorem dL_law_226 : decode cL_law 226 = .ok (.iload 5, 2) := dk_21 5 (dk_at dksL_law_3 2 rfl rfl)
theorem dL_law_228 : decode cL_law 228 = .ok (.iconst 1, 1) := dk_4 (dk_at dksL_law_3 4 rfl rfl)
theorem dL_law_229 : decode cL_law 229 = .ok (.iadd, 1) := dk_96 (dk_at dksL_law_3 5 rfl rfl)
theorem dL_law_230 : decode cL_law 230 = .ok (.iaload, 1) := dk_46 (dk_at dksL_law_3 6 rfl rfl)
theorem dL_law_231 : decode cL_law 231 = .ok (.aload_n 0, 1) := dk_42 (dk_at dksL_law_3 7 rfl rfl)
theorem dL_law_232 : decode cL_law 232 = .ok (.iload 5, 2) := dk_21 5 (dk_at dksL_law_3 8 rfl rfl)
theorem dL_law_234 : decode cL_law 234 = .ok (.iconst 2, 1) := dk_5 (dk_at dksL_law_3 10 rfl rfl)
theorem dL_law_235 : decode cL_law 235 = .ok (.iadd, 1) := dk_96 (dk_at dksL_law_3 11 rfl rfl)
theorem dL_law_236 : decode cL_law 236 = .ok (.iaload, 1) := dk_46 (dk_at dksL_law_3 12 rfl rfl)
theorem dL_law_237 : decode cL_law 237 = .ok (.aload_n 0, 1) := dk_42 (dk_at dksL_law_3 13 rfl rfl)
theorem dL_law_238 : decode cL_law 238 = .ok (.iload 5, 2) := dk_21 5 (dk_at dksL_law_3 14 rfl rfl)
theorem dL_law_240 : decode cL_law 240 = .ok (.iconst 3, 1) := dk_6 (dk_at dksL_law_3 16 rfl rfl)
theorem dL_law_241 : decode cL_law 241 = .ok (.iadd, 1) := dk_96 (dk_at dksL_law_3 17 rfl rfl)
theorem dL_law_242 : decode cL_law 242 = .ok (.iaload, 1) := dk_46 (dk_at dksL_law_3 18 rfl rfl)
theorem dL_law_243 : decode cL_law 243 = .ok (.aload_n 3, 1) := dk_45 (dk_at dksL_law_3 19 rfl rfl)
theorem dL_law_244 : decode cL_law 244 = .ok (.invokestatic 138, 3) := dk_184 0 138 (dk_at dksL_law_3 20 rfl rfl)
theorem dL_law_247 : decode cL_law 247 = .ok (.istore 6, 2) := dk_54 6 (dk_at dksL_law_4 0 rfl rfl)
theorem dL_law_249 : decode cL_law 249 = .ok (.aload_n 2, 1) := dk_44 (dk_at dksL_law_4 2 rfl rfl)
theorem dL_law_250 : decode cL_law 250 = .ok (.aload_n 0, 1) := dk_42 (dk_at dksL_law_4 3 rfl rfl)
theorem dL_law_251 : decode cL_law 251 = .ok (.iload 5, 2) := dk_21 5 (dk_at dksL_law_4 4 rfl rfl)
theorem dL_law_253 : decode cL_law 253 = .ok (.iconst 1, 1) := dk_4 (dk_at dksL_law_4 6 rfl rfl)
theorem dL_law_254 : decode cL_law 254 = .ok (.iadd, 1) := dk_96 (dk_at dksL_law_4 7 rfl rfl)
theorem dL_law_255 : decode cL_law 255 = .ok (.iaload, 1) := dk_46 (dk_at dksL_law_4 8 rfl rfl)
theorem dL_law_256 : decode cL_law 256 = .ok (.aload_n 0, 1) := dk_42 (dk_at dksL_law_4 9 rfl rfl)
theorem dL_law_257 : decode cL_law 257 = .ok (.iload 5, 2) := dk_21 5 (dk_at dksL_law_4 10 rfl rfl)
theorem dL_law_259 : decode cL_law 259 = .ok (.iconst 2, 1) := dk_5 (dk_at dksL_law_4 12 rfl rfl)
theorem dL_law_260 : decode cL_law 260 = .ok (.iadd, 1) := dk_96 (dk_at dksL_law_4 13 rfl rfl)
theorem dL_law_261 : decode cL_law 261 = .ok (.iaload, 1) := dk_46 (dk_at dksL_law_4 14 rfl rfl)
theorem dL_law_262 : decode cL_law 262 = .ok (.aload_n 0, 1) := dk_42 (dk_at dksL_law_4 15 rfl rfl)
theorem dL_law_263 : decode cL_law 263 = .ok (.iload 5, 2) := dk_21 5 (dk_at dksL_law_4 16 rfl rfl)
theorem dL_law_265 : decode cL_law 265 = .ok (.iconst 3, 1) := dk_6 (dk_at dksL_law_4 18 rfl rfl)
theorem dL_law_266 : decode cL_law 266 = .ok (.iadd, 1) := dk_96 (dk_at dksL_law_4 19 rfl rfl)
theorem dL_law_267 : decode cL_law 267 = .ok (.iaload, 1) := dk_46 (dk_at dksL_law_4 20 rfl rfl)
theorem dL_law_268 : decode cL_law 268 = .ok (.invokevirtual 143, 3) := dk_182 0 143 (dk_at dksL_law_4 21 rfl rfl)
theorem dL_law_271 : decode cL_law 271 = .ok (.istore 7, 2) := dk_54 7 (dk_at dksL_law_5 0 rfl rfl)
theorem dL_law_273 : decode cL_law 273 = .ok (.aload_n 2, 1) := dk_44 (dk_at dksL_law_5 2 rfl rfl)
theorem dL_law_274 : decode cL_law 274 = .ok (.invokevirtual 144, 3) := dk_182 0 144 (dk_at dksL_law_5 3 rfl rfl)
theorem dL_law_277 : decode cL_law 277 = .ok (.iload 6, 2) := dk_21 6 (dk_at dksL_law_5 6 rfl rfl)
theorem dL_law_279 : decode cL_law 279 = .ok (.if_icmp .eq 5, 3) := dk_159 0 5 (dk_at dksL_law_5 8 rfl rfl)
theorem dL_law_282 : decode cL_law 282 = .ok (.iconst 0, 1) := dk_3 (dk_at dksL_law_5 11 rfl rfl)
theorem dL_law_283 : decode cL_law 283 = .ok (.ireturn, 1) := dk_172 (dk_at dksL_law_5 12 rfl rfl)
theorem dL_law_284 : decode cL_law 284 = .ok (.iload 6, 2) := dk_21 6 (dk_at dksL_law_5 13 rfl rfl)
theorem dL_law_286 : decode cL_law 286 = .ok (.ifCond .ne 15, 3) := dk_154 0 15 (dk_at dksL_law_5 15 rfl rfl)
theorem dL_law_289 : decode cL_law 289 = .ok (.aload_n 3, 1) := dk_45 (dk_at dksL_law_5 18 rfl rfl)
theorem dL_law_290 : decode cL_law 290 = .ok (.iconst 0, 1) := dk_3 (dk_at dksL_law_5 19 rfl rfl)
theorem dL_law_291 : decode cL_law 291 = .ok (.laload, 1) := dk_47 (dk_at dksL_law_5 20 rfl rfl)
theorem dL_law_292 : decode cL_law 292 = .ok (.iload 7, 2) := dk_21 7 (dk_at dksL_law_5 21 rfl rfl)
theorem dL_law_294 : decode cL_law 294 = .ok (.i2l, 1) := dk_133 (dk_at dksL_law_5 23 rfl rfl)
theorem dL_law_295 : decode cL_law 295 = .ok (.lcmp, 1) := dk_148 (dk_at dksL_law_6 0 rfl rfl)
theorem dL_law_296 : decode cL_law 296 = .ok (.ifCond .eq 5, 3) := dk_153 0 5 (dk_at dksL_law_6 1 rfl rfl)
theorem dL_law_299 : decode cL_law 299 = .ok (.iconst 0, 1) := dk_3 (dk_at dksL_law_6 4 rfl rfl)
theorem dL_law_300 : decode cL_law 300 = .ok (.ireturn, 1) := dk_172 (dk_at dksL_law_6 5 rfl rfl)
theorem dL_law_301 : decode cL_law 301 = .ok (.goto 2180, 3) := dk_167 8 132 (dk_at dksL_law_6 6 rfl rfl)
theorem dL_law_304 : decode cL_law 304 = .ok (.aload_n 1, 1) := dk_43 (dk_at dksL_law_6 9 rfl rfl)
theorem dL_law_305 : decode cL_law 305 = .ok (.aload_n 0, 1) := dk_42 (dk_at dksL_law_6 10 rfl rfl)
theorem dL_law_306 : decode cL_law 306 = .ok (.iload 5, 2) := dk_21 5 (dk_at dksL_law_6 11 rfl rfl)
theorem dL_law_308 : decode cL_law 308 = .ok (.iconst 1, 1) := dk_4 (dk_at dksL_law_6 13 rfl rfl)
theorem dL_law_309 : decode cL_law 309 = .ok (.iadd, 1) := dk_96 (dk_at dksL_law_6 14 rfl rfl)
theorem dL_law_310 : decode cL_law 310 = .ok (.iaload, 1) := dk_46 (dk_at dksL_law_6 15 rfl rfl)
theorem dL_law_311 : decode cL_law 311 = .ok (.aload_n 3, 1) := dk_45 (dk_at dksL_law_6 16 rfl rfl)
theorem dL_law_312 : decode cL_law 312 = .ok (.invokestatic 147, 3) := dk_184 0 147 (dk_at dksL_law_6 17 rfl rfl)
theorem dL_law_315 : decode cL_law 315 = .ok (.istore 6, 2) := dk_54 6 (dk_at dksL_law_6 20 rfl rfl)
theorem dL_law_317 : decode cL_law 317 = .ok (.aload_n 2, 1) := dk_44 (dk_at dksL_law_6 22 rfl rfl)
theorem dL_law_318 : decode cL_law 318 = .ok (.aload_n 0, 1) := dk_42 (dk_at dksL_law_6 23 rfl rfl)
theorem dL_law_319 : decode cL_law 319 = .ok (.iload 5, 2) := dk_21 5 (dk_at dksL_law_7 0 rfl rfl)
theorem dL_law_321 : decode cL_law 321 = .ok (.iconst 1, 1) := dk_4 (dk_at dksL_law_7 2 rfl rfl)
theorem dL_law_322 : decode cL_law 322 = .ok (.iadd, 1) := dk_96 (dk_at dksL_law_7 3 rfl rfl)
theorem dL_law_323 : decode cL_law 323 = .ok (.iaload, 1) := dk_46 (dk_at dksL_law_7 4 rfl rfl)
theorem dL_law_324 : decode cL_law 324 = .ok (.invokevirtual 150, 3) := dk_182 0 150 (dk_at dksL_law_7 5 rfl rfl)
theorem dL_law_327 : decode cL_law 327 = .ok (.istore 7, 2) := dk_54 7 (dk_at dksL_law_7 8 rfl rfl)
theorem dL_law_329 : decode cL_law 329 = .ok (.aload_n 2, 1) := dk_44 (dk_at dksL_law_7 10 rfl rfl)
theorem dL_law_330 : decode cL_law 330 = .ok (.invokevirtual 144, 3) := dk_182 0 144 (dk_at dksL_law_7 11 rfl rfl)
theorem dL_law_333 : decode cL_law 333 = .ok (.iload 6, 2) := dk_21 6 (dk_at dksL_law_7 14 rfl rfl)
theorem dL_law_335 : decode cL_law 335 = .ok (.if_icmp .eq 5, 3) := dk_159 0 5 (dk_at dksL_law_7 16 rfl rfl)
theorem dL_law_338 : decode cL_law 338 = .ok (.iconst 0, 1) := dk_3 (dk_at dksL_law_7 19 rfl rfl)
theorem dL_law_339 : decode cL_law 339 = .ok (.ireturn, 1) := dk_172 (dk_at dksL_law_7 20 rfl rfl)
theorem dL_law_340 : decode cL_law 340 = .ok (.iload 6, 2) := dk_21 6 (dk_at dksL_law_7 21 rfl rfl)
theorem dL_law_342 : decode cL_law 342 = .ok (.ifCond .ne 15, 3) := dk_154 0 15 (dk_at dksL_law_8 0 rfl rfl)
theorem dL_law_345 : decode cL_law 345 = .ok (.aload_n 3, 1) := dk_45 (dk_at dksL_law_8 3 rfl rfl)
theorem dL_law_346 : decode cL_law 346 = .ok (.iconst 0, 1) := dk_3 (dk_at dksL_law_8 4 rfl rfl)
theorem dL_law_347 : decode cL_law 347 = .ok (.laload, 1) := dk_47 (dk_at dksL_law_8 5 rfl rfl)
theorem dL_law_348 : decode cL_law 348 = .ok (.iload 7, 2) := dk_21 7 (dk_at dksL_law_8 6 rfl rfl)
theorem dL_law_350 : decode cL_law 350 = .ok (.i2l, 1) := dk_133 (dk_at dksL_law_8 8 rfl rfl)
theorem dL_law_351 : decode cL_law 351 = .ok (.lcmp, 1) := dk_148 (dk_at dksL_law_8 9 rfl rfl)
theorem dL_law_352 : decode cL_law 352 = .ok (.ifCond .eq 5, 3) := dk_153 0 5 (dk_at dksL_law_8 10 rfl rfl)
theorem dL_law_355 : decode cL_law 355 = .ok (.iconst 0, 1) := dk_3 (dk_at dksL_law_8 13 rfl rfl)
theorem dL_law_356 : decode cL_law 356 = .ok (.ireturn, 1) := dk_172 (dk_at dksL_law_8 14 rfl rfl)
theorem dL_law_357 : decode cL_law 357 = .ok (.goto 2124, 3) := dk_167 8 76 (dk_at dksL_law_8 15 rfl rfl)
theorem dL_law_360 : decode cL_law 360 = .ok (.aload_n 1, 1) := dk_43 (dk_at dksL_law_8 18 rfl rfl)
theorem dL_law_361 : decode cL_law 361 = .ok (.aload_n 0, 1) := dk_42 (dk_at dksL_law_8 19 rfl rfl)
theorem dL_law_362 : decode cL_law 362 = .ok (.iload 5, 2) := dk_21 5 (dk_at dksL_law_8 20 rfl rfl)
theorem dL_law_364 : decode cL_law 364 = .ok (.iconst 1, 1) := dk_4 (dk_at dksL_law_8 22 rfl rfl)
theorem dL_law_365 : decode cL_law 365 = .ok (.iadd, 1) := dk_96 (dk_at dksL_law_8 23 rfl rfl)
theorem dL_law_366 : decode cL_law 366 = .ok (.iaload, 1) := dk_46 (dk_at dksL_law_9 0 rfl rfl)
theorem dL_law_367 : decode cL_law 367 = .ok (.aload_n 0, 1) := dk_42 (dk_at dksL_law_9 1 rfl rfl)
theorem dL_law_368 : decode cL_law 368 = .ok (.iload 5, 2) := dk_21 5 (dk_at dksL_law_9 2 rfl rfl)
theorem dL_law_370 : decode cL_law 370 = .ok (.iconst 2, 1) := dk_5 (dk_at dksL_law_9 4 rfl rfl)
theorem dL_law_371 : decode cL_law 371 = .ok (.iadd, 1) := dk_96 (dk_at dksL_law_9 5 rfl rfl)
theorem dL_law_372 : decode cL_law 372 = .ok (.iaload, 1) := dk_46 (dk_at dksL_law_9 6 rfl rfl)
theorem dL_law_373 : decode cL_law 373 = .ok (.aload_n 0, 1) := dk_42 (dk_at dksL_law_9 7 rfl rfl)
theorem dL_law_374 : decode cL_law 374 = .ok (.iload 5, 2) := dk_21 5 (dk_at dksL_law_9 8 rfl rfl)
theorem dL_law_376 : decode cL_law 376 = .ok (.iconst 3, 1) := dk_6 (dk_at dksL_law_9 10 rfl rfl)
theorem dL_law_377 : decode cL_law 377 = .ok (.iadd, 1) := dk_96 (dk_at dksL_law_9 11 rfl rfl)
theorem dL_law_378 : decode cL_law 378 = .ok (.iaload, 1) := dk_46 (dk_at dksL_law_9 12 rfl rfl)
theorem dL_law_379 : decode cL_law 379 = .ok (.aload_n 3, 1) := dk_45 (dk_at dksL_law_9 13 rfl rfl)
theorem dL_law_380 : decode cL_law 380 = .ok (.invokestatic 151, 3) := dk_184 0 151 (dk_at dksL_law_9 14 rfl rfl)
theorem dL_law_383 : decode cL_law 383 = .ok (.istore 6, 2) := dk_54 6 (dk_at dksL_law_9 17 rfl rfl)
theorem dL_law_385 : decode cL_law 385 = .ok (.aload_n 2, 1) := dk_44 (dk_at dksL_law_9 19 rfl rfl)
theorem dL_law_386 : decode cL_law 386 = .ok (.aload_n 0, 1) := dk_42 (dk_at dksL_law_9 20 rfl rfl)
theorem dL_law_387 : decode cL_law 387 = .ok (.iload 5, 2) := dk_21 5 (dk_at dksL_law_9 21 rfl rfl)
theorem dL_law_389 : decode cL_law 389 = .ok (.iconst 1, 1) := dk_4 (dk_at dksL_law_9 23 rfl rfl)
theorem dL_law_390 : decode cL_law 390 = .ok (.iadd, 1) := dk_96 (dk_at dksL_law_10 0 rfl rfl)
theorem dL_law_391 : decode cL_law 391 = .ok (.iaload, 1) := dk_46 (dk_at dksL_law_10 1 rfl rfl)
theorem dL_law_392 : decode cL_law 392 = .ok (.aload_n 0, 1) := dk_42 (dk_at dksL_law_10 2 rfl rfl)
theorem dL_law_393 : decode cL_law 393 = .ok (.iload 5, 2) := dk_21 5 (dk_at dksL_law_10 3 rfl rfl)
theorem dL_law_395 : decode cL_law 395 = .ok (.iconst 2, 1) := dk_5 (dk_at dksL_law_10 5 rfl rfl)
theorem dL_law_396 : decode cL_law 396 = .ok (.iadd, 1) := dk_96 (dk_at dksL_law_10 6 rfl rfl)
theorem dL_law_397 : decode cL_law 397 = .ok (.iaload, 1) := dk_46 (dk_at dksL_law_10 7 rfl rfl)
theorem dL_law_398 : decode cL_law 398 = .ok (.aload_n 0, 1) := dk_42 (dk_at dksL_law_10 8 rfl rfl)
theorem dL_law_399 : decode cL_law 399 = .ok (.iload 5, 2) := dk_21 5 (dk_at dksL_law_10 9 rfl rfl)
theorem dL_law_401 : decode cL_law 401 = .ok (.iconst 3, 1) := dk_6 (dk_at dksL_law_10 11 rfl rfl)
theorem dL_law_402 : decode cL_law 402 = .ok (.iadd, 1) := dk_96 (dk_at dksL_law_10 12 rfl rfl)
theorem dL_law_403 : decode cL_law 403 = .ok (.iaload, 1) := dk_46 (dk_at dksL_law_10 13 rfl rfl)
theorem dL_law_404 : decode cL_law 404 = .ok (.invokevirtual 153, 3) := dk_182 0 153 (dk_at dksL_law_10 14 rfl rfl)
theorem dL_law_407 : decode cL_law 407 = .ok (.istore 7, 2) := dk_54 7 (dk_at dksL_law_10 17 rfl rfl)
theorem dL_law_409 : decode cL_law 409 = .ok (.aload_n 2, 1) := dk_44 (dk_at dksL_law_10 19 rfl rfl)
theorem dL_law_410 : decode cL_law 410 = .ok (.invokevirtual 144, 3) := dk_182 0 144 (dk_at dksL_law_10 20 rfl rfl)
theorem dL_law_413 : decode cL_law 413 = .ok (.iload 6, 2) := dk_21 6 (dk_at dksL_law_11 0 rfl rfl)
theorem dL_law_415 : decode cL_law 415 = .ok (.if_icmp .eq 5, 3) := dk_159 0 5 (dk_at dksL_law_11 2 rfl rfl)
theorem dL_law_418 : decode cL_law 418 = .ok (.iconst 0, 1) := dk_3 (dk_at dksL_law_11 5 rfl rfl)
theorem dL_law_419 : decode cL_law 419 = .ok (.ireturn, 1) := dk_172 (dk_at dksL_law_11 6 rfl rfl)
theorem dL_law_420 : decode cL_law 420 = .ok (.iload 6, 2) := dk_21 6 (dk_at dksL_law_11 7 rfl rfl)
theorem dL_law_422 : decode cL_law 422 = .ok (.ifCond .ne 15, 3) := dk_154 0 15 (dk_at dksL_law_11 9 rfl rfl)
theorem dL_law_425 : decode cL_law 425 = .ok (.aload_n 3, 1) := dk_45 (dk_at dksL_law_11 12 rfl rfl)
theorem dL_law_426 : decode cL_law 426 = .ok (.iconst 0, 1) := dk_3 (dk_at dksL_law_11 13 rfl rfl)
theorem dL_law_427 : decode cL_law 427 = .ok (.laload, 1) := dk_47 (dk_at dksL_law_11 14 rfl rfl)
theorem dL_law_428 : decode cL_law 428 = .ok (.iload 7, 2) := dk_21 7 (dk_at dksL_law_11 15 rfl rfl)
theorem dL_law_430 : decode cL_law 430 = .ok (.i2l, 1) := dk_133 (dk_at dksL_law_11 17 rfl rfl)
theorem dL_law_431 : decode cL_law 431 = .ok (.lcmp, 1) := dk_148 (dk_at dksL_law_11 18 rfl rfl)
theorem dL_law_432 : decode cL_law 432 = .ok (.ifCond .eq 5, 3) := dk_153 0 5 (dk_at dksL_law_11 19 rfl rfl)
theorem dL_law_435 : decode cL_law 435 = .ok (.iconst 0, 1) := dk_3 (dk_at dksL_law_11 22 rfl rfl)
theorem dL_law_436 : decode cL_law 436 = .ok (.ireturn, 1) := dk_172 (dk_at dksL_law_11 23 rfl rfl)
theorem dL_law_437 : decode cL_law 437 = .ok (.goto 2044, 3) := dk_167 7 252 (dk_at dksL_law_12 0 rfl rfl)
theorem dL_law_440 : decode cL_law 440 = .ok (.aload_n 1, 1) := dk_43 (dk_at dksL_law_12 3 rfl rfl)
theorem dL_law_441 : decode cL_law 441 = .ok (.aload_n 0, 1) := dk_42 (dk_at dksL_law_12 4 rfl rfl)
theorem dL_law_442 : decode cL_law 442 = .ok (.iload 5, 2) := dk_21 5 (dk_at dksL_law_12 5 rfl rfl)
theorem dL_law_444 : decode cL_law 444 = .ok (.iconst 1, 1) := dk_4 (dk_at dksL_law_12 7 rfl rfl)
theorem dL_law_445 : decode cL_law 445 = .ok (.iadd, 1) := dk_96 (dk_at dksL_law_12 8 rfl rfl)
theorem dL_law_446 : decode cL_law 446 = .ok (.iaload, 1) := dk_46 (dk_at dksL_law_12 9 rfl rfl)
theorem dL_law_447 : decode cL_law 447 = .ok (.aload_n 3, 1) := dk_45 (dk_at dksL_law_12 10 rfl rfl)
theorem dL_law_448 : decode cL_law 448 = .ok (.invokestatic 154, 3) := dk_184 0 154 (dk_at dksL_law_12 11 rfl rfl)
theorem dL_law_451 : decode cL_law 451 = .ok (.istore 6, 2) := dk_54 6 (dk_at dksL_law_12 14 rfl rfl)
theorem dL_law_453 : decode cL_law 453 = .ok (.aload_n 2, 1) := dk_44 (dk_at dksL_law_12 16 rfl rfl)
theorem dL_law_454 : decode cL_law 454 = .ok (.aload_n 0, 1) := dk_42 (dk_at dksL_law_12 17 rfl rfl)
theorem dL_law_455 : decode cL_law 455 = .ok (.iload 5, 2) := dk_21 5 (dk_at dksL_law_12 18 rfl rfl)
theorem dL_law_457 : decode cL_law 457 = .ok (.iconst 1, 1) := dk_4 (dk_at dksL_law_12 20 rfl rfl)
theorem dL_law_458 : decode cL_law 458 = .ok (.iadd, 1) := dk_96 (dk_at dksL_law_12 21 rfl rfl)
theorem dL_law_459 : decode cL_law 459 = .ok (.iaload, 1) := dk_46 (dk_at dksL_law_12 22 rfl rfl)
theorem dL_law_460 : decode cL_law 460 = .ok (.invokevirtual 156, 3) := dk_182 0 156 (dk_at dksL_law_13 0 rfl rfl)
theorem dL_law_463 : decode cL_law 463 = .ok (.istore 7, 2) := dk_54 7 (dk_at dksL_law_13 3 rfl rfl)
theorem dL_law_465 : decode cL_law 465 = .ok (.aload_n 2, 1) := dk_44 (dk_at dksL_law_13 5 rfl rfl)
theorem dL_law_466 : decode cL_law 466 = .ok (.invokevirtual 144, 3) := dk_182 0 144 (dk_at dksL_law_13 6 rfl rfl)
theorem dL_law_469 : decode cL_law 469 = .ok (.iload 6, 2) := dk_21 6 (dk_at dksL_law_13 9 rfl rfl)
theorem dL_law_471 : decode cL_law 471 = .ok (.if_icmp .eq 5, 3) := dk_159 0 5 (dk_at dksL_law_13 11 rfl rfl)
theorem dL_law_474 : decode cL_law 474 = .ok (.iconst 0, 1) := dk_3 (dk_at dksL_law_13 14 rfl rfl)
theorem dL_law_475 : decode cL_law 475 = .ok (.ireturn, 1) := dk_172 (dk_at dksL_law_13 15 rfl rfl)
theorem dL_law_476 : decode cL_law 476 = .ok (.iload 6, 2) := dk_21 6 (dk_at dksL_law_13 16 rfl rfl)
theorem dL_law_478 : decode cL_law 478 = .ok (.ifCond .ne 15, 3) := dk_154 0 15 (dk_at dksL_law_13 18 rfl rfl)
theorem dL_law_481 : decode cL_law 481 = .ok (.aload_n 3, 1) := dk_45 (dk_at dksL_law_13 21 rfl rfl)
theorem dL_law_482 : decode cL_law 482 = .ok (.iconst 0, 1) := dk_3 (dk_at dksL_law_13 22 rfl rfl)
theorem dL_law_483 : decode cL_law 483 = .ok (.laload, 1) := dk_47 (dk_at dksL_law_13 23 rfl rfl)
theorem dL_law_484 : decode cL_law 484 = .ok (.iload 7, 2) := dk_21 7 (dk_at dksL_law_14 0 rfl rfl)
theorem dL_law_486 : decode cL_law 486 = .ok (.i2l, 1) := dk_133 (dk_at dksL_law_14 2 rfl rfl)
theorem dL_law_487 : decode cL_law 487 = .ok (.lcmp, 1) := dk_148 (dk_at dksL_law_14 3 rfl rfl)
theorem dL_law_488 : decode cL_law 488 = .ok (.ifCond .eq 5, 3) := dk_153 0 5 (dk_at dksL_law_14 4 rfl rfl)
theorem dL_law_491 : decode cL_law 491 = .ok (.iconst 0, 1) := dk_3 (dk_at dksL_law_14 7 rfl rfl)
theorem dL_law_492 : decode cL_law 492 = .ok (.ireturn, 1) := dk_172 (dk_at dksL_law_14 8 rfl rfl)
theorem dL_law_493 : decode cL_law 493 = .ok (.goto 1988, 3) := dk_167 7 196 (dk_at dksL_law_14 9 rfl rfl)
theorem dL_law_496 : decode cL_law 496 = .ok (.aload_n 1, 1) := dk_43 (dk_at dksL_law_14 12 rfl rfl)
theorem dL_law_497 : decode cL_law 497 = .ok (.aload_n 0, 1) := dk_42 (dk_at dksL_law_14 13 rfl rfl)
theorem dL_law_498 : decode cL_law 498 = .ok (.iload 5, 2) := dk_21 5 (dk_at dksL_law_14 14 rfl rfl)
theorem dL_law_500 : decode cL_law 500 = .ok (.iconst 1, 1) := dk_4 (dk_at dksL_law_14 16 rfl rfl)
theorem dL_law_501 : decode cL_law 501 = .ok (.iadd, 1) := dk_96 (dk_at dksL_law_14 17 rfl rfl)
theorem dL_law_502 : decode cL_law 502 = .ok (.iaload, 1) := dk_46 (dk_at dksL_law_14 18 rfl rfl)
theorem dL_law_503 : decode cL_law 503 = .ok (.aload_n 3, 1) := dk_45 (dk_at dksL_law_14 19 rfl rfl)
theorem dL_law_504 : decode cL_law 504 = .ok (.invokestatic 157, 3) := dk_184 0 157 (dk_at dksL_law_14 20 rfl rfl)
theorem dL_law_507 : decode cL_law 507 = .ok (.istore 6, 2) := dk_54 6 (dk_at dksL_law_15 0 rfl rfl)
theorem dL_law_509 : decode cL_law 509 = .ok (.aload_n 2, 1) := dk_44 (dk_at dksL_law_15 2 rfl rfl)
theorem dL_law_510 : decode cL_law 510 = .ok (.aload_n 0, 1) := dk_42 (dk_at dksL_law_15 3 rfl rfl)
theorem dL_law_511 : decode cL_law 511 = .ok (.iload 5, 2) := dk_21 5 (dk_at dksL_law_15 4 rfl rfl)
theorem dL_law_513 : decode cL_law 513 = .ok (.iconst 1, 1) := dk_4 (dk_at dksL_law_15 6 rfl rfl)
theorem dL_law_514 : decode cL_law 514 = .ok (.iadd, 1) := dk_96 (dk_at dksL_law_15 7 rfl rfl)
theorem dL_law_515 : decode cL_law 515 = .ok (.iaload, 1) := dk_46 (dk_at dksL_law_15 8 rfl rfl)
theorem dL_law_516 : decode cL_law 516 = .ok (.invokevirtual 159, 3) := dk_182 0 159 (dk_at dksL_law_15 9 rfl rfl)
theorem dL_law_519 : decode cL_law 519 = .ok (.istore 7, 2) := dk_54 7 (dk_at dksL_law_15 12 rfl rfl)
theorem dL_law_521 : decode cL_law 521 = .ok (.aload_n 2, 1) := dk_44 (dk_at dksL_law_15 14 rfl rfl)
theorem dL_law_522 : decode cL_law 522 = .ok (.invokevirtual 144, 3) := dk_182 0 144 (dk_at dksL_law_15 15 rfl rfl)
theorem dL_law_525 : decode cL_law 525 = .ok (.iload 6, 2) := dk_21 6 (dk_at dksL_law_15 18 rfl rfl)
theorem dL_law_527 : decode cL_law 527 = .ok (.if_icmp .eq 5, 3) := dk_159 0 5 (dk_at dksL_law_15 20 rfl rfl)
theorem dL_law_530 : decode cL_law 530 = .ok (.iconst 0, 1) := dk_3 (dk_at dksL_law_15 23 rfl rfl)
theorem dL_law_531 : decode cL_law 531 = .ok (.ireturn, 1) := dk_172 (dk_at dksL_law_16 0 rfl rfl)
theorem dL_law_532 : decode cL_law 532 = .ok (.iload 6, 2) := dk_21 6 (dk_at dksL_law_16 1 rfl rfl)
theorem dL_law_534 : decode cL_law 534 = .ok (.ifCond .ne 15, 3) := dk_154 0 15 (dk_at dksL_law_16 3 rfl rfl)
theorem dL_law_537 : decode cL_law 537 = .ok (.aload_n 3, 1) := dk_45 (dk_at dksL_law_16 6 rfl rfl)
theorem dL_law_538 : decode cL_law 538 = .ok (.iconst 0, 1) := dk_3 (dk_at dksL_law_16 7 rfl rfl)
theorem dL_law_539 : decode cL_law 539 = .ok (.laload, 1) := dk_47 (dk_at dksL_law_16 8 rfl rfl)
theorem dL_law_540 : decode cL_law 540 = .ok (.iload 7, 2) := dk_21 7 (dk_at dksL_law_16 9 rfl rfl)
theorem dL_law_542 : decode cL_law 542 = .ok (.i2l, 1) := dk_133 (dk_at dksL_law_16 11 rfl rfl)
theorem dL_law_543 : decode cL_law 543 = .ok (.lcmp, 1) := dk_148 (dk_at dksL_law_16 12 rfl rfl)
theorem dL_law_544 : decode cL_law 544 = .ok (.ifCond .eq 5, 3) := dk_153 0 5 (dk_at dksL_law_16 13 rfl rfl)
theorem dL_law_547 : decode cL_law 547 = .ok (.iconst 0, 1) := dk_3 (dk_at dksL_law_16 16 rfl rfl)
theorem dL_law_548 : decode cL_law 548 = .ok (.ireturn, 1) := dk_172 (dk_at dksL_law_16 17 rfl rfl)
theorem dL_law_549 : decode cL_law 549 = .ok (.goto 1932, 3) := dk_167 7 140 (dk_at dksL_law_16 18 rfl rfl)
theorem dL_law_552 : decode cL_law 552 = .ok (.aload_n 1, 1) := dk_43 (dk_at dksL_law_16 21 rfl rfl)
theorem dL_law_553 : decode cL_law 553 = .ok (.aload_n 0, 1) := dk_42 (dk_at dksL_law_16 22 rfl rfl)
theorem dL_law_554 : decode cL_law 554 = .ok (.iload 5, 2) := dk_21 5 (dk_at dksL_law_17 0 rfl rfl)
theorem dL_law_556 : decode cL_law 556 = .ok (.iconst 1, 1) := dk_4 (dk_at dksL_law_17 2 rfl rfl)
theorem dL_law_557 : decode cL_law 557 = .ok (.iadd, 1) := dk_96 (dk_at dksL_law_17 3 rfl rfl)
theorem dL_law_558 : decode cL_law 558 = .ok (.iaload, 1) := dk_46 (dk_at dksL_law_17 4 rfl rfl)
theorem dL_law_559 : decode cL_law 559 = .ok (.aload_n 3, 1) := dk_45 (dk_at dksL_law_17 5 rfl rfl)
theorem dL_law_560 : decode cL_law 560 = .ok (.invokestatic 160, 3) := dk_184 0 160 (dk_at dksL_law_17 6 rfl rfl)
theorem dL_law_563 : decode cL_law 563 = .ok (.istore 6, 2) := dk_54 6 (dk_at dksL_law_17 9 rfl rfl)
theorem dL_law_565 : decode cL_law 565 = .ok (.aload_n 2, 1) := dk_44 (dk_at dksL_law_17 11 rfl rfl)
theorem dL_law_566 : decode cL_law 566 = .ok (.aload_n 0, 1) := dk_42 (dk_at dksL_law_17 12 rfl rfl)
theorem dL_law_567 : decode cL_law 567 = .ok (.iload 5, 2) := dk_21 5 (dk_at dksL_law_17 13 rfl rfl)
theorem dL_law_569 : decode cL_law 569 = .ok (.iconst 1, 1) := dk_4 (dk_at dksL_law_17 15 rfl rfl)
theorem dL_law_570 : decode cL_law 570 = .ok (.iadd, 1) := dk_96 (dk_at dksL_law_17 16 rfl rfl)
theorem dL_law_571 : decode cL_law 571 = .ok (.iaload, 1) := dk_46 (dk_at dksL_law_17 17 rfl rfl)
theorem dL_law_572 : decode cL_law 572 = .ok (.invokevirtual 162, 3) := dk_182 0 162 (dk_at dksL_law_17 18 rfl rfl)
theorem dL_law_575 : decode cL_law 575 = .ok (.istore 7, 2) := dk_54 7 (dk_at dksL_law_17 21 rfl rfl)
theorem dL_law_577 : decode cL_law 577 = .ok (.aload_n 2, 1) := dk_44 (dk_at dksL_law_17 23 rfl rfl)
theorem dL_law_578 : decode cL_law 578 = .ok (.invokevirtual 144, 3) := dk_182 0 144 (dk_at dksL_law_18 0 rfl rfl)
theorem dL_law_581 : decode cL_law 581 = .ok (.iload 6, 2) := dk_21 6 (dk_at dksL_law_18 3 rfl rfl)
theorem dL_law_583 : decode cL_law 583 = .ok (.if_icmp .eq 5, 3) := dk_159 0 5 (dk_at dksL_law_18 5 rfl rfl)
theorem dL_law_586 : decode cL_law 586 = .ok (.iconst 0, 1) := dk_3 (dk_at dksL_law_18 8 rfl rfl)
theorem dL_law_587 : decode cL_law 587 = .ok (.ireturn, 1) := dk_172 (dk_at dksL_law_18 9 rfl rfl)
theorem dL_law_588 : decode cL_law 588 = .ok (.iload 6, 2) := dk_21 6 (dk_at dksL_law_18 10 rfl rfl)
theorem dL_law_590 : decode cL_law 590 = .ok (.ifCond .ne 15, 3) := dk_154 0 15 (dk_at dksL_law_18 12 rfl rfl)
theorem dL_law_593 : decode cL_law 593 = .ok (.aload_n 3, 1) := dk_45 (dk_at dksL_law_18 15 rfl rfl)
theorem dL_law_594 : decode cL_law 594 = .ok (.iconst 0, 1) := dk_3 (dk_at dksL_law_18 16 rfl rfl)
theorem dL_law_595 : decode cL_law 595 = .ok (.laload, 1) := dk_47 (dk_at dksL_law_18 17 rfl rfl)
theorem dL_law_596 : decode cL_law 596 = .ok (.iload 7, 2) := dk_21 7 (dk_at dksL_law_18 18 rfl rfl)
theorem dL_law_598 : decode cL_law 598 = .ok (.i2l, 1) := dk_133 (dk_at dksL_law_18 20 rfl rfl)
theorem dL_law_599 : decode cL_law 599 = .ok (.lcmp, 1) := dk_148 (dk_at dksL_law_18 21 rfl rfl)
theorem dL_law_600 : decode cL_law 600 = .ok (.ifCond .eq 5, 3) := dk_153 0 5 (dk_at dksL_law_19 0 rfl rfl)
theorem dL_law_603 : decode cL_law 603 = .ok (.iconst 0, 1) := dk_3 (dk_at dksL_law_19 3 rfl rfl)
theorem dL_law_604 : decode cL_law 604 = .ok (.ireturn, 1) := dk_172 (dk_at dksL_law_19 4 rfl rfl)
theorem dL_law_605 : decode cL_law 605 = .ok (.goto 1876, 3) := dk_167 7 84 (dk_at dksL_law_19 5 rfl rfl)
theorem dL_law_608 : decode cL_law 608 = .ok (.aload_n 1, 1) := dk_43 (dk_at dksL_law_19 8 rfl rfl)
theorem dL_law_609 : decode cL_law 609 = .ok (.aload_n 0, 1) := dk_42 (dk_at dksL_law_19 9 rfl rfl)
theorem dL_law_610 : decode cL_law 610 = .ok (.iload 5, 2) := dk_21 5 (dk_at dksL_law_19 10 rfl rfl)
theorem dL_law_612 : decode cL_law 612 = .ok (.iconst 1, 1) := dk_4 (dk_at dksL_law_19 12 rfl rfl)
theorem dL_law_613 : decode cL_law 613 = .ok (.iadd, 1) := dk_96 (dk_at dksL_law_19 13 rfl rfl)
theorem dL_law_614 : decode cL_law 614 = .ok (.iaload, 1) := dk_46 (dk_at dksL_law_19 14 rfl rfl)
theorem dL_law_615 : decode cL_law 615 = .ok (.aload_n 3, 1) := dk_45 (dk_at dksL_law_19 15 rfl rfl)
theorem dL_law_616 : decode cL_law 616 = .ok (.invokestatic 163, 3) := dk_184 0 163 (dk_at dksL_law_19 16 rfl rfl)
theorem dL_law_619 : decode cL_law 619 = .ok (.istore 6, 2) := dk_54 6 (dk_at dksL_law_19 19 rfl rfl)
theorem dL_law_621 : decode cL_law 621 = .ok (.aload_n 2, 1) := dk_44 (dk_at dksL_law_19 21 rfl rfl)
theorem dL_law_622 : decode cL_law 622 = .ok (.aload_n 0, 1) := dk_42 (dk_at dksL_law_19 22 rfl rfl)
theorem dL_law_623 : decode cL_law 623 = .ok (.iload 5, 2) := dk_21 5 (dk_at dksL_law_20 0 rfl rfl)
theorem dL_law_625 : decode cL_law 625 = .ok (.iconst 1, 1) := dk_4 (dk_at dksL_law_20 2 rfl rfl)
theorem dL_law_626 : decode cL_law 626 = .ok (.iadd, 1) := dk_96 (dk_at dksL_law_20 3 rfl rfl)
theorem dL_law_627 : decode cL_law 627 = .ok (.iaload, 1) := dk_46 (dk_at dksL_law_20 4 rfl rfl)
theorem dL_law_628 : decode cL_law 628 = .ok (.invokevirtual 165, 3) := dk_182 0 165 (dk_at dksL_law_20 5 rfl rfl)
theorem dL_law_631 : decode cL_law 631 = .ok (.istore 7, 2) := dk_54 7 (dk_at dksL_law_20 8 rfl rfl)
theorem dL_law_633 : decode cL_law 633 = .ok (.aload_n 2, 1) := dk_44 (dk_at dksL_law_20 10 rfl rfl)
theorem dL_law_634 : decode cL_law 634 = .ok (.invokevirtual 144, 3) := dk_182 0 144 (dk_at dksL_law_20 11 rfl rfl)
theorem dL_law_637 : decode cL_law 637 = .ok (.iload 6, 2) := dk_21 6 (dk_at dksL_law_20 14 rfl rfl)
theorem dL_law_639 : decode cL_law 639 = .ok (.if_icmp .eq 5, 3) := dk_159 0 5 (dk_at dksL_law_20 16 rfl rfl)
theorem dL_law_642 : decode cL_law 642 = .ok (.iconst 0, 1) := dk_3 (dk_at dksL_law_20 19 rfl rfl)
theorem dL_law_643 : decode cL_law 643 = .ok (.ireturn, 1) := dk_172 (dk_at dksL_law_20 20 rfl rfl)
theorem dL_law_644 : decode cL_law 644 = .ok (.iload 6, 2) := dk_21 6 (dk_at dksL_law_20 21 rfl rfl)
theorem dL_law_646 : decode cL_law 646 = .ok (.ifCond .ne 15, 3) := dk_154 0 15 (dk_at dksL_law_21 0 rfl rfl)
theorem dL_law_649 : decode cL_law 649 = .ok (.aload_n 3, 1) := dk_45 (dk_at dksL_law_21 3 rfl rfl)
theorem dL_law_650 : decode cL_law 650 = .ok (.iconst 0, 1) := dk_3 (dk_at dksL_law_21 4 rfl rfl)
theorem dL_law_651 : decode cL_law 651 = .ok (.laload, 1) := dk_47 (dk_at dksL_law_21 5 rfl rfl)
theorem dL_law_652 : decode cL_law 652 = .ok (.iload 7, 2) := dk_21 7 (dk_at dksL_law_21 6 rfl rfl)
theorem dL_law_654 : decode cL_law 654 = .ok (.i2l, 1) := dk_133 (dk_at dksL_law_21 8 rfl rfl)
theorem dL_law_655 : decode cL_law 655 = .ok (.lcmp, 1) := dk_148 (dk_at dksL_law_21 9 rfl rfl)
theorem dL_law_656 : decode cL_law 656 = .ok (.ifCond .eq 5, 3) := dk_153 0 5 (dk_at dksL_law_21 10 rfl rfl)
theorem dL_law_659 : decode cL_law 659 = .ok (.iconst 0, 1) := dk_3 (dk_at dksL_law_21 13 rfl rfl)
theorem dL_law_660 : decode cL_law 660 = .ok (.ireturn, 1) := dk_172 (dk_at dksL_law_21 14 rfl rfl)
theorem dL_law_661 : decode cL_law 661 = .ok (.goto 1820, 3) := dk_167 7 28 (dk_at dksL_law_21 15 rfl rfl)
theorem dL_law_664 : decode cL_law 664 = .ok (.aload_n 1, 1) := dk_43 (dk_at dksL_law_21 18 rfl rfl)
theorem dL_law_665 : decode cL_law 665 = .ok (.aload_n 0, 1) := dk_42 (dk_at dksL_law_21 19 rfl rfl)
theorem dL_law_666 : decode cL_law 666 = .ok (.iload 5, 2) := dk_21 5 (dk_at dksL_law_21 20 rfl rfl)
theorem dL_law_668 : decode cL_law 668 = .ok (.iconst 1, 1) := dk_4 (dk_at dksL_law_21 22 rfl rfl)
theorem dL_law_669 : decode cL_law 669 = .ok (.iadd, 1) := dk_96 (dk_at dksL_law_21 23 rfl rfl)
theorem dL_law_670 : decode cL_law 670 = .ok (.iaload, 1) := dk_46 (dk_at dksL_law_22 0 rfl rfl)
theorem dL_law_671 : decode cL_law 671 = .ok (.aload_n 3, 1) := dk_45 (dk_at dksL_law_22 1 rfl rfl)
theorem dL_law_672 : decode cL_law 672 = .ok (.invokestatic 166, 3) := dk_184 0 166 (dk_at dksL_law_22 2 rfl rfl)
theorem dL_law_675 : decode cL_law 675 = .ok (.istore 6, 2) := dk_54 6 (dk_at dksL_law_22 5 rfl rfl)
theorem dL_law_677 : decode cL_law 677 = .ok (.aload_n 2, 1) := dk_44 (dk_at dksL_law_22 7 rfl rfl)
theorem dL_law_678 : decode cL_law 678 = .ok (.aload_n 0, 1) := dk_42 (dk_at dksL_law_22 8 rfl rfl)
theorem dL_law_679 : decode cL_law 679 = .ok (.iload 5, 2) := dk_21 5 (dk_at dksL_law_22 9 rfl rfl)
theorem dL_law_681 : decode cL_law 681 = .ok (.iconst 1, 1) := dk_4 (dk_at dksL_law_22 11 rfl rfl)
theorem dL_law_682 : decode cL_law 682 = .ok (.iadd, 1) := dk_96 (dk_at dksL_law_22 12 rfl rfl)
theorem dL_law_683 : decode cL_law 683 = .ok (.iaload, 1) := dk_46 (dk_at dksL_law_22 13 rfl rfl)
theorem dL_law_684 : decode cL_law 684 = .ok (.invokevirtual 168, 3) := dk_182 0 168 (dk_at dksL_law_22 14 rfl rfl)
theorem dL_law_687 : decode cL_law 687 = .ok (.istore 7, 2) := dk_54 7 (dk_at dksL_law_22 17 rfl rfl)
theorem dL_law_689 : decode cL_law 689 = .ok (.aload_n 2, 1) := dk_44 (dk_at dksL_law_22 19 rfl rfl)
theorem dL_law_690 : decode cL_law 690 = .ok (.invokevirtual 144, 3) := dk_182 0 144 (dk_at dksL_law_22 20 rfl rfl)
theorem dL_law_693 : decode cL_law 693 = .ok (.iload 6, 2) := dk_21 6 (dk_at dksL_law_23 0 rfl rfl)
theorem dL_law_695 : decode cL_law 695 = .ok (.if_icmp .eq 5, 3) := dk_159 0 5 (dk_at dksL_law_23 2 rfl rfl)
theorem dL_law_698 : decode cL_law 698 = .ok (.iconst 0, 1) := dk_3 (dk_at dksL_law_23 5 rfl rfl)
theorem dL_law_699 : decode cL_law 699 = .ok (.ireturn, 1) := dk_172 (dk_at dksL_law_23 6 rfl rfl)
theorem dL_law_700 : decode cL_law 700 = .ok (.iload 6, 2) := dk_21 6 (dk_at dksL_law_23 7 rfl rfl)
theorem dL_law_702 : decode cL_law 702 = .ok (.ifCond .ne 15, 3) := dk_154 0 15 (dk_at dksL_law_23 9 rfl rfl)
theorem dL_law_705 : decode cL_law 705 = .ok (.aload_n 3, 1) := dk_45 (dk_at dksL_law_23 12 rfl rfl)
theorem dL_law_706 : decode cL_law 706 = .ok (.iconst 0, 1) := dk_3 (dk_at dksL_law_23 13 rfl rfl)
theorem dL_law_707 : decode cL_law 707 = .ok (.laload, 1) := dk_47 (dk_at dksL_law_23 14 rfl rfl)
theorem dL_law_708 : decode cL_law 708 = .ok (.iload 7, 2) := dk_21 7 (dk_at dksL_law_23 15 rfl rfl)
theorem dL_law_710 : decode cL_law 710 = .ok (.i2l, 1) := dk_133 (dk_at dksL_law_23 17 rfl rfl)
theorem dL_law_711 : decode cL_law 711 = .ok (.lcmp, 1) := dk_148 (dk_at dksL_law_23 18 rfl rfl)
theorem dL_law_712 : decode cL_law 712 = .ok (.ifCond .eq 5, 3) := dk_153 0 5 (dk_at dksL_law_23 19 rfl rfl)
theorem dL_law_715 : decode cL_law 715 = .ok (.iconst 0, 1) := dk_3 (dk_at dksL_law_23 22 rfl rfl)
theorem dL_law_716 : decode cL_law 716 = .ok (.ireturn, 1) := dk_172 (dk_at dksL_law_23 23 rfl rfl)
theorem dL_law_717 : decode cL_law 717 = .ok (.goto 1764, 3) := dk_167 6 228 (dk_at dksL_law_24 0 rfl rfl)
theorem dL_law_720 : decode cL_law 720 = .ok (.aload_n 1, 1) := dk_43 (dk_at dksL_law_24 3 rfl rfl)
theorem dL_law_721 : decode cL_law 721 = .ok (.aload_n 0, 1) := dk_42 (dk_at dksL_law_24 4 rfl rfl)
theorem dL_law_722 : decode cL_law 722 = .ok (.iload 5, 2) := dk_21 5 (dk_at dksL_law_24 5 rfl rfl)
theorem dL_law_724 : decode cL_law 724 = .ok (.iconst 1, 1) := dk_4 (dk_at dksL_law_24 7 rfl rfl)
theorem dL_law_725 : decode cL_law 725 = .ok (.iadd, 1) := dk_96 (dk_at dksL_law_24 8 rfl rfl)
theorem dL_law_726 : decode cL_law 726 = .ok (.iaload, 1) := dk_46 (dk_at dksL_law_24 9 rfl rfl)
theorem dL_law_727 : decode cL_law 727 = .ok (.aload_n 0, 1) := dk_42 (dk_at dksL_law_24 10 rfl rfl)
theorem dL_law_728 : decode cL_law 728 = .ok (.iload 5, 2) := dk_21 5 (dk_at dksL_law_24 11 rfl rfl)
theorem dL_law_730 : decode cL_law 730 = .ok (.iconst 2, 1) := dk_5 (dk_at dksL_law_24 13 rfl rfl)
theorem dL_law_731 : decode cL_law 731 = .ok (.iadd, 1) := dk_96 (dk_at dksL_law_24 14 rfl rfl)
theorem dL_law_732 : decode cL_law 732 = .ok (.iaload, 1) := dk_46 (dk_at dksL_law_24 15 rfl rfl)
theorem dL_law_733 : decode cL_law 733 = .ok (.aload_n 3, 1) := dk_45 (dk_at dksL_law_24 16 rfl rfl)
theorem dL_law_734 : decode cL_law 734 = .ok (.invokestatic 169, 3) := dk_184 0 169 (dk_at dksL_law_24 17 rfl rfl)
theorem dL_law_737 : decode cL_law 737 = .ok (.istore 6, 2) := dk_54 6 (dk_at dksL_law_24 20 rfl rfl)
theorem dL_law_739 : decode cL_law 739 = .ok (.aload_n 2, 1) := dk_44 (dk_at dksL_law_24 22 rfl rfl)
theorem dL_law_740 : decode cL_law 740 = .ok (.aload_n 0, 1) := dk_42 (dk_at dksL_law_24 23 rfl rfl)
theorem dL_law_741 : decode cL_law 741 = .ok (.iload 5, 2) := dk_21 5 (dk_at dksL_law_25 0 rfl rfl)
theorem dL_law_743 : decode cL_law 743 = .ok (.iconst 1, 1) := dk_4 (dk_at dksL_law_25 2 rfl rfl)
theorem dL_law_744 : decode cL_law 744 = .ok (.iadd, 1) := dk_96 (dk_at dksL_law_25 3 rfl rfl)
theorem dL_law_745 : decode cL_law 745 = .ok (.iaload, 1) := dk_46 (dk_at dksL_law_25 4 rfl rfl)
theorem dL_law_746 : decode cL_law 746 = .ok (.aload_n 0, 1) := dk_42 (dk_at dksL_law_25 5 rfl rfl)
theorem dL_law_747 : decode cL_law 747 = .ok (.iload 5, 2) := dk_21 5 (dk_at dksL_law_25 6 rfl rfl)
theorem dL_law_749 : decode cL_law 749 = .ok (.iconst 2, 1) := dk_5 (dk_at dksL_law_25 8 rfl rfl)
theorem dL_law_750 : decode cL_law 750 = .ok (.iadd, 1) := dk_96 (dk_at dksL_law_25 9 rfl rfl)
theorem dL_law_751 : decode cL_law 751 = .ok (.iaload, 1) := dk_46 (dk_at dksL_law_25 10 rfl rfl)
theorem dL_law_752 : decode cL_law 752 = .ok (.invokevirtual 172, 3) := dk_182 0 172 (dk_at dksL_law_25 11 rfl rfl)
theorem dL_law_755 : decode cL_law 755 = .ok (.istore 7, 2) := dk_54 7 (dk_at dksL_law_25 14 rfl rfl)
theorem dL_law_757 : decode cL_law 757 = .ok (.aload_n 2, 1) := dk_44 (dk_at dksL_law_25 16 rfl rfl)
theorem dL_law_758 : decode cL_law 758 = .ok (.invokevirtual 144, 3) := dk_182 0 144 (dk_at dksL_law_25 17 rfl rfl)
theorem dL_law_761 : decode cL_law 761 = .ok (.iload 6, 2) := dk_21 6 (dk_at dksL_law_25 20 rfl rfl)
theorem dL_law_763 : decode cL_law 763 = .ok (.if_icmp .eq 5, 3) := dk_159 0 5 (dk_at dksL_law_26 0 rfl rfl)
theorem dL_law_766 : decode cL_law 766 = .ok (.iconst 0, 1) := dk_3 (dk_at dksL_law_26 3 rfl rfl)
theorem dL_law_767 : decode cL_law 767 = .ok (.ireturn, 1) := dk_172 (dk_at dksL_law_26 4 rfl rfl)
theorem dL_law_768 : decode cL_law 768 = .ok (.iload 6, 2) := dk_21 6 (dk_at dksL_law_26 5 rfl rfl)
theorem dL_law_770 : decode cL_law 770 = .ok (.ifCond .ne 15, 3) := dk_154 0 15 (dk_at dksL_law_26 7 rfl rfl)
theorem dL_law_773 : decode cL_law 773 = .ok (.aload_n 3, 1) := dk_45 (dk_at dksL_law_26 10 rfl rfl)
theorem dL_law_774 : decode cL_law 774 = .ok (.iconst 0, 1) := dk_3 (dk_at dksL_law_26 11 rfl rfl)
theorem dL_law_775 : decode cL_law 775 = .ok (.laload, 1) := dk_47 (dk_at dksL_law_26 12 rfl rfl)
theorem dL_law_776 : decode cL_law 776 = .ok (.iload 7, 2) := dk_21 7 (dk_at dksL_law_26 13 rfl rfl)
theorem dL_law_778 : decode cL_law 778 = .ok (.i2l, 1) := dk_133 (dk_at dksL_law_26 15 rfl rfl)
theorem dL_law_779 : decode cL_law 779 = .ok (.lcmp, 1) := dk_148 (dk_at dksL_law_26 16 rfl rfl)
theorem dL_law_780 : decode cL_law 780 = .ok (.ifCond .eq 5, 3) := dk_153 0 5 (dk_at dksL_law_26 17 rfl rfl)
theorem dL_law_783 : decode cL_law 783 = .ok (.iconst 0, 1) := dk_3 (dk_at dksL_law_26 20 rfl rfl)
theorem dL_law_784 : decode cL_law 784 = .ok (.ireturn, 1) := dk_172 (dk_at dksL_law_26 21 rfl rfl)
theorem dL_law_785 : decode cL_law 785 = .ok (.goto 1696, 3) := dk_167 6 160 (dk_at dksL_law_27 0 rfl rfl)
theorem dL_law_788 : decode cL_law 788 = .ok (.aload_n 1, 1) := dk_43 (dk_at dksL_law_27 3 rfl rfl)
theorem dL_law_789 : decode cL_law 789 = .ok (.invokevirtual 173, 3) := dk_182 0 173 (dk_at dksL_law_27 4 rfl rfl)
theorem dL_law_792 : decode cL_law 792 = .ok (.aload_n 2, 1) := dk_44 (dk_at dksL_law_27 7 rfl rfl)
theorem dL_law_793 : decode cL_law 793 = .ok (.invokevirtual 176, 3) := dk_182 0 176 (dk_at dksL_law_27 8 rfl rfl)
theorem dL_law_796 : decode cL_law 796 = .ok (.if_icmp .eq 1685, 3) := dk_159 6 149 (dk_at dksL_law_27 11 rfl rfl)
theorem dL_law_799 : decode cL_law 799 = .ok (.iconst 0, 1) := dk_3 (dk_at dksL_law_27 14 rfl rfl)
theorem dL_law_800 : decode cL_law 800 = .ok (.ireturn, 1) := dk_172 (dk_at dksL_law_27 15 rfl rfl)
theorem dL_law_801 : decode cL_law 801 = .ok (.aload_n 1, 1) := dk_43 (dk_at dksL_law_27 16 rfl rfl)
theorem dL_law_802 : decode cL_law 802 = .ok (.invokevirtual 177, 3) := dk_182 0 177 (dk_at dksL_law_27 17 rfl rfl)
theorem dL_law_805 : decode cL_law 805 = .ok (.aload_n 2, 1) := dk_44 (dk_at dksL_law_27 20 rfl rfl)
theorem dL_law_806 : decode cL_law 806 = .ok (.invokevirtual 180, 3) := dk_182 0 180 (dk_at dksL_law_27 21 rfl rfl)
theorem dL_law_809 : decode cL_law 809 = .ok (.if_icmp .eq 1672, 3) := dk_159 6 136 (dk_at dksL_law_28 0 rfl rfl)
theorem dL_law_812 : decode cL_law 812 = .ok (.iconst 0, 1) := dk_3 (dk_at dksL_law_28 3 rfl rfl)
theorem dL_law_813 : decode cL_law 813 = .ok (.ireturn, 1) := dk_172 (dk_at dksL_law_28 4 rfl rfl)
theorem dL_law_814 : decode cL_law 814 = .ok (.aload_n 1, 1) := dk_43 (dk_at dksL_law_28 5 rfl rfl)
theorem dL_law_815 : decode cL_law 815 = .ok (.aload_n 0, 1) := dk_42 (dk_at dksL_law_28 6 rfl rfl)
theorem dL_law_816 : decode cL_law 816 = .ok (.iload 5, 2) := dk_21 5 (dk_at dksL_law_28 7 rfl rfl)
theorem dL_law_818 : decode cL_law 818 = .ok (.iconst 1, 1) := dk_4 (dk_at dksL_law_28 9 rfl rfl)
theorem dL_law_819 : decode cL_law 819 = .ok (.iadd, 1) := dk_96 (dk_at dksL_law_28 10 rfl rfl)
theorem dL_law_820 : decode cL_law 820 = .ok (.iaload, 1) := dk_46 (dk_at dksL_law_28 11 rfl rfl)
theorem dL_law_821 : decode cL_law 821 = .ok (.aload_n 3, 1) := dk_45 (dk_at dksL_law_28 12 rfl rfl)
theorem dL_law_822 : decode cL_law 822 = .ok (.invokestatic 181, 3) := dk_184 0 181 (dk_at dksL_law_28 13 rfl rfl)
theorem dL_law_825 : decode cL_law 825 = .ok (.istore 6, 2) := dk_54 6 (dk_at dksL_law_28 16 rfl rfl)
theorem dL_law_827 : decode cL_law 827 = .ok (.aload_n 2, 1) := dk_44 (dk_at dksL_law_28 18 rfl rfl)
theorem dL_law_828 : decode cL_law 828 = .ok (.aload_n 0, 1) := dk_42 (dk_at dksL_law_28 19 rfl rfl)
theorem dL_law_829 : decode cL_law 829 = .ok (.iload 5, 2) := dk_21 5 (dk_at dksL_law_28 20 rfl rfl)
theorem dL_law_831 : decode cL_law 831 = .ok (.iconst 1, 1) := dk_4 (dk_at dksL_law_28 22 rfl rfl)
theorem dL_law_832 : decode cL_law 832 = .ok (.iadd, 1) := dk_96 (dk_at dksL_law_28 23 rfl rfl)
theorem dL_law_833 : decode cL_law 833 = .ok (.iaload, 1) := dk_46 (dk_at dksL_law_29 0 rfl rfl)
theorem dL_law_834 : decode cL_law 834 = .ok (.invokevirtual 183, 3) := dk_182 0 183 (dk_at dksL_law_29 1 rfl rfl)
theorem dL_law_837 : decode cL_law 837 = .ok (.istore 7, 2) := dk_54 7 (dk_at dksL_law_29 4 rfl rfl)
theorem dL_law_839 : decode cL_law 839 = .ok (.aload_n 2, 1) := dk_44 (dk_at dksL_law_29 6 rfl rfl)
theorem dL_law_840 : decode cL_law 840 = .ok (.invokevirtual 144, 3) := dk_182 0 144 (dk_at dksL_law_29 7 rfl rfl)
theorem dL_law_843 : decode cL_law 843 = .ok (.iload 6, 2) := dk_21 6 (dk_at dksL_law_29 10 rfl rfl)
theorem dL_law_845 : decode cL_law 845 = .ok (.if_icmp .eq 5, 3) := dk_159 0 5 (dk_at dksL_law_29 12 rfl rfl)
theorem dL_law_848 : decode cL_law 848 = .ok (.iconst 0, 1) := dk_3 (dk_at dksL_law_29 15 rfl rfl)
theorem dL_law_849 : decode cL_law 849 = .ok (.ireturn, 1) := dk_172 (dk_at dksL_law_29 16 rfl rfl)
theorem dL_law_850 : decode cL_law 850 = .ok (.iload 6, 2) := dk_21 6 (dk_at dksL_law_29 17 rfl rfl)
theorem dL_law_852 : decode cL_law 852 = .ok (.ifCond .ne 15, 3) := dk_154 0 15 (dk_at dksL_law_29 19 rfl rfl)
theorem dL_law_855 : decode cL_law 855 = .ok (.aload_n 3, 1) := dk_45 (dk_at dksL_law_29 22 rfl rfl)
theorem dL_law_856 : decode cL_law 856 = .ok (.iconst 0, 1) := dk_3 (dk_at dksL_law_29 23 rfl rfl)
theorem dL_law_857 : decode cL_law 857 = .ok (.laload, 1) := dk_47 (dk_at dksL_law_30 0 rfl rfl)
theorem dL_law_858 : decode cL_law 858 = .ok (.iload 7, 2) := dk_21 7 (dk_at dksL_law_30 1 rfl rfl)
theorem dL_law_860 : decode cL_law 860 = .ok (.i2l, 1) := dk_133 (dk_at dksL_law_30 3 rfl rfl)
theorem dL_law_861 : decode cL_law 861 = .ok (.lcmp, 1) := dk_148 (dk_at dksL_law_30 4 rfl rfl)
theorem dL_law_862 : decode cL_law 862 = .ok (.ifCond .eq 5, 3) := dk_153 0 5 (dk_at dksL_law_30 5 rfl rfl)
theorem dL_law_865 : decode cL_law 865 = .ok (.iconst 0, 1) := dk_3 (dk_at dksL_law_30 8 rfl rfl)
theorem dL_law_866 : decode cL_law 866 = .ok (.ireturn, 1) := dk_172 (dk_at dksL_law_30 9 rfl rfl)
theorem dL_law_867 : decode cL_law 867 = .ok (.goto 1614, 3) := dk_167 6 78 (dk_at dksL_law_30 10 rfl rfl)
theorem dL_law_870 : decode cL_law 870 = .ok (.aload_n 1, 1) := dk_43 (dk_at dksL_law_30 13 rfl rfl)
theorem dL_law_871 : decode cL_law 871 = .ok (.aload_n 0, 1) := dk_42 (dk_at dksL_law_30 14 rfl rfl)
theorem dL_law_872 : decode cL_law 872 = .ok (.iload 5, 2) := dk_21 5 (dk_at dksL_law_30 15 rfl rfl)
theorem dL_law_874 : decode cL_law 874 = .ok (.iconst 1, 1) := dk_4 (dk_at dksL_law_30 17 rfl rfl)
theorem dL_law_875 : decode cL_law 875 = .ok (.iadd, 1) := dk_96 (dk_at dksL_law_30 18 rfl rfl)
theorem dL_law_876 : decode cL_law 876 = .ok (.iaload, 1) := dk_46 (dk_at dksL_law_30 19 rfl rfl)
theorem dL_law_877 : decode cL_law 877 = .ok (.aload_n 0, 1) := dk_42 (dk_at dksL_law_30 20 rfl rfl)
theorem dL_law_878 : decode cL_law 878 = .ok (.iload 5, 2) := dk_21 5 (dk_at dksL_law_30 21 rfl rfl)
theorem dL_law_880 : decode cL_law 880 = .ok (.iconst 2, 1) := dk_5 (dk_at dksL_law_30 23 rfl rfl)
theorem dL_law_881 : decode cL_law 881 = .ok (.iadd, 1) := dk_96 (dk_at dksL_law_31 0 rfl rfl)
theorem dL_law_882 : decode cL_law 882 = .ok (.iaload, 1) := dk_46 (dk_at dksL_law_31 1 rfl rfl)
theorem dL_law_883 : decode cL_law 883 = .ok (.aload_n 3, 1) := dk_45 (dk_at dksL_law_31 2 rfl rfl)
theorem dL_law_884 : decode cL_law 884 = .ok (.invokestatic 184, 3) := dk_184 0 184 (dk_at dksL_law_31 3 rfl rfl)
theorem dL_law_887 : decode cL_law 887 = .ok (.istore 6, 2) := dk_54 6 (dk_at dksL_law_31 6 rfl rfl)
theorem dL_law_889 : decode cL_law 889 = .ok (.aload_n 2, 1) := dk_44 (dk_at dksL_law_31 8 rfl rfl)
theorem dL_law_890 : decode cL_law 890 = .ok (.aload_n 0, 1) := dk_42 (dk_at dksL_law_31 9 rfl rfl)
theorem dL_law_891 : decode cL_law 891 = .ok (.iload 5, 2) := dk_21 5 (dk_at dksL_law_31 10 rfl rfl)
theorem dL_law_893 : decode cL_law 893 = .ok (.iconst 1, 1) := dk_4 (dk_at dksL_law_31 12 rfl rfl)
theorem dL_law_894 : decode cL_law 894 = .ok (.iadd, 1) := dk_96 (dk_at dksL_law_31 13 rfl rfl)
theorem dL_law_895 : decode cL_law 895 = .ok (.iaload, 1) := dk_46 (dk_at dksL_law_31 14 rfl rfl)
theorem dL_law_896 : decode cL_law 896 = .ok (.aload_n 0, 1) := dk_42 (dk_at dksL_law_31 15 rfl rfl)
theorem dL_law_897 : decode cL_law 897 = .ok (.iload 5, 2) := dk_21 5 (dk_at dksL_law_31 16 rfl rfl)
theorem dL_law_899 : decode cL_law 899 = .ok (.iconst 2, 1) := dk_5 (dk_at dksL_law_31 18 rfl rfl)
theorem dL_law_900 : decode cL_law 900 = .ok (.iadd, 1) := dk_96 (dk_at dksL_law_31 19 rfl rfl)
theorem dL_law_901 : decode cL_law 901 = .ok (.iaload, 1) := dk_46 (dk_at dksL_law_31 20 rfl rfl)
theorem dL_law_902 : decode cL_law 902 = .ok (.invokevirtual 186, 3) := dk_182 0 186 (dk_at dksL_law_31 21 rfl rfl)
theorem dL_law_905 : decode cL_law 905 = .ok (.istore 7, 2) := dk_54 7 (dk_at dksL_law_32 0 rfl rfl)
theorem dL_law_907 : decode cL_law 907 = .ok (.aload_n 2, 1) := dk_44 (dk_at dksL_law_32 2 rfl rfl)
theorem dL_law_908 : decode cL_law 908 = .ok (.invokevirtual 144, 3) := dk_182 0 144 (dk_at dksL_law_32 3 rfl rfl)
theorem dL_law_911 : decode cL_law 911 = .ok (.iload 6, 2) := dk_21 6 (dk_at dksL_law_32 6 rfl rfl)
theorem dL_law_913 : decode cL_law 913 = .ok (.if_icmp .eq 5, 3) := dk_159 0 5 (dk_at dksL_law_32 8 rfl rfl)
theorem dL_law_916 : decode cL_law 916 = .ok (.iconst 0, 1) := dk_3 (dk_at dksL_law_32 11 rfl rfl)
theorem dL_law_917 : decode cL_law 917 = .ok (.ireturn, 1) := dk_172 (dk_at dksL_law_32 12 rfl rfl)
theorem dL_law_918 : decode cL_law 918 = .ok (.iload 6, 2) := dk_21 6 (dk_at dksL_law_32 13 rfl rfl)
theorem dL_law_920 : decode cL_law 920 = .ok (.ifCond .ne 15, 3) := dk_154 0 15 (dk_at dksL_law_32 15 rfl rfl)
theorem dL_law_923 : decode cL_law 923 = .ok (.aload_n 3, 1) := dk_45 (dk_at dksL_law_32 18 rfl rfl)
theorem dL_law_924 : decode cL_law 924 = .ok (.iconst 0, 1) := dk_3 (dk_at dksL_law_32 19 rfl rfl)
theorem dL_law_925 : decode cL_law 925 = .ok (.laload, 1) := dk_47 (dk_at dksL_law_32 20 rfl rfl)
theorem dL_law_926 : decode cL_law 926 = .ok (.iload 7, 2) := dk_21 7 (dk_at dksL_law_32 21 rfl rfl)
theorem dL_law_928 : decode cL_law 928 = .ok (.i2l, 1) := dk_133 (dk_at dksL_law_32 23 rfl rfl)
theorem dL_law_929 : decode cL_law 929 = .ok (.lcmp, 1) := dk_148 (dk_at dksL_law_33 0 rfl rfl)
theorem dL_law_930 : decode cL_law 930 = .ok (.ifCond .eq 5, 3) := dk_153 0 5 (dk_at dksL_law_33 1 rfl rfl)
theorem dL_law_933 : decode cL_law 933 = .ok (.iconst 0, 1) := dk_3 (dk_at dksL_law_33 4 rfl rfl)
theorem dL_law_934 : decode cL_law 934 = .ok (.ireturn, 1) := dk_172 (dk_at dksL_law_33 5 rfl rfl)
theorem dL_law_935 : decode cL_law 935 = .ok (.goto 1546, 3) := dk_167 6 10 (dk_at dksL_law_33 6 rfl rfl)
theorem dL_law_938 : decode cL_law 938 = .ok (.aload_n 1, 1) := dk_43 (dk_at dksL_law_33 9 rfl rfl)
theorem dL_law_939 : decode cL_law 939 = .ok (.aload_n 0, 1) := dk_42 (dk_at dksL_law_33 10 rfl rfl)
theorem dL_law_940 : decode cL_law 940 = .ok (.iload 5, 2) := dk_21 5 (dk_at dksL_law_33 11 rfl rfl)
theorem dL_law_942 : decode cL_law 942 = .ok (.iconst 1, 1) := dk_4 (dk_at dksL_law_33 13 rfl rfl)
theorem dL_law_943 : decode cL_law 943 = .ok (.iadd, 1) := dk_96 (dk_at dksL_law_33 14 rfl rfl)
theorem dL_law_944 : decode cL_law 944 = .ok (.iaload, 1) := dk_46 (dk_at dksL_law_33 15 rfl rfl)
theorem dL_law_945 : decode cL_law 945 = .ok (.aload_n 0, 1) := dk_42 (dk_at dksL_law_33 16 rfl rfl)
theorem dL_law_946 : decode cL_law 946 = .ok (.iload 5, 2) := dk_21 5 (dk_at dksL_law_33 17 rfl rfl)
theorem dL_law_948 : decode cL_law 948 = .ok (.iconst 2, 1) := dk_5 (dk_at dksL_law_33 19 rfl rfl)
theorem dL_law_949 : decode cL_law 949 = .ok (.iadd, 1) := dk_96 (dk_at dksL_law_33 20 rfl rfl)
theorem dL_law_950 : decode cL_law 950 = .ok (.iaload, 1) := dk_46 (dk_at dksL_law_33 21 rfl rfl)
theorem dL_law_951 : decode cL_law 951 = .ok (.aload_n 3, 1) := dk_45 (dk_at dksL_law_33 22 rfl rfl)
theorem dL_law_952 : decode cL_law 952 = .ok (.invokestatic 187, 3) := dk_184 0 187 (dk_at dksL_law_34 0 rfl rfl)
theorem dL_law_955 : decode cL_law 955 = .ok (.istore 6, 2) := dk_54 6 (dk_at dksL_law_34 3 rfl rfl)
theorem dL_law_957 : decode cL_law 957 = .ok (.aload_n 2, 1) := dk_44 (dk_at dksL_law_34 5 rfl rfl)
theorem dL_law_958 : decode cL_law 958 = .ok (.aload_n 0, 1) := dk_42 (dk_at dksL_law_34 6 rfl rfl)
theorem dL_law_959 : decode cL_law 959 = .ok (.iload 5, 2) := dk_21 5 (dk_at dksL_law_34 7 rfl rfl)
theorem dL_law_961 : decode cL_law 961 = .ok (.iconst 1, 1) := dk_4 (dk_at dksL_law_34 9 rfl rfl)
theorem dL_law_962 : decode cL_law 962 = .ok (.iadd, 1) := dk_96 (dk_at dksL_law_34 10 rfl rfl)
theorem dL_law_963 : decode cL_law 963 = .ok (.iaload, 1) := dk_46 (dk_at dksL_law_34 11 rfl rfl)
theorem dL_law_964 : decode cL_law 964 = .ok (.aload_n 0, 1) := dk_42 (dk_at dksL_law_34 12 rfl rfl)
theorem dL_law_965 : decode cL_law 965 = .ok (.iload 5, 2) := dk_21 5 (dk_at dksL_law_34 13 rfl rfl)
theorem dL_law_967 : decode cL_law 967 = .ok (.iconst 2, 1) := dk_5 (dk_at dksL_law_34 15 rfl rfl)
theorem dL_law_968 : decode cL_law 968 = .ok (.iadd, 1) := dk_96 (dk_at dksL_law_34 16 rfl rfl)
theorem dL_law_969 : decode cL_law 969 = .ok (.iaload, 1) := dk_46 (dk_at dksL_law_34 17 rfl rfl)
theorem dL_law_970 : decode cL_law 970 = .ok (.invokevirtual 189, 3) := dk_182 0 189 (dk_at dksL_law_34 18 rfl rfl)
theorem dL_law_973 : decode cL_law 973 = .ok (.istore 7, 2) := dk_54 7 (dk_at dksL_law_34 21 rfl rfl)
theorem dL_law_975 : decode cL_law 975 = .ok (.aload_n 2, 1) := dk_44 (dk_at dksL_law_34 23 rfl rfl)
theorem dL_law_976 : decode cL_law 976 = .ok (.invokevirtual 144, 3) := dk_182 0 144 (dk_at dksL_law_35 0 rfl rfl)
theorem dL_law_979 : decode cL_law 979 = .ok (.iload 6, 2) := dk_21 6 (dk_at dksL_law_35 3 rfl rfl)
theorem dL_law_981 : decode cL_law 981 = .ok (.if_icmp .eq 5, 3) := dk_159 0 5 (dk_at dksL_law_35 5 rfl rfl)
theorem dL_law_984 : decode cL_law 984 = .ok (.iconst 0, 1) := dk_3 (dk_at dksL_law_35 8 rfl rfl)
theorem dL_law_985 : decode cL_law 985 = .ok (.ireturn, 1) := dk_172 (dk_at dksL_law_35 9 rfl rfl)
theorem dL_law_986 : decode cL_law 986 = .ok (.iload 6, 2) := dk_21 6 (dk_at dksL_law_35 10 rfl rfl)
theorem dL_law_988 : decode cL_law 988 = .ok (.ifCond .ne 22, 3) := dk_154 0 22 (dk_at dksL_law_35 12 rfl rfl)
theorem dL_law_991 : decode cL_law 991 = .ok (.aload_n 3, 1) := dk_45 (dk_at dksL_law_35 15 rfl rfl)
theorem dL_law_992 : decode cL_law 992 = .ok (.iconst 0, 1) := dk_3 (dk_at dksL_law_35 16 rfl rfl)
theorem dL_law_993 : decode cL_law 993 = .ok (.laload, 1) := dk_47 (dk_at dksL_law_35 17 rfl rfl)
theorem dL_law_994 : decode cL_law 994 = .ok (.iload 7, 2) := dk_21 7 (dk_at dksL_law_35 18 rfl rfl)
theorem dL_law_996 : decode cL_law 996 = .ok (.ifCond .eq 7, 3) := dk_153 0 7 (dk_at dksL_law_35 20 rfl rfl)
theorem dL_law_999 : decode cL_law 999 = .ok (.lconst 1, 1) := dk_10 (dk_at dksL_law_35 23 rfl rfl)
theorem dL_law_1000 : decode cL_law 1000 = .ok (.goto 4, 3) := dk_167 0 4 (dk_at dksL_law_36 0 rfl rfl)
theorem dL_law_1003 : decode cL_law 1003 = .ok (.lconst 0, 1) := dk_9 (dk_at dksL_law_36 3 rfl rfl)
theorem dL_law_1004 : decode cL_law 1004 = .ok (.lcmp, 1) := dk_148 (dk_at dksL_law_36 4 rfl rfl)
theorem dL_law_1005 : decode cL_law 1005 = .ok (.ifCond .eq 5, 3) := dk_153 0 5 (dk_at dksL_law_36 5 rfl rfl)
theorem dL_law_1008 : decode cL_law 1008 = .ok (.iconst 0, 1) := dk_3 (dk_at dksL_law_36 8 rfl rfl)
theorem dL_law_1009 : decode cL_law 1009 = .ok (.ireturn, 1) := dk_172 (dk_at dksL_law_36 9 rfl rfl)
theorem dL_law_1010 : decode cL_law 1010 = .ok (.goto 1471, 3) := dk_167 5 191 (dk_at dksL_law_36 10 rfl rfl)
theorem dL_law_1013 : decode cL_law 1013 = .ok (.aload_n 1, 1) := dk_43 (dk_at dksL_law_36 13 rfl rfl)
theorem dL_law_1014 : decode cL_law 1014 = .ok (.aload_n 0, 1) := dk_42 (dk_at dksL_law_36 14 rfl rfl)
theorem dL_law_1015 : decode cL_law 1015 = .ok (.iload 5, 2) := dk_21 5 (dk_at dksL_law_36 15 rfl rfl)
theorem dL_law_1017 : decode cL_law 1017 = .ok (.iconst 1, 1) := dk_4 (dk_at dksL_law_36 17 rfl rfl)
theorem dL_law_1018 : decode cL_law 1018 = .ok (.iadd, 1) := dk_96 (dk_at dksL_law_36 18 rfl rfl)
theorem dL_law_1019 : decode cL_law 1019 = .ok (.iaload, 1) := dk_46 (dk_at dksL_law_36 19 rfl rfl)
theorem dL_law_1020 : decode cL_law 1020 = .ok (.aload_n 0, 1) := dk_42 (dk_at dksL_law_36 20 rfl rfl)
theorem dL_law_1021 : decode cL_law 1021 = .ok (.iload 5, 2) := dk_21 5 (dk_at dksL_law_36 21 rfl rfl)
theorem dL_law_1023 : decode cL_law 1023 = .ok (.iconst 2, 1) := dk_5 (dk_at dksL_law_36 23 rfl rfl)
theorem dL_law_1024 : decode cL_law 1024 = .ok (.iadd, 1) := dk_96 (dk_at dksL_law_37 0 rfl rfl)
theorem dL_law_1025 : decode cL_law 1025 = .ok (.iaload, 1) := dk_46 (dk_at dksL_law_37 1 rfl rfl)
theorem dL_law_1026 : decode cL_law 1026 = .ok (.ifCond .eq 7, 3) := dk_153 0 7 (dk_at dksL_law_37 2 rfl rfl)
theorem dL_law_1029 : decode cL_law 1029 = .ok (.iconst 1, 1) := dk_4 (dk_at dksL_law_37 5 rfl rfl)
theorem dL_law_1030 : decode cL_law 1030 = .ok (.goto 4, 3) := dk_167 0 4 (dk_at dksL_law_37 6 rfl rfl)
theorem dL_law_1033 : decode cL_law 1033 = .ok (.iconst 0, 1) := dk_3 (dk_at dksL_law_37 9 rfl rfl)
theorem dL_law_1034 : decode cL_law 1034 = .ok (.aload_n 3, 1) := dk_45 (dk_at dksL_law_37 10 rfl rfl)
theorem dL_law_1035 : decode cL_law 1035 = .ok (.invokestatic 190, 3) := dk_184 0 190 (dk_at dksL_law_37 11 rfl rfl)
theorem dL_law_1038 : decode cL_law 1038 = .ok (.istore 6, 2) := dk_54 6 (dk_at dksL_law_37 14 rfl rfl)
theorem dL_law_1040 : decode cL_law 1040 = .ok (.aload_n 2, 1) := dk_44 (dk_at dksL_law_37 16 rfl rfl)
theorem dL_law_1041 : decode cL_law 1041 = .ok (.aload_n 0, 1) := dk_42 (dk_at dksL_law_37 17 rfl rfl)
theorem dL_law_1042 : decode cL_law 1042 = .ok (.iload 5, 2) := dk_21 5 (dk_at dksL_law_37 18 rfl rfl)
theorem dL_law_1044 : decode cL_law 1044 = .ok (.iconst 1, 1) := dk_4 (dk_at dksL_law_37 20 rfl rfl)
theorem dL_law_1045 : decode cL_law 1045 = .ok (.iadd, 1) := dk_96 (dk_at dksL_law_37 21 rfl rfl)
theorem dL_law_1046 : decode cL_law 1046 = .ok (.iaload, 1) := dk_46 (dk_at dksL_law_37 22 rfl rfl)
theorem dL_law_1047 : decode cL_law 1047 = .ok (.aload_n 0, 1) := dk_42 (dk_at dksL_law_37 23 rfl rfl)
theorem dL_law_1048 : decode cL_law 1048 = .ok (.iload 5, 2) := dk_21 5 (dk_at dksL_law_38 0 rfl rfl)
theorem dL_law_1050 : decode cL_law 1050 = .ok (.iconst 2, 1) := dk_5 (dk_at dksL_law_38 2 rfl rfl)
theorem dL_law_1051 : decode cL_law 1051 = .ok (.iadd, 1) := dk_96 (dk_at dksL_law_38 3 rfl rfl)
theorem dL_law_1052 : decode cL_law 1052 = .ok (.iaload, 1) := dk_46 (dk_at dksL_law_38 4 rfl rfl)
theorem dL_law_1053 : decode cL_law 1053 = .ok (.ifCond .eq 7, 3) := dk_153 0 7 (dk_at dksL_law_38 5 rfl rfl)
theorem dL_law_1056 : decode cL_law 1056 = .ok (.iconst 1, 1) := dk_4 (dk_at dksL_law_38 8 rfl rfl)
theorem dL_law_1057 : decode cL_law 1057 = .ok (.goto 4, 3) := dk_167 0 4 (dk_at dksL_law_38 9 rfl rfl)
theorem dL_law_1060 : decode cL_law 1060 = .ok (.iconst 0, 1) := dk_3 (dk_at dksL_law_38 12 rfl rfl)
theorem dL_law_1061 : decode cL_law 1061 = .ok (.invokevirtual 193, 3) := dk_182 0 193 (dk_at dksL_law_38 13 rfl rfl)
theorem dL_law_1064 : decode cL_law 1064 = .ok (.istore 7, 2) := dk_54 7 (dk_at dksL_law_38 16 rfl rfl)
theorem dL_law_1066 : decode cL_law 1066 = .ok (.aload_n 2, 1) := dk_44 (dk_at dksL_law_38 18 rfl rfl)
theorem dL_law_1067 : decode cL_law 1067 = .ok (.invokevirtual 144, 3) := dk_182 0 144 (dk_at dksL_law_38 19 rfl rfl)
theorem dL_law_1070 : decode cL_law 1070 = .ok (.iload 6, 2) := dk_21 6 (dk_at dksL_law_38 22 rfl rfl)
theorem dL_law_1072 : decode cL_law 1072 = .ok (.if_icmp .eq 5, 3) := dk_159 0 5 (dk_at dksL_law_39 0 rfl rfl)
theorem dL_law_1075 : decode cL_law 1075 = .ok (.iconst 0, 1) := dk_3 (dk_at dksL_law_39 3 rfl rfl)
theorem dL_law_1076 : decode cL_law 1076 = .ok (.ireturn, 1) := dk_172 (dk_at dksL_law_39 4 rfl rfl)
theorem dL_law_1077 : decode cL_law 1077 = .ok (.iload 6, 2) := dk_21 6 (dk_at dksL_law_39 5 rfl rfl)
theorem dL_law_1079 : decode cL_law 1079 = .ok (.ifCond .ne 15, 3) := dk_154 0 15 (dk_at dksL_law_39 7 rfl rfl)
theorem dL_law_1082 : decode cL_law 1082 = .ok (.aload_n 3, 1) := dk_45 (dk_at dksL_law_39 10 rfl rfl)
theorem dL_law_1083 : decode cL_law 1083 = .ok (.iconst 0, 1) := dk_3 (dk_at dksL_law_39 11 rfl rfl)
theorem dL_law_1084 : decode cL_law 1084 = .ok (.laload, 1) := dk_47 (dk_at dksL_law_39 12 rfl rfl)
theorem dL_law_1085 : decode cL_law 1085 = .ok (.iload 7, 2) := dk_21 7 (dk_at dksL_law_39 13 rfl rfl)
theorem dL_law_1087 : decode cL_law 1087 = .ok (.i2l, 1) := dk_133 (dk_at dksL_law_39 15 rfl rfl)
theorem dL_law_1088 : decode cL_law 1088 = .ok (.lcmp, 1) := dk_148 (dk_at dksL_law_39 16 rfl rfl)
theorem dL_law_1089 : decode cL_law 1089 = .ok (.ifCond .eq 5, 3) := dk_153 0 5 (dk_at dksL_law_39 17 rfl rfl)
theorem dL_law_1092 : decode cL_law 1092 = .ok (.iconst 0, 1) := dk_3 (dk_at dksL_law_39 20 rfl rfl)
theorem dL_law_1093 : decode cL_law 1093 = .ok (.ireturn, 1) := dk_172 (dk_at dksL_law_39 21 rfl rfl)
theorem dL_law_1094 : decode cL_law 1094 = .ok (.goto 1387, 3) := dk_167 5 107 (dk_at dksL_law_40 0 rfl rfl)
theorem dL_law_1097 : decode cL_law 1097 = .ok (.aload_n 1, 1) := dk_43 (dk_at dksL_law_40 3 rfl rfl)
theorem dL_law_1098 : decode cL_law 1098 = .ok (.aload_n 0, 1) := dk_42 (dk_at dksL_law_40 4 rfl rfl)
theorem dL_law_1099 : decode cL_law 1099 = .ok (.iload 5, 2) := dk_21 5 (dk_at dksL_law_40 5 rfl rfl)
theorem dL_law_1101 : decode cL_law 1101 = .ok (.iconst 1, 1) := dk_4 (dk_at dksL_law_40 7 rfl rfl)
theorem dL_law_1102 : decode cL_law 1102 = .ok (.iadd, 1) := dk_96 (dk_at dksL_law_40 8 rfl rfl)
theorem dL_law_1103 : decode cL_law 1103 = .ok (.iaload, 1) := dk_46 (dk_at dksL_law_40 9 rfl rfl)
theorem dL_law_1104 : decode cL_law 1104 = .ok (.aload_n 0, 1) := dk_42 (dk_at dksL_law_40 10 rfl rfl)
theorem dL_law_1105 : decode cL_law 1105 = .ok (.iload 5, 2) := dk_21 5 (dk_at dksL_law_40 11 rfl rfl)
theorem dL_law_1107 : decode cL_law 1107 = .ok (.iconst 2, 1) := dk_5 (dk_at dksL_law_40 13 rfl rfl)
theorem dL_law_1108 : decode cL_law 1108 = .ok (.iadd, 1) := dk_96 (dk_at dksL_law_40 14 rfl rfl)
theorem dL_law_1109 : decode cL_law 1109 = .ok (.iaload, 1) := dk_46 (dk_at dksL_law_40 15 rfl rfl)
theorem dL_law_1110 : decode cL_law 1110 = .ok (.aload_n 3, 1) := dk_45 (dk_at dksL_law_40 16 rfl rfl)
theorem dL_law_1111 : decode cL_law 1111 = .ok (.invokestatic 194, 3) := dk_184 0 194 (dk_at dksL_law_40 17 rfl rfl)
theorem dL_law_1114 : decode cL_law 1114 = .ok (.istore 6, 2) := dk_54 6 (dk_at dksL_law_40 20 rfl rfl)
theorem dL_law_1116 : decode cL_law 1116 = .ok (.aload_n 2, 1) := dk_44 (dk_at dksL_law_40 22 rfl rfl)
theorem dL_law_1117 : decode cL_law 1117 = .ok (.aload_n 0, 1) := dk_42 (dk_at dksL_law_40 23 rfl rfl)
theorem dL_law_1118 : decode cL_law 1118 = .ok (.iload 5, 2) := dk_21 5 (dk_at dksL_law_41 0 rfl rfl)
theorem dL_law_1120 : decode cL_law 1120 = .ok (.iconst 1, 1) := dk_4 (dk_at dksL_law_41 2 rfl rfl)
theorem dL_law_1121 : decode cL_law 1121 = .ok (.iadd, 1) := dk_96 (dk_at dksL_law_41 3 rfl rfl)
theorem dL_law_1122 : decode cL_law 1122 = .ok (.iaload, 1) := dk_46 (dk_at dksL_law_41 4 rfl rfl)
theorem dL_law_1123 : decode cL_law 1123 = .ok (.aload_n 0, 1) := dk_42 (dk_at dksL_law_41 5 rfl rfl)
theorem dL_law_1124 : decode cL_law 1124 = .ok (.iload 5, 2) := dk_21 5 (dk_at dksL_law_41 6 rfl rfl)
theorem dL_law_1126 : decode cL_law 1126 = .ok (.iconst 2, 1) := dk_5 (dk_at dksL_law_41 8 rfl rfl)
theorem dL_law_1127 : decode cL_law 1127 = .ok (.iadd, 1) := dk_96 (dk_at dksL_law_41 9 rfl rfl)
theorem dL_law_1128 : decode cL_law 1128 = .ok (.iaload, 1) := dk_46 (dk_at dksL_law_41 10 rfl rfl)
theorem dL_law_1129 : decode cL_law 1129 = .ok (.invokevirtual 196, 3) := dk_182 0 196 (dk_at dksL_law_41 11 rfl rfl)
theorem dL_law_1132 : decode cL_law 1132 = .ok (.istore 7, 2) := dk_54 7 (dk_at dksL_law_41 14 rfl rfl)
theorem dL_law_1134 : decode cL_law 1134 = .ok (.aload_n 2, 1) := dk_44 (dk_at dksL_law_41 16 rfl rfl)
theorem dL_law_1135 : decode cL_law 1135 = .ok (.invokevirtual 144, 3) := dk_182 0 144 (dk_at dksL_law_41 17 rfl rfl)
theorem dL_law_1138 : decode cL_law 1138 = .ok (.iload 6, 2) := dk_21 6 (dk_at dksL_law_41 20 rfl rfl)
theorem dL_law_1140 : decode cL_law 1140 = .ok (.if_icmp .eq 5, 3) := dk_159 0 5 (dk_at dksL_law_42 0 rfl rfl)
theorem dL_law_1143 : decode cL_law 1143 = .ok (.iconst 0, 1) := dk_3 (dk_at dksL_law_42 3 rfl rfl)
theorem dL_law_1144 : decode cL_law 1144 = .ok (.ireturn, 1) := dk_172 (dk_at dksL_law_42 4 rfl rfl)
theorem dL_law_1145 : decode cL_law 1145 = .ok (.iload 6, 2) := dk_21 6 (dk_at dksL_law_42 5 rfl rfl)
theorem dL_law_1147 : decode cL_law 1147 = .ok (.ifCond .ne 22, 3) := dk_154 0 22 (dk_at dksL_law_42 7 rfl rfl)
theorem dL_law_1150 : decode cL_law 1150 = .ok (.aload_n 3, 1) := dk_45 (dk_at dksL_law_42 10 rfl rfl)
theorem dL_law_1151 : decode cL_law 1151 = .ok (.iconst 0, 1) := dk_3 (dk_at dksL_law_42 11 rfl rfl)
theorem dL_law_1152 : decode cL_law 1152 = .ok (.laload, 1) := dk_47 (dk_at dksL_law_42 12 rfl rfl)
theorem dL_law_1153 : decode cL_law 1153 = .ok (.iload 7, 2) := dk_21 7 (dk_at dksL_law_42 13 rfl rfl)
theorem dL_law_1155 : decode cL_law 1155 = .ok (.ifCond .eq 7, 3) := dk_153 0 7 (dk_at dksL_law_42 15 rfl rfl)
theorem dL_law_1158 : decode cL_law 1158 = .ok (.lconst 1, 1) := dk_10 (dk_at dksL_law_42 18 rfl rfl)
theorem dL_law_1159 : decode cL_law 1159 = .ok (.goto 4, 3) := dk_167 0 4 (dk_at dksL_law_42 19 rfl rfl)
theorem dL_law_1162 : decode cL_law 1162 = .ok (.lconst 0, 1) := dk_9 (dk_at dksL_law_42 22 rfl rfl)
theorem dL_law_1163 : decode cL_law 1163 = .ok (.lcmp, 1) := dk_148 (dk_at dksL_law_42 23 rfl rfl)
theorem dL_law_1164 : decode cL_law 1164 = .ok (.ifCond .eq 5, 3) := dk_153 0 5 (dk_at dksL_law_43 0 rfl rfl)
theorem dL_law_1167 : decode cL_law 1167 = .ok (.iconst 0, 1) := dk_3 (dk_at dksL_law_43 3 rfl rfl)
theorem dL_law_1168 : decode cL_law 1168 = .ok (.ireturn, 1) := dk_172 (dk_at dksL_law_43 4 rfl rfl)
theorem dL_law_1169 : decode cL_law 1169 = .ok (.goto 1312, 3) := dk_167 5 32 (dk_at dksL_law_43 5 rfl rfl)
theorem dL_law_1172 : decode cL_law 1172 = .ok (.aload_n 1, 1) := dk_43 (dk_at dksL_law_43 8 rfl rfl)
theorem dL_law_1173 : decode cL_law 1173 = .ok (.invokevirtual 197, 3) := dk_182 0 197 (dk_at dksL_law_43 9 rfl rfl)
theorem dL_law_1176 : decode cL_law 1176 = .ok (.aload_n 2, 1) := dk_44 (dk_at dksL_law_43 12 rfl rfl)
theorem dL_law_1177 : decode cL_law 1177 = .ok (.invokevirtual 200, 3) := dk_182 0 200 (dk_at dksL_law_43 13 rfl rfl)
theorem dL_law_1180 : decode cL_law 1180 = .ok (.if_icmp .eq 1301, 3) := dk_159 5 21 (dk_at dksL_law_43 16 rfl rfl)
theorem dL_law_1183 : decode cL_law 1183 = .ok (.iconst 0, 1) := dk_3 (dk_at dksL_law_43 19 rfl rfl)
theorem dL_law_1184 : decode cL_law 1184 = .ok (.ireturn, 1) := dk_172 (dk_at dksL_law_43 20 rfl rfl)
theorem dL_law_1185 : decode cL_law 1185 = .ok (.aload_n 1, 1) := dk_43 (dk_at dksL_law_43 21 rfl rfl)
theorem dL_law_1186 : decode cL_law 1186 = .ok (.aload_n 0, 1) := dk_42 (dk_at dksL_law_43 22 rfl rfl)
theorem dL_law_1187 : decode cL_law 1187 = .ok (.iload 5, 2) := dk_21 5 (dk_at dksL_law_44 0 rfl rfl)
theorem dL_law_1189 : decode cL_law 1189 = .ok (.iconst 1, 1) := dk_4 (dk_at dksL_law_44 2 rfl rfl)
theorem dL_law_1190 : decode cL_law 1190 = .ok (.iadd, 1) := dk_96 (dk_at dksL_law_44 3 rfl rfl)
theorem dL_law_1191 : decode cL_law 1191 = .ok (.iaload, 1) := dk_46 (dk_at dksL_law_44 4 rfl rfl)
theorem dL_law_1192 : decode cL_law 1192 = .ok (.aload_n 3, 1) := dk_45 (dk_at dksL_law_44 5 rfl rfl)
theorem dL_law_1193 : decode cL_law 1193 = .ok (.invokestatic 201, 3) := dk_184 0 201 (dk_at dksL_law_44 6 rfl rfl)
theorem dL_law_1196 : decode cL_law 1196 = .ok (.istore 6, 2) := dk_54 6 (dk_at dksL_law_44 9 rfl rfl)
theorem dL_law_1198 : decode cL_law 1198 = .ok (.aload_n 2, 1) := dk_44 (dk_at dksL_law_44 11 rfl rfl)
theorem dL_law_1199 : decode cL_law 1199 = .ok (.aload_n 0, 1) := dk_42 (dk_at dksL_law_44 12 rfl rfl)
theorem dL_law_1200 : decode cL_law 1200 = .ok (.iload 5, 2) := dk_21 5 (dk_at dksL_law_44 13 rfl rfl)
theorem dL_law_1202 : decode cL_law 1202 = .ok (.iconst 1, 1) := dk_4 (dk_at dksL_law_44 15 rfl rfl)
theorem dL_law_1203 : decode cL_law 1203 = .ok (.iadd, 1) := dk_96 (dk_at dksL_law_44 16 rfl rfl)
theorem dL_law_1204 : decode cL_law 1204 = .ok (.iaload, 1) := dk_46 (dk_at dksL_law_44 17 rfl rfl)
theorem dL_law_1205 : decode cL_law 1205 = .ok (.invokevirtual 203, 3) := dk_182 0 203 (dk_at dksL_law_44 18 rfl rfl)
theorem dL_law_1208 : decode cL_law 1208 = .ok (.istore 7, 2) := dk_54 7 (dk_at dksL_law_44 21 rfl rfl)
theorem dL_law_1210 : decode cL_law 1210 = .ok (.aload_n 2, 1) := dk_44 (dk_at dksL_law_44 23 rfl rfl)
theorem dL_law_1211 : decode cL_law 1211 = .ok (.invokevirtual 144, 3) := dk_182 0 144 (dk_at dksL_law_45 0 rfl rfl)
theorem dL_law_1214 : decode cL_law 1214 = .ok (.iload 6, 2) := dk_21 6 (dk_at dksL_law_45 3 rfl rfl)
theorem dL_law_1216 : decode cL_law 1216 = .ok (.if_icmp .eq 5, 3) := dk_159 0 5 (dk_at dksL_law_45 5 rfl rfl)
theorem dL_law_1219 : decode cL_law 1219 = .ok (.iconst 0, 1) := dk_3 (dk_at dksL_law_45 8 rfl rfl)
theorem dL_law_1220 : decode cL_law 1220 = .ok (.ireturn, 1) := dk_172 (dk_at dksL_law_45 9 rfl rfl)
theorem dL_law_1221 : decode cL_law 1221 = .ok (.iload 6, 2) := dk_21 6 (dk_at dksL_law_45 10 rfl rfl)
theorem dL_law_1223 : decode cL_law 1223 = .ok (.ifCond .ne 15, 3) := dk_154 0 15 (dk_at dksL_law_45 12 rfl rfl)
theorem dL_law_1226 : decode cL_law 1226 = .ok (.aload_n 3, 1) := dk_45 (dk_at dksL_law_45 15 rfl rfl)
theorem dL_law_1227 : decode cL_law 1227 = .ok (.iconst 0, 1) := dk_3 (dk_at dksL_law_45 16 rfl rfl)
theorem dL_law_1228 : decode cL_law 1228 = .ok (.laload, 1) := dk_47 (dk_at dksL_law_45 17 rfl rfl)
theorem dL_law_1229 : decode cL_law 1229 = .ok (.iload 7, 2) := dk_21 7 (dk_at dksL_law_45 18 rfl rfl)
theorem dL_law_1231 : decode cL_law 1231 = .ok (.i2l, 1) := dk_133 (dk_at dksL_law_45 20 rfl rfl)
theorem dL_law_1232 : decode cL_law 1232 = .ok (.lcmp, 1) := dk_148 (dk_at dksL_law_45 21 rfl rfl)
theorem dL_law_1233 : decode cL_law 1233 = .ok (.ifCond .eq 5, 3) := dk_153 0 5 (dk_at dksL_law_46 0 rfl rfl)
theorem dL_law_1236 : decode cL_law 1236 = .ok (.iconst 0, 1) := dk_3 (dk_at dksL_law_46 3 rfl rfl)
theorem dL_law_1237 : decode cL_law 1237 = .ok (.ireturn, 1) := dk_172 (dk_at dksL_law_46 4 rfl rfl)
theorem dL_law_1238 : decode cL_law 1238 = .ok (.goto 1243, 3) := dk_167 4 219 (dk_at dksL_law_46 5 rfl rfl)
theorem dL_law_1241 : decode cL_law 1241 = .ok (.aload_n 1, 1) := dk_43 (dk_at dksL_law_46 8 rfl rfl)
theorem dL_law_1242 : decode cL_law 1242 = .ok (.aload_n 0, 1) := dk_42 (dk_at dksL_law_46 9 rfl rfl)
theorem dL_law_1243 : decode cL_law 1243 = .ok (.iload 5, 2) := dk_21 5 (dk_at dksL_law_46 10 rfl rfl)
theorem dL_law_1245 : decode cL_law 1245 = .ok (.iconst 1, 1) := dk_4 (dk_at dksL_law_46 12 rfl rfl)
theorem dL_law_1246 : decode cL_law 1246 = .ok (.iadd, 1) := dk_96 (dk_at dksL_law_46 13 rfl rfl)
theorem dL_law_1247 : decode cL_law 1247 = .ok (.iaload, 1) := dk_46 (dk_at dksL_law_46 14 rfl rfl)
theorem dL_law_1248 : decode cL_law 1248 = .ok (.aload_n 3, 1) := dk_45 (dk_at dksL_law_46 15 rfl rfl)
theorem dL_law_1249 : decode cL_law 1249 = .ok (.invokestatic 204, 3) := dk_184 0 204 (dk_at dksL_law_46 16 rfl rfl)
theorem dL_law_1252 : decode cL_law 1252 = .ok (.istore 6, 2) := dk_54 6 (dk_at dksL_law_46 19 rfl rfl)
theorem dL_law_1254 : decode cL_law 1254 = .ok (.aload_n 2, 1) := dk_44 (dk_at dksL_law_46 21 rfl rfl)
theorem dL_law_1255 : decode cL_law 1255 = .ok (.aload_n 0, 1) := dk_42 (dk_at dksL_law_46 22 rfl rfl)
theorem dL_law_1256 : decode cL_law 1256 = .ok (.iload 5, 2) := dk_21 5 (dk_at dksL_law_47 0 rfl rfl)
theorem dL_law_1258 : decode cL_law 1258 = .ok (.iconst 1, 1) := dk_4 (dk_at dksL_law_47 2 rfl rfl)
theorem dL_law_1259 : decode cL_law 1259 = .ok (.iadd, 1) := dk_96 (dk_at dksL_law_47 3 rfl rfl)
theorem dL_law_1260 : decode cL_law 1260 = .ok (.iaload, 1) := dk_46 (dk_at dksL_law_47 4 rfl rfl)
theorem dL_law_1261 : decode cL_law 1261 = .ok (.invokevirtual 206, 3) := dk_182 0 206 (dk_at dksL_law_47 5 rfl rfl)
theorem dL_law_1264 : decode cL_law 1264 = .ok (.istore 7, 2) := dk_54 7 (dk_at dksL_law_47 8 rfl rfl)
theorem dL_law_1266 : decode cL_law 1266 = .ok (.aload_n 2, 1) := dk_44 (dk_at dksL_law_47 10 rfl rfl)
theorem dL_law_1267 : decode cL_law 1267 = .ok (.invokevirtual 144, 3) := dk_182 0 144 (dk_at dksL_law_47 11 rfl rfl)
theorem dL_law_1270 : decode cL_law 1270 = .ok (.iload 6, 2) := dk_21 6 (dk_at dksL_law_47 14 rfl rfl)
theorem dL_law_1272 : decode cL_law 1272 = .ok (.if_icmp .eq 5, 3) := dk_159 0 5 (dk_at dksL_law_47 16 rfl rfl)
theorem dL_law_1275 : decode cL_law 1275 = .ok (.iconst 0, 1) := dk_3 (dk_at dksL_law_47 19 rfl rfl)
theorem dL_law_1276 : decode cL_law 1276 = .ok (.ireturn, 1) := dk_172 (dk_at dksL_law_47 20 rfl rfl)
theorem dL_law_1277 : decode cL_law 1277 = .ok (.iload 6, 2) := dk_21 6 (dk_at dksL_law_47 21 rfl rfl)
theorem dL_law_1279 : decode cL_law 1279 = .ok (.ifCond .ne 15, 3) := dk_154 0 15 (dk_at dksL_law_48 0 rfl rfl)
theorem dL_law_1282 : decode cL_law 1282 = .ok (.aload_n 3, 1) := dk_45 (dk_at dksL_law_48 3 rfl rfl)
theorem dL_law_1283 : decode cL_law 1283 = .ok (.iconst 0, 1) := dk_3 (dk_at dksL_law_48 4 rfl rfl)
theorem dL_law_1284 : decode cL_law 1284 = .ok (.laload, 1) := dk_47 (dk_at dksL_law_48 5 rfl rfl)
theorem dL_law_1285 : decode cL_law 1285 = .ok (.iload 7, 2) := dk_21 7 (dk_at dksL_law_48 6 rfl rfl)
theorem dL_law_1287 : decode cL_law 1287 = .ok (.i2l, 1) := dk_133 (dk_at dksL_law_48 8 rfl rfl)
theorem dL_law_1288 : decode cL_law 1288 = .ok (.lcmp, 1) := dk_148 (dk_at dksL_law_48 9 rfl rfl)
theorem dL_law_1289 : decode cL_law 1289 = .ok (.ifCond .eq 5, 3) := dk_153 0 5 (dk_at dksL_law_48 10 rfl rfl)
theorem dL_law_1292 : decode cL_law 1292 = .ok (.iconst 0, 1) := dk_3 (dk_at dksL_law_48 13 rfl rfl)
theorem dL_law_1293 : decode cL_law 1293 = .ok (.ireturn, 1) := dk_172 (dk_at dksL_law_48 14 rfl rfl)
theorem dL_law_1294 : decode cL_law 1294 = .ok (.goto 1187, 3) := dk_167 4 163 (dk_at dksL_law_48 15 rfl rfl)
theorem dL_law_1297 : decode cL_law 1297 = .ok (.aload_n 1, 1) := dk_43 (dk_at dksL_law_48 18 rfl rfl)
theorem dL_law_1298 : decode cL_law 1298 = .ok (.invokevirtual 207, 3) := dk_182 0 207 (dk_at dksL_law_48 19 rfl rfl)
theorem dL_law_1301 : decode cL_law 1301 = .ok (.aload_n 2, 1) := dk_44 (dk_at dksL_law_48 22 rfl rfl)
theorem dL_law_1302 : decode cL_law 1302 = .ok (.invokevirtual 210, 3) := dk_182 0 210 (dk_at dksL_law_49 0 rfl rfl)
theorem dL_law_1305 : decode cL_law 1305 = .ok (.if_icmp .eq 1176, 3) := dk_159 4 152 (dk_at dksL_law_49 3 rfl rfl)
theorem dL_law_1308 : decode cL_law 1308 = .ok (.iconst 0, 1) := dk_3 (dk_at dksL_law_49 6 rfl rfl)
theorem dL_law_1309 : decode cL_law 1309 = .ok (.ireturn, 1) := dk_172 (dk_at dksL_law_49 7 rfl rfl)
theorem dL_law_1310 : decode cL_law 1310 = .ok (.aload_n 1, 1) := dk_43 (dk_at dksL_law_49 8 rfl rfl)
theorem dL_law_1311 : decode cL_law 1311 = .ok (.invokevirtual 211, 3) := dk_182 0 211 (dk_at dksL_law_49 9 rfl rfl)
theorem dL_law_1314 : decode cL_law 1314 = .ok (.aload_n 2, 1) := dk_44 (dk_at dksL_law_49 12 rfl rfl)
theorem dL_law_1315 : decode cL_law 1315 = .ok (.invokevirtual 214, 3) := dk_182 0 214 (dk_at dksL_law_49 13 rfl rfl)
theorem dL_law_1318 : decode cL_law 1318 = .ok (.if_icmp .eq 1163, 3) := dk_159 4 139 (dk_at dksL_law_49 16 rfl rfl)
theorem dL_law_1321 : decode cL_law 1321 = .ok (.iconst 0, 1) := dk_3 (dk_at dksL_law_49 19 rfl rfl)
theorem dL_law_1322 : decode cL_law 1322 = .ok (.ireturn, 1) := dk_172 (dk_at dksL_law_49 20 rfl rfl)
theorem dL_law_1323 : decode cL_law 1323 = .ok (.aload_n 1, 1) := dk_43 (dk_at dksL_law_49 21 rfl rfl)
theorem dL_law_1324 : decode cL_law 1324 = .ok (.aload_n 0, 1) := dk_42 (dk_at dksL_law_49 22 rfl rfl)
theorem dL_law_1325 : decode cL_law 1325 = .ok (.iload 5, 2) := dk_21 5 (dk_at dksL_law_50 0 rfl rfl)
theorem dL_law_1327 : decode cL_law 1327 = .ok (.iconst 1, 1) := dk_4 (dk_at dksL_law_50 2 rfl rfl)
theorem dL_law_1328 : decode cL_law 1328 = .ok (.iadd, 1) := dk_96 (dk_at dksL_law_50 3 rfl rfl)
theorem dL_law_1329 : decode cL_law 1329 = .ok (.iaload, 1) := dk_46 (dk_at dksL_law_50 4 rfl rfl)
theorem dL_law_1330 : decode cL_law 1330 = .ok (.aload_n 0, 1) := dk_42 (dk_at dksL_law_50 5 rfl rfl)
theorem dL_law_1331 : decode cL_law 1331 = .ok (.iload 5, 2) := dk_21 5 (dk_at dksL_law_50 6 rfl rfl)
theorem dL_law_1333 : decode cL_law 1333 = .ok (.iconst 2, 1) := dk_5 (dk_at dksL_law_50 8 rfl rfl)
theorem dL_law_1334 : decode cL_law 1334 = .ok (.iadd, 1) := dk_96 (dk_at dksL_law_50 9 rfl rfl)
theorem dL_law_1335 : decode cL_law 1335 = .ok (.iaload, 1) := dk_46 (dk_at dksL_law_50 10 rfl rfl)
theorem dL_law_1336 : decode cL_law 1336 = .ok (.aload_n 3, 1) := dk_45 (dk_at dksL_law_50 11 rfl rfl)
theorem dL_law_1337 : decode cL_law 1337 = .ok (.invokestatic 215, 3) := dk_184 0 215 (dk_at dksL_law_50 12 rfl rfl)
theorem dL_law_1340 : decode cL_law 1340 = .ok (.istore 6, 2) := dk_54 6 (dk_at dksL_law_50 15 rfl rfl)
theorem dL_law_1342 : decode cL_law 1342 = .ok (.aload_n 2, 1) := dk_44 (dk_at dksL_law_50 17 rfl rfl)
theorem dL_law_1343 : decode cL_law 1343 = .ok (.aload_n 0, 1) := dk_42 (dk_at dksL_law_50 18 rfl rfl)
theorem dL_law_1344 : decode cL_law 1344 = .ok (.iload 5, 2) := dk_21 5 (dk_at dksL_law_50 19 rfl rfl)
theorem dL_law_1346 : decode cL_law 1346 = .ok (.iconst 1, 1) := dk_4 (dk_at dksL_law_50 21 rfl rfl)
theorem dL_law_1347 : decode cL_law 1347 = .ok (.iadd, 1) := dk_96 (dk_at dksL_law_50 22 rfl rfl)
theorem dL_law_1348 : decode cL_law 1348 = .ok (.iaload, 1) := dk_46 (dk_at dksL_law_50 23 rfl rfl)
theorem dL_law_1349 : decode cL_law 1349 = .ok (.aload_n 0, 1) := dk_42 (dk_at dksL_law_51 0 rfl rfl)
theorem dL_law_1350 : decode cL_law 1350 = .ok (.iload 5, 2) := dk_21 5 (dk_at dksL_law_51 1 rfl rfl)
theorem dL_law_1352 : decode cL_law 1352 = .ok (.iconst 2, 1) := dk_5 (dk_at dksL_law_51 3 rfl rfl)
theorem dL_law_1353 : decode cL_law 1353 = .ok (.iadd, 1) := dk_96 (dk_at dksL_law_51 4 rfl rfl)
theorem dL_law_1354 : decode cL_law 1354 = .ok (.iaload, 1) := dk_46 (dk_at dksL_law_51 5 rfl rfl)
theorem dL_law_1355 : decode cL_law 1355 = .ok (.invokevirtual 217, 3) := dk_182 0 217 (dk_at dksL_law_51 6 rfl rfl)
theorem dL_law_1358 : decode cL_law 1358 = .ok (.istore 7, 2) := dk_54 7 (dk_at dksL_law_51 9 rfl rfl)
theorem dL_law_1360 : decode cL_law 1360 = .ok (.aload_n 2, 1) := dk_44 (dk_at dksL_law_51 11 rfl rfl)
theorem dL_law_1361 : decode cL_law 1361 = .ok (.invokevirtual 144, 3) := dk_182 0 144 (dk_at dksL_law_51 12 rfl rfl)
theorem dL_law_1364 : decode cL_law 1364 = .ok (.iload 6, 2) := dk_21 6 (dk_at dksL_law_51 15 rfl rfl)
theorem dL_law_1366 : decode cL_law 1366 = .ok (.if_icmp .eq 5, 3) := dk_159 0 5 (dk_at dksL_law_51 17 rfl rfl)
theorem dL_law_1369 : decode cL_law 1369 = .ok (.iconst 0, 1) := dk_3 (dk_at dksL_law_51 20 rfl rfl)
theorem dL_law_1370 : decode cL_law 1370 = .ok (.ireturn, 1) := dk_172 (dk_at dksL_law_51 21 rfl rfl)
theorem dL_law_1371 : decode cL_law 1371 = .ok (.iload 6, 2) := dk_21 6 (dk_at dksL_law_51 22 rfl rfl)
theorem dL_law_1373 : decode cL_law 1373 = .ok (.ifCond .ne 15, 3) := dk_154 0 15 (dk_at dksL_law_52 0 rfl rfl)
theorem dL_law_1376 : decode cL_law 1376 = .ok (.aload_n 3, 1) := dk_45 (dk_at dksL_law_52 3 rfl rfl)
theorem dL_law_1377 : decode cL_law 1377 = .ok (.iconst 0, 1) := dk_3 (dk_at dksL_law_52 4 rfl rfl)
theorem dL_law_1378 : decode cL_law 1378 = .ok (.laload, 1) := dk_47 (dk_at dksL_law_52 5 rfl rfl)
theorem dL_law_1379 : decode cL_law 1379 = .ok (.iload 7, 2) := dk_21 7 (dk_at dksL_law_52 6 rfl rfl)
theorem dL_law_1381 : decode cL_law 1381 = .ok (.i2l, 1) := dk_133 (dk_at dksL_law_52 8 rfl rfl)
theorem dL_law_1382 : decode cL_law 1382 = .ok (.lcmp, 1) := dk_148 (dk_at dksL_law_52 9 rfl rfl)
theorem dL_law_1383 : decode cL_law 1383 = .ok (.ifCond .eq 5, 3) := dk_153 0 5 (dk_at dksL_law_52 10 rfl rfl)
theorem dL_law_1386 : decode cL_law 1386 = .ok (.iconst 0, 1) := dk_3 (dk_at dksL_law_52 13 rfl rfl)
theorem dL_law_1387 : decode cL_law 1387 = .ok (.ireturn, 1) := dk_172 (dk_at dksL_law_52 14 rfl rfl)
theorem dL_law_1388 : decode cL_law 1388 = .ok (.goto 1093, 3) := dk_167 4 69 (dk_at dksL_law_52 15 rfl rfl)
theorem dL_law_1391 : decode cL_law 1391 = .ok (.aload_n 1, 1) := dk_43 (dk_at dksL_law_52 18 rfl rfl)
theorem dL_law_1392 : decode cL_law 1392 = .ok (.aload_n 0, 1) := dk_42 (dk_at dksL_law_52 19 rfl rfl)
theorem dL_law_1393 : decode cL_law 1393 = .ok (.iload 5, 2) := dk_21 5 (dk_at dksL_law_52 20 rfl rfl)
theorem dL_law_1395 : decode cL_law 1395 = .ok (.iconst 1, 1) := dk_4 (dk_at dksL_law_52 22 rfl rfl)
theorem dL_law_1396 : decode cL_law 1396 = .ok (.iadd, 1) := dk_96 (dk_at dksL_law_52 23 rfl rfl)
theorem dL_law_1397 : decode cL_law 1397 = .ok (.iaload, 1) := dk_46 (dk_at dksL_law_53 0 rfl rfl)
theorem dL_law_1398 : decode cL_law 1398 = .ok (.aload_n 0, 1) := dk_42 (dk_at dksL_law_53 1 rfl rfl)
theorem dL_law_1399 : decode cL_law 1399 = .ok (.iload 5, 2) := dk_21 5 (dk_at dksL_law_53 2 rfl rfl)
theorem dL_law_1401 : decode cL_law 1401 = .ok (.iconst 2, 1) := dk_5 (dk_at dksL_law_53 4 rfl rfl)
theorem dL_law_1402 : decode cL_law 1402 = .ok (.iadd, 1) := dk_96 (dk_at dksL_law_53 5 rfl rfl)
theorem dL_law_1403 : decode cL_law 1403 = .ok (.iaload, 1) := dk_46 (dk_at dksL_law_53 6 rfl rfl)
theorem dL_law_1404 : decode cL_law 1404 = .ok (.aload_n 3, 1) := dk_45 (dk_at dksL_law_53 7 rfl rfl)
theorem dL_law_1405 : decode cL_law 1405 = .ok (.invokestatic 218, 3) := dk_184 0 218 (dk_at dksL_law_53 8 rfl rfl)
theorem dL_law_1408 : decode cL_law 1408 = .ok (.istore 6, 2) := dk_54 6 (dk_at dksL_law_53 11 rfl rfl)
theorem dL_law_1410 : decode cL_law 1410 = .ok (.aload_n 2, 1) := dk_44 (dk_at dksL_law_53 13 rfl rfl)
theorem dL_law_1411 : decode cL_law 1411 = .ok (.aload_n 0, 1) := dk_42 (dk_at dksL_law_53 14 rfl rfl)
theorem dL_law_1412 : decode cL_law 1412 = .ok (.iload 5, 2) := dk_21 5 (dk_at dksL_law_53 15 rfl rfl)
theorem dL_law_1414 : decode cL_law 1414 = .ok (.iconst 1, 1) := dk_4 (dk_at dksL_law_53 17 rfl rfl)
theorem dL_law_1415 : decode cL_law 1415 = .ok (.iadd, 1) := dk_96 (dk_at dksL_law_53 18 rfl rfl)
theorem dL_law_1416 : decode cL_law 1416 = .ok (.iaload, 1) := dk_46 (dk_at dksL_law_53 19 rfl rfl)
theorem dL_law_1417 : decode cL_law 1417 = .ok (.aload_n 0, 1) := dk_42 (dk_at dksL_law_53 20 rfl rfl)
theorem dL_law_1418 : decode cL_law 1418 = .ok (.iload 5, 2) := dk_21 5 (dk_at dksL_law_53 21 rfl rfl)
theorem dL_law_1420 : decode cL_law 1420 = .ok (.iconst 2, 1) := dk_5 (dk_at dksL_law_53 23 rfl rfl)
theorem dL_law_1421 : decode cL_law 1421 = .ok (.iadd, 1) := dk_96 (dk_at dksL_law_54 0 rfl rfl)
theorem dL_law_1422 : decode cL_law 1422 = .ok (.iaload, 1) := dk_46 (dk_at dksL_law_54 1 rfl rfl)
theorem dL_law_1423 : decode cL_law 1423 = .ok (.invokevirtual 220, 3) := dk_182 0 220 (dk_at dksL_law_54 2 rfl rfl)
theorem dL_law_1426 : decode cL_law 1426 = .ok (.istore 7, 2) := dk_54 7 (dk_at dksL_law_54 5 rfl rfl)
theorem dL_law_1428 : decode cL_law 1428 = .ok (.aload_n 2, 1) := dk_44 (dk_at dksL_law_54 7 rfl rfl)
theorem dL_law_1429 : decode cL_law 1429 = .ok (.invokevirtual 144, 3) := dk_182 0 144 (dk_at dksL_law_54 8 rfl rfl)
theorem dL_law_1432 : decode cL_law 1432 = .ok (.iload 6, 2) := dk_21 6 (dk_at dksL_law_54 11 rfl rfl)
theorem dL_law_1434 : decode cL_law 1434 = .ok (.if_icmp .eq 5, 3) := dk_159 0 5 (dk_at dksL_law_54 13 rfl rfl)
theorem dL_law_1437 : decode cL_law 1437 = .ok (.iconst 0, 1) := dk_3 (dk_at dksL_law_54 16 rfl rfl)
theorem dL_law_1438 : decode cL_law 1438 = .ok (.ireturn, 1) := dk_172 (dk_at dksL_law_54 17 rfl rfl)
theorem dL_law_1439 : decode cL_law 1439 = .ok (.iload 6, 2) := dk_21 6 (dk_at dksL_law_54 18 rfl rfl)
theorem dL_law_1441 : decode cL_law 1441 = .ok (.ifCond .ne 15, 3) := dk_154 0 15 (dk_at dksL_law_54 20 rfl rfl)
theorem dL_law_1444 : decode cL_law 1444 = .ok (.aload_n 3, 1) := dk_45 (dk_at dksL_law_54 23 rfl rfl)
theorem dL_law_1445 : decode cL_law 1445 = .ok (.iconst 0, 1) := dk_3 (dk_at dksL_law_55 0 rfl rfl)
theorem dL_law_1446 : decode cL_law 1446 = .ok (.laload, 1) := dk_47 (dk_at dksL_law_55 1 rfl rfl)
theorem dL_law_1447 : decode cL_law 1447 = .ok (.iload 7, 2) := dk_21 7 (dk_at dksL_law_55 2 rfl rfl)
theorem dL_law_1449 : decode cL_law 1449 = .ok (.i2l, 1) := dk_133 (dk_at dksL_law_55 4 rfl rfl)
theorem dL_law_1450 : decode cL_law 1450 = .ok (.lcmp, 1) := dk_148 (dk_at dksL_law_55 5 rfl rfl)
theorem dL_law_1451 : decode cL_law 1451 = .ok (.ifCond .eq 5, 3) := dk_153 0 5 (dk_at dksL_law_55 6 rfl rfl)
theorem dL_law_1454 : decode cL_law 1454 = .ok (.iconst 0, 1) := dk_3 (dk_at dksL_law_55 9 rfl rfl)
theorem dL_law_1455 : decode cL_law 1455 = .ok (.ireturn, 1) := dk_172 (dk_at dksL_law_55 10 rfl rfl)
theorem dL_law_1456 : decode cL_law 1456 = .ok (.goto 1025, 3) := dk_167 4 1 (dk_at dksL_law_55 11 rfl rfl)
theorem dL_law_1459 : decode cL_law 1459 = .ok (.aload_n 1, 1) := dk_43 (dk_at dksL_law_55 14 rfl rfl)
theorem dL_law_1460 : decode cL_law 1460 = .ok (.aload_n 0, 1) := dk_42 (dk_at dksL_law_55 15 rfl rfl)
theorem dL_law_1461 : decode cL_law 1461 = .ok (.iload 5, 2) := dk_21 5 (dk_at dksL_law_55 16 rfl rfl)
theorem dL_law_1463 : decode cL_law 1463 = .ok (.iconst 1, 1) := dk_4 (dk_at dksL_law_55 18 rfl rfl)
theorem dL_law_1464 : decode cL_law 1464 = .ok (.iadd, 1) := dk_96 (dk_at dksL_law_55 19 rfl rfl)
theorem dL_law_1465 : decode cL_law 1465 = .ok (.iaload, 1) := dk_46 (dk_at dksL_law_55 20 rfl rfl)
theorem dL_law_1466 : decode cL_law 1466 = .ok (.aload_n 0, 1) := dk_42 (dk_at dksL_law_55 21 rfl rfl)
theorem dL_law_1467 : decode cL_law 1467 = .ok (.iload 5, 2) := dk_21 5 (dk_at dksL_law_55 22 rfl rfl)
theorem dL_law_1469 : decode cL_law 1469 = .ok (.iconst 2, 1) := dk_5 (dk_at dksL_law_56 0 rfl rfl)
theorem dL_law_1470 : decode cL_law 1470 = .ok (.iadd, 1) := dk_96 (dk_at dksL_law_56 1 rfl rfl)
theorem dL_law_1471 : decode cL_law 1471 = .ok (.iaload, 1) := dk_46 (dk_at dksL_law_56 2 rfl rfl)
theorem dL_law_1472 : decode cL_law 1472 = .ok (.aload_n 3, 1) := dk_45 (dk_at dksL_law_56 3 rfl rfl)
theorem dL_law_1473 : decode cL_law 1473 = .ok (.invokestatic 221, 3) := dk_184 0 221 (dk_at dksL_law_56 4 rfl rfl)
theorem dL_law_1476 : decode cL_law 1476 = .ok (.istore 6, 2) := dk_54 6 (dk_at dksL_law_56 7 rfl rfl)
theorem dL_law_1478 : decode cL_law 1478 = .ok (.aload_n 2, 1) := dk_44 (dk_at dksL_law_56 9 rfl rfl)
theorem dL_law_1479 : decode cL_law 1479 = .ok (.aload_n 0, 1) := dk_42 (dk_at dksL_law_56 10 rfl rfl)
theorem dL_law_1480 : decode cL_law 1480 = .ok (.iload 5, 2) := dk_21 5 (dk_at dksL_law_56 11 rfl rfl)
theorem dL_law_1482 : decode cL_law 1482 = .ok (.iconst 1, 1) := dk_4 (dk_at dksL_law_56 13 rfl rfl)
theorem dL_law_1483 : decode cL_law 1483 = .ok (.iadd, 1) := dk_96 (dk_at dksL_law_56 14 rfl rfl)
theorem dL_law_1484 : decode cL_law 1484 = .ok (.iaload, 1) := dk_46 (dk_at dksL_law_56 15 rfl rfl)
theorem dL_law_1485 : decode cL_law 1485 = .ok (.aload_n 0, 1) := dk_42 (dk_at dksL_law_56 16 rfl rfl)
theorem dL_law_1486 : decode cL_law 1486 = .ok (.iload 5, 2) := dk_21 5 (dk_at dksL_law_56 17 rfl rfl)
theorem dL_law_1488 : decode cL_law 1488 = .ok (.iconst 2, 1) := dk_5 (dk_at dksL_law_56 19 rfl rfl)
theorem dL_law_1489 : decode cL_law 1489 = .ok (.iadd, 1) := dk_96 (dk_at dksL_law_56 20 rfl rfl)
theorem dL_law_1490 : decode cL_law 1490 = .ok (.iaload, 1) := dk_46 (dk_at dksL_law_56 21 rfl rfl)
theorem dL_law_1491 : decode cL_law 1491 = .ok (.invokevirtual 223, 3) := dk_182 0 223 (dk_at dksL_law_57 0 rfl rfl)
theorem dL_law_1494 : decode cL_law 1494 = .ok (.istore 7, 2) := dk_54 7 (dk_at dksL_law_57 3 rfl rfl)
theorem dL_law_1496 : decode cL_law 1496 = .ok (.aload_n 2, 1) := dk_44 (dk_at dksL_law_57 5 rfl rfl)
theorem dL_law_1497 : decode cL_law 1497 = .ok (.invokevirtual 144, 3) := dk_182 0 144 (dk_at dksL_law_57 6 rfl rfl)
theorem dL_law_1500 : decode cL_law 1500 = .ok (.iload 6, 2) := dk_21 6 (dk_at dksL_law_57 9 rfl rfl)
theorem dL_law_1502 : decode cL_law 1502 = .ok (.if_icmp .eq 5, 3) := dk_159 0 5 (dk_at dksL_law_57 11 rfl rfl)
theorem dL_law_1505 : decode cL_law 1505 = .ok (.iconst 0, 1) := dk_3 (dk_at dksL_law_57 14 rfl rfl)
theorem dL_law_1506 : decode cL_law 1506 = .ok (.ireturn, 1) := dk_172 (dk_at dksL_law_57 15 rfl rfl)
theorem dL_law_1507 : decode cL_law 1507 = .ok (.iload 6, 2) := dk_21 6 (dk_at dksL_law_57 16 rfl rfl)
theorem dL_law_1509 : decode cL_law 1509 = .ok (.ifCond .ne 15, 3) := dk_154 0 15 (dk_at dksL_law_57 18 rfl rfl)
theorem dL_law_1512 : decode cL_law 1512 = .ok (.aload_n 3, 1) := dk_45 (dk_at dksL_law_57 21 rfl rfl)
theorem dL_law_1513 : decode cL_law 1513 = .ok (.iconst 0, 1) := dk_3 (dk_at dksL_law_57 22 rfl rfl)
theorem dL_law_1514 : decode cL_law 1514 = .ok (.laload, 1) := dk_47 (dk_at dksL_law_57 23 rfl rfl)
theorem dL_law_1515 : decode cL_law 1515 = .ok (.iload 7, 2) := dk_21 7 (dk_at dksL_law_58 0 rfl rfl)
theorem dL_law_1517 : decode cL_law 1517 = .ok (.i2l, 1) := dk_133 (dk_at dksL_law_58 2 rfl rfl)
theorem dL_law_1518 : decode cL_law 1518 = .ok (.lcmp, 1) := dk_148 (dk_at dksL_law_58 3 rfl rfl)
theorem dL_law_1519 : decode cL_law 1519 = .ok (.ifCond .eq 5, 3) := dk_153 0 5 (dk_at dksL_law_58 4 rfl rfl)
theorem dL_law_1522 : decode cL_law 1522 = .ok (.iconst 0, 1) := dk_3 (dk_at dksL_law_58 7 rfl rfl)
theorem dL_law_1523 : decode cL_law 1523 = .ok (.ireturn, 1) := dk_172 (dk_at dksL_law_58 8 rfl rfl)
theorem dL_law_1524 : decode cL_law 1524 = .ok (.goto 957, 3) := dk_167 3 189 (dk_at dksL_law_58 9 rfl rfl)
theorem dL_law_1527 : decode cL_law 1527 = .ok (.aload_n 1, 1) := dk_43 (dk_at dksL_law_58 12 rfl rfl)
theorem dL_law_1528 : decode cL_law 1528 = .ok (.aload_n 0, 1) := dk_42 (dk_at dksL_law_58 13 rfl rfl)
theorem dL_law_1529 : decode cL_law 1529 = .ok (.iload 5, 2) := dk_21 5 (dk_at dksL_law_58 14 rfl rfl)
theorem dL_law_1531 : decode cL_law 1531 = .ok (.iconst 1, 1) := dk_4 (dk_at dksL_law_58 16 rfl rfl)
theorem dL_law_1532 : decode cL_law 1532 = .ok (.iadd, 1) := dk_96 (dk_at dksL_law_58 17 rfl rfl)
theorem dL_law_1533 : decode cL_law 1533 = .ok (.iaload, 1) := dk_46 (dk_at dksL_law_58 18 rfl rfl)
theorem dL_law_1534 : decode cL_law 1534 = .ok (.aload_n 0, 1) := dk_42 (dk_at dksL_law_58 19 rfl rfl)
theorem dL_law_1535 : decode cL_law 1535 = .ok (.iload 5, 2) := dk_21 5 (dk_at dksL_law_58 20 rfl rfl)
theorem dL_law_1537 : decode cL_law 1537 = .ok (.iconst 2, 1) := dk_5 (dk_at dksL_law_58 22 rfl rfl)
theorem dL_law_1538 : decode cL_law 1538 = .ok (.iadd, 1) := dk_96 (dk_at dksL_law_58 23 rfl rfl)
theorem dL_law_1539 : decode cL_law 1539 = .ok (.iaload, 1) := dk_46 (dk_at dksL_law_59 0 rfl rfl)
theorem dL_law_1540 : decode cL_law 1540 = .ok (.aload_n 0, 1) := dk_42 (dk_at dksL_law_59 1 rfl rfl)
theorem dL_law_1541 : decode cL_law 1541 = .ok (.iload 5, 2) := dk_21 5 (dk_at dksL_law_59 2 rfl rfl)
theorem dL_law_1543 : decode cL_law 1543 = .ok (.iconst 3, 1) := dk_6 (dk_at dksL_law_59 4 rfl rfl)
theorem dL_law_1544 : decode cL_law 1544 = .ok (.iadd, 1) := dk_96 (dk_at dksL_law_59 5 rfl rfl)
theorem dL_law_1545 : decode cL_law 1545 = .ok (.iaload, 1) := dk_46 (dk_at dksL_law_59 6 rfl rfl)
theorem dL_law_1546 : decode cL_law 1546 = .ok (.aload_n 3, 1) := dk_45 (dk_at dksL_law_59 7 rfl rfl)
theorem dL_law_1547 : decode cL_law 1547 = .ok (.invokestatic 224, 3) := dk_184 0 224 (dk_at dksL_law_59 8 rfl rfl)
theorem dL_law_1550 : decode cL_law 1550 = .ok (.istore 6, 2) := dk_54 6 (dk_at dksL_law_59 11 rfl rfl)
theorem dL_law_1552 : decode cL_law 1552 = .ok (.aload_n 2, 1) := dk_44 (dk_at dksL_law_59 13 rfl rfl)
theorem dL_law_1553 : decode cL_law 1553 = .ok (.aload_n 0, 1) := dk_42 (dk_at dksL_law_59 14 rfl rfl)
theorem dL_law_1554 : decode cL_law 1554 = .ok (.iload 5, 2) := dk_21 5 (dk_at dksL_law_59 15 rfl rfl)
theorem dL_law_1556 : decode cL_law 1556 = .ok (.iconst 1, 1) := dk_4 (dk_at dksL_law_59 17 rfl rfl)
theorem dL_law_1557 : decode cL_law 1557 = .ok (.iadd, 1) := dk_96 (dk_at dksL_law_59 18 rfl rfl)
theorem dL_law_1558 : decode cL_law 1558 = .ok (.iaload, 1) := dk_46 (dk_at dksL_law_59 19 rfl rfl)
theorem dL_law_1559 : decode cL_law 1559 = .ok (.aload_n 0, 1) := dk_42 (dk_at dksL_law_59 20 rfl rfl)
theorem dL_law_1560 : decode cL_law 1560 = .ok (.iload 5, 2) := dk_21 5 (dk_at dksL_law_59 21 rfl rfl)
theorem dL_law_1562 : decode cL_law 1562 = .ok (.iconst 2, 1) := dk_5 (dk_at dksL_law_59 23 rfl rfl)
theorem dL_law_1563 : decode cL_law 1563 = .ok (.iadd, 1) := dk_96 (dk_at dksL_law_60 0 rfl rfl)
theorem dL_law_1564 : decode cL_law 1564 = .ok (.iaload, 1) := dk_46 (dk_at dksL_law_60 1 rfl rfl)
theorem dL_law_1565 : decode cL_law 1565 = .ok (.aload_n 0, 1) := dk_42 (dk_at dksL_law_60 2 rfl rfl)
theorem dL_law_1566 : decode cL_law 1566 = .ok (.iload 5, 2) := dk_21 5 (dk_at dksL_law_60 3 rfl rfl)
theorem dL_law_1568 : decode cL_law 1568 = .ok (.iconst 3, 1) := dk_6 (dk_at dksL_law_60 5 rfl rfl)
theorem dL_law_1569 : decode cL_law 1569 = .ok (.iadd, 1) := dk_96 (dk_at dksL_law_60 6 rfl rfl)
theorem dL_law_1570 : decode cL_law 1570 = .ok (.iaload, 1) := dk_46 (dk_at dksL_law_60 7 rfl rfl)
theorem dL_law_1571 : decode cL_law 1571 = .ok (.invokevirtual 226, 3) := dk_182 0 226 (dk_at dksL_law_60 8 rfl rfl)
theorem dL_law_1574 : decode cL_law 1574 = .ok (.istore 7, 2) := dk_54 7 (dk_at dksL_law_60 11 rfl rfl)
theorem dL_law_1576 : decode cL_law 1576 = .ok (.aload_n 2, 1) := dk_44 (dk_at dksL_law_60 13 rfl rfl)
theorem dL_law_1577 : decode cL_law 1577 = .ok (.invokevirtual 144, 3) := dk_182 0 144 (dk_at dksL_law_60 14 rfl rfl)
theorem dL_law_1580 : decode cL_law 1580 = .ok (.iload 6, 2) := dk_21 6 (dk_at dksL_law_60 17 rfl rfl)
theorem dL_law_1582 : decode cL_law 1582 = .ok (.if_icmp .eq 5, 3) := dk_159 0 5 (dk_at dksL_law_60 19 rfl rfl)
theorem dL_law_1585 : decode cL_law 1585 = .ok (.iconst 0, 1) := dk_3 (dk_at dksL_law_60 22 rfl rfl)
theorem dL_law_1586 : decode cL_law 1586 = .ok (.ireturn, 1) := dk_172 (dk_at dksL_law_60 23 rfl rfl)
theorem dL_law_1587 : decode cL_law 1587 = .ok (.iload 6, 2) := dk_21 6 (dk_at dksL_law_61 0 rfl rfl)
theorem dL_law_1589 : decode cL_law 1589 = .ok (.ifCond .ne 15, 3) := dk_154 0 15 (dk_at dksL_law_61 2 rfl rfl)
theorem dL_law_1592 : decode cL_law 1592 = .ok (.aload_n 3, 1) := dk_45 (dk_at dksL_law_61 5 rfl rfl)
theorem dL_law_1593 : decode cL_law 1593 = .ok (.iconst 0, 1) := dk_3 (dk_at dksL_law_61 6 rfl rfl)
theorem dL_law_1594 : decode cL_law 1594 = .ok (.laload, 1) := dk_47 (dk_at dksL_law_61 7 rfl rfl)
theorem dL_law_1595 : decode cL_law 1595 = .ok (.iload 7, 2) := dk_21 7 (dk_at dksL_law_61 8 rfl rfl)
theorem dL_law_1597 : decode cL_law 1597 = .ok (.i2l, 1) := dk_133 (dk_at dksL_law_61 10 rfl rfl)
theorem dL_law_1598 : decode cL_law 1598 = .ok (.lcmp, 1) := dk_148 (dk_at dksL_law_61 11 rfl rfl)
theorem dL_law_1599 : decode cL_law 1599 = .ok (.ifCond .eq 5, 3) := dk_153 0 5 (dk_at dksL_law_61 12 rfl rfl)
theorem dL_law_1602 : decode cL_law 1602 = .ok (.iconst 0, 1) := dk_3 (dk_at dksL_law_61 15 rfl rfl)
theorem dL_law_1603 : decode cL_law 1603 = .ok (.ireturn, 1) := dk_172 (dk_at dksL_law_61 16 rfl rfl)
theorem dL_law_1604 : decode cL_law 1604 = .ok (.goto 877, 3) := dk_167 3 109 (dk_at dksL_law_61 17 rfl rfl)
theorem dL_law_1607 : decode cL_law 1607 = .ok (.aload_n 1, 1) := dk_43 (dk_at dksL_law_61 20 rfl rfl)
theorem dL_law_1608 : decode cL_law 1608 = .ok (.aload_n 0, 1) := dk_42 (dk_at dksL_law_61 21 rfl rfl)
theorem dL_law_1609 : decode cL_law 1609 = .ok (.iload 5, 2) := dk_21 5 (dk_at dksL_law_61 22 rfl rfl)
theorem dL_law_1611 : decode cL_law 1611 = .ok (.iconst 1, 1) := dk_4 (dk_at dksL_law_62 0 rfl rfl)
theorem dL_law_1612 : decode cL_law 1612 = .ok (.iadd, 1) := dk_96 (dk_at dksL_law_62 1 rfl rfl)
theorem dL_law_1613 : decode cL_law 1613 = .ok (.iaload, 1) := dk_46 (dk_at dksL_law_62 2 rfl rfl)
theorem dL_law_1614 : decode cL_law 1614 = .ok (.i2c, 1) := dk_146 (dk_at dksL_law_62 3 rfl rfl)
theorem dL_law_1615 : decode cL_law 1615 = .ok (.aload_n 3, 1) := dk_45 (dk_at dksL_law_62 4 rfl rfl)
theorem dL_law_1616 : decode cL_law 1616 = .ok (.invokestatic 227, 3) := dk_184 0 227 (dk_at dksL_law_62 5 rfl rfl)
theorem dL_law_1619 : decode cL_law 1619 = .ok (.istore 6, 2) := dk_54 6 (dk_at dksL_law_62 8 rfl rfl)
theorem dL_law_1621 : decode cL_law 1621 = .ok (.aload_n 2, 1) := dk_44 (dk_at dksL_law_62 10 rfl rfl)
theorem dL_law_1622 : decode cL_law 1622 = .ok (.aload_n 0, 1) := dk_42 (dk_at dksL_law_62 11 rfl rfl)
theorem dL_law_1623 : decode cL_law 1623 = .ok (.iload 5, 2) := dk_21 5 (dk_at dksL_law_62 12 rfl rfl)
theorem dL_law_1625 : decode cL_law 1625 = .ok (.iconst 1, 1) := dk_4 (dk_at dksL_law_62 14 rfl rfl)
theorem dL_law_1626 : decode cL_law 1626 = .ok (.iadd, 1) := dk_96 (dk_at dksL_law_62 15 rfl rfl)
theorem dL_law_1627 : decode cL_law 1627 = .ok (.iaload, 1) := dk_46 (dk_at dksL_law_62 16 rfl rfl)
theorem dL_law_1628 : decode cL_law 1628 = .ok (.i2c, 1) := dk_146 (dk_at dksL_law_62 17 rfl rfl)
theorem dL_law_1629 : decode cL_law 1629 = .ok (.invokevirtual 230, 3) := dk_182 0 230 (dk_at dksL_law_62 18 rfl rfl)
theorem dL_law_1632 : decode cL_law 1632 = .ok (.istore 7, 2) := dk_54 7 (dk_at dksL_law_62 21 rfl rfl)
theorem dL_law_1634 : decode cL_law 1634 = .ok (.aload_n 2, 1) := dk_44 (dk_at dksL_law_62 23 rfl rfl)
theorem dL_law_1635 : decode cL_law 1635 = .ok (.invokevirtual 144, 3) := dk_182 0 144 (dk_at dksL_law_63 0 rfl rfl)
theorem dL_law_1638 : decode cL_law 1638 = .ok (.iload 6, 2) := dk_21 6 (dk_at dksL_law_63 3 rfl rfl)
theorem dL_law_1640 : decode cL_law 1640 = .ok (.if_icmp .eq 5, 3) := dk_159 0 5 (dk_at dksL_law_63 5 rfl rfl)
theorem dL_law_1643 : decode cL_law 1643 = .ok (.iconst 0, 1) := dk_3 (dk_at dksL_law_63 8 rfl rfl)
theorem dL_law_1644 : decode cL_law 1644 = .ok (.ireturn, 1) := dk_172 (dk_at dksL_law_63 9 rfl rfl)
theorem dL_law_1645 : decode cL_law 1645 = .ok (.iload 6, 2) := dk_21 6 (dk_at dksL_law_63 10 rfl rfl)
theorem dL_law_1647 : decode cL_law 1647 = .ok (.ifCond .ne 15, 3) := dk_154 0 15 (dk_at dksL_law_63 12 rfl rfl)
theorem dL_law_1650 : decode cL_law 1650 = .ok (.aload_n 3, 1) := dk_45 (dk_at dksL_law_63 15 rfl rfl)
theorem dL_law_1651 : decode cL_law 1651 = .ok (.iconst 0, 1) := dk_3 (dk_at dksL_law_63 16 rfl rfl)
theorem dL_law_1652 : decode cL_law 1652 = .ok (.laload, 1) := dk_47 (dk_at dksL_law_63 17 rfl rfl)
theorem dL_law_1653 : decode cL_law 1653 = .ok (.iload 7, 2) := dk_21 7 (dk_at dksL_law_63 18 rfl rfl)
theorem dL_law_1655 : decode cL_law 1655 = .ok (.i2l, 1) := dk_133 (dk_at dksL_law_63 20 rfl rfl)
theorem dL_law_1656 : decode cL_law 1656 = .ok (.lcmp, 1) := dk_148 (dk_at dksL_law_63 21 rfl rfl)
theorem dL_law_1657 : decode cL_law 1657 = .ok (.ifCond .eq 5, 3) := dk_153 0 5 (dk_at dksL_law_64 0 rfl rfl)
theorem dL_law_1660 : decode cL_law 1660 = .ok (.iconst 0, 1) := dk_3 (dk_at dksL_law_64 3 rfl rfl)
theorem dL_law_1661 : decode cL_law 1661 = .ok (.ireturn, 1) := dk_172 (dk_at dksL_law_64 4 rfl rfl)
theorem dL_law_1662 : decode cL_law 1662 = .ok (.goto 819, 3) := dk_167 3 51 (dk_at dksL_law_64 5 rfl rfl)
theorem dL_law_1665 : decode cL_law 1665 = .ok (.aload_n 1, 1) := dk_43 (dk_at dksL_law_64 8 rfl rfl)
theorem dL_law_1666 : decode cL_law 1666 = .ok (.aload_n 0, 1) := dk_42 (dk_at dksL_law_64 9 rfl rfl)
theorem dL_law_1667 : decode cL_law 1667 = .ok (.iload 5, 2) := dk_21 5 (dk_at dksL_law_64 10 rfl rfl)
theorem dL_law_1669 : decode cL_law 1669 = .ok (.iconst 1, 1) := dk_4 (dk_at dksL_law_64 12 rfl rfl)
theorem dL_law_1670 : decode cL_law 1670 = .ok (.iadd, 1) := dk_96 (dk_at dksL_law_64 13 rfl rfl)
theorem dL_law_1671 : decode cL_law 1671 = .ok (.iaload, 1) := dk_46 (dk_at dksL_law_64 14 rfl rfl)
theorem dL_law_1672 : decode cL_law 1672 = .ok (.aload_n 0, 1) := dk_42 (dk_at dksL_law_64 15 rfl rfl)
theorem dL_law_1673 : decode cL_law 1673 = .ok (.iload 5, 2) := dk_21 5 (dk_at dksL_law_64 16 rfl rfl)
theorem dL_law_1675 : decode cL_law 1675 = .ok (.iconst 2, 1) := dk_5 (dk_at dksL_law_64 18 rfl rfl)
theorem dL_law_1676 : decode cL_law 1676 = .ok (.iadd, 1) := dk_96 (dk_at dksL_law_64 19 rfl rfl)
theorem dL_law_1677 : decode cL_law 1677 = .ok (.iaload, 1) := dk_46 (dk_at dksL_law_64 20 rfl rfl)
theorem dL_law_1678 : decode cL_law 1678 = .ok (.aload_n 3, 1) := dk_45 (dk_at dksL_law_64 21 rfl rfl)
theorem dL_law_1679 : decode cL_law 1679 = .ok (.invokestatic 231, 3) := dk_184 0 231 (dk_at dksL_law_65 0 rfl rfl)
theorem dL_law_1682 : decode cL_law 1682 = .ok (.istore 6, 2) := dk_54 6 (dk_at dksL_law_65 3 rfl rfl)
theorem dL_law_1684 : decode cL_law 1684 = .ok (.aload_n 2, 1) := dk_44 (dk_at dksL_law_65 5 rfl rfl)
theorem dL_law_1685 : decode cL_law 1685 = .ok (.aload_n 0, 1) := dk_42 (dk_at dksL_law_65 6 rfl rfl)
theorem dL_law_1686 : decode cL_law 1686 = .ok (.iload 5, 2) := dk_21 5 (dk_at dksL_law_65 7 rfl rfl)
theorem dL_law_1688 : decode cL_law 1688 = .ok (.iconst 1, 1) := dk_4 (dk_at dksL_law_65 9 rfl rfl)
theorem dL_law_1689 : decode cL_law 1689 = .ok (.iadd, 1) := dk_96 (dk_at dksL_law_65 10 rfl rfl)
theorem dL_law_1690 : decode cL_law 1690 = .ok (.iaload, 1) := dk_46 (dk_at dksL_law_65 11 rfl rfl)
theorem dL_law_1691 : decode cL_law 1691 = .ok (.aload_n 0, 1) := dk_42 (dk_at dksL_law_65 12 rfl rfl)
theorem dL_law_1692 : decode cL_law 1692 = .ok (.iload 5, 2) := dk_21 5 (dk_at dksL_law_65 13 rfl rfl)
theorem dL_law_1694 : decode cL_law 1694 = .ok (.iconst 2, 1) := dk_5 (dk_at dksL_law_65 15 rfl rfl)
theorem dL_law_1695 : decode cL_law 1695 = .ok (.iadd, 1) := dk_96 (dk_at dksL_law_65 16 rfl rfl)
theorem dL_law_1696 : decode cL_law 1696 = .ok (.iaload, 1) := dk_46 (dk_at dksL_law_65 17 rfl rfl)
theorem dL_law_1697 : decode cL_law 1697 = .ok (.invokevirtual 233, 3) := dk_182 0 233 (dk_at dksL_law_65 18 rfl rfl)
theorem dL_law_1700 : decode cL_law 1700 = .ok (.istore 7, 2) := dk_54 7 (dk_at dksL_law_65 21 rfl rfl)
theorem dL_law_1702 : decode cL_law 1702 = .ok (.aload_n 2, 1) := dk_44 (dk_at dksL_law_65 23 rfl rfl)
theorem dL_law_1703 : decode cL_law 1703 = .ok (.invokevirtual 144, 3) := dk_182 0 144 (dk_at dksL_law_66 0 rfl rfl)
theorem dL_law_1706 : decode cL_law 1706 = .ok (.iload 6, 2) := dk_21 6 (dk_at dksL_law_66 3 rfl rfl)
theorem dL_law_1708 : decode cL_law 1708 = .ok (.if_icmp .eq 5, 3) := dk_159 0 5 (dk_at dksL_law_66 5 rfl rfl)
theorem dL_law_1711 : decode cL_law 1711 = .ok (.iconst 0, 1) := dk_3 (dk_at dksL_law_66 8 rfl rfl)
theorem dL_law_1712 : decode cL_law 1712 = .ok (.ireturn, 1) := dk_172 (dk_at dksL_law_66 9 rfl rfl)
theorem dL_law_1713 : decode cL_law 1713 = .ok (.iload 6, 2) := dk_21 6 (dk_at dksL_law_66 10 rfl rfl)
theorem dL_law_1715 : decode cL_law 1715 = .ok (.ifCond .ne 15, 3) := dk_154 0 15 (dk_at dksL_law_66 12 rfl rfl)
theorem dL_law_1718 : decode cL_law 1718 = .ok (.aload_n 3, 1) := dk_45 (dk_at dksL_law_66 15 rfl rfl)
theorem dL_law_1719 : decode cL_law 1719 = .ok (.iconst 0, 1) := dk_3 (dk_at dksL_law_66 16 rfl rfl)
theorem dL_law_1720 : decode cL_law 1720 = .ok (.laload, 1) := dk_47 (dk_at dksL_law_66 17 rfl rfl)
theorem dL_law_1721 : decode cL_law 1721 = .ok (.iload 7, 2) := dk_21 7 (dk_at dksL_law_66 18 rfl rfl)
theorem dL_law_1723 : decode cL_law 1723 = .ok (.i2l, 1) := dk_133 (dk_at dksL_law_66 20 rfl rfl)
theorem dL_law_1724 : decode cL_law 1724 = .ok (.lcmp, 1) := dk_148 (dk_at dksL_law_66 21 rfl rfl)
theorem dL_law_1725 : decode cL_law 1725 = .ok (.ifCond .eq 5, 3) := dk_153 0 5 (dk_at dksL_law_67 0 rfl rfl)
theorem dL_law_1728 : decode cL_law 1728 = .ok (.iconst 0, 1) := dk_3 (dk_at dksL_law_67 3 rfl rfl)
theorem dL_law_1729 : decode cL_law 1729 = .ok (.ireturn, 1) := dk_172 (dk_at dksL_law_67 4 rfl rfl)
theorem dL_law_1730 : decode cL_law 1730 = .ok (.goto 751, 3) := dk_167 2 239 (dk_at dksL_law_67 5 rfl rfl)
theorem dL_law_1733 : decode cL_law 1733 = .ok (.aload_n 1, 1) := dk_43 (dk_at dksL_law_67 8 rfl rfl)
theorem dL_law_1734 : decode cL_law 1734 = .ok (.aload_n 0, 1) := dk_42 (dk_at dksL_law_67 9 rfl rfl)
theorem dL_law_1735 : decode cL_law 1735 = .ok (.iload 5, 2) := dk_21 5 (dk_at dksL_law_67 10 rfl rfl)
theorem dL_law_1737 : decode cL_law 1737 = .ok (.iconst 1, 1) := dk_4 (dk_at dksL_law_67 12 rfl rfl)
theorem dL_law_1738 : decode cL_law 1738 = .ok (.iadd, 1) := dk_96 (dk_at dksL_law_67 13 rfl rfl)
theorem dL_law_1739 : decode cL_law 1739 = .ok (.iaload, 1) := dk_46 (dk_at dksL_law_67 14 rfl rfl)
theorem dL_law_1740 : decode cL_law 1740 = .ok (.aload_n 3, 1) := dk_45 (dk_at dksL_law_67 15 rfl rfl)
theorem dL_law_1741 : decode cL_law 1741 = .ok (.invokestatic 234, 3) := dk_184 0 234 (dk_at dksL_law_67 16 rfl rfl)
theorem dL_law_1744 : decode cL_law 1744 = .ok (.istore 6, 2) := dk_54 6 (dk_at dksL_law_67 19 rfl rfl)
theorem dL_law_1746 : decode cL_law 1746 = .ok (.aload_n 2, 1) := dk_44 (dk_at dksL_law_67 21 rfl rfl)
theorem dL_law_1747 : decode cL_law 1747 = .ok (.aload_n 0, 1) := dk_42 (dk_at dksL_law_67 22 rfl rfl)
theorem dL_law_1748 : decode cL_law 1748 = .ok (.iload 5, 2) := dk_21 5 (dk_at dksL_law_68 0 rfl rfl)
theorem dL_law_1750 : decode cL_law 1750 = .ok (.iconst 1, 1) := dk_4 (dk_at dksL_law_68 2 rfl rfl)
theorem dL_law_1751 : decode cL_law 1751 = .ok (.iadd, 1) := dk_96 (dk_at dksL_law_68 3 rfl rfl)
theorem dL_law_1752 : decode cL_law 1752 = .ok (.iaload, 1) := dk_46 (dk_at dksL_law_68 4 rfl rfl)
theorem dL_law_1753 : decode cL_law 1753 = .ok (.invokevirtual 236, 3) := dk_182 0 236 (dk_at dksL_law_68 5 rfl rfl)
theorem dL_law_1756 : decode cL_law 1756 = .ok (.istore 7, 2) := dk_54 7 (dk_at dksL_law_68 8 rfl rfl)
theorem dL_law_1758 : decode cL_law 1758 = .ok (.aload_n 2, 1) := dk_44 (dk_at dksL_law_68 10 rfl rfl)
theorem dL_law_1759 : decode cL_law 1759 = .ok (.invokevirtual 144, 3) := dk_182 0 144 (dk_at dksL_law_68 11 rfl rfl)
theorem dL_law_1762 : decode cL_law 1762 = .ok (.iload 6, 2) := dk_21 6 (dk_at dksL_law_68 14 rfl rfl)
theorem dL_law_1764 : decode cL_law 1764 = .ok (.if_icmp .eq 5, 3) := dk_159 0 5 (dk_at dksL_law_68 16 rfl rfl)
theorem dL_law_1767 : decode cL_law 1767 = .ok (.iconst 0, 1) := dk_3 (dk_at dksL_law_68 19 rfl rfl)
theorem dL_law_1768 : decode cL_law 1768 = .ok (.ireturn, 1) := dk_172 (dk_at dksL_law_68 20 rfl rfl)
theorem dL_law_1769 : decode cL_law 1769 = .ok (.iload 6, 2) := dk_21 6 (dk_at dksL_law_68 21 rfl rfl)
theorem dL_law_1771 : decode cL_law 1771 = .ok (.ifCond .ne 15, 3) := dk_154 0 15 (dk_at dksL_law_69 0 rfl rfl)
theorem dL_law_1774 : decode cL_law 1774 = .ok (.aload_n 3, 1) := dk_45 (dk_at dksL_law_69 3 rfl rfl)
theorem dL_law_1775 : decode cL_law 1775 = .ok (.iconst 0, 1) := dk_3 (dk_at dksL_law_69 4 rfl rfl)
theorem dL_law_1776 : decode cL_law 1776 = .ok (.laload, 1) := dk_47 (dk_at dksL_law_69 5 rfl rfl)
theorem dL_law_1777 : decode cL_law 1777 = .ok (.iload 7, 2) := dk_21 7 (dk_at dksL_law_69 6 rfl rfl)
theorem dL_law_1779 : decode cL_law 1779 = .ok (.i2l, 1) := dk_133 (dk_at dksL_law_69 8 rfl rfl)
theorem dL_law_1780 : decode cL_law 1780 = .ok (.lcmp, 1) := dk_148 (dk_at dksL_law_69 9 rfl rfl)
theorem dL_law_1781 : decode cL_law 1781 = .ok (.ifCond .eq 5, 3) := dk_153 0 5 (dk_at dksL_law_69 10 rfl rfl)
theorem dL_law_1784 : decode cL_law 1784 = .ok (.iconst 0, 1) := dk_3 (dk_at dksL_law_69 13 rfl rfl)
theorem dL_law_1785 : decode cL_law 1785 = .ok (.ireturn, 1) := dk_172 (dk_at dksL_law_69 14 rfl rfl)
theorem dL_law_1786 : decode cL_law 1786 = .ok (.goto 695, 3) := dk_167 2 183 (dk_at dksL_law_69 15 rfl rfl)
theorem dL_law_1789 : decode cL_law 1789 = .ok (.aload_n 1, 1) := dk_43 (dk_at dksL_law_69 18 rfl rfl)
theorem dL_law_1790 : decode cL_law 1790 = .ok (.aload_n 3, 1) := dk_45 (dk_at dksL_law_69 19 rfl rfl)
theorem dL_law_1791 : decode cL_law 1791 = .ok (.invokestatic 237, 3) := dk_184 0 237 (dk_at dksL_law_69 20 rfl rfl)
theorem dL_law_1794 : decode cL_law 1794 = .ok (.istore 6, 2) := dk_54 6 (dk_at dksL_law_70 0 rfl rfl)
theorem dL_law_1796 : decode cL_law 1796 = .ok (.aload_n 2, 1) := dk_44 (dk_at dksL_law_70 2 rfl rfl)
theorem dL_law_1797 : decode cL_law 1797 = .ok (.invokevirtual 240, 3) := dk_182 0 240 (dk_at dksL_law_70 3 rfl rfl)
theorem dL_law_1800 : decode cL_law 1800 = .ok (.istore 7, 2) := dk_54 7 (dk_at dksL_law_70 6 rfl rfl)
theorem dL_law_1802 : decode cL_law 1802 = .ok (.aload_n 2, 1) := dk_44 (dk_at dksL_law_70 8 rfl rfl)
theorem dL_law_1803 : decode cL_law 1803 = .ok (.invokevirtual 144, 3) := dk_182 0 144 (dk_at dksL_law_70 9 rfl rfl)
theorem dL_law_1806 : decode cL_law 1806 = .ok (.iload 6, 2) := dk_21 6 (dk_at dksL_law_70 12 rfl rfl)
theorem dL_law_1808 : decode cL_law 1808 = .ok (.if_icmp .eq 5, 3) := dk_159 0 5 (dk_at dksL_law_70 14 rfl rfl)
theorem dL_law_1811 : decode cL_law 1811 = .ok (.iconst 0, 1) := dk_3 (dk_at dksL_law_70 17 rfl rfl)
theorem dL_law_1812 : decode cL_law 1812 = .ok (.ireturn, 1) := dk_172 (dk_at dksL_law_70 18 rfl rfl)
theorem dL_law_1813 : decode cL_law 1813 = .ok (.iload 6, 2) := dk_21 6 (dk_at dksL_law_70 19 rfl rfl)
theorem dL_law_1815 : decode cL_law 1815 = .ok (.ifCond .ne 22, 3) := dk_154 0 22 (dk_at dksL_law_70 21 rfl rfl)
theorem dL_law_1818 : decode cL_law 1818 = .ok (.aload_n 3, 1) := dk_45 (dk_at dksL_law_71 0 rfl rfl)
theorem dL_law_1819 : decode cL_law 1819 = .ok (.iconst 0, 1) := dk_3 (dk_at dksL_law_71 1 rfl rfl)
theorem dL_law_1820 : decode cL_law 1820 = .ok (.laload, 1) := dk_47 (dk_at dksL_law_71 2 rfl rfl)
theorem dL_law_1821 : decode cL_law 1821 = .ok (.iload 7, 2) := dk_21 7 (dk_at dksL_law_71 3 rfl rfl)
theorem dL_law_1823 : decode cL_law 1823 = .ok (.ifCond .eq 7, 3) := dk_153 0 7 (dk_at dksL_law_71 5 rfl rfl)
theorem dL_law_1826 : decode cL_law 1826 = .ok (.lconst 1, 1) := dk_10 (dk_at dksL_law_71 8 rfl rfl)
theorem dL_law_1827 : decode cL_law 1827 = .ok (.goto 4, 3) := dk_167 0 4 (dk_at dksL_law_71 9 rfl rfl)
theorem dL_law_1830 : decode cL_law 1830 = .ok (.lconst 0, 1) := dk_9 (dk_at dksL_law_71 12 rfl rfl)
theorem dL_law_1831 : decode cL_law 1831 = .ok (.lcmp, 1) := dk_148 (dk_at dksL_law_71 13 rfl rfl)
theorem dL_law_1832 : decode cL_law 1832 = .ok (.ifCond .eq 5, 3) := dk_153 0 5 (dk_at dksL_law_71 14 rfl rfl)
theorem dL_law_1835 : decode cL_law 1835 = .ok (.iconst 0, 1) := dk_3 (dk_at dksL_law_71 17 rfl rfl)
theorem dL_law_1836 : decode cL_law 1836 = .ok (.ireturn, 1) := dk_172 (dk_at dksL_law_71 18 rfl rfl)
theorem dL_law_1837 : decode cL_law 1837 = .ok (.goto 644, 3) := dk_167 2 132 (dk_at dksL_law_71 19 rfl rfl)
theorem dL_law_1840 : decode cL_law 1840 = .ok (.aload_n 1, 1) := dk_43 (dk_at dksL_law_71 22 rfl rfl)
theorem dL_law_1841 : decode cL_law 1841 = .ok (.aload_n 3, 1) := dk_45 (dk_at dksL_law_71 23 rfl rfl)
theorem dL_law_1842 : decode cL_law 1842 = .ok (.invokestatic 241, 3) := dk_184 0 241 (dk_at dksL_law_72 0 rfl rfl)
theorem dL_law_1845 : decode cL_law 1845 = .ok (.istore 6, 2) := dk_54 6 (dk_at dksL_law_72 3 rfl rfl)
theorem dL_law_1847 : decode cL_law 1847 = .ok (.aload_n 2, 1) := dk_44 (dk_at dksL_law_72 5 rfl rfl)
theorem dL_law_1848 : decode cL_law 1848 = .ok (.invokevirtual 243, 3) := dk_182 0 243 (dk_at dksL_law_72 6 rfl rfl)
theorem dL_law_1851 : decode cL_law 1851 = .ok (.istore 7, 2) := dk_54 7 (dk_at dksL_law_72 9 rfl rfl)
theorem dL_law_1853 : decode cL_law 1853 = .ok (.aload_n 2, 1) := dk_44 (dk_at dksL_law_72 11 rfl rfl)
theorem dL_law_1854 : decode cL_law 1854 = .ok (.invokevirtual 144, 3) := dk_182 0 144 (dk_at dksL_law_72 12 rfl rfl)
theorem dL_law_1857 : decode cL_law 1857 = .ok (.iload 6, 2) := dk_21 6 (dk_at dksL_law_72 15 rfl rfl)
theorem dL_law_1859 : decode cL_law 1859 = .ok (.if_icmp .eq 5, 3) := dk_159 0 5 (dk_at dksL_law_72 17 rfl rfl)
theorem dL_law_1862 : decode cL_law 1862 = .ok (.iconst 0, 1) := dk_3 (dk_at dksL_law_72 20 rfl rfl)
theorem dL_law_1863 : decode cL_law 1863 = .ok (.ireturn, 1) := dk_172 (dk_at dksL_law_72 21 rfl rfl)
theorem dL_law_1864 : decode cL_law 1864 = .ok (.iload 6, 2) := dk_21 6 (dk_at dksL_law_72 22 rfl rfl)
theorem dL_law_1866 : decode cL_law 1866 = .ok (.ifCond .ne 15, 3) := dk_154 0 15 (dk_at dksL_law_73 0 rfl rfl)
theorem dL_law_1869 : decode cL_law 1869 = .ok (.aload_n 3, 1) := dk_45 (dk_at dksL_law_73 3 rfl rfl)
theorem dL_law_1870 : decode cL_law 1870 = .ok (.iconst 0, 1) := dk_3 (dk_at dksL_law_73 4 rfl rfl)
theorem dL_law_1871 : decode cL_law 1871 = .ok (.laload, 1) := dk_47 (dk_at dksL_law_73 5 rfl rfl)
theorem dL_law_1872 : decode cL_law 1872 = .ok (.iload 7, 2) := dk_21 7 (dk_at dksL_law_73 6 rfl rfl)
theorem dL_law_1874 : decode cL_law 1874 = .ok (.i2l, 1) := dk_133 (dk_at dksL_law_73 8 rfl rfl)
theorem dL_law_1875 : decode cL_law 1875 = .ok (.lcmp, 1) := dk_148 (dk_at dksL_law_73 9 rfl rfl)
theorem dL_law_1876 : decode cL_law 1876 = .ok (.ifCond .eq 5, 3) := dk_153 0 5 (dk_at dksL_law_73 10 rfl rfl)
theorem dL_law_1879 : decode cL_law 1879 = .ok (.iconst 0, 1) := dk_3 (dk_at dksL_law_73 13 rfl rfl)
theorem dL_law_1880 : decode cL_law 1880 = .ok (.ireturn, 1) := dk_172 (dk_at dksL_law_73 14 rfl rfl)
theorem dL_law_1881 : decode cL_law 1881 = .ok (.goto 600, 3) := dk_167 2 88 (dk_at dksL_law_73 15 rfl rfl)
theorem dL_law_1884 : decode cL_law 1884 = .ok (.aload_n 1, 1) := dk_43 (dk_at dksL_law_73 18 rfl rfl)
theorem dL_law_1885 : decode cL_law 1885 = .ok (.aload_n 3, 1) := dk_45 (dk_at dksL_law_73 19 rfl rfl)
theorem dL_law_1886 : decode cL_law 1886 = .ok (.invokestatic 244, 3) := dk_184 0 244 (dk_at dksL_law_73 20 rfl rfl)
theorem dL_law_1889 : decode cL_law 1889 = .ok (.istore 6, 2) := dk_54 6 (dk_at dksL_law_74 0 rfl rfl)
theorem dL_law_1891 : decode cL_law 1891 = .ok (.aload_n 2, 1) := dk_44 (dk_at dksL_law_74 2 rfl rfl)
theorem dL_law_1892 : decode cL_law 1892 = .ok (.invokevirtual 246, 3) := dk_182 0 246 (dk_at dksL_law_74 3 rfl rfl)
theorem dL_law_1895 : decode cL_law 1895 = .ok (.istore 7, 2) := dk_54 7 (dk_at dksL_law_74 6 rfl rfl)
theorem dL_law_1897 : decode cL_law 1897 = .ok (.aload_n 2, 1) := dk_44 (dk_at dksL_law_74 8 rfl rfl)
theorem dL_law_1898 : decode cL_law 1898 = .ok (.invokevirtual 144, 3) := dk_182 0 144 (dk_at dksL_law_74 9 rfl rfl)
theorem dL_law_1901 : decode cL_law 1901 = .ok (.iload 6, 2) := dk_21 6 (dk_at dksL_law_74 12 rfl rfl)
theorem dL_law_1903 : decode cL_law 1903 = .ok (.if_icmp .eq 5, 3) := dk_159 0 5 (dk_at dksL_law_74 14 rfl rfl)
theorem dL_law_1906 : decode cL_law 1906 = .ok (.iconst 0, 1) := dk_3 (dk_at dksL_law_74 17 rfl rfl)
theorem dL_law_1907 : decode cL_law 1907 = .ok (.ireturn, 1) := dk_172 (dk_at dksL_law_74 18 rfl rfl)
theorem dL_law_1908 : decode cL_law 1908 = .ok (.iload 6, 2) := dk_21 6 (dk_at dksL_law_74 19 rfl rfl)
theorem dL_law_1910 : decode cL_law 1910 = .ok (.ifCond .ne 15, 3) := dk_154 0 15 (dk_at dksL_law_74 21 rfl rfl)
theorem dL_law_1913 : decode cL_law 1913 = .ok (.aload_n 3, 1) := dk_45 (dk_at dksL_law_75 0 rfl rfl)
theorem dL_law_1914 : decode cL_law 1914 = .ok (.iconst 0, 1) := dk_3 (dk_at dksL_law_75 1 rfl rfl)
theorem dL_law_1915 : decode cL_law 1915 = .ok (.laload, 1) := dk_47 (dk_at dksL_law_75 2 rfl rfl)
theorem dL_law_1916 : decode cL_law 1916 = .ok (.iload 7, 2) := dk_21 7 (dk_at dksL_law_75 3 rfl rfl)
theorem dL_law_1918 : decode cL_law 1918 = .ok (.i2l, 1) := dk_133 (dk_at dksL_law_75 5 rfl rfl)
theorem dL_law_1919 : decode cL_law 1919 = .ok (.lcmp, 1) := dk_148 (dk_at dksL_law_75 6 rfl rfl)
theorem dL_law_1920 : decode cL_law 1920 = .ok (.ifCond .eq 5, 3) := dk_153 0 5 (dk_at dksL_law_75 7 rfl rfl)
theorem dL_law_1923 : decode cL_law 1923 = .ok (.iconst 0, 1) := dk_3 (dk_at dksL_law_75 10 rfl rfl)
theorem dL_law_1924 : decode cL_law 1924 = .ok (.ireturn, 1) := dk_172 (dk_at dksL_law_75 11 rfl rfl)
theorem dL_law_1925 : decode cL_law 1925 = .ok (.goto 556, 3) := dk_167 2 44 (dk_at dksL_law_75 12 rfl rfl)
theorem dL_law_1928 : decode cL_law 1928 = .ok (.aload_n 1, 1) := dk_43 (dk_at dksL_law_75 15 rfl rfl)
theorem dL_law_1929 : decode cL_law 1929 = .ok (.aload_n 0, 1) := dk_42 (dk_at dksL_law_75 16 rfl rfl)
theorem dL_law_1930 : decode cL_law 1930 = .ok (.iload 5, 2) := dk_21 5 (dk_at dksL_law_75 17 rfl rfl)
theorem dL_law_1932 : decode cL_law 1932 = .ok (.iconst 1, 1) := dk_4 (dk_at dksL_law_75 19 rfl rfl)
theorem dL_law_1933 : decode cL_law 1933 = .ok (.iadd, 1) := dk_96 (dk_at dksL_law_75 20 rfl rfl)
theorem dL_law_1934 : decode cL_law 1934 = .ok (.iaload, 1) := dk_46 (dk_at dksL_law_75 21 rfl rfl)
theorem dL_law_1935 : decode cL_law 1935 = .ok (.aload_n 0, 1) := dk_42 (dk_at dksL_law_75 22 rfl rfl)
theorem dL_law_1936 : decode cL_law 1936 = .ok (.iload 5, 2) := dk_21 5 (dk_at dksL_law_76 0 rfl rfl)
theorem dL_law_1938 : decode cL_law 1938 = .ok (.iconst 2, 1) := dk_5 (dk_at dksL_law_76 2 rfl rfl)
theorem dL_law_1939 : decode cL_law 1939 = .ok (.iadd, 1) := dk_96 (dk_at dksL_law_76 3 rfl rfl)
theorem dL_law_1940 : decode cL_law 1940 = .ok (.iaload, 1) := dk_46 (dk_at dksL_law_76 4 rfl rfl)
theorem dL_law_1941 : decode cL_law 1941 = .ok (.ifCond .eq 7, 3) := dk_153 0 7 (dk_at dksL_law_76 5 rfl rfl)
theorem dL_law_1944 : decode cL_law 1944 = .ok (.iconst 1, 1) := dk_4 (dk_at dksL_law_76 8 rfl rfl)
theorem dL_law_1945 : decode cL_law 1945 = .ok (.goto 4, 3) := dk_167 0 4 (dk_at dksL_law_76 9 rfl rfl)
theorem dL_law_1948 : decode cL_law 1948 = .ok (.iconst 0, 1) := dk_3 (dk_at dksL_law_76 12 rfl rfl)
theorem dL_law_1949 : decode cL_law 1949 = .ok (.aload_n 3, 1) := dk_45 (dk_at dksL_law_76 13 rfl rfl)
theorem dL_law_1950 : decode cL_law 1950 = .ok (.invokestatic 247, 3) := dk_184 0 247 (dk_at dksL_law_76 14 rfl rfl)
theorem dL_law_1953 : decode cL_law 1953 = .ok (.istore 6, 2) := dk_54 6 (dk_at dksL_law_76 17 rfl rfl)
theorem dL_law_1955 : decode cL_law 1955 = .ok (.aload_n 2, 1) := dk_44 (dk_at dksL_law_76 19 rfl rfl)
theorem dL_law_1956 : decode cL_law 1956 = .ok (.aload_n 0, 1) := dk_42 (dk_at dksL_law_76 20 rfl rfl)
theorem dL_law_1957 : decode cL_law 1957 = .ok (.iload 5, 2) := dk_21 5 (dk_at dksL_law_76 21 rfl rfl)
theorem dL_law_1959 : decode cL_law 1959 = .ok (.iconst 1, 1) := dk_4 (dk_at dksL_law_76 23 rfl rfl)
theorem dL_law_1960 : decode cL_law 1960 = .ok (.iadd, 1) := dk_96 (dk_at dksL_law_77 0 rfl rfl)
theorem dL_law_1961 : decode cL_law 1961 = .ok (.iaload, 1) := dk_46 (dk_at dksL_law_77 1 rfl rfl)
theorem dL_law_1962 : decode cL_law 1962 = .ok (.aload_n 0, 1) := dk_42 (dk_at dksL_law_77 2 rfl rfl)
theorem dL_law_1963 : decode cL_law 1963 = .ok (.iload 5, 2) := dk_21 5 (dk_at dksL_law_77 3 rfl rfl)
theorem dL_law_1965 : decode cL_law 1965 = .ok (.iconst 2, 1) := dk_5 (dk_at dksL_law_77 5 rfl rfl)
theorem dL_law_1966 : decode cL_law 1966 = .ok (.iadd, 1) := dk_96 (dk_at dksL_law_77 6 rfl rfl)
theorem dL_law_1967 : decode cL_law 1967 = .ok (.iaload, 1) := dk_46 (dk_at dksL_law_77 7 rfl rfl)
theorem dL_law_1968 : decode cL_law 1968 = .ok (.ifCond .eq 7, 3) := dk_153 0 7 (dk_at dksL_law_77 8 rfl rfl)
theorem dL_law_1971 : decode cL_law 1971 = .ok (.iconst 1, 1) := dk_4 (dk_at dksL_law_77 11 rfl rfl)
theorem dL_law_1972 : decode cL_law 1972 = .ok (.goto 4, 3) := dk_167 0 4 (dk_at dksL_law_77 12 rfl rfl)
theorem dL_law_1975 : decode cL_law 1975 = .ok (.iconst 0, 1) := dk_3 (dk_at dksL_law_77 15 rfl rfl)
theorem dL_law_1976 : decode cL_law 1976 = .ok (.invokevirtual 249, 3) := dk_182 0 249 (dk_at dksL_law_77 16 rfl rfl)
theorem dL_law_1979 : decode cL_law 1979 = .ok (.istore 7, 2) := dk_54 7 (dk_at dksL_law_77 19 rfl rfl)
theorem dL_law_1981 : decode cL_law 1981 = .ok (.aload_n 2, 1) := dk_44 (dk_at dksL_law_77 21 rfl rfl)
theorem dL_law_1982 : decode cL_law 1982 = .ok (.invokevirtual 144, 3) := dk_182 0 144 (dk_at dksL_law_78 0 rfl rfl)
theorem dL_law_1985 : decode cL_law 1985 = .ok (.iload 6, 2) := dk_21 6 (dk_at dksL_law_78 3 rfl rfl)
theorem dL_law_1987 : decode cL_law 1987 = .ok (.if_icmp .eq 5, 3) := dk_159 0 5 (dk_at dksL_law_78 5 rfl rfl)
theorem dL_law_1990 : decode cL_law 1990 = .ok (.iconst 0, 1) := dk_3 (dk_at dksL_law_78 8 rfl rfl)
theorem dL_law_1991 : decode cL_law 1991 = .ok (.ireturn, 1) := dk_172 (dk_at dksL_law_78 9 rfl rfl)
theorem dL_law_1992 : decode cL_law 1992 = .ok (.iload 6, 2) := dk_21 6 (dk_at dksL_law_78 10 rfl rfl)
theorem dL_law_1994 : decode cL_law 1994 = .ok (.ifCond .ne 15, 3) := dk_154 0 15 (dk_at dksL_law_78 12 rfl rfl)
theorem dL_law_1997 : decode cL_law 1997 = .ok (.aload_n 3, 1) := dk_45 (dk_at dksL_law_78 15 rfl rfl)
theorem dL_law_1998 : decode cL_law 1998 = .ok (.iconst 0, 1) := dk_3 (dk_at dksL_law_78 16 rfl rfl)
theorem dL_law_1999 : decode cL_law 1999 = .ok (.laload, 1) := dk_47 (dk_at dksL_law_78 17 rfl rfl)
theorem dL_law_2000 : decode cL_law 2000 = .ok (.iload 7, 2) := dk_21 7 (dk_at dksL_law_78 18 rfl rfl)
theorem dL_law_2002 : decode cL_law 2002 = .ok (.i2l, 1) := dk_133 (dk_at dksL_law_78 20 rfl rfl)
theorem dL_law_2003 : decode cL_law 2003 = .ok (.lcmp, 1) := dk_148 (dk_at dksL_law_78 21 rfl rfl)
theorem dL_law_2004 : decode cL_law 2004 = .ok (.ifCond .eq 5, 3) := dk_153 0 5 (dk_at dksL_law_79 0 rfl rfl)
theorem dL_law_2007 : decode cL_law 2007 = .ok (.iconst 0, 1) := dk_3 (dk_at dksL_law_79 3 rfl rfl)
theorem dL_law_2008 : decode cL_law 2008 = .ok (.ireturn, 1) := dk_172 (dk_at dksL_law_79 4 rfl rfl)
theorem dL_law_2009 : decode cL_law 2009 = .ok (.goto 472, 3) := dk_167 1 216 (dk_at dksL_law_79 5 rfl rfl)
theorem dL_law_2012 : decode cL_law 2012 = .ok (.aload_n 1, 1) := dk_43 (dk_at dksL_law_79 8 rfl rfl)
theorem dL_law_2013 : decode cL_law 2013 = .ok (.aload_n 0, 1) := dk_42 (dk_at dksL_law_79 9 rfl rfl)
theorem dL_law_2014 : decode cL_law 2014 = .ok (.iload 5, 2) := dk_21 5 (dk_at dksL_law_79 10 rfl rfl)
theorem dL_law_2016 : decode cL_law 2016 = .ok (.iconst 1, 1) := dk_4 (dk_at dksL_law_79 12 rfl rfl)
theorem dL_law_2017 : decode cL_law 2017 = .ok (.iadd, 1) := dk_96 (dk_at dksL_law_79 13 rfl rfl)
theorem dL_law_2018 : decode cL_law 2018 = .ok (.iaload, 1) := dk_46 (dk_at dksL_law_79 14 rfl rfl)
theorem dL_law_2019 : decode cL_law 2019 = .ok (.aload_n 0, 1) := dk_42 (dk_at dksL_law_79 15 rfl rfl)
theorem dL_law_2020 : decode cL_law 2020 = .ok (.iload 5, 2) := dk_21 5 (dk_at dksL_law_79 16 rfl rfl)
theorem dL_law_2022 : decode cL_law 2022 = .ok (.iconst 2, 1) := dk_5 (dk_at dksL_law_79 18 rfl rfl)
theorem dL_law_2023 : decode cL_law 2023 = .ok (.iadd, 1) := dk_96 (dk_at dksL_law_79 19 rfl rfl)
theorem dL_law_2024 : decode cL_law 2024 = .ok (.iaload, 1) := dk_46 (dk_at dksL_law_79 20 rfl rfl)
theorem dL_law_2025 : decode cL_law 2025 = .ok (.aload_n 3, 1) := dk_45 (dk_at dksL_law_79 21 rfl rfl)
theorem dL_law_2026 : decode cL_law 2026 = .ok (.invokestatic 250, 3) := dk_184 0 250 (dk_at dksL_law_80 0 rfl rfl)
theorem dL_law_2029 : decode cL_law 2029 = .ok (.istore 6, 2) := dk_54 6 (dk_at dksL_law_80 3 rfl rfl)
theorem dL_law_2031 : decode cL_law 2031 = .ok (.aload_n 2, 1) := dk_44 (dk_at dksL_law_80 5 rfl rfl)
theorem dL_law_2032 : decode cL_law 2032 = .ok (.aload_n 0, 1) := dk_42 (dk_at dksL_law_80 6 rfl rfl)
theorem dL_law_2033 : decode cL_law 2033 = .ok (.iload 5, 2) := dk_21 5 (dk_at dksL_law_80 7 rfl rfl)
theorem dL_law_2035 : decode cL_law 2035 = .ok (.iconst 1, 1) := dk_4 (dk_at dksL_law_80 9 rfl rfl)
theorem dL_law_2036 : decode cL_law 2036 = .ok (.iadd, 1) := dk_96 (dk_at dksL_law_80 10 rfl rfl)
theorem dL_law_2037 : decode cL_law 2037 = .ok (.iaload, 1) := dk_46 (dk_at dksL_law_80 11 rfl rfl)
theorem dL_law_2038 : decode cL_law 2038 = .ok (.aload_n 0, 1) := dk_42 (dk_at dksL_law_80 12 rfl rfl)
theorem dL_law_2039 : decode cL_law 2039 = .ok (.iload 5, 2) := dk_21 5 (dk_at dksL_law_80 13 rfl rfl)
theorem dL_law_2041 : decode cL_law 2041 = .ok (.iconst 2, 1) := dk_5 (dk_at dksL_law_80 15 rfl rfl)
theorem dL_law_2042 : decode cL_law 2042 = .ok (.iadd, 1) := dk_96 (dk_at dksL_law_80 16 rfl rfl)
theorem dL_law_2043 : decode cL_law 2043 = .ok (.iaload, 1) := dk_46 (dk_at dksL_law_80 17 rfl rfl)
theorem dL_law_2044 : decode cL_law 2044 = .ok (.invokevirtual 252, 3) := dk_182 0 252 (dk_at dksL_law_80 18 rfl rfl)
theorem dL_law_2047 : decode cL_law 2047 = .ok (.istore 7, 2) := dk_54 7 (dk_at dksL_law_80 21 rfl rfl)
theorem dL_law_2049 : decode cL_law 2049 = .ok (.aload_n 2, 1) := dk_44 (dk_at dksL_law_80 23 rfl rfl)
theorem dL_law_2050 : decode cL_law 2050 = .ok (.invokevirtual 144, 3) := dk_182 0 144 (dk_at dksL_law_81 0 rfl rfl)
theorem dL_law_2053 : decode cL_law 2053 = .ok (.iload 6, 2) := dk_21 6 (dk_at dksL_law_81 3 rfl rfl)
theorem dL_law_2055 : decode cL_law 2055 = .ok (.if_icmp .eq 5, 3) := dk_159 0 5 (dk_at dksL_law_81 5 rfl rfl)
theorem dL_law_2058 : decode cL_law 2058 = .ok (.iconst 0, 1) := dk_3 (dk_at dksL_law_81 8 rfl rfl)
theorem dL_law_2059 : decode cL_law 2059 = .ok (.ireturn, 1) := dk_172 (dk_at dksL_law_81 9 rfl rfl)
theorem dL_law_2060 : decode cL_law 2060 = .ok (.iload 6, 2) := dk_21 6 (dk_at dksL_law_81 10 rfl rfl)
theorem dL_law_2062 : decode cL_law 2062 = .ok (.ifCond .ne 15, 3) := dk_154 0 15 (dk_at dksL_law_81 12 rfl rfl)
theorem dL_law_2065 : decode cL_law 2065 = .ok (.aload_n 3, 1) := dk_45 (dk_at dksL_law_81 15 rfl rfl)
theorem dL_law_2066 : decode cL_law 2066 = .ok (.iconst 0, 1) := dk_3 (dk_at dksL_law_81 16 rfl rfl)
theorem dL_law_2067 : decode cL_law 2067 = .ok (.laload, 1) := dk_47 (dk_at dksL_law_81 17 rfl rfl)
theorem dL_law_2068 : decode cL_law 2068 = .ok (.iload 7, 2) := dk_21 7 (dk_at dksL_law_81 18 rfl rfl)
theorem dL_law_2070 : decode cL_law 2070 = .ok (.i2l, 1) := dk_133 (dk_at dksL_law_81 20 rfl rfl)
theorem dL_law_2071 : decode cL_law 2071 = .ok (.lcmp, 1) := dk_148 (dk_at dksL_law_81 21 rfl rfl)
theorem dL_law_2072 : decode cL_law 2072 = .ok (.ifCond .eq 5, 3) := dk_153 0 5 (dk_at dksL_law_82 0 rfl rfl)
theorem dL_law_2075 : decode cL_law 2075 = .ok (.iconst 0, 1) := dk_3 (dk_at dksL_law_82 3 rfl rfl)
theorem dL_law_2076 : decode cL_law 2076 = .ok (.ireturn, 1) := dk_172 (dk_at dksL_law_82 4 rfl rfl)
theorem dL_law_2077 : decode cL_law 2077 = .ok (.goto 404, 3) := dk_167 1 148 (dk_at dksL_law_82 5 rfl rfl)
theorem dL_law_2080 : decode cL_law 2080 = .ok (.aload_n 1, 1) := dk_43 (dk_at dksL_law_82 8 rfl rfl)
theorem dL_law_2081 : decode cL_law 2081 = .ok (.aload_n 0, 1) := dk_42 (dk_at dksL_law_82 9 rfl rfl)
theorem dL_law_2082 : decode cL_law 2082 = .ok (.iload 5, 2) := dk_21 5 (dk_at dksL_law_82 10 rfl rfl)
theorem dL_law_2084 : decode cL_law 2084 = .ok (.iconst 1, 1) := dk_4 (dk_at dksL_law_82 12 rfl rfl)
theorem dL_law_2085 : decode cL_law 2085 = .ok (.iadd, 1) := dk_96 (dk_at dksL_law_82 13 rfl rfl)
theorem dL_law_2086 : decode cL_law 2086 = .ok (.iaload, 1) := dk_46 (dk_at dksL_law_82 14 rfl rfl)
theorem dL_law_2087 : decode cL_law 2087 = .ok (.aload_n 0, 1) := dk_42 (dk_at dksL_law_82 15 rfl rfl)
theorem dL_law_2088 : decode cL_law 2088 = .ok (.iload 5, 2) := dk_21 5 (dk_at dksL_law_82 16 rfl rfl)
theorem dL_law_2090 : decode cL_law 2090 = .ok (.iconst 2, 1) := dk_5 (dk_at dksL_law_82 18 rfl rfl)
theorem dL_law_2091 : decode cL_law 2091 = .ok (.iadd, 1) := dk_96 (dk_at dksL_law_82 19 rfl rfl)
theorem dL_law_2092 : decode cL_law 2092 = .ok (.iaload, 1) := dk_46 (dk_at dksL_law_82 20 rfl rfl)
theorem dL_law_2093 : decode cL_law 2093 = .ok (.aload_n 3, 1) := dk_45 (dk_at dksL_law_82 21 rfl rfl)
theorem dL_law_2094 : decode cL_law 2094 = .ok (.invokestatic 253, 3) := dk_184 0 253 (dk_at dksL_law_83 0 rfl rfl)
theorem dL_law_2097 : decode cL_law 2097 = .ok (.istore 6, 2) := dk_54 6 (dk_at dksL_law_83 3 rfl rfl)
theorem dL_law_2099 : decode cL_law 2099 = .ok (.aload_n 2, 1) := dk_44 (dk_at dksL_law_83 5 rfl rfl)
theorem dL_law_2100 : decode cL_law 2100 = .ok (.aload_n 0, 1) := dk_42 (dk_at dksL_law_83 6 rfl rfl)
theorem dL_law_2101 : decode cL_law 2101 = .ok (.iload 5, 2) := dk_21 5 (dk_at dksL_law_83 7 rfl rfl)
theorem dL_law_2103 : decode cL_law 2103 = .ok (.iconst 1, 1) := dk_4 (dk_at dksL_law_83 9 rfl rfl)
theorem dL_law_2104 : decode cL_law 2104 = .ok (.iadd, 1) := dk_96 (dk_at dksL_law_83 10 rfl rfl)
theorem dL_law_2105 : decode cL_law 2105 = .ok (.iaload, 1) := dk_46 (dk_at dksL_law_83 11 rfl rfl)
theorem dL_law_2106 : decode cL_law 2106 = .ok (.aload_n 0, 1) := dk_42 (dk_at dksL_law_83 12 rfl rfl)
theorem dL_law_2107 : decode cL_law 2107 = .ok (.iload 5, 2) := dk_21 5 (dk_at dksL_law_83 13 rfl rfl)
theorem dL_law_2109 : decode cL_law 2109 = .ok (.iconst 2, 1) := dk_5 (dk_at dksL_law_83 15 rfl rfl)
theorem dL_law_2110 : decode cL_law 2110 = .ok (.iadd, 1) := dk_96 (dk_at dksL_law_83 16 rfl rfl)
theorem dL_law_2111 : decode cL_law 2111 = .ok (.iaload, 1) := dk_46 (dk_at dksL_law_83 17 rfl rfl)
theorem dL_law_2112 : decode cL_law 2112 = .ok (.invokevirtual 255, 3) := dk_182 0 255 (dk_at dksL_law_83 18 rfl rfl)
theorem dL_law_2115 : decode cL_law 2115 = .ok (.istore 7, 2) := dk_54 7 (dk_at dksL_law_83 21 rfl rfl)
theorem dL_law_2117 : decode cL_law 2117 = .ok (.aload_n 2, 1) := dk_44 (dk_at dksL_law_83 23 rfl rfl)
theorem dL_law_2118 : decode cL_law 2118 = .ok (.invokevirtual 144, 3) := dk_182 0 144 (dk_at dksL_law_84 0 rfl rfl)
theorem dL_law_2121 : decode cL_law 2121 = .ok (.iload 6, 2) := dk_21 6 (dk_at dksL_law_84 3 rfl rfl)
theorem dL_law_2123 : decode cL_law 2123 = .ok (.if_icmp .eq 5, 3) := dk_159 0 5 (dk_at dksL_law_84 5 rfl rfl)
theorem dL_law_2126 : decode cL_law 2126 = .ok (.iconst 0, 1) := dk_3 (dk_at dksL_law_84 8 rfl rfl)
theorem dL_law_2127 : decode cL_law 2127 = .ok (.ireturn, 1) := dk_172 (dk_at dksL_law_84 9 rfl rfl)
theorem dL_law_2128 : decode cL_law 2128 = .ok (.iload 6, 2) := dk_21 6 (dk_at dksL_law_84 10 rfl rfl)
theorem dL_law_2130 : decode cL_law 2130 = .ok (.ifCond .ne 15, 3) := dk_154 0 15 (dk_at dksL_law_84 12 rfl rfl)
theorem dL_law_2133 : decode cL_law 2133 = .ok (.aload_n 3, 1) := dk_45 (dk_at dksL_law_84 15 rfl rfl)
theorem dL_law_2134 : decode cL_law 2134 = .ok (.iconst 0, 1) := dk_3 (dk_at dksL_law_84 16 rfl rfl)
theorem dL_law_2135 : decode cL_law 2135 = .ok (.laload, 1) := dk_47 (dk_at dksL_law_84 17 rfl rfl)
theorem dL_law_2136 : decode cL_law 2136 = .ok (.iload 7, 2) := dk_21 7 (dk_at dksL_law_84 18 rfl rfl)
theorem dL_law_2138 : decode cL_law 2138 = .ok (.i2l, 1) := dk_133 (dk_at dksL_law_84 20 rfl rfl)
theorem dL_law_2139 : decode cL_law 2139 = .ok (.lcmp, 1) := dk_148 (dk_at dksL_law_84 21 rfl rfl)
theorem dL_law_2140 : decode cL_law 2140 = .ok (.ifCond .eq 5, 3) := dk_153 0 5 (dk_at dksL_law_85 0 rfl rfl)
theorem dL_law_2143 : decode cL_law 2143 = .ok (.iconst 0, 1) := dk_3 (dk_at dksL_law_85 3 rfl rfl)
theorem dL_law_2144 : decode cL_law 2144 = .ok (.ireturn, 1) := dk_172 (dk_at dksL_law_85 4 rfl rfl)
theorem dL_law_2145 : decode cL_law 2145 = .ok (.goto 336, 3) := dk_167 1 80 (dk_at dksL_law_85 5 rfl rfl)
theorem dL_law_2148 : decode cL_law 2148 = .ok (.aload_n 1, 1) := dk_43 (dk_at dksL_law_85 8 rfl rfl)
theorem dL_law_2149 : decode cL_law 2149 = .ok (.aload_n 0, 1) := dk_42 (dk_at dksL_law_85 9 rfl rfl)
theorem dL_law_2150 : decode cL_law 2150 = .ok (.iload 5, 2) := dk_21 5 (dk_at dksL_law_85 10 rfl rfl)
theorem dL_law_2152 : decode cL_law 2152 = .ok (.iconst 1, 1) := dk_4 (dk_at dksL_law_85 12 rfl rfl)
theorem dL_law_2153 : decode cL_law 2153 = .ok (.iadd, 1) := dk_96 (dk_at dksL_law_85 13 rfl rfl)
theorem dL_law_2154 : decode cL_law 2154 = .ok (.iaload, 1) := dk_46 (dk_at dksL_law_85 14 rfl rfl)
theorem dL_law_2155 : decode cL_law 2155 = .ok (.aload_n 0, 1) := dk_42 (dk_at dksL_law_85 15 rfl rfl)
theorem dL_law_2156 : decode cL_law 2156 = .ok (.iload 5, 2) := dk_21 5 (dk_at dksL_law_85 16 rfl rfl)
theorem dL_law_2158 : decode cL_law 2158 = .ok (.iconst 2, 1) := dk_5 (dk_at dksL_law_85 18 rfl rfl)
theorem dL_law_2159 : decode cL_law 2159 = .ok (.iadd, 1) := dk_96 (dk_at dksL_law_85 19 rfl rfl)
theorem dL_law_2160 : decode cL_law 2160 = .ok (.iaload, 1) := dk_46 (dk_at dksL_law_85 20 rfl rfl)
theorem dL_law_2161 : decode cL_law 2161 = .ok (.aload_n 3, 1) := dk_45 (dk_at dksL_law_85 21 rfl rfl)
theorem dL_law_2162 : decode cL_law 2162 = .ok (.invokestatic 256, 3) := dk_184 1 0 (dk_at dksL_law_86 0 rfl rfl)
theorem dL_law_2165 : decode cL_law 2165 = .ok (.istore 6, 2) := dk_54 6 (dk_at dksL_law_86 3 rfl rfl)
theorem dL_law_2167 : decode cL_law 2167 = .ok (.aload_n 2, 1) := dk_44 (dk_at dksL_law_86 5 rfl rfl)
theorem dL_law_2168 : decode cL_law 2168 = .ok (.aload_n 0, 1) := dk_42 (dk_at dksL_law_86 6 rfl rfl)
theorem dL_law_2169 : decode cL_law 2169 = .ok (.iload 5, 2) := dk_21 5 (dk_at dksL_law_86 7 rfl rfl)
theorem dL_law_2171 : decode cL_law 2171 = .ok (.iconst 1, 1) := dk_4 (dk_at dksL_law_86 9 rfl rfl)
theorem dL_law_2172 : decode cL_law 2172 = .ok (.iadd, 1) := dk_96 (dk_at dksL_law_86 10 rfl rfl)
theorem dL_law_2173 : decode cL_law 2173 = .ok (.iaload, 1) := dk_46 (dk_at dksL_law_86 11 rfl rfl)
theorem dL_law_2174 : decode cL_law 2174 = .ok (.aload_n 0, 1) := dk_42 (dk_at dksL_law_86 12 rfl rfl)
theorem dL_law_2175 : decode cL_law 2175 = .ok (.iload 5, 2) := dk_21 5 (dk_at dksL_law_86 13 rfl rfl)
theorem dL_law_2177 : decode cL_law 2177 = .ok (.iconst 2, 1) := dk_5 (dk_at dksL_law_86 15 rfl rfl)
theorem dL_law_2178 : decode cL_law 2178 = .ok (.iadd, 1) := dk_96 (dk_at dksL_law_86 16 rfl rfl)
theorem dL_law_2179 : decode cL_law 2179 = .ok (.iaload, 1) := dk_46 (dk_at dksL_law_86 17 rfl rfl)
theorem dL_law_2180 : decode cL_law 2180 = .ok (.invokevirtual 258, 3) := dk_182 1 2 (dk_at dksL_law_86 18 rfl rfl)
theorem dL_law_2183 : decode cL_law 2183 = .ok (.istore 7, 2) := dk_54 7 (dk_at dksL_law_86 21 rfl rfl)
theorem dL_law_2185 : decode cL_law 2185 = .ok (.aload_n 2, 1) := dk_44 (dk_at dksL_law_86 23 rfl rfl)
theorem dL_law_2186 : decode cL_law 2186 = .ok (.invokevirtual 144, 3) := dk_182 0 144 (dk_at dksL_law_87 0 rfl rfl)
theorem dL_law_2189 : decode cL_law 2189 = .ok (.iload 6, 2) := dk_21 6 (dk_at dksL_law_87 3 rfl rfl)
theorem dL_law_2191 : decode cL_law 2191 = .ok (.if_icmp .eq 5, 3) := dk_159 0 5 (dk_at dksL_law_87 5 rfl rfl)
theorem dL_law_2194 : decode cL_law 2194 = .ok (.iconst 0, 1) := dk_3 (dk_at dksL_law_87 8 rfl rfl)
theorem dL_law_2195 : decode cL_law 2195 = .ok (.ireturn, 1) := dk_172 (dk_at dksL_law_87 9 rfl rfl)
theorem dL_law_2196 : decode cL_law 2196 = .ok (.iload 6, 2) := dk_21 6 (dk_at dksL_law_87 10 rfl rfl)
theorem dL_law_2198 : decode cL_law 2198 = .ok (.ifCond .ne 15, 3) := dk_154 0 15 (dk_at dksL_law_87 12 rfl rfl)
theorem dL_law_2201 : decode cL_law 2201 = .ok (.aload_n 3, 1) := dk_45 (dk_at dksL_law_87 15 rfl rfl)
theorem dL_law_2202 : decode cL_law 2202 = .ok (.iconst 0, 1) := dk_3 (dk_at dksL_law_87 16 rfl rfl)
theorem dL_law_2203 : decode cL_law 2203 = .ok (.laload, 1) := dk_47 (dk_at dksL_law_87 17 rfl rfl)
theorem dL_law_2204 : decode cL_law 2204 = .ok (.iload 7, 2) := dk_21 7 (dk_at dksL_law_87 18 rfl rfl)
theorem dL_law_2206 : decode cL_law 2206 = .ok (.i2l, 1) := dk_133 (dk_at dksL_law_87 20 rfl rfl)
theorem dL_law_2207 : decode cL_law 2207 = .ok (.lcmp, 1) := dk_148 (dk_at dksL_law_87 21 rfl rfl)
theorem dL_law_2208 : decode cL_law 2208 = .ok (.ifCond .eq 5, 3) := dk_153 0 5 (dk_at dksL_law_88 0 rfl rfl)
theorem dL_law_2211 : decode cL_law 2211 = .ok (.iconst 0, 1) := dk_3 (dk_at dksL_law_88 3 rfl rfl)
theorem dL_law_2212 : decode cL_law 2212 = .ok (.ireturn, 1) := dk_172 (dk_at dksL_law_88 4 rfl rfl)
theorem dL_law_2213 : decode cL_law 2213 = .ok (.goto 268, 3) := dk_167 1 12 (dk_at dksL_law_88 5 rfl rfl)
theorem dL_law_2216 : decode cL_law 2216 = .ok (.aload_n 1, 1) := dk_43 (dk_at dksL_law_88 8 rfl rfl)
theorem dL_law_2217 : decode cL_law 2217 = .ok (.aload_n 0, 1) := dk_42 (dk_at dksL_law_88 9 rfl rfl)
theorem dL_law_2218 : decode cL_law 2218 = .ok (.iload 5, 2) := dk_21 5 (dk_at dksL_law_88 10 rfl rfl)
theorem dL_law_2220 : decode cL_law 2220 = .ok (.iconst 1, 1) := dk_4 (dk_at dksL_law_88 12 rfl rfl)
theorem dL_law_2221 : decode cL_law 2221 = .ok (.iadd, 1) := dk_96 (dk_at dksL_law_88 13 rfl rfl)
theorem dL_law_2222 : decode cL_law 2222 = .ok (.iaload, 1) := dk_46 (dk_at dksL_law_88 14 rfl rfl)
theorem dL_law_2223 : decode cL_law 2223 = .ok (.aload_n 3, 1) := dk_45 (dk_at dksL_law_88 15 rfl rfl)
theorem dL_law_2224 : decode cL_law 2224 = .ok (.invokestatic 259, 3) := dk_184 1 3 (dk_at dksL_law_88 16 rfl rfl)
theorem dL_law_2227 : decode cL_law 2227 = .ok (.istore 6, 2) := dk_54 6 (dk_at dksL_law_88 19 rfl rfl)
theorem dL_law_2229 : decode cL_law 2229 = .ok (.aload_n 2, 1) := dk_44 (dk_at dksL_law_88 21 rfl rfl)
theorem dL_law_2230 : decode cL_law 2230 = .ok (.aload_n 0, 1) := dk_42 (dk_at dksL_law_88 22 rfl rfl)
theorem dL_law_2231 : decode cL_law 2231 = .ok (.iload 5, 2) := dk_21 5 (dk_at dksL_law_89 0 rfl rfl)
theorem dL_law_2233 : decode cL_law 2233 = .ok (.iconst 1, 1) := dk_4 (dk_at dksL_law_89 2 rfl rfl)
theorem dL_law_2234 : decode cL_law 2234 = .ok (.iadd, 1) := dk_96 (dk_at dksL_law_89 3 rfl rfl)
theorem dL_law_2235 : decode cL_law 2235 = .ok (.iaload, 1) := dk_46 (dk_at dksL_law_89 4 rfl rfl)
theorem dL_law_2236 : decode cL_law 2236 = .ok (.invokevirtual 261, 3) := dk_182 1 5 (dk_at dksL_law_89 5 rfl rfl)
theorem dL_law_2239 : decode cL_law 2239 = .ok (.istore 7, 2) := dk_54 7 (dk_at dksL_law_89 8 rfl rfl)
theorem dL_law_2241 : decode cL_law 2241 = .ok (.aload_n 2, 1) := dk_44 (dk_at dksL_law_89 10 rfl rfl)
theorem dL_law_2242 : decode cL_law 2242 = .ok (.invokevirtual 144, 3) := dk_182 0 144 (dk_at dksL_law_89 11 rfl rfl)
theorem dL_law_2245 : decode cL_law 2245 = .ok (.iload 6, 2) := dk_21 6 (dk_at dksL_law_89 14 rfl rfl)
theorem dL_law_2247 : decode cL_law 2247 = .ok (.if_icmp .eq 5, 3) := dk_159 0 5 (dk_at dksL_law_89 16 rfl rfl)
theorem dL_law_2250 : decode cL_law 2250 = .ok (.iconst 0, 1) := dk_3 (dk_at dksL_law_89 19 rfl rfl)
theorem dL_law_2251 : decode cL_law 2251 = .ok (.ireturn, 1) := dk_172 (dk_at dksL_law_89 20 rfl rfl)
theorem dL_law_2252 : decode cL_law 2252 = .ok (.iload 6, 2) := dk_21 6 (dk_at dksL_law_89 21 rfl rfl)
theorem dL_law_2254 : decode cL_law 2254 = .ok (.ifCond .ne 15, 3) := dk_154 0 15 (dk_at dksL_law_90 0 rfl rfl)
theorem dL_law_2257 : decode cL_law 2257 = .ok (.aload_n 3, 1) := dk_45 (dk_at dksL_law_90 3 rfl rfl)
theorem dL_law_2258 : decode cL_law 2258 = .ok (.iconst 0, 1) := dk_3 (dk_at dksL_law_90 4 rfl rfl)
theorem dL_law_2259 : decode cL_law 2259 = .ok (.laload, 1) := dk_47 (dk_at dksL_law_90 5 rfl rfl)
theorem dL_law_2260 : decode cL_law 2260 = .ok (.iload 7, 2) := dk_21 7 (dk_at dksL_law_90 6 rfl rfl)
theorem dL_law_2262 : decode cL_law 2262 = .ok (.i2l, 1) := dk_133 (dk_at dksL_law_90 8 rfl rfl)
theorem dL_law_2263 : decode cL_law 2263 = .ok (.lcmp, 1) := dk_148 (dk_at dksL_law_90 9 rfl rfl)
theorem dL_law_2264 : decode cL_law 2264 = .ok (.ifCond .eq 5, 3) := dk_153 0 5 (dk_at dksL_law_90 10 rfl rfl)
theorem dL_law_2267 : decode cL_law 2267 = .ok (.iconst 0, 1) := dk_3 (dk_at dksL_law_90 13 rfl rfl)
theorem dL_law_2268 : decode cL_law 2268 = .ok (.ireturn, 1) := dk_172 (dk_at dksL_law_90 14 rfl rfl)
theorem dL_law_2269 : decode cL_law 2269 = .ok (.goto 212, 3) := dk_167 0 212 (dk_at dksL_law_90 15 rfl rfl)
theorem dL_law_2272 : decode cL_law 2272 = .ok (.aload_n 1, 1) := dk_43 (dk_at dksL_law_90 18 rfl rfl)
theorem dL_law_2273 : decode cL_law 2273 = .ok (.aload 4, 2) := dk_25 4 (dk_at dksL_law_90 19 rfl rfl)
theorem dL_law_2275 : decode cL_law 2275 = .ok (.invokestatic 262, 3) := dk_184 1 6 (dk_at dksL_law_90 21 rfl rfl)
theorem dL_law_2278 : decode cL_law 2278 = .ok (.istore 6, 2) := dk_54 6 (dk_at dksL_law_91 0 rfl rfl)
theorem dL_law_2280 : decode cL_law 2280 = .ok (.aload_n 2, 1) := dk_44 (dk_at dksL_law_91 2 rfl rfl)
theorem dL_law_2281 : decode cL_law 2281 = .ok (.invokevirtual 265, 3) := dk_182 1 9 (dk_at dksL_law_91 3 rfl rfl)
theorem dL_law_2284 : decode cL_law 2284 = .ok (.dstore 7, 2) := dk_57 7 (dk_at dksL_law_91 6 rfl rfl)
theorem dL_law_2286 : decode cL_law 2286 = .ok (.aload_n 2, 1) := dk_44 (dk_at dksL_law_91 8 rfl rfl)
theorem dL_law_2287 : decode cL_law 2287 = .ok (.invokevirtual 144, 3) := dk_182 0 144 (dk_at dksL_law_91 9 rfl rfl)
theorem dL_law_2290 : decode cL_law 2290 = .ok (.iload 6, 2) := dk_21 6 (dk_at dksL_law_91 12 rfl rfl)
theorem dL_law_2292 : decode cL_law 2292 = .ok (.if_icmp .eq 5, 3) := dk_159 0 5 (dk_at dksL_law_91 14 rfl rfl)
theorem dL_law_2295 : decode cL_law 2295 = .ok (.iconst 0, 1) := dk_3 (dk_at dksL_law_91 17 rfl rfl)
theorem dL_law_2296 : decode cL_law 2296 = .ok (.ireturn, 1) := dk_172 (dk_at dksL_law_91 18 rfl rfl)
theorem dL_law_2297 : decode cL_law 2297 = .ok (.iload 6, 2) := dk_21 6 (dk_at dksL_law_91 19 rfl rfl)
theorem dL_law_2299 : decode cL_law 2299 = .ok (.ifCond .ne 35, 3) := dk_154 0 35 (dk_at dksL_law_91 21 rfl rfl)
theorem dL_law_2302 : decode cL_law 2302 = .ok (.aload 4, 2) := dk_25 4 (dk_at dksL_law_92 0 rfl rfl)
theorem dL_law_2304 : decode cL_law 2304 = .ok (.iconst 0, 1) := dk_3 (dk_at dksL_law_92 2 rfl rfl)
theorem dL_law_2305 : decode cL_law 2305 = .ok (.daload, 1) := dk_49 (dk_at dksL_law_92 3 rfl rfl)
theorem dL_law_2306 : decode cL_law 2306 = .ok (.dload 7, 2) := dk_24 7 (dk_at dksL_law_92 4 rfl rfl)
theorem dL_law_2308 : decode cL_law 2308 = .ok (.dcmp .l, 1) := dk_151 (dk_at dksL_law_92 6 rfl rfl)
theorem dL_law_2309 : decode cL_law 2309 = .ok (.ifCond .eq 25, 3) := dk_153 0 25 (dk_at dksL_law_92 7 rfl rfl)
theorem dL_law_2312 : decode cL_law 2312 = .ok (.aload 4, 2) := dk_25 4 (dk_at dksL_law_92 10 rfl rfl)
theorem dL_law_2314 : decode cL_law 2314 = .ok (.iconst 0, 1) := dk_3 (dk_at dksL_law_92 12 rfl rfl)
theorem dL_law_2315 : decode cL_law 2315 = .ok (.daload, 1) := dk_49 (dk_at dksL_law_92 13 rfl rfl)
theorem dL_law_2316 : decode cL_law 2316 = .ok (.aload 4, 2) := dk_25 4 (dk_at dksL_law_92 14 rfl rfl)
theorem dL_law_2318 : decode cL_law 2318 = .ok (.iconst 0, 1) := dk_3 (dk_at dksL_law_92 16 rfl rfl)
theorem dL_law_2319 : decode cL_law 2319 = .ok (.daload, 1) := dk_49 (dk_at dksL_law_92 17 rfl rfl)
theorem dL_law_2320 : decode cL_law 2320 = .ok (.dcmp .l, 1) := dk_151 (dk_at dksL_law_92 18 rfl rfl)
theorem dL_law_2321 : decode cL_law 2321 = .ok (.ifCond .eq 11, 3) := dk_153 0 11 (dk_at dksL_law_92 19 rfl rfl)
theorem dL_law_2324 : decode cL_law 2324 = .ok (.dload 7, 2) := dk_24 7 (dk_at dksL_law_92 22 rfl rfl)
theorem dL_law_2326 : decode cL_law 2326 = .ok (.dload 7, 2) := dk_24 7 (dk_at dksL_law_93 0 rfl rfl)
theorem dL_law_2328 : decode cL_law 2328 = .ok (.dcmp .l, 1) := dk_151 (dk_at dksL_law_93 2 rfl rfl)
theorem dL_law_2329 : decode cL_law 2329 = .ok (.ifCond .ne 5, 3) := dk_154 0 5 (dk_at dksL_law_93 3 rfl rfl)
theorem dL_law_2332 : decode cL_law 2332 = .ok (.iconst 0, 1) := dk_3 (dk_at dksL_law_93 6 rfl rfl)
theorem dL_law_2333 : decode cL_law 2333 = .ok (.ireturn, 1) := dk_172 (dk_at dksL_law_93 7 rfl rfl)
theorem dL_law_2334 : decode cL_law 2334 = .ok (.goto 147, 3) := dk_167 0 147 (dk_at dksL_law_93 8 rfl rfl)
theorem dL_law_2337 : decode cL_law 2337 = .ok (.aload_n 1, 1) := dk_43 (dk_at dksL_law_93 11 rfl rfl)
theorem dL_law_2338 : decode cL_law 2338 = .ok (.invokevirtual 266, 3) := dk_182 1 10 (dk_at dksL_law_93 12 rfl rfl)
theorem dL_law_2341 : decode cL_law 2341 = .ok (.f2d, 1) := dk_141 (dk_at dksL_law_93 15 rfl rfl)
theorem dL_law_2342 : decode cL_law 2342 = .ok (.dstore 6, 2) := dk_57 6 (dk_at dksL_law_93 16 rfl rfl)
theorem dL_law_2344 : decode cL_law 2344 = .ok (.aload_n 2, 1) := dk_44 (dk_at dksL_law_93 18 rfl rfl)
theorem dL_law_2345 : decode cL_law 2345 = .ok (.invokevirtual 270, 3) := dk_182 1 14 (dk_at dksL_law_93 19 rfl rfl)
theorem dL_law_2348 : decode cL_law 2348 = .ok (.f2d, 1) := dk_141 (dk_at dksL_law_93 22 rfl rfl)
theorem dL_law_2349 : decode cL_law 2349 = .ok (.dstore 8, 2) := dk_57 8 (dk_at dksL_law_94 0 rfl rfl)
theorem dL_law_2351 : decode cL_law 2351 = .ok (.dload 6, 2) := dk_24 6 (dk_at dksL_law_94 2 rfl rfl)
theorem dL_law_2353 : decode cL_law 2353 = .ok (.dload 8, 2) := dk_24 8 (dk_at dksL_law_94 4 rfl rfl)
theorem dL_law_2355 : decode cL_law 2355 = .ok (.dcmp .l, 1) := dk_151 (dk_at dksL_law_94 6 rfl rfl)
theorem dL_law_2356 : decode cL_law 2356 = .ok (.ifCond .eq 21, 3) := dk_153 0 21 (dk_at dksL_law_94 7 rfl rfl)
theorem dL_law_2359 : decode cL_law 2359 = .ok (.dload 6, 2) := dk_24 6 (dk_at dksL_law_94 10 rfl rfl)
theorem dL_law_2361 : decode cL_law 2361 = .ok (.dload 6, 2) := dk_24 6 (dk_at dksL_law_94 12 rfl rfl)
theorem dL_law_2363 : decode cL_law 2363 = .ok (.dcmp .l, 1) := dk_151 (dk_at dksL_law_94 14 rfl rfl)
theorem dL_law_2364 : decode cL_law 2364 = .ok (.ifCond .eq 11, 3) := dk_153 0 11 (dk_at dksL_law_94 15 rfl rfl)
theorem dL_law_2367 : decode cL_law 2367 = .ok (.dload 8, 2) := dk_24 8 (dk_at dksL_law_94 18 rfl rfl)
theorem dL_law_2369 : decode cL_law 2369 = .ok (.dload 8, 2) := dk_24 8 (dk_at dksL_law_94 20 rfl rfl)
theorem dL_law_2371 : decode cL_law 2371 = .ok (.dcmp .l, 1) := dk_151 (dk_at dksL_law_94 22 rfl rfl)
theorem dL_law_2372 : decode cL_law 2372 = .ok (.ifCond .ne 5, 3) := dk_154 0 5 (dk_at dksL_law_95 0 rfl rfl)
theorem dL_law_2375 : decode cL_law 2375 = .ok (.iconst 0, 1) := dk_3 (dk_at dksL_law_95 3 rfl rfl)
theorem dL_law_2376 : decode cL_law 2376 = .ok (.ireturn, 1) := dk_172 (dk_at dksL_law_95 4 rfl rfl)
theorem dL_law_2377 : decode cL_law 2377 = .ok (.goto 104, 3) := dk_167 0 104 (dk_at dksL_law_95 5 rfl rfl)
theorem dL_law_2380 : decode cL_law 2380 = .ok (.aload_n 1, 1) := dk_43 (dk_at dksL_law_95 8 rfl rfl)
theorem dL_law_2381 : decode cL_law 2381 = .ok (.aload_n 3, 1) := dk_45 (dk_at dksL_law_95 9 rfl rfl)
theorem dL_law_2382 : decode cL_law 2382 = .ok (.invokestatic 271, 3) := dk_184 1 15 (dk_at dksL_law_95 10 rfl rfl)
theorem dL_law_2385 : decode cL_law 2385 = .ok (.istore 6, 2) := dk_54 6 (dk_at dksL_law_95 13 rfl rfl)
theorem dL_law_2387 : decode cL_law 2387 = .ok (.aload_n 2, 1) := dk_44 (dk_at dksL_law_95 15 rfl rfl)
theorem dL_law_2388 : decode cL_law 2388 = .ok (.invokevirtual 273, 3) := dk_182 1 17 (dk_at dksL_law_95 16 rfl rfl)
theorem dL_law_2391 : decode cL_law 2391 = .ok (.istore 7, 2) := dk_54 7 (dk_at dksL_law_95 19 rfl rfl)
theorem dL_law_2393 : decode cL_law 2393 = .ok (.aload_n 2, 1) := dk_44 (dk_at dksL_law_95 21 rfl rfl)
theorem dL_law_2394 : decode cL_law 2394 = .ok (.invokevirtual 144, 3) := dk_182 0 144 (dk_at dksL_law_96 0 rfl rfl)
theorem dL_law_2397 : decode cL_law 2397 = .ok (.iload 6, 2) := dk_21 6 (dk_at dksL_law_96 3 rfl rfl)
theorem dL_law_2399 : decode cL_law 2399 = .ok (.if_icmp .eq 5, 3) := dk_159 0 5 (dk_at dksL_law_96 5 rfl rfl)
theorem dL_law_2402 : decode cL_law 2402 = .ok (.iconst 0, 1) := dk_3 (dk_at dksL_law_96 8 rfl rfl)
theorem dL_law_2403 : decode cL_law 2403 = .ok (.ireturn, 1) := dk_172 (dk_at dksL_law_96 9 rfl rfl)
theorem dL_law_2404 : decode cL_law 2404 = .ok (.iload 6, 2) := dk_21 6 (dk_at dksL_law_96 10 rfl rfl)
theorem dL_law_2406 : decode cL_law 2406 = .ok (.ifCond .ne 15, 3) := dk_154 0 15 (dk_at dksL_law_96 12 rfl rfl)
theorem dL_law_2409 : decode cL_law 2409 = .ok (.aload_n 3, 1) := dk_45 (dk_at dksL_law_96 15 rfl rfl)
theorem dL_law_2410 : decode cL_law 2410 = .ok (.iconst 0, 1) := dk_3 (dk_at dksL_law_96 16 rfl rfl)
theorem dL_law_2411 : decode cL_law 2411 = .ok (.laload, 1) := dk_47 (dk_at dksL_law_96 17 rfl rfl)
theorem dL_law_2412 : decode cL_law 2412 = .ok (.iload 7, 2) := dk_21 7 (dk_at dksL_law_96 18 rfl rfl)
theorem dL_law_2414 : decode cL_law 2414 = .ok (.i2l, 1) := dk_133 (dk_at dksL_law_96 20 rfl rfl)
theorem dL_law_2415 : decode cL_law 2415 = .ok (.lcmp, 1) := dk_148 (dk_at dksL_law_96 21 rfl rfl)
theorem dL_law_2416 : decode cL_law 2416 = .ok (.ifCond .eq 5, 3) := dk_153 0 5 (dk_at dksL_law_97 0 rfl rfl)
theorem dL_law_2419 : decode cL_law 2419 = .ok (.iconst 0, 1) := dk_3 (dk_at dksL_law_97 3 rfl rfl)
theorem dL_law_2420 : decode cL_law 2420 = .ok (.ireturn, 1) := dk_172 (dk_at dksL_law_97 4 rfl rfl)
theorem dL_law_2421 : decode cL_law 2421 = .ok (.goto 60, 3) := dk_167 0 60 (dk_at dksL_law_97 5 rfl rfl)
theorem dL_law_2424 : decode cL_law 2424 = .ok (.aload_n 1, 1) := dk_43 (dk_at dksL_law_97 8 rfl rfl)
theorem dL_law_2425 : decode cL_law 2425 = .ok (.invokevirtual 274, 3) := dk_182 1 18 (dk_at dksL_law_97 9 rfl rfl)
theorem dL_law_2428 : decode cL_law 2428 = .ok (.aload_n 2, 1) := dk_44 (dk_at dksL_law_97 12 rfl rfl)
theorem dL_law_2429 : decode cL_law 2429 = .ok (.invokevirtual 277, 3) := dk_182 1 21 (dk_at dksL_law_97 13 rfl rfl)
theorem dL_law_2432 : decode cL_law 2432 = .ok (.if_icmp .eq 49, 3) := dk_159 0 49 (dk_at dksL_law_97 16 rfl rfl)
theorem dL_law_2435 : decode cL_law 2435 = .ok (.iconst 0, 1) := dk_3 (dk_at dksL_law_97 19 rfl rfl)
theorem dL_law_2436 : decode cL_law 2436 = .ok (.ireturn, 1) := dk_172 (dk_at dksL_law_97 20 rfl rfl)
theorem dL_law_2437 : decode cL_law 2437 = .ok (.aload_n 1, 1) := dk_43 (dk_at dksL_law_97 21 rfl rfl)
theorem dL_law_2438 : decode cL_law 2438 = .ok (.aload_n 3, 1) := dk_45 (dk_at dksL_law_97 22 rfl rfl)
theorem dL_law_2439 : decode cL_law 2439 = .ok (.invokestatic 278, 3) := dk_184 1 22 (dk_at dksL_law_98 0 rfl rfl)
theorem dL_law_2442 : decode cL_law 2442 = .ok (.istore 6, 2) := dk_54 6 (dk_at dksL_law_98 3 rfl rfl)
theorem dL_law_2444 : decode cL_law 2444 = .ok (.aload_n 2, 1) := dk_44 (dk_at dksL_law_98 5 rfl rfl)
theorem dL_law_2445 : decode cL_law 2445 = .ok (.invokevirtual 280, 3) := dk_182 1 24 (dk_at dksL_law_98 6 rfl rfl)
theorem dL_law_2448 : decode cL_law 2448 = .ok (.istore 7, 2) := dk_54 7 (dk_at dksL_law_98 9 rfl rfl)
theorem dL_law_2450 : decode cL_law 2450 = .ok (.aload_n 2, 1) := dk_44 (dk_at dksL_law_98 11 rfl rfl)
theorem dL_law_2451 : decode cL_law 2451 = .ok (.invokevirtual 144, 3) := dk_182 0 144 (dk_at dksL_law_98 12 rfl rfl)
theorem dL_law_2454 : decode cL_law 2454 = .ok (.iload 6, 2) := dk_21 6 (dk_at dksL_law_98 15 rfl rfl)
theorem dL_law_2456 : decode cL_law 2456 = .ok (.if_icmp .eq 5, 3) := dk_159 0 5 (dk_at dksL_law_98 17 rfl rfl)
theorem dL_law_2459 : decode cL_law 2459 = .ok (.iconst 0, 1) := dk_3 (dk_at dksL_law_98 20 rfl rfl)
theorem dL_law_2460 : decode cL_law 2460 = .ok (.ireturn, 1) := dk_172 (dk_at dksL_law_98 21 rfl rfl)
theorem dL_law_2461 : decode cL_law 2461 = .ok (.iload 6, 2) := dk_21 6 (dk_at dksL_law_98 22 rfl rfl)
theorem dL_law_2463 : decode cL_law 2463 = .ok (.ifCond .ne 15, 3) := dk_154 0 15 (dk_at dksL_law_99 0 rfl rfl)
theorem dL_law_2466 : decode cL_law 2466 = .ok (.aload_n 3, 1) := dk_45 (dk_at dksL_law_99 3 rfl rfl)
theorem dL_law_2467 : decode cL_law 2467 = .ok (.iconst 0, 1) := dk_3 (dk_at dksL_law_99 4 rfl rfl)
theorem dL_law_2468 : decode cL_law 2468 = .ok (.laload, 1) := dk_47 (dk_at dksL_law_99 5 rfl rfl)
theorem dL_law_2469 : decode cL_law 2469 = .ok (.iload 7, 2) := dk_21 7 (dk_at dksL_law_99 6 rfl rfl)
theorem dL_law_2471 : decode cL_law 2471 = .ok (.i2l, 1) := dk_133 (dk_at dksL_law_99 8 rfl rfl)
theorem dL_law_2472 : decode cL_law 2472 = .ok (.lcmp, 1) := dk_148 (dk_at dksL_law_99 9 rfl rfl)
theorem dL_law_2473 : decode cL_law 2473 = .ok (.ifCond .eq 5, 3) := dk_153 0 5 (dk_at dksL_law_99 10 rfl rfl)
theorem dL_law_2476 : decode cL_law 2476 = .ok (.iconst 0, 1) := dk_3 (dk_at dksL_law_99 13 rfl rfl)
theorem dL_law_2477 : decode cL_law 2477 = .ok (.ireturn, 1) := dk_172 (dk_at dksL_law_99 14 rfl rfl)
theorem dL_law_2478 : decode cL_law 2478 = .ok (.goto 3, 3) := dk_167 0 3 (dk_at dksL_law_99 15 rfl rfl)
theorem dL_law_2481 : decode cL_law 2481 = .ok (.iinc 5 4, 3) := dk_132 5 4 (dk_at dksL_law_99 18 rfl rfl)
theorem dL_law_2484 : decode cL_law 2484 = .ok (.goto (-2456), 3) := dk_167 246 104 (dk_at dksL_law_99 21 rfl rfl)
theorem dL_law_2487 : decode cL_law 2487 = .ok (.iconst 1, 1) := dk_4 (dk_at dksL_law_100 0 rfl rfl)
theorem dL_law_2488 : decode cL_law 2488 = .ok (.ireturn, 1) := dk_172 (dk_at dksL_law_100 1 rfl rfl)
