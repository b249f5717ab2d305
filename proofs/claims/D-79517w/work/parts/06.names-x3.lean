/-! SkerryLightsModel -/
set_option maxRecDepth 100000
def RX3 : String := "SkerryLightsModel"
def TX3 : u_T := fun k => match k with
  | 0 => ("SkerryLightsModel", "thrown", "I", false)
  | 1 => ("SkerryLightsModel", "why", "I", false)
  | 2 => ("SkerryLightsModel", "whyDetail", "I", false)
  | 3 => ("SkerryLightsModel", "causes", "I", false)
  | 4 => ("SkerryLightsModel", "cause", "[I", true)
  | 5 => ("SkerryLightsModel", "w", "[I", true)
  | 6 => ("SkerryLightsModel", "undos", "[I", true)
  | 7 => ("SkerryLightsModel", "savedRow", "[I", true)
  | 8 => ("SkerryLightsModel", "before", "[I", true)
  | 9 => ("SkerryLightsModel", "changes", "I", false)
  | 10 => ("SkerryLightsModel", "firstChange", "I", false)
  | 11 => ("SkerryLightsModel", "isSaved", "Z", false)
  | 12 => ("SkerryLightsModel", "far", "[I", true)
  | 13 => ("SkerryLightsModel", "route", "[I", true)
  | 14 => ("SkerryLightsModel", "routeLong", "I", false)
  | 15 => ("SkerryLightsModel", "input", "[C", true)
  | 16 => ("SkerryLightsModel", "word", "[C", true)
  | 17 => ("SkerryLightsModel", "length", "I", false)
  | 18 => ("SkerryLightsModel", "wordLong", "I", false)
  | 19 => ("SkerryLightsModel", "sign", "[I", true)
  | 20 => ("SkerryLightsModel", "one", "[I", true)
  | 21 => ("SkerryLightsModel", "two", "[I", true)
  | 22 => ("SkerryLightsModel", "at", "I", false)
  | 23 => ("SkerryLightsModel", "commands", "I", false)
  | _ => ("SkerryLightsModel", "faultAt", "I", false)
def tyX3 : Nat → FieldType := fun k => match k with
  | 0 => .int
  | 1 => .int
  | 2 => .int
  | 3 => .int
  | 4 => .array .int
  | 5 => .array .int
  | 6 => .array .int
  | 7 => .array .int
  | 8 => .array .int
  | 9 => .int
  | 10 => .int
  | 11 => .boolean
  | 12 => .array .int
  | 13 => .array .int
  | 14 => .int
  | 15 => .array .char
  | 16 => .array .char
  | 17 => .int
  | 18 => .int
  | 19 => .array .int
  | 20 => .array .int
  | 21 => .array .int
  | 22 => .int
  | 23 => .int
  | _ => .int
abbrev wsX30 : List Cond := u_ws RX3 TX3 25
set_option maxRecDepth 100000 in
theorem nmX3 : ∀ a, a < 25 → ∀ b, b < 25 → a ≠ b → (TX3 a).2.1 ≠ (TX3 b).2.1 := by decide +kernel
set_option maxRecDepth 100000 in
theorem tyX3_ok : ∀ k, k < 25 → parseFieldDescriptor (TX3 k).2.2.1 = some (tyX3 k) := by decide +kernel
abbrev cX3_init : ByteArray := prog_13_method_1_code
def yX3_init : MethodName := ⟨RX3, "<init>", "()V"⟩
def dkwX3_init_4 : List UInt8 := [16, 32, 188, 10, 181, 0, 44, 42, 2, 181, 0, 47, 42, 180, 0, 13, 3, 3, 79, 177]
abbrev dktX3_init_4 : List UInt8 := dkwX3_init_4 ++ []
def dkwX3_init_3 : List UInt8 := [16, 24, 188, 5, 181, 0, 35, 42, 16, 32, 188, 10, 181, 0, 38, 42, 16, 32, 188, 10, 181, 0, 41, 42]
abbrev dktX3_init_3 : List UInt8 := dkwX3_init_3 ++ dktX3_init_4
def dkwX3_init_2 : List UInt8 := [16, 8, 188, 10, 181, 0, 25, 42, 16, 8, 188, 10, 181, 0, 28, 42, 16, 60, 188, 5, 181, 0, 31, 42]
abbrev dktX3_init_2 : List UInt8 := dkwX3_init_2 ++ dktX3_init_3
def dkwX3_init_1 : List UInt8 := [188, 10, 181, 0, 16, 42, 17, 0, 128, 188, 10, 181, 0, 19, 42, 17, 0, 128, 188, 10, 181, 0, 22, 42]
abbrev dktX3_init_1 : List UInt8 := dkwX3_init_1 ++ dktX3_init_2
def dkwX3_init_0 : List UInt8 := [42, 183, 0, 1, 42, 7, 188, 10, 181, 0, 7, 42, 17, 0, 128, 188, 10, 181, 0, 13, 42, 17, 4, 0]
abbrev dktX3_init_0 : List UInt8 := dkwX3_init_0 ++ dktX3_init_1
theorem dksX3_init_0 : cX3_init.data.toList.drop 0 = dktX3_init_0 := by decide +kernel
theorem dksX3_init_1 : cX3_init.data.toList.drop 24 = dktX3_init_1 := dk_seg dksX3_init_0 24 rfl rfl
theorem dksX3_init_2 : cX3_init.data.toList.drop 48 = dktX3_init_2 := dk_seg dksX3_init_1 24 rfl rfl
theorem dksX3_init_3 : cX3_init.data.toList.drop 72 = dktX3_init_3 := dk_seg dksX3_init_2 24 rfl rfl
theorem dksX3_init_4 : cX3_init.data.toList.drop 96 = dktX3_init_4 := dk_seg dksX3_init_3 24 rfl rfl
theorem dX3_init_0 : decode cX3_init 0 = .ok (.aload_n 0, 1) := dk_42 (dk_at dksX3_init_0 0 rfl rfl)
theorem dX3_init_1 : decode cX3_init 1 = .ok (.invokespecial 1, 3) := dk_183 0 1 (dk_at dksX3_init_0 1 rfl rfl)
theorem dX3_init_4 : decode cX3_init 4 = .ok (.aload_n 0, 1) := dk_42 (dk_at dksX3_init_0 4 rfl rfl)
theorem dX3_init_5 : decode cX3_init 5 = .ok (.iconst 4, 1) := dk_7 (dk_at dksX3_init_0 5 rfl rfl)
theorem dX3_init_6 : decode cX3_init 6 = .ok (.newarray .int, 2) := dk_188_10 (dk_at dksX3_init_0 6 rfl rfl)
theorem dX3_init_8 : decode cX3_init 8 = .ok (.putfield 7, 3) := dk_181 0 7 (dk_at dksX3_init_0 8 rfl rfl)
theorem dX3_init_11 : decode cX3_init 11 = .ok (.aload_n 0, 1) := dk_42 (dk_at dksX3_init_0 11 rfl rfl)
theorem dX3_init_12 : decode cX3_init 12 = .ok (.sipush 128, 3) := dk_17 0 128 (dk_at dksX3_init_0 12 rfl rfl)
theorem dX3_init_15 : decode cX3_init 15 = .ok (.newarray .int, 2) := dk_188_10 (dk_at dksX3_init_0 15 rfl rfl)
theorem dX3_init_17 : decode cX3_init 17 = .ok (.putfield 13, 3) := dk_181 0 13 (dk_at dksX3_init_0 17 rfl rfl)
theorem dX3_init_20 : decode cX3_init 20 = .ok (.aload_n 0, 1) := dk_42 (dk_at dksX3_init_0 20 rfl rfl)
theorem dX3_init_21 : decode cX3_init 21 = .ok (.sipush 1024, 3) := dk_17 4 0 (dk_at dksX3_init_0 21 rfl rfl)
theorem dX3_init_24 : decode cX3_init 24 = .ok (.newarray .int, 2) := dk_188_10 (dk_at dksX3_init_1 0 rfl rfl)
theorem dX3_init_26 : decode cX3_init 26 = .ok (.putfield 16, 3) := dk_181 0 16 (dk_at dksX3_init_1 2 rfl rfl)
theorem dX3_init_29 : decode cX3_init 29 = .ok (.aload_n 0, 1) := dk_42 (dk_at dksX3_init_1 5 rfl rfl)
theorem dX3_init_30 : decode cX3_init 30 = .ok (.sipush 128, 3) := dk_17 0 128 (dk_at dksX3_init_1 6 rfl rfl)
theorem dX3_init_33 : decode cX3_init 33 = .ok (.newarray .int, 2) := dk_188_10 (dk_at dksX3_init_1 9 rfl rfl)
theorem dX3_init_35 : decode cX3_init 35 = .ok (.putfield 19, 3) := dk_181 0 19 (dk_at dksX3_init_1 11 rfl rfl)
theorem dX3_init_38 : decode cX3_init 38 = .ok (.aload_n 0, 1) := dk_42 (dk_at dksX3_init_1 14 rfl rfl)
theorem dX3_init_39 : decode cX3_init 39 = .ok (.sipush 128, 3) := dk_17 0 128 (dk_at dksX3_init_1 15 rfl rfl)
theorem dX3_init_42 : decode cX3_init 42 = .ok (.newarray .int, 2) := dk_188_10 (dk_at dksX3_init_1 18 rfl rfl)
theorem dX3_init_44 : decode cX3_init 44 = .ok (.putfield 22, 3) := dk_181 0 22 (dk_at dksX3_init_1 20 rfl rfl)
theorem dX3_init_47 : decode cX3_init 47 = .ok (.aload_n 0, 1) := dk_42 (dk_at dksX3_init_1 23 rfl rfl)
theorem dX3_init_48 : decode cX3_init 48 = .ok (.bipush 8, 2) := dk_16 8 (dk_at dksX3_init_2 0 rfl rfl)
theorem dX3_init_50 : decode cX3_init 50 = .ok (.newarray .int, 2) := dk_188_10 (dk_at dksX3_init_2 2 rfl rfl)
theorem dX3_init_52 : decode cX3_init 52 = .ok (.putfield 25, 3) := dk_181 0 25 (dk_at dksX3_init_2 4 rfl rfl)
theorem dX3_init_55 : decode cX3_init 55 = .ok (.aload_n 0, 1) := dk_42 (dk_at dksX3_init_2 7 rfl rfl)
theorem dX3_init_56 : decode cX3_init 56 = .ok (.bipush 8, 2) := dk_16 8 (dk_at dksX3_init_2 8 rfl rfl)
theorem dX3_init_58 : decode cX3_init 58 = .ok (.newarray .int, 2) := dk_188_10 (dk_at dksX3_init_2 10 rfl rfl)
theorem dX3_init_60 : decode cX3_init 60 = .ok (.putfield 28, 3) := dk_181 0 28 (dk_at dksX3_init_2 12 rfl rfl)
theorem dX3_init_63 : decode cX3_init 63 = .ok (.aload_n 0, 1) := dk_42 (dk_at dksX3_init_2 15 rfl rfl)
theorem dX3_init_64 : decode cX3_init 64 = .ok (.bipush 60, 2) := dk_16 60 (dk_at dksX3_init_2 16 rfl rfl)
theorem dX3_init_66 : decode cX3_init 66 = .ok (.newarray .char, 2) := dk_188_5 (dk_at dksX3_init_2 18 rfl rfl)
theorem dX3_init_68 : decode cX3_init 68 = .ok (.putfield 31, 3) := dk_181 0 31 (dk_at dksX3_init_2 20 rfl rfl)
theorem dX3_init_71 : decode cX3_init 71 = .ok (.aload_n 0, 1) := dk_42 (dk_at dksX3_init_2 23 rfl rfl)
theorem dX3_init_72 : decode cX3_init 72 = .ok (.bipush 24, 2) := dk_16 24 (dk_at dksX3_init_3 0 rfl rfl)
theorem dX3_init_74 : decode cX3_init 74 = .ok (.newarray .char, 2) := dk_188_5 (dk_at dksX3_init_3 2 rfl rfl)
theorem dX3_init_76 : decode cX3_init 76 = .ok (.putfield 35, 3) := dk_181 0 35 (dk_at dksX3_init_3 4 rfl rfl)
theorem dX3_init_79 : decode cX3_init 79 = .ok (.aload_n 0, 1) := dk_42 (dk_at dksX3_init_3 7 rfl rfl)
theorem dX3_init_80 : decode cX3_init 80 = .ok (.bipush 32, 2) := dk_16 32 (dk_at dksX3_init_3 8 rfl rfl)
theorem dX3_init_82 : decode cX3_init 82 = .ok (.newarray .int, 2) := dk_188_10 (dk_at dksX3_init_3 10 rfl rfl)
theorem dX3_init_84 : decode cX3_init 84 = .ok (.putfield 38, 3) := dk_181 0 38 (dk_at dksX3_init_3 12 rfl rfl)
theorem dX3_init_87 : decode cX3_init 87 = .ok (.aload_n 0, 1) := dk_42 (dk_at dksX3_init_3 15 rfl rfl)
theorem dX3_init_88 : decode cX3_init 88 = .ok (.bipush 32, 2) := dk_16 32 (dk_at dksX3_init_3 16 rfl rfl)
theorem dX3_init_90 : decode cX3_init 90 = .ok (.newarray .int, 2) := dk_188_10 (dk_at dksX3_init_3 18 rfl rfl)
theorem dX3_init_92 : decode cX3_init 92 = .ok (.putfield 41, 3) := dk_181 0 41 (dk_at dksX3_init_3 20 rfl rfl)
theorem dX3_init_95 : decode cX3_init 95 = .ok (.aload_n 0, 1) := dk_42 (dk_at dksX3_init_3 23 rfl rfl)
theorem dX3_init_96 : decode cX3_init 96 = .ok (.bipush 32, 2) := dk_16 32 (dk_at dksX3_init_4 0 rfl rfl)
theorem dX3_init_98 : decode cX3_init 98 = .ok (.newarray .int, 2) := dk_188_10 (dk_at dksX3_init_4 2 rfl rfl)
theorem dX3_init_100 : decode cX3_init 100 = .ok (.putfield 44, 3) := dk_181 0 44 (dk_at dksX3_init_4 4 rfl rfl)
theorem dX3_init_103 : decode cX3_init 103 = .ok (.aload_n 0, 1) := dk_42 (dk_at dksX3_init_4 7 rfl rfl)
theorem dX3_init_104 : decode cX3_init 104 = .ok (.iconst (-1), 1) := dk_2 (dk_at dksX3_init_4 8 rfl rfl)
theorem dX3_init_105 : decode cX3_init 105 = .ok (.putfield 47, 3) := dk_181 0 47 (dk_at dksX3_init_4 9 rfl rfl)
theorem dX3_init_108 : decode cX3_init 108 = .ok (.aload_n 0, 1) := dk_42 (dk_at dksX3_init_4 12 rfl rfl)
theorem dX3_init_109 : decode cX3_init 109 = .ok (.getfield 13, 3) := dk_180 0 13 (dk_at dksX3_init_4 13 rfl rfl)
theorem dX3_init_112 : decode cX3_init 112 = .ok (.iconst 0, 1) := dk_3 (dk_at dksX3_init_4 16 rfl rfl)
theorem dX3_init_113 : decode cX3_init 113 = .ok (.iconst 0, 1) := dk_3 (dk_at dksX3_init_4 17 rfl rfl)
theorem dX3_init_114 : decode cX3_init 114 = .ok (.iastore, 1) := dk_79 (dk_at dksX3_init_4 18 rfl rfl)
theorem dX3_init_115 : decode cX3_init 115 = .ok (.return_, 1) := dk_177 (dk_at dksX3_init_4 19 rfl rfl)
abbrev cX3_thrown : ByteArray := prog_13_method_2_code
def yX3_thrown : MethodName := ⟨RX3, "thrown", "()I"⟩
theorem dX3_thrown_0 : decode cX3_thrown 0 = .ok (.aload_n 0, 1) := by decide +kernel
theorem dX3_thrown_1 : decode cX3_thrown 1 = .ok (.getfield 51, 3) := by decide +kernel
theorem dX3_thrown_4 : decode cX3_thrown 4 = .ok (.ireturn, 1) := by decide +kernel
abbrev cX3_tower : ByteArray := prog_13_method_31_code
def yX3_tower : MethodName := ⟨RX3, "tower", "(III)I"⟩
def dkwX3_tower_9 : List UInt8 := [182, 0, 141, 21, 4, 172]
abbrev dktX3_tower_9 : List UInt8 := dkwX3_tower_9 ++ []
def dkwX3_tower_8 : List UInt8 := [180, 0, 13, 21, 4, 16, 7, 184, 0, 73, 5, 79, 42, 180, 0, 13, 16, 10, 92, 46, 4, 96, 79, 42]
abbrev dktX3_tower_8 : List UInt8 := dkwX3_tower_8 ++ dktX3_tower_9
def dkwX3_tower_7 : List UInt8 := [21, 4, 8, 184, 0, 73, 3, 79, 42, 180, 0, 13, 21, 4, 16, 6, 184, 0, 73, 5, 79, 42]
abbrev dktX3_tower_7 : List UInt8 := dkwX3_tower_7 ++ dktX3_tower_8
def dkwX3_tower_6 : List UInt8 := [21, 4, 6, 184, 0, 73, 2, 79, 42, 180, 0, 13, 21, 4, 7, 184, 0, 73, 3, 79, 42, 180, 0, 13]
abbrev dktX3_tower_6 : List UInt8 := dkwX3_tower_6 ++ dktX3_tower_7
def dkwX3_tower_5 : List UInt8 := [21, 4, 4, 184, 0, 73, 28, 79, 42, 180, 0, 13, 21, 4, 5, 184, 0, 73, 29, 79, 42, 180, 0, 13]
abbrev dktX3_tower_5 : List UInt8 := dkwX3_tower_5 ++ dktX3_tower_6
def dkwX3_tower_4 : List UInt8 := [180, 0, 13, 16, 10, 46, 54, 4, 42, 180, 0, 13, 21, 4, 3, 184, 0, 73, 27, 79, 42, 180, 0, 13]
abbrev dktX3_tower_4 : List UInt8 := dkwX3_tower_4 ++ dktX3_tower_5
def dkwX3_tower_3 : List UInt8 := [42, 27, 182, 0, 129, 182, 0, 132, 153, 0, 9, 42, 7, 182, 0, 135, 172, 42, 182, 0, 138, 42]
abbrev dktX3_tower_3 : List UInt8 := dkwX3_tower_3 ++ dktX3_tower_4
def dkwX3_tower_2 : List UInt8 := [16, 10, 46, 16, 8, 160, 0, 9, 42, 6, 182, 0, 63, 172, 42, 27, 182, 0, 129, 155, 0, 22, 42, 4]
abbrev dktX3_tower_2 : List UInt8 := dkwX3_tower_2 ++ dktX3_tower_3
def dkwX3_tower_1 : List UInt8 := [153, 0, 13, 29, 3, 16, 9, 184, 0, 77, 154, 0, 9, 42, 5, 182, 0, 63, 172, 42, 180, 0, 13]
abbrev dktX3_tower_1 : List UInt8 := dkwX3_tower_1 ++ dktX3_tower_2
def dkwX3_tower_0 : List UInt8 := [42, 3, 181, 0, 51, 27, 184, 0, 126, 154, 0, 9, 42, 4, 182, 0, 63, 172, 28, 3, 5, 184, 0, 77]
abbrev dktX3_tower_0 : List UInt8 := dkwX3_tower_0 ++ dktX3_tower_1
theorem dksX3_tower_0 : cX3_tower.data.toList.drop 0 = dktX3_tower_0 := by decide +kernel
theorem dksX3_tower_1 : cX3_tower.data.toList.drop 24 = dktX3_tower_1 := dk_seg dksX3_tower_0 24 rfl rfl
theorem dksX3_tower_2 : cX3_tower.data.toList.drop 47 = dktX3_tower_2 := dk_seg dksX3_tower_1 23 rfl rfl
theorem dksX3_tower_3 : cX3_tower.data.toList.drop 71 = dktX3_tower_3 := dk_seg dksX3_tower_2 24 rfl rfl
theorem dksX3_tower_4 : cX3_tower.data.toList.drop 93 = dktX3_tower_4 := dk_seg dksX3_tower_3 22 rfl rfl
theorem dksX3_tower_5 : cX3_tower.data.toList.drop 117 = dktX3_tower_5 := dk_seg dksX3_tower_4 24 rfl rfl
theorem dksX3_tower_6 : cX3_tower.data.toList.drop 141 = dktX3_tower_6 := dk_seg dksX3_tower_5 24 rfl rfl
theorem dksX3_tower_7 : cX3_tower.data.toList.drop 165 = dktX3_tower_7 := dk_seg dksX3_tower_6 24 rfl rfl
theorem dksX3_tower_8 : cX3_tower.data.toList.drop 187 = dktX3_tower_8 := dk_seg dksX3_tower_7 22 rfl rfl
theorem dksX3_tower_9 : cX3_tower.data.toList.drop 211 = dktX3_tower_9 := dk_seg dksX3_tower_8 24 rfl rfl
theorem dX3_tower_0 : decode cX3_tower 0 = .ok (.aload_n 0, 1) := dk_42 (dk_at dksX3_tower_0 0 rfl rfl)
theorem dX3_tower_1 : decode cX3_tower 1 = .ok (.iconst 0, 1) := dk_3 (dk_at dksX3_tower_0 1 rfl rfl)
theorem dX3_tower_2 : decode cX3_tower 2 = .ok (.putfield 51, 3) := dk_181 0 51 (dk_at dksX3_tower_0 2 rfl rfl)
theorem dX3_tower_5 : decode cX3_tower 5 = .ok (.iload_n 1, 1) := dk_27 (dk_at dksX3_tower_0 5 rfl rfl)
theorem dX3_tower_6 : decode cX3_tower 6 = .ok (.invokestatic 126, 3) := dk_184 0 126 (dk_at dksX3_tower_0 6 rfl rfl)
theorem dX3_tower_9 : decode cX3_tower 9 = .ok (.ifCond .ne 9, 3) := dk_154 0 9 (dk_at dksX3_tower_0 9 rfl rfl)
theorem dX3_tower_12 : decode cX3_tower 12 = .ok (.aload_n 0, 1) := dk_42 (dk_at dksX3_tower_0 12 rfl rfl)
theorem dX3_tower_13 : decode cX3_tower 13 = .ok (.iconst 1, 1) := dk_4 (dk_at dksX3_tower_0 13 rfl rfl)
theorem dX3_tower_14 : decode cX3_tower 14 = .ok (.invokevirtual 63, 3) := dk_182 0 63 (dk_at dksX3_tower_0 14 rfl rfl)
theorem dX3_tower_17 : decode cX3_tower 17 = .ok (.ireturn, 1) := dk_172 (dk_at dksX3_tower_0 17 rfl rfl)
theorem dX3_tower_18 : decode cX3_tower 18 = .ok (.iload_n 2, 1) := dk_28 (dk_at dksX3_tower_0 18 rfl rfl)
theorem dX3_tower_19 : decode cX3_tower 19 = .ok (.iconst 0, 1) := dk_3 (dk_at dksX3_tower_0 19 rfl rfl)
theorem dX3_tower_20 : decode cX3_tower 20 = .ok (.iconst 2, 1) := dk_5 (dk_at dksX3_tower_0 20 rfl rfl)
theorem dX3_tower_21 : decode cX3_tower 21 = .ok (.invokestatic 77, 3) := dk_184 0 77 (dk_at dksX3_tower_0 21 rfl rfl)
theorem dX3_tower_24 : decode cX3_tower 24 = .ok (.ifCond .eq 13, 3) := dk_153 0 13 (dk_at dksX3_tower_1 0 rfl rfl)
theorem dX3_tower_27 : decode cX3_tower 27 = .ok (.iload_n 3, 1) := dk_29 (dk_at dksX3_tower_1 3 rfl rfl)
theorem dX3_tower_28 : decode cX3_tower 28 = .ok (.iconst 0, 1) := dk_3 (dk_at dksX3_tower_1 4 rfl rfl)
theorem dX3_tower_29 : decode cX3_tower 29 = .ok (.bipush 9, 2) := dk_16 9 (dk_at dksX3_tower_1 5 rfl rfl)
theorem dX3_tower_31 : decode cX3_tower 31 = .ok (.invokestatic 77, 3) := dk_184 0 77 (dk_at dksX3_tower_1 7 rfl rfl)
theorem dX3_tower_34 : decode cX3_tower 34 = .ok (.ifCond .ne 9, 3) := dk_154 0 9 (dk_at dksX3_tower_1 10 rfl rfl)
theorem dX3_tower_37 : decode cX3_tower 37 = .ok (.aload_n 0, 1) := dk_42 (dk_at dksX3_tower_1 13 rfl rfl)
theorem dX3_tower_38 : decode cX3_tower 38 = .ok (.iconst 2, 1) := dk_5 (dk_at dksX3_tower_1 14 rfl rfl)
theorem dX3_tower_39 : decode cX3_tower 39 = .ok (.invokevirtual 63, 3) := dk_182 0 63 (dk_at dksX3_tower_1 15 rfl rfl)
theorem dX3_tower_42 : decode cX3_tower 42 = .ok (.ireturn, 1) := dk_172 (dk_at dksX3_tower_1 18 rfl rfl)
theorem dX3_tower_43 : decode cX3_tower 43 = .ok (.aload_n 0, 1) := dk_42 (dk_at dksX3_tower_1 19 rfl rfl)
theorem dX3_tower_44 : decode cX3_tower 44 = .ok (.getfield 13, 3) := dk_180 0 13 (dk_at dksX3_tower_1 20 rfl rfl)
theorem dX3_tower_47 : decode cX3_tower 47 = .ok (.bipush 10, 2) := dk_16 10 (dk_at dksX3_tower_2 0 rfl rfl)
theorem dX3_tower_49 : decode cX3_tower 49 = .ok (.iaload, 1) := dk_46 (dk_at dksX3_tower_2 2 rfl rfl)
theorem dX3_tower_50 : decode cX3_tower 50 = .ok (.bipush 8, 2) := dk_16 8 (dk_at dksX3_tower_2 3 rfl rfl)
theorem dX3_tower_52 : decode cX3_tower 52 = .ok (.if_icmp .ne 9, 3) := dk_160 0 9 (dk_at dksX3_tower_2 5 rfl rfl)
theorem dX3_tower_55 : decode cX3_tower 55 = .ok (.aload_n 0, 1) := dk_42 (dk_at dksX3_tower_2 8 rfl rfl)
theorem dX3_tower_56 : decode cX3_tower 56 = .ok (.iconst 3, 1) := dk_6 (dk_at dksX3_tower_2 9 rfl rfl)
theorem dX3_tower_57 : decode cX3_tower 57 = .ok (.invokevirtual 63, 3) := dk_182 0 63 (dk_at dksX3_tower_2 10 rfl rfl)
theorem dX3_tower_60 : decode cX3_tower 60 = .ok (.ireturn, 1) := dk_172 (dk_at dksX3_tower_2 13 rfl rfl)
theorem dX3_tower_61 : decode cX3_tower 61 = .ok (.aload_n 0, 1) := dk_42 (dk_at dksX3_tower_2 14 rfl rfl)
theorem dX3_tower_62 : decode cX3_tower 62 = .ok (.iload_n 1, 1) := dk_27 (dk_at dksX3_tower_2 15 rfl rfl)
theorem dX3_tower_63 : decode cX3_tower 63 = .ok (.invokevirtual 129, 3) := dk_182 0 129 (dk_at dksX3_tower_2 16 rfl rfl)
theorem dX3_tower_66 : decode cX3_tower 66 = .ok (.ifCond .lt 22, 3) := dk_155 0 22 (dk_at dksX3_tower_2 19 rfl rfl)
theorem dX3_tower_69 : decode cX3_tower 69 = .ok (.aload_n 0, 1) := dk_42 (dk_at dksX3_tower_2 22 rfl rfl)
theorem dX3_tower_70 : decode cX3_tower 70 = .ok (.iconst 1, 1) := dk_4 (dk_at dksX3_tower_2 23 rfl rfl)
theorem dX3_tower_71 : decode cX3_tower 71 = .ok (.aload_n 0, 1) := dk_42 (dk_at dksX3_tower_3 0 rfl rfl)
theorem dX3_tower_72 : decode cX3_tower 72 = .ok (.iload_n 1, 1) := dk_27 (dk_at dksX3_tower_3 1 rfl rfl)
theorem dX3_tower_73 : decode cX3_tower 73 = .ok (.invokevirtual 129, 3) := dk_182 0 129 (dk_at dksX3_tower_3 2 rfl rfl)
theorem dX3_tower_76 : decode cX3_tower 76 = .ok (.invokevirtual 132, 3) := dk_182 0 132 (dk_at dksX3_tower_3 5 rfl rfl)
theorem dX3_tower_79 : decode cX3_tower 79 = .ok (.ifCond .eq 9, 3) := dk_153 0 9 (dk_at dksX3_tower_3 8 rfl rfl)
theorem dX3_tower_82 : decode cX3_tower 82 = .ok (.aload_n 0, 1) := dk_42 (dk_at dksX3_tower_3 11 rfl rfl)
theorem dX3_tower_83 : decode cX3_tower 83 = .ok (.iconst 4, 1) := dk_7 (dk_at dksX3_tower_3 12 rfl rfl)
theorem dX3_tower_84 : decode cX3_tower 84 = .ok (.invokevirtual 135, 3) := dk_182 0 135 (dk_at dksX3_tower_3 13 rfl rfl)
theorem dX3_tower_87 : decode cX3_tower 87 = .ok (.ireturn, 1) := dk_172 (dk_at dksX3_tower_3 16 rfl rfl)
theorem dX3_tower_88 : decode cX3_tower 88 = .ok (.aload_n 0, 1) := dk_42 (dk_at dksX3_tower_3 17 rfl rfl)
theorem dX3_tower_89 : decode cX3_tower 89 = .ok (.invokevirtual 138, 3) := dk_182 0 138 (dk_at dksX3_tower_3 18 rfl rfl)
theorem dX3_tower_92 : decode cX3_tower 92 = .ok (.aload_n 0, 1) := dk_42 (dk_at dksX3_tower_3 21 rfl rfl)
theorem dX3_tower_93 : decode cX3_tower 93 = .ok (.getfield 13, 3) := dk_180 0 13 (dk_at dksX3_tower_4 0 rfl rfl)
theorem dX3_tower_96 : decode cX3_tower 96 = .ok (.bipush 10, 2) := dk_16 10 (dk_at dksX3_tower_4 3 rfl rfl)
theorem dX3_tower_98 : decode cX3_tower 98 = .ok (.iaload, 1) := dk_46 (dk_at dksX3_tower_4 5 rfl rfl)
theorem dX3_tower_99 : decode cX3_tower 99 = .ok (.istore 4, 2) := dk_54 4 (dk_at dksX3_tower_4 6 rfl rfl)
theorem dX3_tower_101 : decode cX3_tower 101 = .ok (.aload_n 0, 1) := dk_42 (dk_at dksX3_tower_4 8 rfl rfl)
theorem dX3_tower_102 : decode cX3_tower 102 = .ok (.getfield 13, 3) := dk_180 0 13 (dk_at dksX3_tower_4 9 rfl rfl)
theorem dX3_tower_105 : decode cX3_tower 105 = .ok (.iload 4, 2) := dk_21 4 (dk_at dksX3_tower_4 12 rfl rfl)
theorem dX3_tower_107 : decode cX3_tower 107 = .ok (.iconst 0, 1) := dk_3 (dk_at dksX3_tower_4 14 rfl rfl)
theorem dX3_tower_108 : decode cX3_tower 108 = .ok (.invokestatic 73, 3) := dk_184 0 73 (dk_at dksX3_tower_4 15 rfl rfl)
theorem dX3_tower_111 : decode cX3_tower 111 = .ok (.iload_n 1, 1) := dk_27 (dk_at dksX3_tower_4 18 rfl rfl)
theorem dX3_tower_112 : decode cX3_tower 112 = .ok (.iastore, 1) := dk_79 (dk_at dksX3_tower_4 19 rfl rfl)
theorem dX3_tower_113 : decode cX3_tower 113 = .ok (.aload_n 0, 1) := dk_42 (dk_at dksX3_tower_4 20 rfl rfl)
theorem dX3_tower_114 : decode cX3_tower 114 = .ok (.getfield 13, 3) := dk_180 0 13 (dk_at dksX3_tower_4 21 rfl rfl)
theorem dX3_tower_117 : decode cX3_tower 117 = .ok (.iload 4, 2) := dk_21 4 (dk_at dksX3_tower_5 0 rfl rfl)
theorem dX3_tower_119 : decode cX3_tower 119 = .ok (.iconst 1, 1) := dk_4 (dk_at dksX3_tower_5 2 rfl rfl)
theorem dX3_tower_120 : decode cX3_tower 120 = .ok (.invokestatic 73, 3) := dk_184 0 73 (dk_at dksX3_tower_5 3 rfl rfl)
theorem dX3_tower_123 : decode cX3_tower 123 = .ok (.iload_n 2, 1) := dk_28 (dk_at dksX3_tower_5 6 rfl rfl)
theorem dX3_tower_124 : decode cX3_tower 124 = .ok (.iastore, 1) := dk_79 (dk_at dksX3_tower_5 7 rfl rfl)
theorem dX3_tower_125 : decode cX3_tower 125 = .ok (.aload_n 0, 1) := dk_42 (dk_at dksX3_tower_5 8 rfl rfl)
theorem dX3_tower_126 : decode cX3_tower 126 = .ok (.getfield 13, 3) := dk_180 0 13 (dk_at dksX3_tower_5 9 rfl rfl)
theorem dX3_tower_129 : decode cX3_tower 129 = .ok (.iload 4, 2) := dk_21 4 (dk_at dksX3_tower_5 12 rfl rfl)
theorem dX3_tower_131 : decode cX3_tower 131 = .ok (.iconst 2, 1) := dk_5 (dk_at dksX3_tower_5 14 rfl rfl)
theorem dX3_tower_132 : decode cX3_tower 132 = .ok (.invokestatic 73, 3) := dk_184 0 73 (dk_at dksX3_tower_5 15 rfl rfl)
theorem dX3_tower_135 : decode cX3_tower 135 = .ok (.iload_n 3, 1) := dk_29 (dk_at dksX3_tower_5 18 rfl rfl)
theorem dX3_tower_136 : decode cX3_tower 136 = .ok (.iastore, 1) := dk_79 (dk_at dksX3_tower_5 19 rfl rfl)
theorem dX3_tower_137 : decode cX3_tower 137 = .ok (.aload_n 0, 1) := dk_42 (dk_at dksX3_tower_5 20 rfl rfl)
theorem dX3_tower_138 : decode cX3_tower 138 = .ok (.getfield 13, 3) := dk_180 0 13 (dk_at dksX3_tower_5 21 rfl rfl)
theorem dX3_tower_141 : decode cX3_tower 141 = .ok (.iload 4, 2) := dk_21 4 (dk_at dksX3_tower_6 0 rfl rfl)
theorem dX3_tower_143 : decode cX3_tower 143 = .ok (.iconst 3, 1) := dk_6 (dk_at dksX3_tower_6 2 rfl rfl)
theorem dX3_tower_144 : decode cX3_tower 144 = .ok (.invokestatic 73, 3) := dk_184 0 73 (dk_at dksX3_tower_6 3 rfl rfl)
theorem dX3_tower_147 : decode cX3_tower 147 = .ok (.iconst (-1), 1) := dk_2 (dk_at dksX3_tower_6 6 rfl rfl)
theorem dX3_tower_148 : decode cX3_tower 148 = .ok (.iastore, 1) := dk_79 (dk_at dksX3_tower_6 7 rfl rfl)
theorem dX3_tower_149 : decode cX3_tower 149 = .ok (.aload_n 0, 1) := dk_42 (dk_at dksX3_tower_6 8 rfl rfl)
theorem dX3_tower_150 : decode cX3_tower 150 = .ok (.getfield 13, 3) := dk_180 0 13 (dk_at dksX3_tower_6 9 rfl rfl)
theorem dX3_tower_153 : decode cX3_tower 153 = .ok (.iload 4, 2) := dk_21 4 (dk_at dksX3_tower_6 12 rfl rfl)
theorem dX3_tower_155 : decode cX3_tower 155 = .ok (.iconst 4, 1) := dk_7 (dk_at dksX3_tower_6 14 rfl rfl)
theorem dX3_tower_156 : decode cX3_tower 156 = .ok (.invokestatic 73, 3) := dk_184 0 73 (dk_at dksX3_tower_6 15 rfl rfl)
theorem dX3_tower_159 : decode cX3_tower 159 = .ok (.iconst 0, 1) := dk_3 (dk_at dksX3_tower_6 18 rfl rfl)
theorem dX3_tower_160 : decode cX3_tower 160 = .ok (.iastore, 1) := dk_79 (dk_at dksX3_tower_6 19 rfl rfl)
theorem dX3_tower_161 : decode cX3_tower 161 = .ok (.aload_n 0, 1) := dk_42 (dk_at dksX3_tower_6 20 rfl rfl)
theorem dX3_tower_162 : decode cX3_tower 162 = .ok (.getfield 13, 3) := dk_180 0 13 (dk_at dksX3_tower_6 21 rfl rfl)
theorem dX3_tower_165 : decode cX3_tower 165 = .ok (.iload 4, 2) := dk_21 4 (dk_at dksX3_tower_7 0 rfl rfl)
theorem dX3_tower_167 : decode cX3_tower 167 = .ok (.iconst 5, 1) := dk_8 (dk_at dksX3_tower_7 2 rfl rfl)
theorem dX3_tower_168 : decode cX3_tower 168 = .ok (.invokestatic 73, 3) := dk_184 0 73 (dk_at dksX3_tower_7 3 rfl rfl)
theorem dX3_tower_171 : decode cX3_tower 171 = .ok (.iconst 0, 1) := dk_3 (dk_at dksX3_tower_7 6 rfl rfl)
theorem dX3_tower_172 : decode cX3_tower 172 = .ok (.iastore, 1) := dk_79 (dk_at dksX3_tower_7 7 rfl rfl)
theorem dX3_tower_173 : decode cX3_tower 173 = .ok (.aload_n 0, 1) := dk_42 (dk_at dksX3_tower_7 8 rfl rfl)
theorem dX3_tower_174 : decode cX3_tower 174 = .ok (.getfield 13, 3) := dk_180 0 13 (dk_at dksX3_tower_7 9 rfl rfl)
theorem dX3_tower_177 : decode cX3_tower 177 = .ok (.iload 4, 2) := dk_21 4 (dk_at dksX3_tower_7 12 rfl rfl)
theorem dX3_tower_179 : decode cX3_tower 179 = .ok (.bipush 6, 2) := dk_16 6 (dk_at dksX3_tower_7 14 rfl rfl)
theorem dX3_tower_181 : decode cX3_tower 181 = .ok (.invokestatic 73, 3) := dk_184 0 73 (dk_at dksX3_tower_7 16 rfl rfl)
theorem dX3_tower_184 : decode cX3_tower 184 = .ok (.iconst 2, 1) := dk_5 (dk_at dksX3_tower_7 19 rfl rfl)
theorem dX3_tower_185 : decode cX3_tower 185 = .ok (.iastore, 1) := dk_79 (dk_at dksX3_tower_7 20 rfl rfl)
theorem dX3_tower_186 : decode cX3_tower 186 = .ok (.aload_n 0, 1) := dk_42 (dk_at dksX3_tower_7 21 rfl rfl)
theorem dX3_tower_187 : decode cX3_tower 187 = .ok (.getfield 13, 3) := dk_180 0 13 (dk_at dksX3_tower_8 0 rfl rfl)
theorem dX3_tower_190 : decode cX3_tower 190 = .ok (.iload 4, 2) := dk_21 4 (dk_at dksX3_tower_8 3 rfl rfl)
theorem dX3_tower_192 : decode cX3_tower 192 = .ok (.bipush 7, 2) := dk_16 7 (dk_at dksX3_tower_8 5 rfl rfl)
theorem dX3_tower_194 : decode cX3_tower 194 = .ok (.invokestatic 73, 3) := dk_184 0 73 (dk_at dksX3_tower_8 7 rfl rfl)
theorem dX3_tower_197 : decode cX3_tower 197 = .ok (.iconst 2, 1) := dk_5 (dk_at dksX3_tower_8 10 rfl rfl)
theorem dX3_tower_198 : decode cX3_tower 198 = .ok (.iastore, 1) := dk_79 (dk_at dksX3_tower_8 11 rfl rfl)
theorem dX3_tower_199 : decode cX3_tower 199 = .ok (.aload_n 0, 1) := dk_42 (dk_at dksX3_tower_8 12 rfl rfl)
theorem dX3_tower_200 : decode cX3_tower 200 = .ok (.getfield 13, 3) := dk_180 0 13 (dk_at dksX3_tower_8 13 rfl rfl)
theorem dX3_tower_203 : decode cX3_tower 203 = .ok (.bipush 10, 2) := dk_16 10 (dk_at dksX3_tower_8 16 rfl rfl)
theorem dX3_tower_205 : decode cX3_tower 205 = .ok (.dup2, 1) := dk_92 (dk_at dksX3_tower_8 18 rfl rfl)
theorem dX3_tower_206 : decode cX3_tower 206 = .ok (.iaload, 1) := dk_46 (dk_at dksX3_tower_8 19 rfl rfl)
theorem dX3_tower_207 : decode cX3_tower 207 = .ok (.iconst 1, 1) := dk_4 (dk_at dksX3_tower_8 20 rfl rfl)
theorem dX3_tower_208 : decode cX3_tower 208 = .ok (.iadd, 1) := dk_96 (dk_at dksX3_tower_8 21 rfl rfl)
theorem dX3_tower_209 : decode cX3_tower 209 = .ok (.iastore, 1) := dk_79 (dk_at dksX3_tower_8 22 rfl rfl)
theorem dX3_tower_210 : decode cX3_tower 210 = .ok (.aload_n 0, 1) := dk_42 (dk_at dksX3_tower_8 23 rfl rfl)
theorem dX3_tower_211 : decode cX3_tower 211 = .ok (.invokevirtual 141, 3) := dk_182 0 141 (dk_at dksX3_tower_9 0 rfl rfl)
theorem dX3_tower_214 : decode cX3_tower 214 = .ok (.iload 4, 2) := dk_21 4 (dk_at dksX3_tower_9 3 rfl rfl)
theorem dX3_tower_216 : decode cX3_tower 216 = .ok (.ireturn, 1) := dk_172 (dk_at dksX3_tower_9 5 rfl rfl)
abbrev cX3_isPlace : ByteArray := prog_13_method_14_code
def yX3_isPlace : MethodName := ⟨RX3, "isPlace", "(I)Z"⟩
def dkwX3_isPlace_0 : List UInt8 := [26, 3, 16, 60, 184, 0, 77, 172]
abbrev dktX3_isPlace_0 : List UInt8 := dkwX3_isPlace_0 ++ []
theorem dksX3_isPlace_0 : cX3_isPlace.data.toList.drop 0 = dktX3_isPlace_0 := by decide +kernel
theorem dX3_isPlace_0 : decode cX3_isPlace 0 = .ok (.iload_n 0, 1) := dk_26 (dk_at dksX3_isPlace_0 0 rfl rfl)
theorem dX3_isPlace_1 : decode cX3_isPlace 1 = .ok (.iconst 0, 1) := dk_3 (dk_at dksX3_isPlace_0 1 rfl rfl)
theorem dX3_isPlace_2 : decode cX3_isPlace 2 = .ok (.bipush 60, 2) := dk_16 60 (dk_at dksX3_isPlace_0 2 rfl rfl)
theorem dX3_isPlace_4 : decode cX3_isPlace 4 = .ok (.invokestatic 77, 3) := dk_184 0 77 (dk_at dksX3_isPlace_0 4 rfl rfl)
theorem dX3_isPlace_7 : decode cX3_isPlace 7 = .ok (.ireturn, 1) := dk_172 (dk_at dksX3_isPlace_0 7 rfl rfl)
abbrev cX3_isBetween : ByteArray := prog_13_method_6_code
def yX3_isBetween : MethodName := ⟨RX3, "isBetween", "(III)Z"⟩
def dkwX3_isBetween_0 : List UInt8 := [27, 26, 163, 0, 12, 26, 28, 163, 0, 7, 4, 167, 0, 4, 3, 172]
abbrev dktX3_isBetween_0 : List UInt8 := dkwX3_isBetween_0 ++ []
theorem dksX3_isBetween_0 : cX3_isBetween.data.toList.drop 0 = dktX3_isBetween_0 := by decide +kernel
theorem dX3_isBetween_0 : decode cX3_isBetween 0 = .ok (.iload_n 1, 1) := dk_27 (dk_at dksX3_isBetween_0 0 rfl rfl)
theorem dX3_isBetween_1 : decode cX3_isBetween 1 = .ok (.iload_n 0, 1) := dk_26 (dk_at dksX3_isBetween_0 1 rfl rfl)
theorem dX3_isBetween_2 : decode cX3_isBetween 2 = .ok (.if_icmp .gt 12, 3) := dk_163 0 12 (dk_at dksX3_isBetween_0 2 rfl rfl)
theorem dX3_isBetween_5 : decode cX3_isBetween 5 = .ok (.iload_n 0, 1) := dk_26 (dk_at dksX3_isBetween_0 5 rfl rfl)
theorem dX3_isBetween_6 : decode cX3_isBetween 6 = .ok (.iload_n 2, 1) := dk_28 (dk_at dksX3_isBetween_0 6 rfl rfl)
theorem dX3_isBetween_7 : decode cX3_isBetween 7 = .ok (.if_icmp .gt 7, 3) := dk_163 0 7 (dk_at dksX3_isBetween_0 7 rfl rfl)
theorem dX3_isBetween_10 : decode cX3_isBetween 10 = .ok (.iconst 1, 1) := dk_4 (dk_at dksX3_isBetween_0 10 rfl rfl)
theorem dX3_isBetween_11 : decode cX3_isBetween 11 = .ok (.goto 4, 3) := dk_167 0 4 (dk_at dksX3_isBetween_0 11 rfl rfl)
theorem dX3_isBetween_14 : decode cX3_isBetween 14 = .ok (.iconst 0, 1) := dk_3 (dk_at dksX3_isBetween_0 14 rfl rfl)
theorem dX3_isBetween_15 : decode cX3_isBetween 15 = .ok (.ireturn, 1) := dk_172 (dk_at dksX3_isBetween_0 15 rfl rfl)
abbrev cX3_fails : ByteArray := prog_13_method_3_code
def yX3_fails : MethodName := ⟨RX3, "fails", "(I)I"⟩
def dkwX3_fails_0 : List UInt8 := [42, 27, 181, 0, 51, 3, 172]
abbrev dktX3_fails_0 : List UInt8 := dkwX3_fails_0 ++ []
theorem dksX3_fails_0 : cX3_fails.data.toList.drop 0 = dktX3_fails_0 := by decide +kernel
theorem dX3_fails_0 : decode cX3_fails 0 = .ok (.aload_n 0, 1) := dk_42 (dk_at dksX3_fails_0 0 rfl rfl)
theorem dX3_fails_1 : decode cX3_fails 1 = .ok (.iload_n 1, 1) := dk_27 (dk_at dksX3_fails_0 1 rfl rfl)
theorem dX3_fails_2 : decode cX3_fails 2 = .ok (.putfield 51, 3) := dk_181 0 51 (dk_at dksX3_fails_0 2 rfl rfl)
theorem dX3_fails_5 : decode cX3_fails 5 = .ok (.iconst 0, 1) := dk_3 (dk_at dksX3_fails_0 5 rfl rfl)
theorem dX3_fails_6 : decode cX3_fails 6 = .ok (.ireturn, 1) := dk_172 (dk_at dksX3_fails_0 6 rfl rfl)
abbrev cX3_towerAtPlace : ByteArray := prog_13_method_30_code
def yX3_towerAtPlace : MethodName := ⟨RX3, "towerAtPlace", "(I)I"⟩
def dkwX3_towerAtPlace_1 : List UInt8 := [172, 132, 2, 1, 167, 255, 230, 2, 172]
abbrev dktX3_towerAtPlace_1 : List UInt8 := dkwX3_towerAtPlace_1 ++ []
def dkwX3_towerAtPlace_0 : List UInt8 := [3, 61, 28, 42, 180, 0, 13, 16, 10, 46, 162, 0, 21, 42, 28, 3, 182, 0, 81, 27, 160, 0, 5, 28]
abbrev dktX3_towerAtPlace_0 : List UInt8 := dkwX3_towerAtPlace_0 ++ dktX3_towerAtPlace_1
theorem dksX3_towerAtPlace_0 : cX3_towerAtPlace.data.toList.drop 0 = dktX3_towerAtPlace_0 := by decide +kernel
theorem dksX3_towerAtPlace_1 : cX3_towerAtPlace.data.toList.drop 24 = dktX3_towerAtPlace_1 := dk_seg dksX3_towerAtPlace_0 24 rfl rfl
theorem dX3_towerAtPlace_0 : decode cX3_towerAtPlace 0 = .ok (.iconst 0, 1) := dk_3 (dk_at dksX3_towerAtPlace_0 0 rfl rfl)
theorem dX3_towerAtPlace_1 : decode cX3_towerAtPlace 1 = .ok (.istore_n 2, 1) := dk_61 (dk_at dksX3_towerAtPlace_0 1 rfl rfl)
theorem dX3_towerAtPlace_2 : decode cX3_towerAtPlace 2 = .ok (.iload_n 2, 1) := dk_28 (dk_at dksX3_towerAtPlace_0 2 rfl rfl)
theorem dX3_towerAtPlace_3 : decode cX3_towerAtPlace 3 = .ok (.aload_n 0, 1) := dk_42 (dk_at dksX3_towerAtPlace_0 3 rfl rfl)
theorem dX3_towerAtPlace_4 : decode cX3_towerAtPlace 4 = .ok (.getfield 13, 3) := dk_180 0 13 (dk_at dksX3_towerAtPlace_0 4 rfl rfl)
theorem dX3_towerAtPlace_7 : decode cX3_towerAtPlace 7 = .ok (.bipush 10, 2) := dk_16 10 (dk_at dksX3_towerAtPlace_0 7 rfl rfl)
theorem dX3_towerAtPlace_9 : decode cX3_towerAtPlace 9 = .ok (.iaload, 1) := dk_46 (dk_at dksX3_towerAtPlace_0 9 rfl rfl)
theorem dX3_towerAtPlace_10 : decode cX3_towerAtPlace 10 = .ok (.if_icmp .ge 21, 3) := dk_162 0 21 (dk_at dksX3_towerAtPlace_0 10 rfl rfl)
theorem dX3_towerAtPlace_13 : decode cX3_towerAtPlace 13 = .ok (.aload_n 0, 1) := dk_42 (dk_at dksX3_towerAtPlace_0 13 rfl rfl)
theorem dX3_towerAtPlace_14 : decode cX3_towerAtPlace 14 = .ok (.iload_n 2, 1) := dk_28 (dk_at dksX3_towerAtPlace_0 14 rfl rfl)
theorem dX3_towerAtPlace_15 : decode cX3_towerAtPlace 15 = .ok (.iconst 0, 1) := dk_3 (dk_at dksX3_towerAtPlace_0 15 rfl rfl)
theorem dX3_towerAtPlace_16 : decode cX3_towerAtPlace 16 = .ok (.invokevirtual 81, 3) := dk_182 0 81 (dk_at dksX3_towerAtPlace_0 16 rfl rfl)
theorem dX3_towerAtPlace_19 : decode cX3_towerAtPlace 19 = .ok (.iload_n 1, 1) := dk_27 (dk_at dksX3_towerAtPlace_0 19 rfl rfl)
theorem dX3_towerAtPlace_20 : decode cX3_towerAtPlace 20 = .ok (.if_icmp .ne 5, 3) := dk_160 0 5 (dk_at dksX3_towerAtPlace_0 20 rfl rfl)
theorem dX3_towerAtPlace_23 : decode cX3_towerAtPlace 23 = .ok (.iload_n 2, 1) := dk_28 (dk_at dksX3_towerAtPlace_0 23 rfl rfl)
theorem dX3_towerAtPlace_24 : decode cX3_towerAtPlace 24 = .ok (.ireturn, 1) := dk_172 (dk_at dksX3_towerAtPlace_1 0 rfl rfl)
theorem dX3_towerAtPlace_25 : decode cX3_towerAtPlace 25 = .ok (.iinc 2 1, 3) := dk_132 2 1 (dk_at dksX3_towerAtPlace_1 1 rfl rfl)
theorem dX3_towerAtPlace_28 : decode cX3_towerAtPlace 28 = .ok (.goto (-26), 3) := dk_167 255 230 (dk_at dksX3_towerAtPlace_1 4 rfl rfl)
theorem dX3_towerAtPlace_31 : decode cX3_towerAtPlace 31 = .ok (.iconst (-1), 1) := dk_2 (dk_at dksX3_towerAtPlace_1 7 rfl rfl)
theorem dX3_towerAtPlace_32 : decode cX3_towerAtPlace 32 = .ok (.ireturn, 1) := dk_172 (dk_at dksX3_towerAtPlace_1 8 rfl rfl)
abbrev cX3_ofTower : ByteArray := prog_13_method_12_code
def yX3_ofTower : MethodName := ⟨RX3, "ofTower", "(II)I"⟩
def dkwX3_ofTower_0 : List UInt8 := [42, 180, 0, 13, 27, 28, 184, 0, 73, 46, 172]
abbrev dktX3_ofTower_0 : List UInt8 := dkwX3_ofTower_0 ++ []
theorem dksX3_ofTower_0 : cX3_ofTower.data.toList.drop 0 = dktX3_ofTower_0 := by decide +kernel
theorem dX3_ofTower_0 : decode cX3_ofTower 0 = .ok (.aload_n 0, 1) := dk_42 (dk_at dksX3_ofTower_0 0 rfl rfl)
theorem dX3_ofTower_1 : decode cX3_ofTower 1 = .ok (.getfield 13, 3) := dk_180 0 13 (dk_at dksX3_ofTower_0 1 rfl rfl)
theorem dX3_ofTower_4 : decode cX3_ofTower 4 = .ok (.iload_n 1, 1) := dk_27 (dk_at dksX3_ofTower_0 4 rfl rfl)
theorem dX3_ofTower_5 : decode cX3_ofTower 5 = .ok (.iload_n 2, 1) := dk_28 (dk_at dksX3_ofTower_0 5 rfl rfl)
theorem dX3_ofTower_6 : decode cX3_ofTower 6 = .ok (.invokestatic 73, 3) := dk_184 0 73 (dk_at dksX3_ofTower_0 6 rfl rfl)
theorem dX3_ofTower_9 : decode cX3_ofTower 9 = .ok (.iaload, 1) := dk_46 (dk_at dksX3_ofTower_0 9 rfl rfl)
theorem dX3_ofTower_10 : decode cX3_ofTower 10 = .ok (.ireturn, 1) := dk_172 (dk_at dksX3_ofTower_0 10 rfl rfl)
abbrev cX3_towerAt : ByteArray := prog_13_method_10_code
def yX3_towerAt : MethodName := ⟨RX3, "towerAt", "(II)I"⟩
def dkwX3_towerAt_0 : List UInt8 := [16, 25, 16, 8, 26, 104, 96, 27, 96, 172]
abbrev dktX3_towerAt_0 : List UInt8 := dkwX3_towerAt_0 ++ []
theorem dksX3_towerAt_0 : cX3_towerAt.data.toList.drop 0 = dktX3_towerAt_0 := by decide +kernel
theorem dX3_towerAt_0 : decode cX3_towerAt 0 = .ok (.bipush 25, 2) := dk_16 25 (dk_at dksX3_towerAt_0 0 rfl rfl)
theorem dX3_towerAt_2 : decode cX3_towerAt 2 = .ok (.bipush 8, 2) := dk_16 8 (dk_at dksX3_towerAt_0 2 rfl rfl)
theorem dX3_towerAt_4 : decode cX3_towerAt 4 = .ok (.iload_n 0, 1) := dk_26 (dk_at dksX3_towerAt_0 4 rfl rfl)
theorem dX3_towerAt_5 : decode cX3_towerAt 5 = .ok (.imul, 1) := dk_104 (dk_at dksX3_towerAt_0 5 rfl rfl)
theorem dX3_towerAt_6 : decode cX3_towerAt 6 = .ok (.iadd, 1) := dk_96 (dk_at dksX3_towerAt_0 6 rfl rfl)
theorem dX3_towerAt_7 : decode cX3_towerAt 7 = .ok (.iload_n 1, 1) := dk_27 (dk_at dksX3_towerAt_0 7 rfl rfl)
theorem dX3_towerAt_8 : decode cX3_towerAt 8 = .ok (.iadd, 1) := dk_96 (dk_at dksX3_towerAt_0 8 rfl rfl)
theorem dX3_towerAt_9 : decode cX3_towerAt 9 = .ok (.ireturn, 1) := dk_172 (dk_at dksX3_towerAt_0 9 rfl rfl)
abbrev cX3_hinders : ByteArray := prog_13_method_4_code
def yX3_hinders : MethodName := ⟨RX3, "hinders", "(II)Z"⟩
def dkwX3_hinders_0 : List UInt8 := [42, 27, 181, 0, 54, 42, 28, 181, 0, 57, 4, 172]
abbrev dktX3_hinders_0 : List UInt8 := dkwX3_hinders_0 ++ []
theorem dksX3_hinders_0 : cX3_hinders.data.toList.drop 0 = dktX3_hinders_0 := by decide +kernel
theorem dX3_hinders_0 : decode cX3_hinders 0 = .ok (.aload_n 0, 1) := dk_42 (dk_at dksX3_hinders_0 0 rfl rfl)
theorem dX3_hinders_1 : decode cX3_hinders 1 = .ok (.iload_n 1, 1) := dk_27 (dk_at dksX3_hinders_0 1 rfl rfl)
theorem dX3_hinders_2 : decode cX3_hinders 2 = .ok (.putfield 54, 3) := dk_181 0 54 (dk_at dksX3_hinders_0 2 rfl rfl)
theorem dX3_hinders_5 : decode cX3_hinders 5 = .ok (.aload_n 0, 1) := dk_42 (dk_at dksX3_hinders_0 5 rfl rfl)
theorem dX3_hinders_6 : decode cX3_hinders 6 = .ok (.iload_n 2, 1) := dk_28 (dk_at dksX3_hinders_0 6 rfl rfl)
theorem dX3_hinders_7 : decode cX3_hinders 7 = .ok (.putfield 57, 3) := dk_181 0 57 (dk_at dksX3_hinders_0 7 rfl rfl)
theorem dX3_hinders_10 : decode cX3_hinders 10 = .ok (.iconst 1, 1) := dk_4 (dk_at dksX3_hinders_0 10 rfl rfl)
theorem dX3_hinders_11 : decode cX3_hinders 11 = .ok (.ireturn, 1) := dk_172 (dk_at dksX3_hinders_0 11 rfl rfl)
abbrev cX3_refuses : ByteArray := prog_13_method_5_code
def yX3_refuses : MethodName := ⟨RX3, "refuses", "(I)I"⟩
def dkwX3_refuses_1 : List UInt8 := [181, 0, 60, 42, 27, 182, 0, 63, 172]
abbrev dktX3_refuses_1 : List UInt8 := dkwX3_refuses_1 ++ []
def dkwX3_refuses_0 : List UInt8 := [42, 180, 0, 7, 3, 42, 180, 0, 54, 79, 42, 180, 0, 7, 4, 42, 180, 0, 57, 79, 42, 4]
abbrev dktX3_refuses_0 : List UInt8 := dkwX3_refuses_0 ++ dktX3_refuses_1
theorem dksX3_refuses_0 : cX3_refuses.data.toList.drop 0 = dktX3_refuses_0 := by decide +kernel
theorem dksX3_refuses_1 : cX3_refuses.data.toList.drop 22 = dktX3_refuses_1 := dk_seg dksX3_refuses_0 22 rfl rfl
theorem dX3_refuses_0 : decode cX3_refuses 0 = .ok (.aload_n 0, 1) := dk_42 (dk_at dksX3_refuses_0 0 rfl rfl)
theorem dX3_refuses_1 : decode cX3_refuses 1 = .ok (.getfield 7, 3) := dk_180 0 7 (dk_at dksX3_refuses_0 1 rfl rfl)
theorem dX3_refuses_4 : decode cX3_refuses 4 = .ok (.iconst 0, 1) := dk_3 (dk_at dksX3_refuses_0 4 rfl rfl)
theorem dX3_refuses_5 : decode cX3_refuses 5 = .ok (.aload_n 0, 1) := dk_42 (dk_at dksX3_refuses_0 5 rfl rfl)
theorem dX3_refuses_6 : decode cX3_refuses 6 = .ok (.getfield 54, 3) := dk_180 0 54 (dk_at dksX3_refuses_0 6 rfl rfl)
theorem dX3_refuses_9 : decode cX3_refuses 9 = .ok (.iastore, 1) := dk_79 (dk_at dksX3_refuses_0 9 rfl rfl)
theorem dX3_refuses_10 : decode cX3_refuses 10 = .ok (.aload_n 0, 1) := dk_42 (dk_at dksX3_refuses_0 10 rfl rfl)
theorem dX3_refuses_11 : decode cX3_refuses 11 = .ok (.getfield 7, 3) := dk_180 0 7 (dk_at dksX3_refuses_0 11 rfl rfl)
theorem dX3_refuses_14 : decode cX3_refuses 14 = .ok (.iconst 1, 1) := dk_4 (dk_at dksX3_refuses_0 14 rfl rfl)
theorem dX3_refuses_15 : decode cX3_refuses 15 = .ok (.aload_n 0, 1) := dk_42 (dk_at dksX3_refuses_0 15 rfl rfl)
theorem dX3_refuses_16 : decode cX3_refuses 16 = .ok (.getfield 57, 3) := dk_180 0 57 (dk_at dksX3_refuses_0 16 rfl rfl)
theorem dX3_refuses_19 : decode cX3_refuses 19 = .ok (.iastore, 1) := dk_79 (dk_at dksX3_refuses_0 19 rfl rfl)
theorem dX3_refuses_20 : decode cX3_refuses 20 = .ok (.aload_n 0, 1) := dk_42 (dk_at dksX3_refuses_0 20 rfl rfl)
theorem dX3_refuses_21 : decode cX3_refuses 21 = .ok (.iconst 1, 1) := dk_4 (dk_at dksX3_refuses_0 21 rfl rfl)
theorem dX3_refuses_22 : decode cX3_refuses 22 = .ok (.putfield 60, 3) := dk_181 0 60 (dk_at dksX3_refuses_1 0 rfl rfl)
theorem dX3_refuses_25 : decode cX3_refuses 25 = .ok (.aload_n 0, 1) := dk_42 (dk_at dksX3_refuses_1 3 rfl rfl)
theorem dX3_refuses_26 : decode cX3_refuses 26 = .ok (.iload_n 1, 1) := dk_27 (dk_at dksX3_refuses_1 4 rfl rfl)
theorem dX3_refuses_27 : decode cX3_refuses 27 = .ok (.invokevirtual 63, 3) := dk_182 0 63 (dk_at dksX3_refuses_1 5 rfl rfl)
theorem dX3_refuses_30 : decode cX3_refuses 30 = .ok (.ireturn, 1) := dk_172 (dk_at dksX3_refuses_1 8 rfl rfl)
abbrev cX3_notes : ByteArray := prog_13_method_7_code
def yX3_notes : MethodName := ⟨RX3, "notes", "()V"⟩
def dkwX3_notes_1 : List UInt8 := [167, 255, 234, 177]
abbrev dktX3_notes_1 : List UInt8 := dkwX3_notes_1 ++ []
def dkwX3_notes_0 : List UInt8 := [3, 60, 27, 17, 0, 128, 162, 0, 21, 42, 180, 0, 22, 27, 42, 180, 0, 13, 27, 46, 79, 132, 1, 1]
abbrev dktX3_notes_0 : List UInt8 := dkwX3_notes_0 ++ dktX3_notes_1
theorem dksX3_notes_0 : cX3_notes.data.toList.drop 0 = dktX3_notes_0 := by decide +kernel
theorem dksX3_notes_1 : cX3_notes.data.toList.drop 24 = dktX3_notes_1 := dk_seg dksX3_notes_0 24 rfl rfl
theorem dX3_notes_0 : decode cX3_notes 0 = .ok (.iconst 0, 1) := dk_3 (dk_at dksX3_notes_0 0 rfl rfl)
theorem dX3_notes_1 : decode cX3_notes 1 = .ok (.istore_n 1, 1) := dk_60 (dk_at dksX3_notes_0 1 rfl rfl)
theorem dX3_notes_2 : decode cX3_notes 2 = .ok (.iload_n 1, 1) := dk_27 (dk_at dksX3_notes_0 2 rfl rfl)
theorem dX3_notes_3 : decode cX3_notes 3 = .ok (.sipush 128, 3) := dk_17 0 128 (dk_at dksX3_notes_0 3 rfl rfl)
theorem dX3_notes_6 : decode cX3_notes 6 = .ok (.if_icmp .ge 21, 3) := dk_162 0 21 (dk_at dksX3_notes_0 6 rfl rfl)
theorem dX3_notes_9 : decode cX3_notes 9 = .ok (.aload_n 0, 1) := dk_42 (dk_at dksX3_notes_0 9 rfl rfl)
theorem dX3_notes_10 : decode cX3_notes 10 = .ok (.getfield 22, 3) := dk_180 0 22 (dk_at dksX3_notes_0 10 rfl rfl)
theorem dX3_notes_13 : decode cX3_notes 13 = .ok (.iload_n 1, 1) := dk_27 (dk_at dksX3_notes_0 13 rfl rfl)
theorem dX3_notes_14 : decode cX3_notes 14 = .ok (.aload_n 0, 1) := dk_42 (dk_at dksX3_notes_0 14 rfl rfl)
theorem dX3_notes_15 : decode cX3_notes 15 = .ok (.getfield 13, 3) := dk_180 0 13 (dk_at dksX3_notes_0 15 rfl rfl)
theorem dX3_notes_18 : decode cX3_notes 18 = .ok (.iload_n 1, 1) := dk_27 (dk_at dksX3_notes_0 18 rfl rfl)
theorem dX3_notes_19 : decode cX3_notes 19 = .ok (.iaload, 1) := dk_46 (dk_at dksX3_notes_0 19 rfl rfl)
theorem dX3_notes_20 : decode cX3_notes 20 = .ok (.iastore, 1) := dk_79 (dk_at dksX3_notes_0 20 rfl rfl)
theorem dX3_notes_21 : decode cX3_notes 21 = .ok (.iinc 1 1, 3) := dk_132 1 1 (dk_at dksX3_notes_0 21 rfl rfl)
theorem dX3_notes_24 : decode cX3_notes 24 = .ok (.goto (-22), 3) := dk_167 255 234 (dk_at dksX3_notes_1 0 rfl rfl)
theorem dX3_notes_27 : decode cX3_notes 27 = .ok (.return_, 1) := dk_177 (dk_at dksX3_notes_1 3 rfl rfl)
abbrev cX3_isDone : ByteArray := prog_13_method_29_code
def yX3_isDone : MethodName := ⟨RX3, "isDone", "()V"⟩
def dkwX3_isDone_0 : List UInt8 := [42, 182, 0, 120, 42, 182, 0, 123, 177]
abbrev dktX3_isDone_0 : List UInt8 := dkwX3_isDone_0 ++ []
theorem dksX3_isDone_0 : cX3_isDone.data.toList.drop 0 = dktX3_isDone_0 := by decide +kernel
theorem dX3_isDone_0 : decode cX3_isDone 0 = .ok (.aload_n 0, 1) := dk_42 (dk_at dksX3_isDone_0 0 rfl rfl)
theorem dX3_isDone_1 : decode cX3_isDone 1 = .ok (.invokevirtual 120, 3) := dk_182 0 120 (dk_at dksX3_isDone_0 1 rfl rfl)
theorem dX3_isDone_4 : decode cX3_isDone 4 = .ok (.aload_n 0, 1) := dk_42 (dk_at dksX3_isDone_0 4 rfl rfl)
theorem dX3_isDone_5 : decode cX3_isDone 5 = .ok (.invokevirtual 123, 3) := dk_182 0 123 (dk_at dksX3_isDone_0 5 rfl rfl)
theorem dX3_isDone_8 : decode cX3_isDone 8 = .ok (.return_, 1) := dk_177 (dk_at dksX3_isDone_0 8 rfl rfl)
abbrev cX3_settles : ByteArray := prog_13_method_28_code
def yX3_settles : MethodName := ⟨RX3, "settles", "()V"⟩
def dkwX3_settles_4 : List UInt8 := [182, 0, 116, 60, 167, 255, 226, 177]
abbrev dktX3_settles_4 : List UInt8 := dkwX3_settles_4 ++ []
def dkwX3_settles_3 : List UInt8 := [42, 180, 0, 13, 27, 7, 184, 0, 73, 3, 79, 42, 180, 0, 13, 4, 92, 46, 4, 96, 79, 42]
abbrev dktX3_settles_3 : List UInt8 := dkwX3_settles_3 ++ dktX3_settles_4
def dkwX3_settles_2 : List UInt8 := [180, 0, 13, 5, 92, 46, 4, 96, 79, 132, 1, 1, 167, 255, 201, 42, 182, 0, 116, 60, 27, 155, 0, 32]
abbrev dktX3_settles_2 : List UInt8 := dkwX3_settles_2 ++ dktX3_settles_3
def dkwX3_settles_1 : List UInt8 := [182, 0, 90, 8, 161, 0, 6, 167, 0, 24, 42, 180, 0, 13, 27, 7, 184, 0, 73, 3, 79, 42]
abbrev dktX3_settles_1 : List UInt8 := dkwX3_settles_1 ++ dktX3_settles_2
def dkwX3_settles_0 : List UInt8 := [3, 60, 27, 42, 180, 0, 13, 16, 10, 46, 162, 0, 50, 42, 27, 182, 0, 109, 153, 0, 36, 42, 27]
abbrev dktX3_settles_0 : List UInt8 := dkwX3_settles_0 ++ dktX3_settles_1
theorem dksX3_settles_0 : cX3_settles.data.toList.drop 0 = dktX3_settles_0 := by decide +kernel
theorem dksX3_settles_1 : cX3_settles.data.toList.drop 23 = dktX3_settles_1 := dk_seg dksX3_settles_0 23 rfl rfl
theorem dksX3_settles_2 : cX3_settles.data.toList.drop 45 = dktX3_settles_2 := dk_seg dksX3_settles_1 22 rfl rfl
theorem dksX3_settles_3 : cX3_settles.data.toList.drop 69 = dktX3_settles_3 := dk_seg dksX3_settles_2 24 rfl rfl
theorem dksX3_settles_4 : cX3_settles.data.toList.drop 91 = dktX3_settles_4 := dk_seg dksX3_settles_3 22 rfl rfl
theorem dX3_settles_0 : decode cX3_settles 0 = .ok (.iconst 0, 1) := dk_3 (dk_at dksX3_settles_0 0 rfl rfl)
theorem dX3_settles_1 : decode cX3_settles 1 = .ok (.istore_n 1, 1) := dk_60 (dk_at dksX3_settles_0 1 rfl rfl)
theorem dX3_settles_2 : decode cX3_settles 2 = .ok (.iload_n 1, 1) := dk_27 (dk_at dksX3_settles_0 2 rfl rfl)
theorem dX3_settles_3 : decode cX3_settles 3 = .ok (.aload_n 0, 1) := dk_42 (dk_at dksX3_settles_0 3 rfl rfl)
theorem dX3_settles_4 : decode cX3_settles 4 = .ok (.getfield 13, 3) := dk_180 0 13 (dk_at dksX3_settles_0 4 rfl rfl)
theorem dX3_settles_7 : decode cX3_settles 7 = .ok (.bipush 10, 2) := dk_16 10 (dk_at dksX3_settles_0 7 rfl rfl)
theorem dX3_settles_9 : decode cX3_settles 9 = .ok (.iaload, 1) := dk_46 (dk_at dksX3_settles_0 9 rfl rfl)
theorem dX3_settles_10 : decode cX3_settles 10 = .ok (.if_icmp .ge 50, 3) := dk_162 0 50 (dk_at dksX3_settles_0 10 rfl rfl)
theorem dX3_settles_13 : decode cX3_settles 13 = .ok (.aload_n 0, 1) := dk_42 (dk_at dksX3_settles_0 13 rfl rfl)
theorem dX3_settles_14 : decode cX3_settles 14 = .ok (.iload_n 1, 1) := dk_27 (dk_at dksX3_settles_0 14 rfl rfl)
theorem dX3_settles_15 : decode cX3_settles 15 = .ok (.invokevirtual 109, 3) := dk_182 0 109 (dk_at dksX3_settles_0 15 rfl rfl)
theorem dX3_settles_18 : decode cX3_settles 18 = .ok (.ifCond .eq 36, 3) := dk_153 0 36 (dk_at dksX3_settles_0 18 rfl rfl)
theorem dX3_settles_21 : decode cX3_settles 21 = .ok (.aload_n 0, 1) := dk_42 (dk_at dksX3_settles_0 21 rfl rfl)
theorem dX3_settles_22 : decode cX3_settles 22 = .ok (.iload_n 1, 1) := dk_27 (dk_at dksX3_settles_0 22 rfl rfl)
theorem dX3_settles_23 : decode cX3_settles 23 = .ok (.invokevirtual 90, 3) := dk_182 0 90 (dk_at dksX3_settles_1 0 rfl rfl)
theorem dX3_settles_26 : decode cX3_settles 26 = .ok (.iconst 5, 1) := dk_8 (dk_at dksX3_settles_1 3 rfl rfl)
theorem dX3_settles_27 : decode cX3_settles 27 = .ok (.if_icmp .lt 6, 3) := dk_161 0 6 (dk_at dksX3_settles_1 4 rfl rfl)
theorem dX3_settles_30 : decode cX3_settles 30 = .ok (.goto 24, 3) := dk_167 0 24 (dk_at dksX3_settles_1 7 rfl rfl)
theorem dX3_settles_33 : decode cX3_settles 33 = .ok (.aload_n 0, 1) := dk_42 (dk_at dksX3_settles_1 10 rfl rfl)
theorem dX3_settles_34 : decode cX3_settles 34 = .ok (.getfield 13, 3) := dk_180 0 13 (dk_at dksX3_settles_1 11 rfl rfl)
theorem dX3_settles_37 : decode cX3_settles 37 = .ok (.iload_n 1, 1) := dk_27 (dk_at dksX3_settles_1 14 rfl rfl)
theorem dX3_settles_38 : decode cX3_settles 38 = .ok (.iconst 4, 1) := dk_7 (dk_at dksX3_settles_1 15 rfl rfl)
theorem dX3_settles_39 : decode cX3_settles 39 = .ok (.invokestatic 73, 3) := dk_184 0 73 (dk_at dksX3_settles_1 16 rfl rfl)
theorem dX3_settles_42 : decode cX3_settles 42 = .ok (.iconst 0, 1) := dk_3 (dk_at dksX3_settles_1 19 rfl rfl)
theorem dX3_settles_43 : decode cX3_settles 43 = .ok (.iastore, 1) := dk_79 (dk_at dksX3_settles_1 20 rfl rfl)
theorem dX3_settles_44 : decode cX3_settles 44 = .ok (.aload_n 0, 1) := dk_42 (dk_at dksX3_settles_1 21 rfl rfl)
theorem dX3_settles_45 : decode cX3_settles 45 = .ok (.getfield 13, 3) := dk_180 0 13 (dk_at dksX3_settles_2 0 rfl rfl)
theorem dX3_settles_48 : decode cX3_settles 48 = .ok (.iconst 2, 1) := dk_5 (dk_at dksX3_settles_2 3 rfl rfl)
theorem dX3_settles_49 : decode cX3_settles 49 = .ok (.dup2, 1) := dk_92 (dk_at dksX3_settles_2 4 rfl rfl)
theorem dX3_settles_50 : decode cX3_settles 50 = .ok (.iaload, 1) := dk_46 (dk_at dksX3_settles_2 5 rfl rfl)
theorem dX3_settles_51 : decode cX3_settles 51 = .ok (.iconst 1, 1) := dk_4 (dk_at dksX3_settles_2 6 rfl rfl)
theorem dX3_settles_52 : decode cX3_settles 52 = .ok (.iadd, 1) := dk_96 (dk_at dksX3_settles_2 7 rfl rfl)
theorem dX3_settles_53 : decode cX3_settles 53 = .ok (.iastore, 1) := dk_79 (dk_at dksX3_settles_2 8 rfl rfl)
theorem dX3_settles_54 : decode cX3_settles 54 = .ok (.iinc 1 1, 3) := dk_132 1 1 (dk_at dksX3_settles_2 9 rfl rfl)
theorem dX3_settles_57 : decode cX3_settles 57 = .ok (.goto (-55), 3) := dk_167 255 201 (dk_at dksX3_settles_2 12 rfl rfl)
theorem dX3_settles_60 : decode cX3_settles 60 = .ok (.aload_n 0, 1) := dk_42 (dk_at dksX3_settles_2 15 rfl rfl)
theorem dX3_settles_61 : decode cX3_settles 61 = .ok (.invokevirtual 116, 3) := dk_182 0 116 (dk_at dksX3_settles_2 16 rfl rfl)
theorem dX3_settles_64 : decode cX3_settles 64 = .ok (.istore_n 1, 1) := dk_60 (dk_at dksX3_settles_2 19 rfl rfl)
theorem dX3_settles_65 : decode cX3_settles 65 = .ok (.iload_n 1, 1) := dk_27 (dk_at dksX3_settles_2 20 rfl rfl)
theorem dX3_settles_66 : decode cX3_settles 66 = .ok (.ifCond .lt 32, 3) := dk_155 0 32 (dk_at dksX3_settles_2 21 rfl rfl)
theorem dX3_settles_69 : decode cX3_settles 69 = .ok (.aload_n 0, 1) := dk_42 (dk_at dksX3_settles_3 0 rfl rfl)
theorem dX3_settles_70 : decode cX3_settles 70 = .ok (.getfield 13, 3) := dk_180 0 13 (dk_at dksX3_settles_3 1 rfl rfl)
theorem dX3_settles_73 : decode cX3_settles 73 = .ok (.iload_n 1, 1) := dk_27 (dk_at dksX3_settles_3 4 rfl rfl)
theorem dX3_settles_74 : decode cX3_settles 74 = .ok (.iconst 4, 1) := dk_7 (dk_at dksX3_settles_3 5 rfl rfl)
theorem dX3_settles_75 : decode cX3_settles 75 = .ok (.invokestatic 73, 3) := dk_184 0 73 (dk_at dksX3_settles_3 6 rfl rfl)
theorem dX3_settles_78 : decode cX3_settles 78 = .ok (.iconst 0, 1) := dk_3 (dk_at dksX3_settles_3 9 rfl rfl)
theorem dX3_settles_79 : decode cX3_settles 79 = .ok (.iastore, 1) := dk_79 (dk_at dksX3_settles_3 10 rfl rfl)
theorem dX3_settles_80 : decode cX3_settles 80 = .ok (.aload_n 0, 1) := dk_42 (dk_at dksX3_settles_3 11 rfl rfl)
theorem dX3_settles_81 : decode cX3_settles 81 = .ok (.getfield 13, 3) := dk_180 0 13 (dk_at dksX3_settles_3 12 rfl rfl)
theorem dX3_settles_84 : decode cX3_settles 84 = .ok (.iconst 1, 1) := dk_4 (dk_at dksX3_settles_3 15 rfl rfl)
theorem dX3_settles_85 : decode cX3_settles 85 = .ok (.dup2, 1) := dk_92 (dk_at dksX3_settles_3 16 rfl rfl)
theorem dX3_settles_86 : decode cX3_settles 86 = .ok (.iaload, 1) := dk_46 (dk_at dksX3_settles_3 17 rfl rfl)
theorem dX3_settles_87 : decode cX3_settles 87 = .ok (.iconst 1, 1) := dk_4 (dk_at dksX3_settles_3 18 rfl rfl)
theorem dX3_settles_88 : decode cX3_settles 88 = .ok (.iadd, 1) := dk_96 (dk_at dksX3_settles_3 19 rfl rfl)
theorem dX3_settles_89 : decode cX3_settles 89 = .ok (.iastore, 1) := dk_79 (dk_at dksX3_settles_3 20 rfl rfl)
theorem dX3_settles_90 : decode cX3_settles 90 = .ok (.aload_n 0, 1) := dk_42 (dk_at dksX3_settles_3 21 rfl rfl)
theorem dX3_settles_91 : decode cX3_settles 91 = .ok (.invokevirtual 116, 3) := dk_182 0 116 (dk_at dksX3_settles_4 0 rfl rfl)
theorem dX3_settles_94 : decode cX3_settles 94 = .ok (.istore_n 1, 1) := dk_60 (dk_at dksX3_settles_4 3 rfl rfl)
theorem dX3_settles_95 : decode cX3_settles 95 = .ok (.goto (-30), 3) := dk_167 255 226 (dk_at dksX3_settles_4 4 rfl rfl)
theorem dX3_settles_98 : decode cX3_settles 98 = .ok (.return_, 1) := dk_177 (dk_at dksX3_settles_4 7 rfl rfl)
abbrev cX3_isLit : ByteArray := prog_13_method_16_code
def yX3_isLit : MethodName := ⟨RX3, "isLit", "(I)Z"⟩
def dkwX3_isLit_0 : List UInt8 := [42, 27, 7, 182, 0, 81, 4, 160, 0, 7, 4, 167, 0, 4, 3, 172]
abbrev dktX3_isLit_0 : List UInt8 := dkwX3_isLit_0 ++ []
theorem dksX3_isLit_0 : cX3_isLit.data.toList.drop 0 = dktX3_isLit_0 := by decide +kernel
theorem dX3_isLit_0 : decode cX3_isLit 0 = .ok (.aload_n 0, 1) := dk_42 (dk_at dksX3_isLit_0 0 rfl rfl)
theorem dX3_isLit_1 : decode cX3_isLit 1 = .ok (.iload_n 1, 1) := dk_27 (dk_at dksX3_isLit_0 1 rfl rfl)
theorem dX3_isLit_2 : decode cX3_isLit 2 = .ok (.iconst 4, 1) := dk_7 (dk_at dksX3_isLit_0 2 rfl rfl)
theorem dX3_isLit_3 : decode cX3_isLit 3 = .ok (.invokevirtual 81, 3) := dk_182 0 81 (dk_at dksX3_isLit_0 3 rfl rfl)
theorem dX3_isLit_6 : decode cX3_isLit 6 = .ok (.iconst 1, 1) := dk_4 (dk_at dksX3_isLit_0 6 rfl rfl)
theorem dX3_isLit_7 : decode cX3_isLit 7 = .ok (.if_icmp .ne 7, 3) := dk_160 0 7 (dk_at dksX3_isLit_0 7 rfl rfl)
theorem dX3_isLit_10 : decode cX3_isLit 10 = .ok (.iconst 1, 1) := dk_4 (dk_at dksX3_isLit_0 10 rfl rfl)
theorem dX3_isLit_11 : decode cX3_isLit 11 = .ok (.goto 4, 3) := dk_167 0 4 (dk_at dksX3_isLit_0 11 rfl rfl)
theorem dX3_isLit_14 : decode cX3_isLit 14 = .ok (.iconst 0, 1) := dk_3 (dk_at dksX3_isLit_0 14 rfl rfl)
theorem dX3_isLit_15 : decode cX3_isLit 15 = .ok (.ireturn, 1) := dk_172 (dk_at dksX3_isLit_0 15 rfl rfl)
abbrev cX3_powerOf : ByteArray := prog_13_method_15_code
def yX3_powerOf : MethodName := ⟨RX3, "powerOf", "(I)I"⟩
def dkwX3_powerOf_1 : List UInt8 := [184, 0, 84, 46, 172]
abbrev dktX3_powerOf_1 : List UInt8 := dkwX3_powerOf_1 ++ []
def dkwX3_powerOf_0 : List UInt8 := [42, 27, 6, 182, 0, 81, 156, 0, 7, 2, 167, 0, 18, 42, 180, 0, 13, 42, 27, 6, 182, 0, 81, 3]
abbrev dktX3_powerOf_0 : List UInt8 := dkwX3_powerOf_0 ++ dktX3_powerOf_1
theorem dksX3_powerOf_0 : cX3_powerOf.data.toList.drop 0 = dktX3_powerOf_0 := by decide +kernel
theorem dksX3_powerOf_1 : cX3_powerOf.data.toList.drop 24 = dktX3_powerOf_1 := dk_seg dksX3_powerOf_0 24 rfl rfl
theorem dX3_powerOf_0 : decode cX3_powerOf 0 = .ok (.aload_n 0, 1) := dk_42 (dk_at dksX3_powerOf_0 0 rfl rfl)
theorem dX3_powerOf_1 : decode cX3_powerOf 1 = .ok (.iload_n 1, 1) := dk_27 (dk_at dksX3_powerOf_0 1 rfl rfl)
theorem dX3_powerOf_2 : decode cX3_powerOf 2 = .ok (.iconst 3, 1) := dk_6 (dk_at dksX3_powerOf_0 2 rfl rfl)
theorem dX3_powerOf_3 : decode cX3_powerOf 3 = .ok (.invokevirtual 81, 3) := dk_182 0 81 (dk_at dksX3_powerOf_0 3 rfl rfl)
theorem dX3_powerOf_6 : decode cX3_powerOf 6 = .ok (.ifCond .ge 7, 3) := dk_156 0 7 (dk_at dksX3_powerOf_0 6 rfl rfl)
theorem dX3_powerOf_9 : decode cX3_powerOf 9 = .ok (.iconst (-1), 1) := dk_2 (dk_at dksX3_powerOf_0 9 rfl rfl)
theorem dX3_powerOf_10 : decode cX3_powerOf 10 = .ok (.goto 18, 3) := dk_167 0 18 (dk_at dksX3_powerOf_0 10 rfl rfl)
theorem dX3_powerOf_13 : decode cX3_powerOf 13 = .ok (.aload_n 0, 1) := dk_42 (dk_at dksX3_powerOf_0 13 rfl rfl)
theorem dX3_powerOf_14 : decode cX3_powerOf 14 = .ok (.getfield 13, 3) := dk_180 0 13 (dk_at dksX3_powerOf_0 14 rfl rfl)
theorem dX3_powerOf_17 : decode cX3_powerOf 17 = .ok (.aload_n 0, 1) := dk_42 (dk_at dksX3_powerOf_0 17 rfl rfl)
theorem dX3_powerOf_18 : decode cX3_powerOf 18 = .ok (.iload_n 1, 1) := dk_27 (dk_at dksX3_powerOf_0 18 rfl rfl)
theorem dX3_powerOf_19 : decode cX3_powerOf 19 = .ok (.iconst 3, 1) := dk_6 (dk_at dksX3_powerOf_0 19 rfl rfl)
theorem dX3_powerOf_20 : decode cX3_powerOf 20 = .ok (.invokevirtual 81, 3) := dk_182 0 81 (dk_at dksX3_powerOf_0 20 rfl rfl)
theorem dX3_powerOf_23 : decode cX3_powerOf 23 = .ok (.iconst 0, 1) := dk_3 (dk_at dksX3_powerOf_0 23 rfl rfl)
theorem dX3_powerOf_24 : decode cX3_powerOf 24 = .ok (.invokestatic 84, 3) := dk_184 0 84 (dk_at dksX3_powerOf_1 0 rfl rfl)
theorem dX3_powerOf_27 : decode cX3_powerOf 27 = .ok (.iaload, 1) := dk_46 (dk_at dksX3_powerOf_1 3 rfl rfl)
theorem dX3_powerOf_28 : decode cX3_powerOf 28 = .ok (.ireturn, 1) := dk_172 (dk_at dksX3_powerOf_1 4 rfl rfl)
abbrev cX3_lensAt : ByteArray := prog_13_method_11_code
def yX3_lensAt : MethodName := ⟨RX3, "lensAt", "(II)I"⟩
def dkwX3_lensAt_0 : List UInt8 := [16, 89, 6, 26, 104, 96, 27, 96, 172]
abbrev dktX3_lensAt_0 : List UInt8 := dkwX3_lensAt_0 ++ []
theorem dksX3_lensAt_0 : cX3_lensAt.data.toList.drop 0 = dktX3_lensAt_0 := by decide +kernel
theorem dX3_lensAt_0 : decode cX3_lensAt 0 = .ok (.bipush 89, 2) := dk_16 89 (dk_at dksX3_lensAt_0 0 rfl rfl)
theorem dX3_lensAt_2 : decode cX3_lensAt 2 = .ok (.iconst 3, 1) := dk_6 (dk_at dksX3_lensAt_0 2 rfl rfl)
theorem dX3_lensAt_3 : decode cX3_lensAt 3 = .ok (.iload_n 0, 1) := dk_26 (dk_at dksX3_lensAt_0 3 rfl rfl)
theorem dX3_lensAt_4 : decode cX3_lensAt 4 = .ok (.imul, 1) := dk_104 (dk_at dksX3_lensAt_0 4 rfl rfl)
theorem dX3_lensAt_5 : decode cX3_lensAt 5 = .ok (.iadd, 1) := dk_96 (dk_at dksX3_lensAt_0 5 rfl rfl)
theorem dX3_lensAt_6 : decode cX3_lensAt 6 = .ok (.iload_n 1, 1) := dk_27 (dk_at dksX3_lensAt_0 6 rfl rfl)
theorem dX3_lensAt_7 : decode cX3_lensAt 7 = .ok (.iadd, 1) := dk_96 (dk_at dksX3_lensAt_0 7 rfl rfl)
theorem dX3_lensAt_8 : decode cX3_lensAt 8 = .ok (.ireturn, 1) := dk_172 (dk_at dksX3_lensAt_0 8 rfl rfl)
abbrev cX3_mistakenOne : ByteArray := prog_13_method_27_code
def yX3_mistakenOne : MethodName := ⟨RX3, "mistakenOne", "()I"⟩
def dkwX3_mistakenOne_2 : List UInt8 := [182, 0, 113, 153, 0, 5, 28, 172, 132, 2, 1, 167, 255, 215, 132, 1, 1, 167, 255, 194, 2, 172]
abbrev dktX3_mistakenOne_2 : List UInt8 := dkwX3_mistakenOne_2 ++ []
def dkwX3_mistakenOne_1 : List UInt8 := [46, 162, 0, 36, 42, 27, 182, 0, 109, 153, 0, 28, 42, 28, 182, 0, 109, 153, 0, 14, 42, 27, 28]
abbrev dktX3_mistakenOne_1 : List UInt8 := dkwX3_mistakenOne_1 ++ dktX3_mistakenOne_2
def dkwX3_mistakenOne_0 : List UInt8 := [3, 60, 27, 42, 180, 0, 13, 16, 10, 46, 162, 0, 57, 27, 4, 96, 61, 28, 42, 180, 0, 13, 16, 10]
abbrev dktX3_mistakenOne_0 : List UInt8 := dkwX3_mistakenOne_0 ++ dktX3_mistakenOne_1
theorem dksX3_mistakenOne_0 : cX3_mistakenOne.data.toList.drop 0 = dktX3_mistakenOne_0 := by decide +kernel
theorem dksX3_mistakenOne_1 : cX3_mistakenOne.data.toList.drop 24 = dktX3_mistakenOne_1 := dk_seg dksX3_mistakenOne_0 24 rfl rfl
theorem dksX3_mistakenOne_2 : cX3_mistakenOne.data.toList.drop 47 = dktX3_mistakenOne_2 := dk_seg dksX3_mistakenOne_1 23 rfl rfl
theorem dX3_mistakenOne_0 : decode cX3_mistakenOne 0 = .ok (.iconst 0, 1) := dk_3 (dk_at dksX3_mistakenOne_0 0 rfl rfl)
theorem dX3_mistakenOne_1 : decode cX3_mistakenOne 1 = .ok (.istore_n 1, 1) := dk_60 (dk_at dksX3_mistakenOne_0 1 rfl rfl)
theorem dX3_mistakenOne_2 : decode cX3_mistakenOne 2 = .ok (.iload_n 1, 1) := dk_27 (dk_at dksX3_mistakenOne_0 2 rfl rfl)
theorem dX3_mistakenOne_3 : decode cX3_mistakenOne 3 = .ok (.aload_n 0, 1) := dk_42 (dk_at dksX3_mistakenOne_0 3 rfl rfl)
theorem dX3_mistakenOne_4 : decode cX3_mistakenOne 4 = .ok (.getfield 13, 3) := dk_180 0 13 (dk_at dksX3_mistakenOne_0 4 rfl rfl)
theorem dX3_mistakenOne_7 : decode cX3_mistakenOne 7 = .ok (.bipush 10, 2) := dk_16 10 (dk_at dksX3_mistakenOne_0 7 rfl rfl)
theorem dX3_mistakenOne_9 : decode cX3_mistakenOne 9 = .ok (.iaload, 1) := dk_46 (dk_at dksX3_mistakenOne_0 9 rfl rfl)
theorem dX3_mistakenOne_10 : decode cX3_mistakenOne 10 = .ok (.if_icmp .ge 57, 3) := dk_162 0 57 (dk_at dksX3_mistakenOne_0 10 rfl rfl)
theorem dX3_mistakenOne_13 : decode cX3_mistakenOne 13 = .ok (.iload_n 1, 1) := dk_27 (dk_at dksX3_mistakenOne_0 13 rfl rfl)
theorem dX3_mistakenOne_14 : decode cX3_mistakenOne 14 = .ok (.iconst 1, 1) := dk_4 (dk_at dksX3_mistakenOne_0 14 rfl rfl)
theorem dX3_mistakenOne_15 : decode cX3_mistakenOne 15 = .ok (.iadd, 1) := dk_96 (dk_at dksX3_mistakenOne_0 15 rfl rfl)
theorem dX3_mistakenOne_16 : decode cX3_mistakenOne 16 = .ok (.istore_n 2, 1) := dk_61 (dk_at dksX3_mistakenOne_0 16 rfl rfl)
theorem dX3_mistakenOne_17 : decode cX3_mistakenOne 17 = .ok (.iload_n 2, 1) := dk_28 (dk_at dksX3_mistakenOne_0 17 rfl rfl)
theorem dX3_mistakenOne_18 : decode cX3_mistakenOne 18 = .ok (.aload_n 0, 1) := dk_42 (dk_at dksX3_mistakenOne_0 18 rfl rfl)
theorem dX3_mistakenOne_19 : decode cX3_mistakenOne 19 = .ok (.getfield 13, 3) := dk_180 0 13 (dk_at dksX3_mistakenOne_0 19 rfl rfl)
theorem dX3_mistakenOne_22 : decode cX3_mistakenOne 22 = .ok (.bipush 10, 2) := dk_16 10 (dk_at dksX3_mistakenOne_0 22 rfl rfl)
theorem dX3_mistakenOne_24 : decode cX3_mistakenOne 24 = .ok (.iaload, 1) := dk_46 (dk_at dksX3_mistakenOne_1 0 rfl rfl)
theorem dX3_mistakenOne_25 : decode cX3_mistakenOne 25 = .ok (.if_icmp .ge 36, 3) := dk_162 0 36 (dk_at dksX3_mistakenOne_1 1 rfl rfl)
theorem dX3_mistakenOne_28 : decode cX3_mistakenOne 28 = .ok (.aload_n 0, 1) := dk_42 (dk_at dksX3_mistakenOne_1 4 rfl rfl)
theorem dX3_mistakenOne_29 : decode cX3_mistakenOne 29 = .ok (.iload_n 1, 1) := dk_27 (dk_at dksX3_mistakenOne_1 5 rfl rfl)
theorem dX3_mistakenOne_30 : decode cX3_mistakenOne 30 = .ok (.invokevirtual 109, 3) := dk_182 0 109 (dk_at dksX3_mistakenOne_1 6 rfl rfl)
theorem dX3_mistakenOne_33 : decode cX3_mistakenOne 33 = .ok (.ifCond .eq 28, 3) := dk_153 0 28 (dk_at dksX3_mistakenOne_1 9 rfl rfl)
theorem dX3_mistakenOne_36 : decode cX3_mistakenOne 36 = .ok (.aload_n 0, 1) := dk_42 (dk_at dksX3_mistakenOne_1 12 rfl rfl)
theorem dX3_mistakenOne_37 : decode cX3_mistakenOne 37 = .ok (.iload_n 2, 1) := dk_28 (dk_at dksX3_mistakenOne_1 13 rfl rfl)
theorem dX3_mistakenOne_38 : decode cX3_mistakenOne 38 = .ok (.invokevirtual 109, 3) := dk_182 0 109 (dk_at dksX3_mistakenOne_1 14 rfl rfl)
theorem dX3_mistakenOne_41 : decode cX3_mistakenOne 41 = .ok (.ifCond .eq 14, 3) := dk_153 0 14 (dk_at dksX3_mistakenOne_1 17 rfl rfl)
theorem dX3_mistakenOne_44 : decode cX3_mistakenOne 44 = .ok (.aload_n 0, 1) := dk_42 (dk_at dksX3_mistakenOne_1 20 rfl rfl)
theorem dX3_mistakenOne_45 : decode cX3_mistakenOne 45 = .ok (.iload_n 1, 1) := dk_27 (dk_at dksX3_mistakenOne_1 21 rfl rfl)
theorem dX3_mistakenOne_46 : decode cX3_mistakenOne 46 = .ok (.iload_n 2, 1) := dk_28 (dk_at dksX3_mistakenOne_1 22 rfl rfl)
theorem dX3_mistakenOne_47 : decode cX3_mistakenOne 47 = .ok (.invokevirtual 113, 3) := dk_182 0 113 (dk_at dksX3_mistakenOne_2 0 rfl rfl)
theorem dX3_mistakenOne_50 : decode cX3_mistakenOne 50 = .ok (.ifCond .eq 5, 3) := dk_153 0 5 (dk_at dksX3_mistakenOne_2 3 rfl rfl)
theorem dX3_mistakenOne_53 : decode cX3_mistakenOne 53 = .ok (.iload_n 2, 1) := dk_28 (dk_at dksX3_mistakenOne_2 6 rfl rfl)
theorem dX3_mistakenOne_54 : decode cX3_mistakenOne 54 = .ok (.ireturn, 1) := dk_172 (dk_at dksX3_mistakenOne_2 7 rfl rfl)
theorem dX3_mistakenOne_55 : decode cX3_mistakenOne 55 = .ok (.iinc 2 1, 3) := dk_132 2 1 (dk_at dksX3_mistakenOne_2 8 rfl rfl)
theorem dX3_mistakenOne_58 : decode cX3_mistakenOne 58 = .ok (.goto (-41), 3) := dk_167 255 215 (dk_at dksX3_mistakenOne_2 11 rfl rfl)
theorem dX3_mistakenOne_61 : decode cX3_mistakenOne 61 = .ok (.iinc 1 1, 3) := dk_132 1 1 (dk_at dksX3_mistakenOne_2 14 rfl rfl)
theorem dX3_mistakenOne_64 : decode cX3_mistakenOne 64 = .ok (.goto (-62), 3) := dk_167 255 194 (dk_at dksX3_mistakenOne_2 17 rfl rfl)
theorem dX3_mistakenOne_67 : decode cX3_mistakenOne 67 = .ok (.iconst (-1), 1) := dk_2 (dk_at dksX3_mistakenOne_2 20 rfl rfl)
theorem dX3_mistakenOne_68 : decode cX3_mistakenOne 68 = .ok (.ireturn, 1) := dk_172 (dk_at dksX3_mistakenOne_2 21 rfl rfl)
abbrev cX3_canBeMistaken : ByteArray := prog_13_method_26_code
def yX3_canBeMistaken : MethodName := ⟨RX3, "canBeMistaken", "(II)Z"⟩
def dkwX3_canBeMistaken_2 : List UInt8 := [172]
abbrev dktX3_canBeMistaken_2 : List UInt8 := dkwX3_canBeMistaken_2 ++ []
def dkwX3_canBeMistaken_1 : List UInt8 := [182, 0, 93, 153, 0, 14, 42, 28, 29, 182, 0, 93, 153, 0, 5, 4, 172, 132, 3, 1, 167, 255, 227, 3]
abbrev dktX3_canBeMistaken_1 : List UInt8 := dkwX3_canBeMistaken_1 ++ dktX3_canBeMistaken_2
def dkwX3_canBeMistaken_0 : List UInt8 := [42, 27, 28, 182, 0, 106, 154, 0, 5, 3, 172, 3, 62, 29, 16, 61, 162, 0, 29, 42, 27, 29]
abbrev dktX3_canBeMistaken_0 : List UInt8 := dkwX3_canBeMistaken_0 ++ dktX3_canBeMistaken_1
theorem dksX3_canBeMistaken_0 : cX3_canBeMistaken.data.toList.drop 0 = dktX3_canBeMistaken_0 := by decide +kernel
theorem dksX3_canBeMistaken_1 : cX3_canBeMistaken.data.toList.drop 22 = dktX3_canBeMistaken_1 := dk_seg dksX3_canBeMistaken_0 22 rfl rfl
theorem dksX3_canBeMistaken_2 : cX3_canBeMistaken.data.toList.drop 46 = dktX3_canBeMistaken_2 := dk_seg dksX3_canBeMistaken_1 24 rfl rfl
theorem dX3_canBeMistaken_0 : decode cX3_canBeMistaken 0 = .ok (.aload_n 0, 1) := dk_42 (dk_at dksX3_canBeMistaken_0 0 rfl rfl)
theorem dX3_canBeMistaken_1 : decode cX3_canBeMistaken 1 = .ok (.iload_n 1, 1) := dk_27 (dk_at dksX3_canBeMistaken_0 1 rfl rfl)
theorem dX3_canBeMistaken_2 : decode cX3_canBeMistaken 2 = .ok (.iload_n 2, 1) := dk_28 (dk_at dksX3_canBeMistaken_0 2 rfl rfl)
theorem dX3_canBeMistaken_3 : decode cX3_canBeMistaken 3 = .ok (.invokevirtual 106, 3) := dk_182 0 106 (dk_at dksX3_canBeMistaken_0 3 rfl rfl)
theorem dX3_canBeMistaken_6 : decode cX3_canBeMistaken 6 = .ok (.ifCond .ne 5, 3) := dk_154 0 5 (dk_at dksX3_canBeMistaken_0 6 rfl rfl)
theorem dX3_canBeMistaken_9 : decode cX3_canBeMistaken 9 = .ok (.iconst 0, 1) := dk_3 (dk_at dksX3_canBeMistaken_0 9 rfl rfl)
theorem dX3_canBeMistaken_10 : decode cX3_canBeMistaken 10 = .ok (.ireturn, 1) := dk_172 (dk_at dksX3_canBeMistaken_0 10 rfl rfl)
theorem dX3_canBeMistaken_11 : decode cX3_canBeMistaken 11 = .ok (.iconst 0, 1) := dk_3 (dk_at dksX3_canBeMistaken_0 11 rfl rfl)
theorem dX3_canBeMistaken_12 : decode cX3_canBeMistaken 12 = .ok (.istore_n 3, 1) := dk_62 (dk_at dksX3_canBeMistaken_0 12 rfl rfl)
theorem dX3_canBeMistaken_13 : decode cX3_canBeMistaken 13 = .ok (.iload_n 3, 1) := dk_29 (dk_at dksX3_canBeMistaken_0 13 rfl rfl)
theorem dX3_canBeMistaken_14 : decode cX3_canBeMistaken 14 = .ok (.bipush 61, 2) := dk_16 61 (dk_at dksX3_canBeMistaken_0 14 rfl rfl)
theorem dX3_canBeMistaken_16 : decode cX3_canBeMistaken 16 = .ok (.if_icmp .ge 29, 3) := dk_162 0 29 (dk_at dksX3_canBeMistaken_0 16 rfl rfl)
theorem dX3_canBeMistaken_19 : decode cX3_canBeMistaken 19 = .ok (.aload_n 0, 1) := dk_42 (dk_at dksX3_canBeMistaken_0 19 rfl rfl)
theorem dX3_canBeMistaken_20 : decode cX3_canBeMistaken 20 = .ok (.iload_n 1, 1) := dk_27 (dk_at dksX3_canBeMistaken_0 20 rfl rfl)
theorem dX3_canBeMistaken_21 : decode cX3_canBeMistaken 21 = .ok (.iload_n 3, 1) := dk_29 (dk_at dksX3_canBeMistaken_0 21 rfl rfl)
theorem dX3_canBeMistaken_22 : decode cX3_canBeMistaken 22 = .ok (.invokevirtual 93, 3) := dk_182 0 93 (dk_at dksX3_canBeMistaken_1 0 rfl rfl)
theorem dX3_canBeMistaken_25 : decode cX3_canBeMistaken 25 = .ok (.ifCond .eq 14, 3) := dk_153 0 14 (dk_at dksX3_canBeMistaken_1 3 rfl rfl)
theorem dX3_canBeMistaken_28 : decode cX3_canBeMistaken 28 = .ok (.aload_n 0, 1) := dk_42 (dk_at dksX3_canBeMistaken_1 6 rfl rfl)
theorem dX3_canBeMistaken_29 : decode cX3_canBeMistaken 29 = .ok (.iload_n 2, 1) := dk_28 (dk_at dksX3_canBeMistaken_1 7 rfl rfl)
theorem dX3_canBeMistaken_30 : decode cX3_canBeMistaken 30 = .ok (.iload_n 3, 1) := dk_29 (dk_at dksX3_canBeMistaken_1 8 rfl rfl)
theorem dX3_canBeMistaken_31 : decode cX3_canBeMistaken 31 = .ok (.invokevirtual 93, 3) := dk_182 0 93 (dk_at dksX3_canBeMistaken_1 9 rfl rfl)
theorem dX3_canBeMistaken_34 : decode cX3_canBeMistaken 34 = .ok (.ifCond .eq 5, 3) := dk_153 0 5 (dk_at dksX3_canBeMistaken_1 12 rfl rfl)
theorem dX3_canBeMistaken_37 : decode cX3_canBeMistaken 37 = .ok (.iconst 1, 1) := dk_4 (dk_at dksX3_canBeMistaken_1 15 rfl rfl)
theorem dX3_canBeMistaken_38 : decode cX3_canBeMistaken 38 = .ok (.ireturn, 1) := dk_172 (dk_at dksX3_canBeMistaken_1 16 rfl rfl)
theorem dX3_canBeMistaken_39 : decode cX3_canBeMistaken 39 = .ok (.iinc 3 1, 3) := dk_132 3 1 (dk_at dksX3_canBeMistaken_1 17 rfl rfl)
theorem dX3_canBeMistaken_42 : decode cX3_canBeMistaken 42 = .ok (.goto (-29), 3) := dk_167 255 227 (dk_at dksX3_canBeMistaken_1 20 rfl rfl)
theorem dX3_canBeMistaken_45 : decode cX3_canBeMistaken 45 = .ok (.iconst 0, 1) := dk_3 (dk_at dksX3_canBeMistaken_1 23 rfl rfl)
theorem dX3_canBeMistaken_46 : decode cX3_canBeMistaken 46 = .ok (.ireturn, 1) := dk_172 (dk_at dksX3_canBeMistaken_2 0 rfl rfl)
abbrev cX3_lookAlike : ByteArray := prog_13_method_25_code
def yX3_lookAlike : MethodName := ⟨RX3, "lookAlike", "(II)Z"⟩
def dkwX3_lookAlike_3 : List UInt8 := [167, 0, 4, 3, 172]
abbrev dktX3_lookAlike_3 : List UInt8 := dkwX3_lookAlike_3 ++ []
def dkwX3_lookAlike_2 : List UInt8 := [182, 0, 81, 29, 184, 0, 103, 42, 28, 16, 6, 182, 0, 81, 29, 184, 0, 100, 153, 0, 7, 4]
abbrev dktX3_lookAlike_2 : List UInt8 := dkwX3_lookAlike_2 ++ dktX3_lookAlike_3
def dkwX3_lookAlike_1 : List UInt8 := [16, 6, 182, 0, 81, 42, 28, 16, 6, 182, 0, 81, 29, 184, 0, 100, 154, 0, 28, 42, 27, 16, 6]
abbrev dktX3_lookAlike_1 : List UInt8 := dkwX3_lookAlike_1 ++ dktX3_lookAlike_2
def dkwX3_lookAlike_0 : List UInt8 := [42, 27, 16, 7, 182, 0, 81, 62, 29, 42, 28, 16, 7, 182, 0, 81, 159, 0, 5, 3, 172, 42, 27]
abbrev dktX3_lookAlike_0 : List UInt8 := dkwX3_lookAlike_0 ++ dktX3_lookAlike_1
theorem dksX3_lookAlike_0 : cX3_lookAlike.data.toList.drop 0 = dktX3_lookAlike_0 := by decide +kernel
theorem dksX3_lookAlike_1 : cX3_lookAlike.data.toList.drop 23 = dktX3_lookAlike_1 := dk_seg dksX3_lookAlike_0 23 rfl rfl
theorem dksX3_lookAlike_2 : cX3_lookAlike.data.toList.drop 46 = dktX3_lookAlike_2 := dk_seg dksX3_lookAlike_1 23 rfl rfl
theorem dksX3_lookAlike_3 : cX3_lookAlike.data.toList.drop 68 = dktX3_lookAlike_3 := dk_seg dksX3_lookAlike_2 22 rfl rfl
theorem dX3_lookAlike_0 : decode cX3_lookAlike 0 = .ok (.aload_n 0, 1) := dk_42 (dk_at dksX3_lookAlike_0 0 rfl rfl)
theorem dX3_lookAlike_1 : decode cX3_lookAlike 1 = .ok (.iload_n 1, 1) := dk_27 (dk_at dksX3_lookAlike_0 1 rfl rfl)
theorem dX3_lookAlike_2 : decode cX3_lookAlike 2 = .ok (.bipush 7, 2) := dk_16 7 (dk_at dksX3_lookAlike_0 2 rfl rfl)
theorem dX3_lookAlike_4 : decode cX3_lookAlike 4 = .ok (.invokevirtual 81, 3) := dk_182 0 81 (dk_at dksX3_lookAlike_0 4 rfl rfl)
theorem dX3_lookAlike_7 : decode cX3_lookAlike 7 = .ok (.istore_n 3, 1) := dk_62 (dk_at dksX3_lookAlike_0 7 rfl rfl)
theorem dX3_lookAlike_8 : decode cX3_lookAlike 8 = .ok (.iload_n 3, 1) := dk_29 (dk_at dksX3_lookAlike_0 8 rfl rfl)
theorem dX3_lookAlike_9 : decode cX3_lookAlike 9 = .ok (.aload_n 0, 1) := dk_42 (dk_at dksX3_lookAlike_0 9 rfl rfl)
theorem dX3_lookAlike_10 : decode cX3_lookAlike 10 = .ok (.iload_n 2, 1) := dk_28 (dk_at dksX3_lookAlike_0 10 rfl rfl)
theorem dX3_lookAlike_11 : decode cX3_lookAlike 11 = .ok (.bipush 7, 2) := dk_16 7 (dk_at dksX3_lookAlike_0 11 rfl rfl)
theorem dX3_lookAlike_13 : decode cX3_lookAlike 13 = .ok (.invokevirtual 81, 3) := dk_182 0 81 (dk_at dksX3_lookAlike_0 13 rfl rfl)
theorem dX3_lookAlike_16 : decode cX3_lookAlike 16 = .ok (.if_icmp .eq 5, 3) := dk_159 0 5 (dk_at dksX3_lookAlike_0 16 rfl rfl)
theorem dX3_lookAlike_19 : decode cX3_lookAlike 19 = .ok (.iconst 0, 1) := dk_3 (dk_at dksX3_lookAlike_0 19 rfl rfl)
theorem dX3_lookAlike_20 : decode cX3_lookAlike 20 = .ok (.ireturn, 1) := dk_172 (dk_at dksX3_lookAlike_0 20 rfl rfl)
theorem dX3_lookAlike_21 : decode cX3_lookAlike 21 = .ok (.aload_n 0, 1) := dk_42 (dk_at dksX3_lookAlike_0 21 rfl rfl)
theorem dX3_lookAlike_22 : decode cX3_lookAlike 22 = .ok (.iload_n 1, 1) := dk_27 (dk_at dksX3_lookAlike_0 22 rfl rfl)
theorem dX3_lookAlike_23 : decode cX3_lookAlike 23 = .ok (.bipush 6, 2) := dk_16 6 (dk_at dksX3_lookAlike_1 0 rfl rfl)
theorem dX3_lookAlike_25 : decode cX3_lookAlike 25 = .ok (.invokevirtual 81, 3) := dk_182 0 81 (dk_at dksX3_lookAlike_1 2 rfl rfl)
theorem dX3_lookAlike_28 : decode cX3_lookAlike 28 = .ok (.aload_n 0, 1) := dk_42 (dk_at dksX3_lookAlike_1 5 rfl rfl)
theorem dX3_lookAlike_29 : decode cX3_lookAlike 29 = .ok (.iload_n 2, 1) := dk_28 (dk_at dksX3_lookAlike_1 6 rfl rfl)
theorem dX3_lookAlike_30 : decode cX3_lookAlike 30 = .ok (.bipush 6, 2) := dk_16 6 (dk_at dksX3_lookAlike_1 7 rfl rfl)
theorem dX3_lookAlike_32 : decode cX3_lookAlike 32 = .ok (.invokevirtual 81, 3) := dk_182 0 81 (dk_at dksX3_lookAlike_1 9 rfl rfl)
theorem dX3_lookAlike_35 : decode cX3_lookAlike 35 = .ok (.iload_n 3, 1) := dk_29 (dk_at dksX3_lookAlike_1 12 rfl rfl)
theorem dX3_lookAlike_36 : decode cX3_lookAlike 36 = .ok (.invokestatic 100, 3) := dk_184 0 100 (dk_at dksX3_lookAlike_1 13 rfl rfl)
theorem dX3_lookAlike_39 : decode cX3_lookAlike 39 = .ok (.ifCond .ne 28, 3) := dk_154 0 28 (dk_at dksX3_lookAlike_1 16 rfl rfl)
theorem dX3_lookAlike_42 : decode cX3_lookAlike 42 = .ok (.aload_n 0, 1) := dk_42 (dk_at dksX3_lookAlike_1 19 rfl rfl)
theorem dX3_lookAlike_43 : decode cX3_lookAlike 43 = .ok (.iload_n 1, 1) := dk_27 (dk_at dksX3_lookAlike_1 20 rfl rfl)
theorem dX3_lookAlike_44 : decode cX3_lookAlike 44 = .ok (.bipush 6, 2) := dk_16 6 (dk_at dksX3_lookAlike_1 21 rfl rfl)
theorem dX3_lookAlike_46 : decode cX3_lookAlike 46 = .ok (.invokevirtual 81, 3) := dk_182 0 81 (dk_at dksX3_lookAlike_2 0 rfl rfl)
theorem dX3_lookAlike_49 : decode cX3_lookAlike 49 = .ok (.iload_n 3, 1) := dk_29 (dk_at dksX3_lookAlike_2 3 rfl rfl)
theorem dX3_lookAlike_50 : decode cX3_lookAlike 50 = .ok (.invokestatic 103, 3) := dk_184 0 103 (dk_at dksX3_lookAlike_2 4 rfl rfl)
theorem dX3_lookAlike_53 : decode cX3_lookAlike 53 = .ok (.aload_n 0, 1) := dk_42 (dk_at dksX3_lookAlike_2 7 rfl rfl)
theorem dX3_lookAlike_54 : decode cX3_lookAlike 54 = .ok (.iload_n 2, 1) := dk_28 (dk_at dksX3_lookAlike_2 8 rfl rfl)
theorem dX3_lookAlike_55 : decode cX3_lookAlike 55 = .ok (.bipush 6, 2) := dk_16 6 (dk_at dksX3_lookAlike_2 9 rfl rfl)
theorem dX3_lookAlike_57 : decode cX3_lookAlike 57 = .ok (.invokevirtual 81, 3) := dk_182 0 81 (dk_at dksX3_lookAlike_2 11 rfl rfl)
theorem dX3_lookAlike_60 : decode cX3_lookAlike 60 = .ok (.iload_n 3, 1) := dk_29 (dk_at dksX3_lookAlike_2 14 rfl rfl)
theorem dX3_lookAlike_61 : decode cX3_lookAlike 61 = .ok (.invokestatic 100, 3) := dk_184 0 100 (dk_at dksX3_lookAlike_2 15 rfl rfl)
theorem dX3_lookAlike_64 : decode cX3_lookAlike 64 = .ok (.ifCond .eq 7, 3) := dk_153 0 7 (dk_at dksX3_lookAlike_2 18 rfl rfl)
theorem dX3_lookAlike_67 : decode cX3_lookAlike 67 = .ok (.iconst 1, 1) := dk_4 (dk_at dksX3_lookAlike_2 21 rfl rfl)
theorem dX3_lookAlike_68 : decode cX3_lookAlike 68 = .ok (.goto 4, 3) := dk_167 0 4 (dk_at dksX3_lookAlike_3 0 rfl rfl)
theorem dX3_lookAlike_71 : decode cX3_lookAlike 71 = .ok (.iconst 0, 1) := dk_3 (dk_at dksX3_lookAlike_3 3 rfl rfl)
theorem dX3_lookAlike_72 : decode cX3_lookAlike 72 = .ok (.ireturn, 1) := dk_172 (dk_at dksX3_lookAlike_3 4 rfl rfl)
abbrev cX3_doesTurnInto : ByteArray := prog_13_method_24_code
def yX3_doesTurnInto : MethodName := ⟨RX3, "doesTurnInto", "(III)Z"⟩
def dkwX3_doesTurnInto_1 : List UInt8 := [132, 4, 1, 167, 255, 234, 3, 172]
abbrev dktX3_doesTurnInto_1 : List UInt8 := dkwX3_doesTurnInto_1 ++ []
def dkwX3_doesTurnInto_0 : List UInt8 := [26, 62, 3, 54, 4, 21, 4, 28, 162, 0, 22, 29, 27, 160, 0, 5, 4, 172, 29, 28, 184, 0, 97, 62]
abbrev dktX3_doesTurnInto_0 : List UInt8 := dkwX3_doesTurnInto_0 ++ dktX3_doesTurnInto_1
theorem dksX3_doesTurnInto_0 : cX3_doesTurnInto.data.toList.drop 0 = dktX3_doesTurnInto_0 := by decide +kernel
theorem dksX3_doesTurnInto_1 : cX3_doesTurnInto.data.toList.drop 24 = dktX3_doesTurnInto_1 := dk_seg dksX3_doesTurnInto_0 24 rfl rfl
theorem dX3_doesTurnInto_0 : decode cX3_doesTurnInto 0 = .ok (.iload_n 0, 1) := dk_26 (dk_at dksX3_doesTurnInto_0 0 rfl rfl)
theorem dX3_doesTurnInto_1 : decode cX3_doesTurnInto 1 = .ok (.istore_n 3, 1) := dk_62 (dk_at dksX3_doesTurnInto_0 1 rfl rfl)
theorem dX3_doesTurnInto_2 : decode cX3_doesTurnInto 2 = .ok (.iconst 0, 1) := dk_3 (dk_at dksX3_doesTurnInto_0 2 rfl rfl)
theorem dX3_doesTurnInto_3 : decode cX3_doesTurnInto 3 = .ok (.istore 4, 2) := dk_54 4 (dk_at dksX3_doesTurnInto_0 3 rfl rfl)
theorem dX3_doesTurnInto_5 : decode cX3_doesTurnInto 5 = .ok (.iload 4, 2) := dk_21 4 (dk_at dksX3_doesTurnInto_0 5 rfl rfl)
theorem dX3_doesTurnInto_7 : decode cX3_doesTurnInto 7 = .ok (.iload_n 2, 1) := dk_28 (dk_at dksX3_doesTurnInto_0 7 rfl rfl)
theorem dX3_doesTurnInto_8 : decode cX3_doesTurnInto 8 = .ok (.if_icmp .ge 22, 3) := dk_162 0 22 (dk_at dksX3_doesTurnInto_0 8 rfl rfl)
theorem dX3_doesTurnInto_11 : decode cX3_doesTurnInto 11 = .ok (.iload_n 3, 1) := dk_29 (dk_at dksX3_doesTurnInto_0 11 rfl rfl)
theorem dX3_doesTurnInto_12 : decode cX3_doesTurnInto 12 = .ok (.iload_n 1, 1) := dk_27 (dk_at dksX3_doesTurnInto_0 12 rfl rfl)
theorem dX3_doesTurnInto_13 : decode cX3_doesTurnInto 13 = .ok (.if_icmp .ne 5, 3) := dk_160 0 5 (dk_at dksX3_doesTurnInto_0 13 rfl rfl)
theorem dX3_doesTurnInto_16 : decode cX3_doesTurnInto 16 = .ok (.iconst 1, 1) := dk_4 (dk_at dksX3_doesTurnInto_0 16 rfl rfl)
theorem dX3_doesTurnInto_17 : decode cX3_doesTurnInto 17 = .ok (.ireturn, 1) := dk_172 (dk_at dksX3_doesTurnInto_0 17 rfl rfl)
theorem dX3_doesTurnInto_18 : decode cX3_doesTurnInto 18 = .ok (.iload_n 3, 1) := dk_29 (dk_at dksX3_doesTurnInto_0 18 rfl rfl)
theorem dX3_doesTurnInto_19 : decode cX3_doesTurnInto 19 = .ok (.iload_n 2, 1) := dk_28 (dk_at dksX3_doesTurnInto_0 19 rfl rfl)
theorem dX3_doesTurnInto_20 : decode cX3_doesTurnInto 20 = .ok (.invokestatic 97, 3) := dk_184 0 97 (dk_at dksX3_doesTurnInto_0 20 rfl rfl)
theorem dX3_doesTurnInto_23 : decode cX3_doesTurnInto 23 = .ok (.istore_n 3, 1) := dk_62 (dk_at dksX3_doesTurnInto_0 23 rfl rfl)
theorem dX3_doesTurnInto_24 : decode cX3_doesTurnInto 24 = .ok (.iinc 4 1, 3) := dk_132 4 1 (dk_at dksX3_doesTurnInto_1 0 rfl rfl)
theorem dX3_doesTurnInto_27 : decode cX3_doesTurnInto 27 = .ok (.goto (-22), 3) := dk_167 255 234 (dk_at dksX3_doesTurnInto_1 3 rfl rfl)
theorem dX3_doesTurnInto_30 : decode cX3_doesTurnInto 30 = .ok (.iconst 0, 1) := dk_3 (dk_at dksX3_doesTurnInto_1 6 rfl rfl)
theorem dX3_doesTurnInto_31 : decode cX3_doesTurnInto 31 = .ok (.ireturn, 1) := dk_172 (dk_at dksX3_doesTurnInto_1 7 rfl rfl)
abbrev cX3_turned : ByteArray := prog_13_method_22_code
def yX3_turned : MethodName := ⟨RX3, "turned", "(II)I"⟩
def dkwX3_turned_0 : List UInt8 := [26, 4, 120, 26, 27, 4, 100, 122, 128, 4, 27, 120, 4, 100, 126, 172]
abbrev dktX3_turned_0 : List UInt8 := dkwX3_turned_0 ++ []
theorem dksX3_turned_0 : cX3_turned.data.toList.drop 0 = dktX3_turned_0 := by decide +kernel
theorem dX3_turned_0 : decode cX3_turned 0 = .ok (.iload_n 0, 1) := dk_26 (dk_at dksX3_turned_0 0 rfl rfl)
theorem dX3_turned_1 : decode cX3_turned 1 = .ok (.iconst 1, 1) := dk_4 (dk_at dksX3_turned_0 1 rfl rfl)
theorem dX3_turned_2 : decode cX3_turned 2 = .ok (.ishl, 1) := dk_120 (dk_at dksX3_turned_0 2 rfl rfl)
theorem dX3_turned_3 : decode cX3_turned 3 = .ok (.iload_n 0, 1) := dk_26 (dk_at dksX3_turned_0 3 rfl rfl)
theorem dX3_turned_4 : decode cX3_turned 4 = .ok (.iload_n 1, 1) := dk_27 (dk_at dksX3_turned_0 4 rfl rfl)
theorem dX3_turned_5 : decode cX3_turned 5 = .ok (.iconst 1, 1) := dk_4 (dk_at dksX3_turned_0 5 rfl rfl)
theorem dX3_turned_6 : decode cX3_turned 6 = .ok (.isub, 1) := dk_100 (dk_at dksX3_turned_0 6 rfl rfl)
theorem dX3_turned_7 : decode cX3_turned 7 = .ok (.ishr, 1) := dk_122 (dk_at dksX3_turned_0 7 rfl rfl)
theorem dX3_turned_8 : decode cX3_turned 8 = .ok (.ior, 1) := dk_128 (dk_at dksX3_turned_0 8 rfl rfl)
theorem dX3_turned_9 : decode cX3_turned 9 = .ok (.iconst 1, 1) := dk_4 (dk_at dksX3_turned_0 9 rfl rfl)
theorem dX3_turned_10 : decode cX3_turned 10 = .ok (.iload_n 1, 1) := dk_27 (dk_at dksX3_turned_0 10 rfl rfl)
theorem dX3_turned_11 : decode cX3_turned 11 = .ok (.ishl, 1) := dk_120 (dk_at dksX3_turned_0 11 rfl rfl)
theorem dX3_turned_12 : decode cX3_turned 12 = .ok (.iconst 1, 1) := dk_4 (dk_at dksX3_turned_0 12 rfl rfl)
theorem dX3_turned_13 : decode cX3_turned 13 = .ok (.isub, 1) := dk_100 (dk_at dksX3_turned_0 13 rfl rfl)
theorem dX3_turned_14 : decode cX3_turned 14 = .ok (.iand, 1) := dk_126 (dk_at dksX3_turned_0 14 rfl rfl)
theorem dX3_turned_15 : decode cX3_turned 15 = .ok (.ireturn, 1) := dk_172 (dk_at dksX3_turned_0 15 rfl rfl)
abbrev cX3_backward : ByteArray := prog_13_method_23_code
def yX3_backward : MethodName := ⟨RX3, "backward", "(II)I"⟩
def dkwX3_backward_1 : List UInt8 := [132, 3, 1, 167, 255, 234, 28, 172]
abbrev dktX3_backward_1 : List UInt8 := dkwX3_backward_1 ++ []
def dkwX3_backward_0 : List UInt8 := [3, 61, 3, 62, 29, 27, 162, 0, 23, 28, 26, 29, 122, 4, 126, 27, 4, 100, 29, 100, 120, 128, 61]
abbrev dktX3_backward_0 : List UInt8 := dkwX3_backward_0 ++ dktX3_backward_1
theorem dksX3_backward_0 : cX3_backward.data.toList.drop 0 = dktX3_backward_0 := by decide +kernel
theorem dksX3_backward_1 : cX3_backward.data.toList.drop 23 = dktX3_backward_1 := dk_seg dksX3_backward_0 23 rfl rfl
theorem dX3_backward_0 : decode cX3_backward 0 = .ok (.iconst 0, 1) := dk_3 (dk_at dksX3_backward_0 0 rfl rfl)
theorem dX3_backward_1 : decode cX3_backward 1 = .ok (.istore_n 2, 1) := dk_61 (dk_at dksX3_backward_0 1 rfl rfl)
theorem dX3_backward_2 : decode cX3_backward 2 = .ok (.iconst 0, 1) := dk_3 (dk_at dksX3_backward_0 2 rfl rfl)
theorem dX3_backward_3 : decode cX3_backward 3 = .ok (.istore_n 3, 1) := dk_62 (dk_at dksX3_backward_0 3 rfl rfl)
theorem dX3_backward_4 : decode cX3_backward 4 = .ok (.iload_n 3, 1) := dk_29 (dk_at dksX3_backward_0 4 rfl rfl)
theorem dX3_backward_5 : decode cX3_backward 5 = .ok (.iload_n 1, 1) := dk_27 (dk_at dksX3_backward_0 5 rfl rfl)
theorem dX3_backward_6 : decode cX3_backward 6 = .ok (.if_icmp .ge 23, 3) := dk_162 0 23 (dk_at dksX3_backward_0 6 rfl rfl)
theorem dX3_backward_9 : decode cX3_backward 9 = .ok (.iload_n 2, 1) := dk_28 (dk_at dksX3_backward_0 9 rfl rfl)
theorem dX3_backward_10 : decode cX3_backward 10 = .ok (.iload_n 0, 1) := dk_26 (dk_at dksX3_backward_0 10 rfl rfl)
theorem dX3_backward_11 : decode cX3_backward 11 = .ok (.iload_n 3, 1) := dk_29 (dk_at dksX3_backward_0 11 rfl rfl)
theorem dX3_backward_12 : decode cX3_backward 12 = .ok (.ishr, 1) := dk_122 (dk_at dksX3_backward_0 12 rfl rfl)
theorem dX3_backward_13 : decode cX3_backward 13 = .ok (.iconst 1, 1) := dk_4 (dk_at dksX3_backward_0 13 rfl rfl)
theorem dX3_backward_14 : decode cX3_backward 14 = .ok (.iand, 1) := dk_126 (dk_at dksX3_backward_0 14 rfl rfl)
theorem dX3_backward_15 : decode cX3_backward 15 = .ok (.iload_n 1, 1) := dk_27 (dk_at dksX3_backward_0 15 rfl rfl)
theorem dX3_backward_16 : decode cX3_backward 16 = .ok (.iconst 1, 1) := dk_4 (dk_at dksX3_backward_0 16 rfl rfl)
theorem dX3_backward_17 : decode cX3_backward 17 = .ok (.isub, 1) := dk_100 (dk_at dksX3_backward_0 17 rfl rfl)
theorem dX3_backward_18 : decode cX3_backward 18 = .ok (.iload_n 3, 1) := dk_29 (dk_at dksX3_backward_0 18 rfl rfl)
theorem dX3_backward_19 : decode cX3_backward 19 = .ok (.isub, 1) := dk_100 (dk_at dksX3_backward_0 19 rfl rfl)
theorem dX3_backward_20 : decode cX3_backward 20 = .ok (.ishl, 1) := dk_120 (dk_at dksX3_backward_0 20 rfl rfl)
theorem dX3_backward_21 : decode cX3_backward 21 = .ok (.ior, 1) := dk_128 (dk_at dksX3_backward_0 21 rfl rfl)
theorem dX3_backward_22 : decode cX3_backward 22 = .ok (.istore_n 2, 1) := dk_61 (dk_at dksX3_backward_0 22 rfl rfl)
theorem dX3_backward_23 : decode cX3_backward 23 = .ok (.iinc 3 1, 3) := dk_132 3 1 (dk_at dksX3_backward_1 0 rfl rfl)
theorem dX3_backward_26 : decode cX3_backward 26 = .ok (.goto (-22), 3) := dk_167 255 234 (dk_at dksX3_backward_1 3 rfl rfl)
theorem dX3_backward_29 : decode cX3_backward 29 = .ok (.iload_n 2, 1) := dk_28 (dk_at dksX3_backward_1 6 rfl rfl)
theorem dX3_backward_30 : decode cX3_backward 30 = .ok (.ireturn, 1) := dk_172 (dk_at dksX3_backward_1 7 rfl rfl)
abbrev cX3_doesReach : ByteArray := prog_13_method_20_code
def yX3_doesReach : MethodName := ⟨RX3, "doesReach", "(II)Z"⟩
def dkwX3_doesReach_3 : List UInt8 := [182, 0, 87, 42, 27, 182, 0, 90, 163, 0, 7, 4, 167, 0, 4, 3, 172]
abbrev dktX3_doesReach_3 : List UInt8 := dkwX3_doesReach_3 ++ []
def dkwX3_doesReach_2 : List UInt8 := [167, 0, 8, 28, 29, 164, 0, 7, 4, 167, 0, 4, 3, 54, 4, 21, 4, 153, 0, 21, 42, 29, 28]
abbrev dktX3_doesReach_2 : List UInt8 := dkwX3_doesReach_2 ++ dktX3_doesReach_3
def dkwX3_doesReach_1 : List UInt8 := [27, 4, 182, 0, 81, 153, 0, 26, 42, 27, 4, 182, 0, 81, 4, 160, 0, 11, 28, 29, 162, 0, 15]
abbrev dktX3_doesReach_1 : List UInt8 := dkwX3_doesReach_1 ++ dktX3_doesReach_2
def dkwX3_doesReach_0 : List UInt8 := [42, 27, 6, 182, 0, 81, 156, 0, 5, 3, 172, 42, 27, 3, 182, 0, 81, 62, 28, 29, 159, 0, 35, 42]
abbrev dktX3_doesReach_0 : List UInt8 := dkwX3_doesReach_0 ++ dktX3_doesReach_1
theorem dksX3_doesReach_0 : cX3_doesReach.data.toList.drop 0 = dktX3_doesReach_0 := by decide +kernel
theorem dksX3_doesReach_1 : cX3_doesReach.data.toList.drop 24 = dktX3_doesReach_1 := dk_seg dksX3_doesReach_0 24 rfl rfl
theorem dksX3_doesReach_2 : cX3_doesReach.data.toList.drop 47 = dktX3_doesReach_2 := dk_seg dksX3_doesReach_1 23 rfl rfl
theorem dksX3_doesReach_3 : cX3_doesReach.data.toList.drop 70 = dktX3_doesReach_3 := dk_seg dksX3_doesReach_2 23 rfl rfl
theorem dX3_doesReach_0 : decode cX3_doesReach 0 = .ok (.aload_n 0, 1) := dk_42 (dk_at dksX3_doesReach_0 0 rfl rfl)
theorem dX3_doesReach_1 : decode cX3_doesReach 1 = .ok (.iload_n 1, 1) := dk_27 (dk_at dksX3_doesReach_0 1 rfl rfl)
theorem dX3_doesReach_2 : decode cX3_doesReach 2 = .ok (.iconst 3, 1) := dk_6 (dk_at dksX3_doesReach_0 2 rfl rfl)
theorem dX3_doesReach_3 : decode cX3_doesReach 3 = .ok (.invokevirtual 81, 3) := dk_182 0 81 (dk_at dksX3_doesReach_0 3 rfl rfl)
theorem dX3_doesReach_6 : decode cX3_doesReach 6 = .ok (.ifCond .ge 5, 3) := dk_156 0 5 (dk_at dksX3_doesReach_0 6 rfl rfl)
theorem dX3_doesReach_9 : decode cX3_doesReach 9 = .ok (.iconst 0, 1) := dk_3 (dk_at dksX3_doesReach_0 9 rfl rfl)
theorem dX3_doesReach_10 : decode cX3_doesReach 10 = .ok (.ireturn, 1) := dk_172 (dk_at dksX3_doesReach_0 10 rfl rfl)
theorem dX3_doesReach_11 : decode cX3_doesReach 11 = .ok (.aload_n 0, 1) := dk_42 (dk_at dksX3_doesReach_0 11 rfl rfl)
theorem dX3_doesReach_12 : decode cX3_doesReach 12 = .ok (.iload_n 1, 1) := dk_27 (dk_at dksX3_doesReach_0 12 rfl rfl)
theorem dX3_doesReach_13 : decode cX3_doesReach 13 = .ok (.iconst 0, 1) := dk_3 (dk_at dksX3_doesReach_0 13 rfl rfl)
theorem dX3_doesReach_14 : decode cX3_doesReach 14 = .ok (.invokevirtual 81, 3) := dk_182 0 81 (dk_at dksX3_doesReach_0 14 rfl rfl)
theorem dX3_doesReach_17 : decode cX3_doesReach 17 = .ok (.istore_n 3, 1) := dk_62 (dk_at dksX3_doesReach_0 17 rfl rfl)
theorem dX3_doesReach_18 : decode cX3_doesReach 18 = .ok (.iload_n 2, 1) := dk_28 (dk_at dksX3_doesReach_0 18 rfl rfl)
theorem dX3_doesReach_19 : decode cX3_doesReach 19 = .ok (.iload_n 3, 1) := dk_29 (dk_at dksX3_doesReach_0 19 rfl rfl)
theorem dX3_doesReach_20 : decode cX3_doesReach 20 = .ok (.if_icmp .eq 35, 3) := dk_159 0 35 (dk_at dksX3_doesReach_0 20 rfl rfl)
theorem dX3_doesReach_23 : decode cX3_doesReach 23 = .ok (.aload_n 0, 1) := dk_42 (dk_at dksX3_doesReach_0 23 rfl rfl)
theorem dX3_doesReach_24 : decode cX3_doesReach 24 = .ok (.iload_n 1, 1) := dk_27 (dk_at dksX3_doesReach_1 0 rfl rfl)
theorem dX3_doesReach_25 : decode cX3_doesReach 25 = .ok (.iconst 1, 1) := dk_4 (dk_at dksX3_doesReach_1 1 rfl rfl)
theorem dX3_doesReach_26 : decode cX3_doesReach 26 = .ok (.invokevirtual 81, 3) := dk_182 0 81 (dk_at dksX3_doesReach_1 2 rfl rfl)
theorem dX3_doesReach_29 : decode cX3_doesReach 29 = .ok (.ifCond .eq 26, 3) := dk_153 0 26 (dk_at dksX3_doesReach_1 5 rfl rfl)
theorem dX3_doesReach_32 : decode cX3_doesReach 32 = .ok (.aload_n 0, 1) := dk_42 (dk_at dksX3_doesReach_1 8 rfl rfl)
theorem dX3_doesReach_33 : decode cX3_doesReach 33 = .ok (.iload_n 1, 1) := dk_27 (dk_at dksX3_doesReach_1 9 rfl rfl)
theorem dX3_doesReach_34 : decode cX3_doesReach 34 = .ok (.iconst 1, 1) := dk_4 (dk_at dksX3_doesReach_1 10 rfl rfl)
theorem dX3_doesReach_35 : decode cX3_doesReach 35 = .ok (.invokevirtual 81, 3) := dk_182 0 81 (dk_at dksX3_doesReach_1 11 rfl rfl)
theorem dX3_doesReach_38 : decode cX3_doesReach 38 = .ok (.iconst 1, 1) := dk_4 (dk_at dksX3_doesReach_1 14 rfl rfl)
theorem dX3_doesReach_39 : decode cX3_doesReach 39 = .ok (.if_icmp .ne 11, 3) := dk_160 0 11 (dk_at dksX3_doesReach_1 15 rfl rfl)
theorem dX3_doesReach_42 : decode cX3_doesReach 42 = .ok (.iload_n 2, 1) := dk_28 (dk_at dksX3_doesReach_1 18 rfl rfl)
theorem dX3_doesReach_43 : decode cX3_doesReach 43 = .ok (.iload_n 3, 1) := dk_29 (dk_at dksX3_doesReach_1 19 rfl rfl)
theorem dX3_doesReach_44 : decode cX3_doesReach 44 = .ok (.if_icmp .ge 15, 3) := dk_162 0 15 (dk_at dksX3_doesReach_1 20 rfl rfl)
theorem dX3_doesReach_47 : decode cX3_doesReach 47 = .ok (.goto 8, 3) := dk_167 0 8 (dk_at dksX3_doesReach_2 0 rfl rfl)
theorem dX3_doesReach_50 : decode cX3_doesReach 50 = .ok (.iload_n 2, 1) := dk_28 (dk_at dksX3_doesReach_2 3 rfl rfl)
theorem dX3_doesReach_51 : decode cX3_doesReach 51 = .ok (.iload_n 3, 1) := dk_29 (dk_at dksX3_doesReach_2 4 rfl rfl)
theorem dX3_doesReach_52 : decode cX3_doesReach 52 = .ok (.if_icmp .le 7, 3) := dk_164 0 7 (dk_at dksX3_doesReach_2 5 rfl rfl)
theorem dX3_doesReach_55 : decode cX3_doesReach 55 = .ok (.iconst 1, 1) := dk_4 (dk_at dksX3_doesReach_2 8 rfl rfl)
theorem dX3_doesReach_56 : decode cX3_doesReach 56 = .ok (.goto 4, 3) := dk_167 0 4 (dk_at dksX3_doesReach_2 9 rfl rfl)
theorem dX3_doesReach_59 : decode cX3_doesReach 59 = .ok (.iconst 0, 1) := dk_3 (dk_at dksX3_doesReach_2 12 rfl rfl)
theorem dX3_doesReach_60 : decode cX3_doesReach 60 = .ok (.istore 4, 2) := dk_54 4 (dk_at dksX3_doesReach_2 13 rfl rfl)
theorem dX3_doesReach_62 : decode cX3_doesReach 62 = .ok (.iload 4, 2) := dk_21 4 (dk_at dksX3_doesReach_2 15 rfl rfl)
theorem dX3_doesReach_64 : decode cX3_doesReach 64 = .ok (.ifCond .eq 21, 3) := dk_153 0 21 (dk_at dksX3_doesReach_2 17 rfl rfl)
theorem dX3_doesReach_67 : decode cX3_doesReach 67 = .ok (.aload_n 0, 1) := dk_42 (dk_at dksX3_doesReach_2 20 rfl rfl)
theorem dX3_doesReach_68 : decode cX3_doesReach 68 = .ok (.iload_n 3, 1) := dk_29 (dk_at dksX3_doesReach_2 21 rfl rfl)
theorem dX3_doesReach_69 : decode cX3_doesReach 69 = .ok (.iload_n 2, 1) := dk_28 (dk_at dksX3_doesReach_2 22 rfl rfl)
theorem dX3_doesReach_70 : decode cX3_doesReach 70 = .ok (.invokevirtual 87, 3) := dk_182 0 87 (dk_at dksX3_doesReach_3 0 rfl rfl)
theorem dX3_doesReach_73 : decode cX3_doesReach 73 = .ok (.aload_n 0, 1) := dk_42 (dk_at dksX3_doesReach_3 3 rfl rfl)
theorem dX3_doesReach_74 : decode cX3_doesReach 74 = .ok (.iload_n 1, 1) := dk_27 (dk_at dksX3_doesReach_3 4 rfl rfl)
theorem dX3_doesReach_75 : decode cX3_doesReach 75 = .ok (.invokevirtual 90, 3) := dk_182 0 90 (dk_at dksX3_doesReach_3 5 rfl rfl)
theorem dX3_doesReach_78 : decode cX3_doesReach 78 = .ok (.if_icmp .gt 7, 3) := dk_163 0 7 (dk_at dksX3_doesReach_3 8 rfl rfl)
theorem dX3_doesReach_81 : decode cX3_doesReach 81 = .ok (.iconst 1, 1) := dk_4 (dk_at dksX3_doesReach_3 11 rfl rfl)
theorem dX3_doesReach_82 : decode cX3_doesReach 82 = .ok (.goto 4, 3) := dk_167 0 4 (dk_at dksX3_doesReach_3 12 rfl rfl)
theorem dX3_doesReach_85 : decode cX3_doesReach 85 = .ok (.iconst 0, 1) := dk_3 (dk_at dksX3_doesReach_3 15 rfl rfl)
theorem dX3_doesReach_86 : decode cX3_doesReach 86 = .ok (.ireturn, 1) := dk_172 (dk_at dksX3_doesReach_3 16 rfl rfl)
abbrev cX3_costOf : ByteArray := prog_13_method_19_code
def yX3_costOf : MethodName := ⟨RX3, "costOf", "(II)I"⟩
def dkwX3_costOf_2 : List UInt8 := [96, 62, 132, 4, 1, 167, 255, 219, 29, 172]
abbrev dktX3_costOf_2 : List UInt8 := dkwX3_costOf_2 ++ []
def dkwX3_costOf_1 : List UInt8 := [167, 0, 6, 27, 4, 100, 163, 0, 26, 29, 4, 42, 180, 0, 13, 6, 21, 4, 16, 10, 108, 96, 46, 96]
abbrev dktX3_costOf_1 : List UInt8 := dkwX3_costOf_1 ++ dktX3_costOf_2
def dkwX3_costOf_0 : List UInt8 := [3, 62, 27, 28, 162, 0, 9, 27, 4, 96, 167, 0, 4, 28, 54, 4, 21, 4, 27, 28, 162, 0, 7, 28]
abbrev dktX3_costOf_0 : List UInt8 := dkwX3_costOf_0 ++ dktX3_costOf_1
theorem dksX3_costOf_0 : cX3_costOf.data.toList.drop 0 = dktX3_costOf_0 := by decide +kernel
theorem dksX3_costOf_1 : cX3_costOf.data.toList.drop 24 = dktX3_costOf_1 := dk_seg dksX3_costOf_0 24 rfl rfl
theorem dksX3_costOf_2 : cX3_costOf.data.toList.drop 48 = dktX3_costOf_2 := dk_seg dksX3_costOf_1 24 rfl rfl
theorem dX3_costOf_0 : decode cX3_costOf 0 = .ok (.iconst 0, 1) := dk_3 (dk_at dksX3_costOf_0 0 rfl rfl)
theorem dX3_costOf_1 : decode cX3_costOf 1 = .ok (.istore_n 3, 1) := dk_62 (dk_at dksX3_costOf_0 1 rfl rfl)
theorem dX3_costOf_2 : decode cX3_costOf 2 = .ok (.iload_n 1, 1) := dk_27 (dk_at dksX3_costOf_0 2 rfl rfl)
theorem dX3_costOf_3 : decode cX3_costOf 3 = .ok (.iload_n 2, 1) := dk_28 (dk_at dksX3_costOf_0 3 rfl rfl)
theorem dX3_costOf_4 : decode cX3_costOf 4 = .ok (.if_icmp .ge 9, 3) := dk_162 0 9 (dk_at dksX3_costOf_0 4 rfl rfl)
theorem dX3_costOf_7 : decode cX3_costOf 7 = .ok (.iload_n 1, 1) := dk_27 (dk_at dksX3_costOf_0 7 rfl rfl)
theorem dX3_costOf_8 : decode cX3_costOf 8 = .ok (.iconst 1, 1) := dk_4 (dk_at dksX3_costOf_0 8 rfl rfl)
theorem dX3_costOf_9 : decode cX3_costOf 9 = .ok (.iadd, 1) := dk_96 (dk_at dksX3_costOf_0 9 rfl rfl)
theorem dX3_costOf_10 : decode cX3_costOf 10 = .ok (.goto 4, 3) := dk_167 0 4 (dk_at dksX3_costOf_0 10 rfl rfl)
theorem dX3_costOf_13 : decode cX3_costOf 13 = .ok (.iload_n 2, 1) := dk_28 (dk_at dksX3_costOf_0 13 rfl rfl)
theorem dX3_costOf_14 : decode cX3_costOf 14 = .ok (.istore 4, 2) := dk_54 4 (dk_at dksX3_costOf_0 14 rfl rfl)
theorem dX3_costOf_16 : decode cX3_costOf 16 = .ok (.iload 4, 2) := dk_21 4 (dk_at dksX3_costOf_0 16 rfl rfl)
theorem dX3_costOf_18 : decode cX3_costOf 18 = .ok (.iload_n 1, 1) := dk_27 (dk_at dksX3_costOf_0 18 rfl rfl)
theorem dX3_costOf_19 : decode cX3_costOf 19 = .ok (.iload_n 2, 1) := dk_28 (dk_at dksX3_costOf_0 19 rfl rfl)
theorem dX3_costOf_20 : decode cX3_costOf 20 = .ok (.if_icmp .ge 7, 3) := dk_162 0 7 (dk_at dksX3_costOf_0 20 rfl rfl)
theorem dX3_costOf_23 : decode cX3_costOf 23 = .ok (.iload_n 2, 1) := dk_28 (dk_at dksX3_costOf_0 23 rfl rfl)
theorem dX3_costOf_24 : decode cX3_costOf 24 = .ok (.goto 6, 3) := dk_167 0 6 (dk_at dksX3_costOf_1 0 rfl rfl)
theorem dX3_costOf_27 : decode cX3_costOf 27 = .ok (.iload_n 1, 1) := dk_27 (dk_at dksX3_costOf_1 3 rfl rfl)
theorem dX3_costOf_28 : decode cX3_costOf 28 = .ok (.iconst 1, 1) := dk_4 (dk_at dksX3_costOf_1 4 rfl rfl)
theorem dX3_costOf_29 : decode cX3_costOf 29 = .ok (.isub, 1) := dk_100 (dk_at dksX3_costOf_1 5 rfl rfl)
theorem dX3_costOf_30 : decode cX3_costOf 30 = .ok (.if_icmp .gt 26, 3) := dk_163 0 26 (dk_at dksX3_costOf_1 6 rfl rfl)
theorem dX3_costOf_33 : decode cX3_costOf 33 = .ok (.iload_n 3, 1) := dk_29 (dk_at dksX3_costOf_1 9 rfl rfl)
theorem dX3_costOf_34 : decode cX3_costOf 34 = .ok (.iconst 1, 1) := dk_4 (dk_at dksX3_costOf_1 10 rfl rfl)
theorem dX3_costOf_35 : decode cX3_costOf 35 = .ok (.aload_n 0, 1) := dk_42 (dk_at dksX3_costOf_1 11 rfl rfl)
theorem dX3_costOf_36 : decode cX3_costOf 36 = .ok (.getfield 13, 3) := dk_180 0 13 (dk_at dksX3_costOf_1 12 rfl rfl)
theorem dX3_costOf_39 : decode cX3_costOf 39 = .ok (.iconst 3, 1) := dk_6 (dk_at dksX3_costOf_1 15 rfl rfl)
theorem dX3_costOf_40 : decode cX3_costOf 40 = .ok (.iload 4, 2) := dk_21 4 (dk_at dksX3_costOf_1 16 rfl rfl)
theorem dX3_costOf_42 : decode cX3_costOf 42 = .ok (.bipush 10, 2) := dk_16 10 (dk_at dksX3_costOf_1 18 rfl rfl)
theorem dX3_costOf_44 : decode cX3_costOf 44 = .ok (.idiv, 1) := dk_108 (dk_at dksX3_costOf_1 20 rfl rfl)
theorem dX3_costOf_45 : decode cX3_costOf 45 = .ok (.iadd, 1) := dk_96 (dk_at dksX3_costOf_1 21 rfl rfl)
theorem dX3_costOf_46 : decode cX3_costOf 46 = .ok (.iaload, 1) := dk_46 (dk_at dksX3_costOf_1 22 rfl rfl)
theorem dX3_costOf_47 : decode cX3_costOf 47 = .ok (.iadd, 1) := dk_96 (dk_at dksX3_costOf_1 23 rfl rfl)
theorem dX3_costOf_48 : decode cX3_costOf 48 = .ok (.iadd, 1) := dk_96 (dk_at dksX3_costOf_2 0 rfl rfl)
theorem dX3_costOf_49 : decode cX3_costOf 49 = .ok (.istore_n 3, 1) := dk_62 (dk_at dksX3_costOf_2 1 rfl rfl)
theorem dX3_costOf_50 : decode cX3_costOf 50 = .ok (.iinc 4 1, 3) := dk_132 4 1 (dk_at dksX3_costOf_2 2 rfl rfl)
theorem dX3_costOf_53 : decode cX3_costOf 53 = .ok (.goto (-37), 3) := dk_167 255 219 (dk_at dksX3_costOf_2 5 rfl rfl)
theorem dX3_costOf_56 : decode cX3_costOf 56 = .ok (.iload_n 3, 1) := dk_29 (dk_at dksX3_costOf_2 8 rfl rfl)
theorem dX3_costOf_57 : decode cX3_costOf 57 = .ok (.ireturn, 1) := dk_172 (dk_at dksX3_costOf_2 9 rfl rfl)
abbrev cX3_remembers : ByteArray := prog_13_method_9_code
def yX3_remembers : MethodName := ⟨RX3, "remembers", "()V"⟩
def dkwX3_remembers_3 : List UInt8 := [132, 2, 1, 167, 255, 232, 42, 89, 180, 0, 67, 4, 96, 181, 0, 67, 177]
abbrev dktX3_remembers_3 : List UInt8 := dkwX3_remembers_3 ++ []
def dkwX3_remembers_2 : List UInt8 := [60, 3, 61, 28, 17, 0, 128, 162, 0, 23, 42, 180, 0, 16, 27, 28, 96, 42, 180, 0, 22, 28, 46, 79]
abbrev dktX3_remembers_2 : List UInt8 := dkwX3_remembers_2 ++ dktX3_remembers_3
def dkwX3_remembers_1 : List UInt8 := [180, 0, 67, 4, 100, 181, 0, 67, 17, 0, 128, 42, 180, 0, 70, 42, 180, 0, 67, 96, 16, 8, 112, 104]
abbrev dktX3_remembers_1 : List UInt8 := dkwX3_remembers_1 ++ dktX3_remembers_2
def dkwX3_remembers_0 : List UInt8 := [42, 180, 0, 67, 16, 8, 160, 0, 26, 42, 42, 180, 0, 70, 4, 96, 16, 8, 112, 181, 0, 70, 42, 89]
abbrev dktX3_remembers_0 : List UInt8 := dkwX3_remembers_0 ++ dktX3_remembers_1
theorem dksX3_remembers_0 : cX3_remembers.data.toList.drop 0 = dktX3_remembers_0 := by decide +kernel
theorem dksX3_remembers_1 : cX3_remembers.data.toList.drop 24 = dktX3_remembers_1 := dk_seg dksX3_remembers_0 24 rfl rfl
theorem dksX3_remembers_2 : cX3_remembers.data.toList.drop 48 = dktX3_remembers_2 := dk_seg dksX3_remembers_1 24 rfl rfl
theorem dksX3_remembers_3 : cX3_remembers.data.toList.drop 72 = dktX3_remembers_3 := dk_seg dksX3_remembers_2 24 rfl rfl
theorem dX3_remembers_0 : decode cX3_remembers 0 = .ok (.aload_n 0, 1) := dk_42 (dk_at dksX3_remembers_0 0 rfl rfl)
theorem dX3_remembers_1 : decode cX3_remembers 1 = .ok (.getfield 67, 3) := dk_180 0 67 (dk_at dksX3_remembers_0 1 rfl rfl)
theorem dX3_remembers_4 : decode cX3_remembers 4 = .ok (.bipush 8, 2) := dk_16 8 (dk_at dksX3_remembers_0 4 rfl rfl)
theorem dX3_remembers_6 : decode cX3_remembers 6 = .ok (.if_icmp .ne 26, 3) := dk_160 0 26 (dk_at dksX3_remembers_0 6 rfl rfl)
theorem dX3_remembers_9 : decode cX3_remembers 9 = .ok (.aload_n 0, 1) := dk_42 (dk_at dksX3_remembers_0 9 rfl rfl)
theorem dX3_remembers_10 : decode cX3_remembers 10 = .ok (.aload_n 0, 1) := dk_42 (dk_at dksX3_remembers_0 10 rfl rfl)
theorem dX3_remembers_11 : decode cX3_remembers 11 = .ok (.getfield 70, 3) := dk_180 0 70 (dk_at dksX3_remembers_0 11 rfl rfl)
theorem dX3_remembers_14 : decode cX3_remembers 14 = .ok (.iconst 1, 1) := dk_4 (dk_at dksX3_remembers_0 14 rfl rfl)
theorem dX3_remembers_15 : decode cX3_remembers 15 = .ok (.iadd, 1) := dk_96 (dk_at dksX3_remembers_0 15 rfl rfl)
theorem dX3_remembers_16 : decode cX3_remembers 16 = .ok (.bipush 8, 2) := dk_16 8 (dk_at dksX3_remembers_0 16 rfl rfl)
theorem dX3_remembers_18 : decode cX3_remembers 18 = .ok (.irem, 1) := dk_112 (dk_at dksX3_remembers_0 18 rfl rfl)
theorem dX3_remembers_19 : decode cX3_remembers 19 = .ok (.putfield 70, 3) := dk_181 0 70 (dk_at dksX3_remembers_0 19 rfl rfl)
theorem dX3_remembers_22 : decode cX3_remembers 22 = .ok (.aload_n 0, 1) := dk_42 (dk_at dksX3_remembers_0 22 rfl rfl)
theorem dX3_remembers_23 : decode cX3_remembers 23 = .ok (.dup, 1) := dk_89 (dk_at dksX3_remembers_0 23 rfl rfl)
theorem dX3_remembers_24 : decode cX3_remembers 24 = .ok (.getfield 67, 3) := dk_180 0 67 (dk_at dksX3_remembers_1 0 rfl rfl)
theorem dX3_remembers_27 : decode cX3_remembers 27 = .ok (.iconst 1, 1) := dk_4 (dk_at dksX3_remembers_1 3 rfl rfl)
theorem dX3_remembers_28 : decode cX3_remembers 28 = .ok (.isub, 1) := dk_100 (dk_at dksX3_remembers_1 4 rfl rfl)
theorem dX3_remembers_29 : decode cX3_remembers 29 = .ok (.putfield 67, 3) := dk_181 0 67 (dk_at dksX3_remembers_1 5 rfl rfl)
theorem dX3_remembers_32 : decode cX3_remembers 32 = .ok (.sipush 128, 3) := dk_17 0 128 (dk_at dksX3_remembers_1 8 rfl rfl)
theorem dX3_remembers_35 : decode cX3_remembers 35 = .ok (.aload_n 0, 1) := dk_42 (dk_at dksX3_remembers_1 11 rfl rfl)
theorem dX3_remembers_36 : decode cX3_remembers 36 = .ok (.getfield 70, 3) := dk_180 0 70 (dk_at dksX3_remembers_1 12 rfl rfl)
theorem dX3_remembers_39 : decode cX3_remembers 39 = .ok (.aload_n 0, 1) := dk_42 (dk_at dksX3_remembers_1 15 rfl rfl)
theorem dX3_remembers_40 : decode cX3_remembers 40 = .ok (.getfield 67, 3) := dk_180 0 67 (dk_at dksX3_remembers_1 16 rfl rfl)
theorem dX3_remembers_43 : decode cX3_remembers 43 = .ok (.iadd, 1) := dk_96 (dk_at dksX3_remembers_1 19 rfl rfl)
theorem dX3_remembers_44 : decode cX3_remembers 44 = .ok (.bipush 8, 2) := dk_16 8 (dk_at dksX3_remembers_1 20 rfl rfl)
theorem dX3_remembers_46 : decode cX3_remembers 46 = .ok (.irem, 1) := dk_112 (dk_at dksX3_remembers_1 22 rfl rfl)
theorem dX3_remembers_47 : decode cX3_remembers 47 = .ok (.imul, 1) := dk_104 (dk_at dksX3_remembers_1 23 rfl rfl)
theorem dX3_remembers_48 : decode cX3_remembers 48 = .ok (.istore_n 1, 1) := dk_60 (dk_at dksX3_remembers_2 0 rfl rfl)
theorem dX3_remembers_49 : decode cX3_remembers 49 = .ok (.iconst 0, 1) := dk_3 (dk_at dksX3_remembers_2 1 rfl rfl)
theorem dX3_remembers_50 : decode cX3_remembers 50 = .ok (.istore_n 2, 1) := dk_61 (dk_at dksX3_remembers_2 2 rfl rfl)
theorem dX3_remembers_51 : decode cX3_remembers 51 = .ok (.iload_n 2, 1) := dk_28 (dk_at dksX3_remembers_2 3 rfl rfl)
theorem dX3_remembers_52 : decode cX3_remembers 52 = .ok (.sipush 128, 3) := dk_17 0 128 (dk_at dksX3_remembers_2 4 rfl rfl)
theorem dX3_remembers_55 : decode cX3_remembers 55 = .ok (.if_icmp .ge 23, 3) := dk_162 0 23 (dk_at dksX3_remembers_2 7 rfl rfl)
theorem dX3_remembers_58 : decode cX3_remembers 58 = .ok (.aload_n 0, 1) := dk_42 (dk_at dksX3_remembers_2 10 rfl rfl)
theorem dX3_remembers_59 : decode cX3_remembers 59 = .ok (.getfield 16, 3) := dk_180 0 16 (dk_at dksX3_remembers_2 11 rfl rfl)
theorem dX3_remembers_62 : decode cX3_remembers 62 = .ok (.iload_n 1, 1) := dk_27 (dk_at dksX3_remembers_2 14 rfl rfl)
theorem dX3_remembers_63 : decode cX3_remembers 63 = .ok (.iload_n 2, 1) := dk_28 (dk_at dksX3_remembers_2 15 rfl rfl)
theorem dX3_remembers_64 : decode cX3_remembers 64 = .ok (.iadd, 1) := dk_96 (dk_at dksX3_remembers_2 16 rfl rfl)
theorem dX3_remembers_65 : decode cX3_remembers 65 = .ok (.aload_n 0, 1) := dk_42 (dk_at dksX3_remembers_2 17 rfl rfl)
theorem dX3_remembers_66 : decode cX3_remembers 66 = .ok (.getfield 22, 3) := dk_180 0 22 (dk_at dksX3_remembers_2 18 rfl rfl)
theorem dX3_remembers_69 : decode cX3_remembers 69 = .ok (.iload_n 2, 1) := dk_28 (dk_at dksX3_remembers_2 21 rfl rfl)
theorem dX3_remembers_70 : decode cX3_remembers 70 = .ok (.iaload, 1) := dk_46 (dk_at dksX3_remembers_2 22 rfl rfl)
theorem dX3_remembers_71 : decode cX3_remembers 71 = .ok (.iastore, 1) := dk_79 (dk_at dksX3_remembers_2 23 rfl rfl)
theorem dX3_remembers_72 : decode cX3_remembers 72 = .ok (.iinc 2 1, 3) := dk_132 2 1 (dk_at dksX3_remembers_3 0 rfl rfl)
theorem dX3_remembers_75 : decode cX3_remembers 75 = .ok (.goto (-24), 3) := dk_167 255 232 (dk_at dksX3_remembers_3 3 rfl rfl)
theorem dX3_remembers_78 : decode cX3_remembers 78 = .ok (.aload_n 0, 1) := dk_42 (dk_at dksX3_remembers_3 6 rfl rfl)
theorem dX3_remembers_79 : decode cX3_remembers 79 = .ok (.dup, 1) := dk_89 (dk_at dksX3_remembers_3 7 rfl rfl)
theorem dX3_remembers_80 : decode cX3_remembers 80 = .ok (.getfield 67, 3) := dk_180 0 67 (dk_at dksX3_remembers_3 8 rfl rfl)
theorem dX3_remembers_83 : decode cX3_remembers 83 = .ok (.iconst 1, 1) := dk_4 (dk_at dksX3_remembers_3 11 rfl rfl)
theorem dX3_remembers_84 : decode cX3_remembers 84 = .ok (.iadd, 1) := dk_96 (dk_at dksX3_remembers_3 12 rfl rfl)
theorem dX3_remembers_85 : decode cX3_remembers 85 = .ok (.putfield 67, 3) := dk_181 0 67 (dk_at dksX3_remembers_3 13 rfl rfl)
theorem dX3_remembers_88 : decode cX3_remembers 88 = .ok (.return_, 1) := dk_177 (dk_at dksX3_remembers_3 16 rfl rfl)
abbrev cX3_lens : ByteArray := prog_13_method_34_code
def yX3_lens : MethodName := ⟨RX3, "lens", "(I)I"⟩
def dkwX3_lens_4 : List UInt8 := [182, 0, 141, 28, 172]
abbrev dktX3_lens_4 : List UInt8 := dkwX3_lens_4 ++ []
def dkwX3_lens_3 : List UInt8 := [184, 0, 84, 27, 79, 42, 180, 0, 13, 28, 4, 184, 0, 84, 27, 79, 42, 28, 182, 0, 144, 42]
abbrev dktX3_lens_3 : List UInt8 := dkwX3_lens_3 ++ dktX3_lens_4
def dkwX3_lens_2 : List UInt8 := [180, 0, 13, 16, 11, 46, 61, 42, 180, 0, 13, 16, 11, 92, 46, 4, 96, 79, 42, 180, 0, 13, 28, 3]
abbrev dktX3_lens_2 : List UInt8 := dkwX3_lens_2 ++ dktX3_lens_3
def dkwX3_lens_1 : List UInt8 := [180, 0, 13, 16, 11, 46, 16, 12, 160, 0, 9, 42, 5, 182, 0, 63, 172, 42, 182, 0, 138, 42]
abbrev dktX3_lens_1 : List UInt8 := dkwX3_lens_1 ++ dktX3_lens_2
def dkwX3_lens_0 : List UInt8 := [42, 3, 181, 0, 51, 27, 8, 16, 60, 184, 0, 77, 154, 0, 9, 42, 4, 182, 0, 63, 172, 42]
abbrev dktX3_lens_0 : List UInt8 := dkwX3_lens_0 ++ dktX3_lens_1
theorem dksX3_lens_0 : cX3_lens.data.toList.drop 0 = dktX3_lens_0 := by decide +kernel
theorem dksX3_lens_1 : cX3_lens.data.toList.drop 22 = dktX3_lens_1 := dk_seg dksX3_lens_0 22 rfl rfl
theorem dksX3_lens_2 : cX3_lens.data.toList.drop 44 = dktX3_lens_2 := dk_seg dksX3_lens_1 22 rfl rfl
theorem dksX3_lens_3 : cX3_lens.data.toList.drop 68 = dktX3_lens_3 := dk_seg dksX3_lens_2 24 rfl rfl
theorem dksX3_lens_4 : cX3_lens.data.toList.drop 90 = dktX3_lens_4 := dk_seg dksX3_lens_3 22 rfl rfl
theorem dX3_lens_0 : decode cX3_lens 0 = .ok (.aload_n 0, 1) := dk_42 (dk_at dksX3_lens_0 0 rfl rfl)
theorem dX3_lens_1 : decode cX3_lens 1 = .ok (.iconst 0, 1) := dk_3 (dk_at dksX3_lens_0 1 rfl rfl)
theorem dX3_lens_2 : decode cX3_lens 2 = .ok (.putfield 51, 3) := dk_181 0 51 (dk_at dksX3_lens_0 2 rfl rfl)
theorem dX3_lens_5 : decode cX3_lens 5 = .ok (.iload_n 1, 1) := dk_27 (dk_at dksX3_lens_0 5 rfl rfl)
theorem dX3_lens_6 : decode cX3_lens 6 = .ok (.iconst 5, 1) := dk_8 (dk_at dksX3_lens_0 6 rfl rfl)
theorem dX3_lens_7 : decode cX3_lens 7 = .ok (.bipush 60, 2) := dk_16 60 (dk_at dksX3_lens_0 7 rfl rfl)
theorem dX3_lens_9 : decode cX3_lens 9 = .ok (.invokestatic 77, 3) := dk_184 0 77 (dk_at dksX3_lens_0 9 rfl rfl)
theorem dX3_lens_12 : decode cX3_lens 12 = .ok (.ifCond .ne 9, 3) := dk_154 0 9 (dk_at dksX3_lens_0 12 rfl rfl)
theorem dX3_lens_15 : decode cX3_lens 15 = .ok (.aload_n 0, 1) := dk_42 (dk_at dksX3_lens_0 15 rfl rfl)
theorem dX3_lens_16 : decode cX3_lens 16 = .ok (.iconst 1, 1) := dk_4 (dk_at dksX3_lens_0 16 rfl rfl)
theorem dX3_lens_17 : decode cX3_lens 17 = .ok (.invokevirtual 63, 3) := dk_182 0 63 (dk_at dksX3_lens_0 17 rfl rfl)
theorem dX3_lens_20 : decode cX3_lens 20 = .ok (.ireturn, 1) := dk_172 (dk_at dksX3_lens_0 20 rfl rfl)
theorem dX3_lens_21 : decode cX3_lens 21 = .ok (.aload_n 0, 1) := dk_42 (dk_at dksX3_lens_0 21 rfl rfl)
theorem dX3_lens_22 : decode cX3_lens 22 = .ok (.getfield 13, 3) := dk_180 0 13 (dk_at dksX3_lens_1 0 rfl rfl)
theorem dX3_lens_25 : decode cX3_lens 25 = .ok (.bipush 11, 2) := dk_16 11 (dk_at dksX3_lens_1 3 rfl rfl)
theorem dX3_lens_27 : decode cX3_lens 27 = .ok (.iaload, 1) := dk_46 (dk_at dksX3_lens_1 5 rfl rfl)
theorem dX3_lens_28 : decode cX3_lens 28 = .ok (.bipush 12, 2) := dk_16 12 (dk_at dksX3_lens_1 6 rfl rfl)
theorem dX3_lens_30 : decode cX3_lens 30 = .ok (.if_icmp .ne 9, 3) := dk_160 0 9 (dk_at dksX3_lens_1 8 rfl rfl)
theorem dX3_lens_33 : decode cX3_lens 33 = .ok (.aload_n 0, 1) := dk_42 (dk_at dksX3_lens_1 11 rfl rfl)
theorem dX3_lens_34 : decode cX3_lens 34 = .ok (.iconst 2, 1) := dk_5 (dk_at dksX3_lens_1 12 rfl rfl)
theorem dX3_lens_35 : decode cX3_lens 35 = .ok (.invokevirtual 63, 3) := dk_182 0 63 (dk_at dksX3_lens_1 13 rfl rfl)
theorem dX3_lens_38 : decode cX3_lens 38 = .ok (.ireturn, 1) := dk_172 (dk_at dksX3_lens_1 16 rfl rfl)
theorem dX3_lens_39 : decode cX3_lens 39 = .ok (.aload_n 0, 1) := dk_42 (dk_at dksX3_lens_1 17 rfl rfl)
theorem dX3_lens_40 : decode cX3_lens 40 = .ok (.invokevirtual 138, 3) := dk_182 0 138 (dk_at dksX3_lens_1 18 rfl rfl)
theorem dX3_lens_43 : decode cX3_lens 43 = .ok (.aload_n 0, 1) := dk_42 (dk_at dksX3_lens_1 21 rfl rfl)
theorem dX3_lens_44 : decode cX3_lens 44 = .ok (.getfield 13, 3) := dk_180 0 13 (dk_at dksX3_lens_2 0 rfl rfl)
theorem dX3_lens_47 : decode cX3_lens 47 = .ok (.bipush 11, 2) := dk_16 11 (dk_at dksX3_lens_2 3 rfl rfl)
theorem dX3_lens_49 : decode cX3_lens 49 = .ok (.iaload, 1) := dk_46 (dk_at dksX3_lens_2 5 rfl rfl)
theorem dX3_lens_50 : decode cX3_lens 50 = .ok (.istore_n 2, 1) := dk_61 (dk_at dksX3_lens_2 6 rfl rfl)
theorem dX3_lens_51 : decode cX3_lens 51 = .ok (.aload_n 0, 1) := dk_42 (dk_at dksX3_lens_2 7 rfl rfl)
theorem dX3_lens_52 : decode cX3_lens 52 = .ok (.getfield 13, 3) := dk_180 0 13 (dk_at dksX3_lens_2 8 rfl rfl)
theorem dX3_lens_55 : decode cX3_lens 55 = .ok (.bipush 11, 2) := dk_16 11 (dk_at dksX3_lens_2 11 rfl rfl)
theorem dX3_lens_57 : decode cX3_lens 57 = .ok (.dup2, 1) := dk_92 (dk_at dksX3_lens_2 13 rfl rfl)
theorem dX3_lens_58 : decode cX3_lens 58 = .ok (.iaload, 1) := dk_46 (dk_at dksX3_lens_2 14 rfl rfl)
theorem dX3_lens_59 : decode cX3_lens 59 = .ok (.iconst 1, 1) := dk_4 (dk_at dksX3_lens_2 15 rfl rfl)
theorem dX3_lens_60 : decode cX3_lens 60 = .ok (.iadd, 1) := dk_96 (dk_at dksX3_lens_2 16 rfl rfl)
theorem dX3_lens_61 : decode cX3_lens 61 = .ok (.iastore, 1) := dk_79 (dk_at dksX3_lens_2 17 rfl rfl)
theorem dX3_lens_62 : decode cX3_lens 62 = .ok (.aload_n 0, 1) := dk_42 (dk_at dksX3_lens_2 18 rfl rfl)
theorem dX3_lens_63 : decode cX3_lens 63 = .ok (.getfield 13, 3) := dk_180 0 13 (dk_at dksX3_lens_2 19 rfl rfl)
theorem dX3_lens_66 : decode cX3_lens 66 = .ok (.iload_n 2, 1) := dk_28 (dk_at dksX3_lens_2 22 rfl rfl)
theorem dX3_lens_67 : decode cX3_lens 67 = .ok (.iconst 0, 1) := dk_3 (dk_at dksX3_lens_2 23 rfl rfl)
theorem dX3_lens_68 : decode cX3_lens 68 = .ok (.invokestatic 84, 3) := dk_184 0 84 (dk_at dksX3_lens_3 0 rfl rfl)
theorem dX3_lens_71 : decode cX3_lens 71 = .ok (.iload_n 1, 1) := dk_27 (dk_at dksX3_lens_3 3 rfl rfl)
theorem dX3_lens_72 : decode cX3_lens 72 = .ok (.iastore, 1) := dk_79 (dk_at dksX3_lens_3 4 rfl rfl)
theorem dX3_lens_73 : decode cX3_lens 73 = .ok (.aload_n 0, 1) := dk_42 (dk_at dksX3_lens_3 5 rfl rfl)
theorem dX3_lens_74 : decode cX3_lens 74 = .ok (.getfield 13, 3) := dk_180 0 13 (dk_at dksX3_lens_3 6 rfl rfl)
theorem dX3_lens_77 : decode cX3_lens 77 = .ok (.iload_n 2, 1) := dk_28 (dk_at dksX3_lens_3 9 rfl rfl)
theorem dX3_lens_78 : decode cX3_lens 78 = .ok (.iconst 1, 1) := dk_4 (dk_at dksX3_lens_3 10 rfl rfl)
theorem dX3_lens_79 : decode cX3_lens 79 = .ok (.invokestatic 84, 3) := dk_184 0 84 (dk_at dksX3_lens_3 11 rfl rfl)
theorem dX3_lens_82 : decode cX3_lens 82 = .ok (.iload_n 1, 1) := dk_27 (dk_at dksX3_lens_3 14 rfl rfl)
theorem dX3_lens_83 : decode cX3_lens 83 = .ok (.iastore, 1) := dk_79 (dk_at dksX3_lens_3 15 rfl rfl)
theorem dX3_lens_84 : decode cX3_lens 84 = .ok (.aload_n 0, 1) := dk_42 (dk_at dksX3_lens_3 16 rfl rfl)
theorem dX3_lens_85 : decode cX3_lens 85 = .ok (.iload_n 2, 1) := dk_28 (dk_at dksX3_lens_3 17 rfl rfl)
theorem dX3_lens_86 : decode cX3_lens 86 = .ok (.invokevirtual 144, 3) := dk_182 0 144 (dk_at dksX3_lens_3 18 rfl rfl)
theorem dX3_lens_89 : decode cX3_lens 89 = .ok (.aload_n 0, 1) := dk_42 (dk_at dksX3_lens_3 21 rfl rfl)
theorem dX3_lens_90 : decode cX3_lens 90 = .ok (.invokevirtual 141, 3) := dk_182 0 141 (dk_at dksX3_lens_4 0 rfl rfl)
theorem dX3_lens_93 : decode cX3_lens 93 = .ok (.iload_n 2, 1) := dk_28 (dk_at dksX3_lens_4 3 rfl rfl)
theorem dX3_lens_94 : decode cX3_lens 94 = .ok (.ireturn, 1) := dk_172 (dk_at dksX3_lens_4 4 rfl rfl)
abbrev cX3_stores : ByteArray := prog_13_method_32_code
def yX3_stores : MethodName := ⟨RX3, "stores", "(I)V"⟩
def dkwX3_stores_1 : List UInt8 := [4, 96, 79, 42, 180, 0, 13, 27, 5, 184, 0, 84, 2, 79, 177]
abbrev dktX3_stores_1 : List UInt8 := dkwX3_stores_1 ++ []
def dkwX3_stores_0 : List UInt8 := [42, 180, 0, 13, 16, 13, 42, 180, 0, 13, 16, 12, 46, 96, 27, 79, 42, 180, 0, 13, 16, 12, 92, 46]
abbrev dktX3_stores_0 : List UInt8 := dkwX3_stores_0 ++ dktX3_stores_1
theorem dksX3_stores_0 : cX3_stores.data.toList.drop 0 = dktX3_stores_0 := by decide +kernel
theorem dksX3_stores_1 : cX3_stores.data.toList.drop 24 = dktX3_stores_1 := dk_seg dksX3_stores_0 24 rfl rfl
theorem dX3_stores_0 : decode cX3_stores 0 = .ok (.aload_n 0, 1) := dk_42 (dk_at dksX3_stores_0 0 rfl rfl)
theorem dX3_stores_1 : decode cX3_stores 1 = .ok (.getfield 13, 3) := dk_180 0 13 (dk_at dksX3_stores_0 1 rfl rfl)
theorem dX3_stores_4 : decode cX3_stores 4 = .ok (.bipush 13, 2) := dk_16 13 (dk_at dksX3_stores_0 4 rfl rfl)
theorem dX3_stores_6 : decode cX3_stores 6 = .ok (.aload_n 0, 1) := dk_42 (dk_at dksX3_stores_0 6 rfl rfl)
theorem dX3_stores_7 : decode cX3_stores 7 = .ok (.getfield 13, 3) := dk_180 0 13 (dk_at dksX3_stores_0 7 rfl rfl)
theorem dX3_stores_10 : decode cX3_stores 10 = .ok (.bipush 12, 2) := dk_16 12 (dk_at dksX3_stores_0 10 rfl rfl)
theorem dX3_stores_12 : decode cX3_stores 12 = .ok (.iaload, 1) := dk_46 (dk_at dksX3_stores_0 12 rfl rfl)
theorem dX3_stores_13 : decode cX3_stores 13 = .ok (.iadd, 1) := dk_96 (dk_at dksX3_stores_0 13 rfl rfl)
theorem dX3_stores_14 : decode cX3_stores 14 = .ok (.iload_n 1, 1) := dk_27 (dk_at dksX3_stores_0 14 rfl rfl)
theorem dX3_stores_15 : decode cX3_stores 15 = .ok (.iastore, 1) := dk_79 (dk_at dksX3_stores_0 15 rfl rfl)
theorem dX3_stores_16 : decode cX3_stores 16 = .ok (.aload_n 0, 1) := dk_42 (dk_at dksX3_stores_0 16 rfl rfl)
theorem dX3_stores_17 : decode cX3_stores 17 = .ok (.getfield 13, 3) := dk_180 0 13 (dk_at dksX3_stores_0 17 rfl rfl)
theorem dX3_stores_20 : decode cX3_stores 20 = .ok (.bipush 12, 2) := dk_16 12 (dk_at dksX3_stores_0 20 rfl rfl)
theorem dX3_stores_22 : decode cX3_stores 22 = .ok (.dup2, 1) := dk_92 (dk_at dksX3_stores_0 22 rfl rfl)
theorem dX3_stores_23 : decode cX3_stores 23 = .ok (.iaload, 1) := dk_46 (dk_at dksX3_stores_0 23 rfl rfl)
theorem dX3_stores_24 : decode cX3_stores 24 = .ok (.iconst 1, 1) := dk_4 (dk_at dksX3_stores_1 0 rfl rfl)
theorem dX3_stores_25 : decode cX3_stores 25 = .ok (.iadd, 1) := dk_96 (dk_at dksX3_stores_1 1 rfl rfl)
theorem dX3_stores_26 : decode cX3_stores 26 = .ok (.iastore, 1) := dk_79 (dk_at dksX3_stores_1 2 rfl rfl)
theorem dX3_stores_27 : decode cX3_stores 27 = .ok (.aload_n 0, 1) := dk_42 (dk_at dksX3_stores_1 3 rfl rfl)
theorem dX3_stores_28 : decode cX3_stores 28 = .ok (.getfield 13, 3) := dk_180 0 13 (dk_at dksX3_stores_1 4 rfl rfl)
theorem dX3_stores_31 : decode cX3_stores 31 = .ok (.iload_n 1, 1) := dk_27 (dk_at dksX3_stores_1 7 rfl rfl)
theorem dX3_stores_32 : decode cX3_stores 32 = .ok (.iconst 2, 1) := dk_5 (dk_at dksX3_stores_1 8 rfl rfl)
theorem dX3_stores_33 : decode cX3_stores 33 = .ok (.invokestatic 84, 3) := dk_184 0 84 (dk_at dksX3_stores_1 9 rfl rfl)
theorem dX3_stores_36 : decode cX3_stores 36 = .ok (.iconst (-1), 1) := dk_2 (dk_at dksX3_stores_1 12 rfl rfl)
theorem dX3_stores_37 : decode cX3_stores 37 = .ok (.iastore, 1) := dk_79 (dk_at dksX3_stores_1 13 rfl rfl)
theorem dX3_stores_38 : decode cX3_stores 38 = .ok (.return_, 1) := dk_177 (dk_at dksX3_stores_1 14 rfl rfl)
abbrev cX3_pattern : ByteArray := prog_13_method_38_code
def yX3_pattern : MethodName := ⟨RX3, "pattern", "(III)I"⟩
def dkwX3_pattern_2 : List UInt8 := [54, 4, 42, 27, 28, 29, 182, 0, 157, 42, 182, 0, 141, 21, 4, 172]
abbrev dktX3_pattern_2 : List UInt8 := dkwX3_pattern_2 ++ []
def dkwX3_pattern_1 : List UInt8 := [154, 0, 9, 42, 5, 182, 0, 63, 172, 42, 182, 0, 138, 42, 27, 16, 6, 182, 0, 81, 184, 0, 154]
abbrev dktX3_pattern_1 : List UInt8 := dkwX3_pattern_1 ++ dktX3_pattern_2
def dkwX3_pattern_0 : List UInt8 := [42, 3, 181, 0, 51, 42, 27, 182, 0, 148, 154, 0, 9, 42, 4, 182, 0, 63, 172, 28, 29, 184, 0, 151]
abbrev dktX3_pattern_0 : List UInt8 := dkwX3_pattern_0 ++ dktX3_pattern_1
theorem dksX3_pattern_0 : cX3_pattern.data.toList.drop 0 = dktX3_pattern_0 := by decide +kernel
theorem dksX3_pattern_1 : cX3_pattern.data.toList.drop 24 = dktX3_pattern_1 := dk_seg dksX3_pattern_0 24 rfl rfl
theorem dksX3_pattern_2 : cX3_pattern.data.toList.drop 47 = dktX3_pattern_2 := dk_seg dksX3_pattern_1 23 rfl rfl
theorem dX3_pattern_0 : decode cX3_pattern 0 = .ok (.aload_n 0, 1) := dk_42 (dk_at dksX3_pattern_0 0 rfl rfl)
theorem dX3_pattern_1 : decode cX3_pattern 1 = .ok (.iconst 0, 1) := dk_3 (dk_at dksX3_pattern_0 1 rfl rfl)
theorem dX3_pattern_2 : decode cX3_pattern 2 = .ok (.putfield 51, 3) := dk_181 0 51 (dk_at dksX3_pattern_0 2 rfl rfl)
theorem dX3_pattern_5 : decode cX3_pattern 5 = .ok (.aload_n 0, 1) := dk_42 (dk_at dksX3_pattern_0 5 rfl rfl)
theorem dX3_pattern_6 : decode cX3_pattern 6 = .ok (.iload_n 1, 1) := dk_27 (dk_at dksX3_pattern_0 6 rfl rfl)
theorem dX3_pattern_7 : decode cX3_pattern 7 = .ok (.invokevirtual 148, 3) := dk_182 0 148 (dk_at dksX3_pattern_0 7 rfl rfl)
theorem dX3_pattern_10 : decode cX3_pattern 10 = .ok (.ifCond .ne 9, 3) := dk_154 0 9 (dk_at dksX3_pattern_0 10 rfl rfl)
theorem dX3_pattern_13 : decode cX3_pattern 13 = .ok (.aload_n 0, 1) := dk_42 (dk_at dksX3_pattern_0 13 rfl rfl)
theorem dX3_pattern_14 : decode cX3_pattern 14 = .ok (.iconst 1, 1) := dk_4 (dk_at dksX3_pattern_0 14 rfl rfl)
theorem dX3_pattern_15 : decode cX3_pattern 15 = .ok (.invokevirtual 63, 3) := dk_182 0 63 (dk_at dksX3_pattern_0 15 rfl rfl)
theorem dX3_pattern_18 : decode cX3_pattern 18 = .ok (.ireturn, 1) := dk_172 (dk_at dksX3_pattern_0 18 rfl rfl)
theorem dX3_pattern_19 : decode cX3_pattern 19 = .ok (.iload_n 2, 1) := dk_28 (dk_at dksX3_pattern_0 19 rfl rfl)
theorem dX3_pattern_20 : decode cX3_pattern 20 = .ok (.iload_n 3, 1) := dk_29 (dk_at dksX3_pattern_0 20 rfl rfl)
theorem dX3_pattern_21 : decode cX3_pattern 21 = .ok (.invokestatic 151, 3) := dk_184 0 151 (dk_at dksX3_pattern_0 21 rfl rfl)
theorem dX3_pattern_24 : decode cX3_pattern 24 = .ok (.ifCond .ne 9, 3) := dk_154 0 9 (dk_at dksX3_pattern_1 0 rfl rfl)
theorem dX3_pattern_27 : decode cX3_pattern 27 = .ok (.aload_n 0, 1) := dk_42 (dk_at dksX3_pattern_1 3 rfl rfl)
theorem dX3_pattern_28 : decode cX3_pattern 28 = .ok (.iconst 2, 1) := dk_5 (dk_at dksX3_pattern_1 4 rfl rfl)
theorem dX3_pattern_29 : decode cX3_pattern 29 = .ok (.invokevirtual 63, 3) := dk_182 0 63 (dk_at dksX3_pattern_1 5 rfl rfl)
theorem dX3_pattern_32 : decode cX3_pattern 32 = .ok (.ireturn, 1) := dk_172 (dk_at dksX3_pattern_1 8 rfl rfl)
theorem dX3_pattern_33 : decode cX3_pattern 33 = .ok (.aload_n 0, 1) := dk_42 (dk_at dksX3_pattern_1 9 rfl rfl)
theorem dX3_pattern_34 : decode cX3_pattern 34 = .ok (.invokevirtual 138, 3) := dk_182 0 138 (dk_at dksX3_pattern_1 10 rfl rfl)
theorem dX3_pattern_37 : decode cX3_pattern 37 = .ok (.aload_n 0, 1) := dk_42 (dk_at dksX3_pattern_1 13 rfl rfl)
theorem dX3_pattern_38 : decode cX3_pattern 38 = .ok (.iload_n 1, 1) := dk_27 (dk_at dksX3_pattern_1 14 rfl rfl)
theorem dX3_pattern_39 : decode cX3_pattern 39 = .ok (.bipush 6, 2) := dk_16 6 (dk_at dksX3_pattern_1 15 rfl rfl)
theorem dX3_pattern_41 : decode cX3_pattern 41 = .ok (.invokevirtual 81, 3) := dk_182 0 81 (dk_at dksX3_pattern_1 17 rfl rfl)
theorem dX3_pattern_44 : decode cX3_pattern 44 = .ok (.invokestatic 154, 3) := dk_184 0 154 (dk_at dksX3_pattern_1 20 rfl rfl)
theorem dX3_pattern_47 : decode cX3_pattern 47 = .ok (.istore 4, 2) := dk_54 4 (dk_at dksX3_pattern_2 0 rfl rfl)
theorem dX3_pattern_49 : decode cX3_pattern 49 = .ok (.aload_n 0, 1) := dk_42 (dk_at dksX3_pattern_2 2 rfl rfl)
theorem dX3_pattern_50 : decode cX3_pattern 50 = .ok (.iload_n 1, 1) := dk_27 (dk_at dksX3_pattern_2 3 rfl rfl)
theorem dX3_pattern_51 : decode cX3_pattern 51 = .ok (.iload_n 2, 1) := dk_28 (dk_at dksX3_pattern_2 4 rfl rfl)
theorem dX3_pattern_52 : decode cX3_pattern 52 = .ok (.iload_n 3, 1) := dk_29 (dk_at dksX3_pattern_2 5 rfl rfl)
theorem dX3_pattern_53 : decode cX3_pattern 53 = .ok (.invokevirtual 157, 3) := dk_182 0 157 (dk_at dksX3_pattern_2 6 rfl rfl)
theorem dX3_pattern_56 : decode cX3_pattern 56 = .ok (.aload_n 0, 1) := dk_42 (dk_at dksX3_pattern_2 9 rfl rfl)
theorem dX3_pattern_57 : decode cX3_pattern 57 = .ok (.invokevirtual 141, 3) := dk_182 0 141 (dk_at dksX3_pattern_2 10 rfl rfl)
theorem dX3_pattern_60 : decode cX3_pattern 60 = .ok (.iload 4, 2) := dk_21 4 (dk_at dksX3_pattern_2 13 rfl rfl)
theorem dX3_pattern_62 : decode cX3_pattern 62 = .ok (.ireturn, 1) := dk_172 (dk_at dksX3_pattern_2 15 rfl rfl)
abbrev cX3_isTower : ByteArray := prog_13_method_13_code
def yX3_isTower : MethodName := ⟨RX3, "isTower", "(I)Z"⟩
def dkwX3_isTower_0 : List UInt8 := [27, 3, 42, 180, 0, 13, 16, 10, 46, 4, 100, 184, 0, 77, 172]
abbrev dktX3_isTower_0 : List UInt8 := dkwX3_isTower_0 ++ []
theorem dksX3_isTower_0 : cX3_isTower.data.toList.drop 0 = dktX3_isTower_0 := by decide +kernel
theorem dX3_isTower_0 : decode cX3_isTower 0 = .ok (.iload_n 1, 1) := dk_27 (dk_at dksX3_isTower_0 0 rfl rfl)
theorem dX3_isTower_1 : decode cX3_isTower 1 = .ok (.iconst 0, 1) := dk_3 (dk_at dksX3_isTower_0 1 rfl rfl)
theorem dX3_isTower_2 : decode cX3_isTower 2 = .ok (.aload_n 0, 1) := dk_42 (dk_at dksX3_isTower_0 2 rfl rfl)
theorem dX3_isTower_3 : decode cX3_isTower 3 = .ok (.getfield 13, 3) := dk_180 0 13 (dk_at dksX3_isTower_0 3 rfl rfl)
theorem dX3_isTower_6 : decode cX3_isTower 6 = .ok (.bipush 10, 2) := dk_16 10 (dk_at dksX3_isTower_0 6 rfl rfl)
theorem dX3_isTower_8 : decode cX3_isTower 8 = .ok (.iaload, 1) := dk_46 (dk_at dksX3_isTower_0 8 rfl rfl)
theorem dX3_isTower_9 : decode cX3_isTower 9 = .ok (.iconst 1, 1) := dk_4 (dk_at dksX3_isTower_0 9 rfl rfl)
theorem dX3_isTower_10 : decode cX3_isTower 10 = .ok (.isub, 1) := dk_100 (dk_at dksX3_isTower_0 10 rfl rfl)
theorem dX3_isTower_11 : decode cX3_isTower 11 = .ok (.invokestatic 77, 3) := dk_184 0 77 (dk_at dksX3_isTower_0 11 rfl rfl)
theorem dX3_isTower_14 : decode cX3_isTower 14 = .ok (.ireturn, 1) := dk_172 (dk_at dksX3_isTower_0 14 rfl rfl)
abbrev cX3_isPattern : ByteArray := prog_13_method_35_code
def yX3_isPattern : MethodName := ⟨RX3, "isPattern", "(II)Z"⟩
def dkwX3_isPattern_1 : List UInt8 := [167, 0, 4, 3, 172]
abbrev dktX3_isPattern_1 : List UInt8 := dkwX3_isPattern_1 ++ []
def dkwX3_isPattern_0 : List UInt8 := [27, 5, 16, 8, 184, 0, 77, 153, 0, 20, 26, 4, 4, 27, 120, 4, 100, 184, 0, 77, 153, 0, 7, 4]
abbrev dktX3_isPattern_0 : List UInt8 := dkwX3_isPattern_0 ++ dktX3_isPattern_1
theorem dksX3_isPattern_0 : cX3_isPattern.data.toList.drop 0 = dktX3_isPattern_0 := by decide +kernel
theorem dksX3_isPattern_1 : cX3_isPattern.data.toList.drop 24 = dktX3_isPattern_1 := dk_seg dksX3_isPattern_0 24 rfl rfl
theorem dX3_isPattern_0 : decode cX3_isPattern 0 = .ok (.iload_n 1, 1) := dk_27 (dk_at dksX3_isPattern_0 0 rfl rfl)
theorem dX3_isPattern_1 : decode cX3_isPattern 1 = .ok (.iconst 2, 1) := dk_5 (dk_at dksX3_isPattern_0 1 rfl rfl)
theorem dX3_isPattern_2 : decode cX3_isPattern 2 = .ok (.bipush 8, 2) := dk_16 8 (dk_at dksX3_isPattern_0 2 rfl rfl)
theorem dX3_isPattern_4 : decode cX3_isPattern 4 = .ok (.invokestatic 77, 3) := dk_184 0 77 (dk_at dksX3_isPattern_0 4 rfl rfl)
theorem dX3_isPattern_7 : decode cX3_isPattern 7 = .ok (.ifCond .eq 20, 3) := dk_153 0 20 (dk_at dksX3_isPattern_0 7 rfl rfl)
theorem dX3_isPattern_10 : decode cX3_isPattern 10 = .ok (.iload_n 0, 1) := dk_26 (dk_at dksX3_isPattern_0 10 rfl rfl)
theorem dX3_isPattern_11 : decode cX3_isPattern 11 = .ok (.iconst 1, 1) := dk_4 (dk_at dksX3_isPattern_0 11 rfl rfl)
theorem dX3_isPattern_12 : decode cX3_isPattern 12 = .ok (.iconst 1, 1) := dk_4 (dk_at dksX3_isPattern_0 12 rfl rfl)
theorem dX3_isPattern_13 : decode cX3_isPattern 13 = .ok (.iload_n 1, 1) := dk_27 (dk_at dksX3_isPattern_0 13 rfl rfl)
theorem dX3_isPattern_14 : decode cX3_isPattern 14 = .ok (.ishl, 1) := dk_120 (dk_at dksX3_isPattern_0 14 rfl rfl)
theorem dX3_isPattern_15 : decode cX3_isPattern 15 = .ok (.iconst 1, 1) := dk_4 (dk_at dksX3_isPattern_0 15 rfl rfl)
theorem dX3_isPattern_16 : decode cX3_isPattern 16 = .ok (.isub, 1) := dk_100 (dk_at dksX3_isPattern_0 16 rfl rfl)
theorem dX3_isPattern_17 : decode cX3_isPattern 17 = .ok (.invokestatic 77, 3) := dk_184 0 77 (dk_at dksX3_isPattern_0 17 rfl rfl)
theorem dX3_isPattern_20 : decode cX3_isPattern 20 = .ok (.ifCond .eq 7, 3) := dk_153 0 7 (dk_at dksX3_isPattern_0 20 rfl rfl)
theorem dX3_isPattern_23 : decode cX3_isPattern 23 = .ok (.iconst 1, 1) := dk_4 (dk_at dksX3_isPattern_0 23 rfl rfl)
theorem dX3_isPattern_24 : decode cX3_isPattern 24 = .ok (.goto 4, 3) := dk_167 0 4 (dk_at dksX3_isPattern_1 0 rfl rfl)
theorem dX3_isPattern_27 : decode cX3_isPattern 27 = .ok (.iconst 0, 1) := dk_3 (dk_at dksX3_isPattern_1 3 rfl rfl)
theorem dX3_isPattern_28 : decode cX3_isPattern 28 = .ok (.ireturn, 1) := dk_172 (dk_at dksX3_isPattern_1 4 rfl rfl)
abbrev cX3_bits : ByteArray := prog_13_method_36_code
def yX3_bits : MethodName := ⟨RX3, "bits", "(I)I"⟩
def dkwX3_bits_1 : List UInt8 := [27, 172]
abbrev dktX3_bits_1 : List UInt8 := dkwX3_bits_1 ++ []
def dkwX3_bits_0 : List UInt8 := [3, 60, 3, 61, 28, 16, 8, 162, 0, 17, 27, 26, 28, 122, 4, 126, 96, 60, 132, 2, 1, 167, 255, 239]
abbrev dktX3_bits_0 : List UInt8 := dkwX3_bits_0 ++ dktX3_bits_1
theorem dksX3_bits_0 : cX3_bits.data.toList.drop 0 = dktX3_bits_0 := by decide +kernel
theorem dksX3_bits_1 : cX3_bits.data.toList.drop 24 = dktX3_bits_1 := dk_seg dksX3_bits_0 24 rfl rfl
theorem dX3_bits_0 : decode cX3_bits 0 = .ok (.iconst 0, 1) := dk_3 (dk_at dksX3_bits_0 0 rfl rfl)
theorem dX3_bits_1 : decode cX3_bits 1 = .ok (.istore_n 1, 1) := dk_60 (dk_at dksX3_bits_0 1 rfl rfl)
theorem dX3_bits_2 : decode cX3_bits 2 = .ok (.iconst 0, 1) := dk_3 (dk_at dksX3_bits_0 2 rfl rfl)
theorem dX3_bits_3 : decode cX3_bits 3 = .ok (.istore_n 2, 1) := dk_61 (dk_at dksX3_bits_0 3 rfl rfl)
theorem dX3_bits_4 : decode cX3_bits 4 = .ok (.iload_n 2, 1) := dk_28 (dk_at dksX3_bits_0 4 rfl rfl)
theorem dX3_bits_5 : decode cX3_bits 5 = .ok (.bipush 8, 2) := dk_16 8 (dk_at dksX3_bits_0 5 rfl rfl)
theorem dX3_bits_7 : decode cX3_bits 7 = .ok (.if_icmp .ge 17, 3) := dk_162 0 17 (dk_at dksX3_bits_0 7 rfl rfl)
theorem dX3_bits_10 : decode cX3_bits 10 = .ok (.iload_n 1, 1) := dk_27 (dk_at dksX3_bits_0 10 rfl rfl)
theorem dX3_bits_11 : decode cX3_bits 11 = .ok (.iload_n 0, 1) := dk_26 (dk_at dksX3_bits_0 11 rfl rfl)
theorem dX3_bits_12 : decode cX3_bits 12 = .ok (.iload_n 2, 1) := dk_28 (dk_at dksX3_bits_0 12 rfl rfl)
theorem dX3_bits_13 : decode cX3_bits 13 = .ok (.ishr, 1) := dk_122 (dk_at dksX3_bits_0 13 rfl rfl)
theorem dX3_bits_14 : decode cX3_bits 14 = .ok (.iconst 1, 1) := dk_4 (dk_at dksX3_bits_0 14 rfl rfl)
theorem dX3_bits_15 : decode cX3_bits 15 = .ok (.iand, 1) := dk_126 (dk_at dksX3_bits_0 15 rfl rfl)
theorem dX3_bits_16 : decode cX3_bits 16 = .ok (.iadd, 1) := dk_96 (dk_at dksX3_bits_0 16 rfl rfl)
theorem dX3_bits_17 : decode cX3_bits 17 = .ok (.istore_n 1, 1) := dk_60 (dk_at dksX3_bits_0 17 rfl rfl)
theorem dX3_bits_18 : decode cX3_bits 18 = .ok (.iinc 2 1, 3) := dk_132 2 1 (dk_at dksX3_bits_0 18 rfl rfl)
theorem dX3_bits_21 : decode cX3_bits 21 = .ok (.goto (-17), 3) := dk_167 255 239 (dk_at dksX3_bits_0 21 rfl rfl)
theorem dX3_bits_24 : decode cX3_bits 24 = .ok (.iload_n 1, 1) := dk_27 (dk_at dksX3_bits_1 0 rfl rfl)
theorem dX3_bits_25 : decode cX3_bits 25 = .ok (.ireturn, 1) := dk_172 (dk_at dksX3_bits_1 1 rfl rfl)
abbrev cX3_setsPattern : ByteArray := prog_13_method_37_code
def yX3_setsPattern : MethodName := ⟨RX3, "setsPattern", "(III)V"⟩
def dkwX3_setsPattern_1 : List UInt8 := [177]
abbrev dktX3_setsPattern_1 : List UInt8 := dkwX3_setsPattern_1 ++ []
def dkwX3_setsPattern_0 : List UInt8 := [42, 180, 0, 13, 27, 16, 6, 184, 0, 73, 28, 79, 42, 180, 0, 13, 27, 16, 7, 184, 0, 73, 29, 79]
abbrev dktX3_setsPattern_0 : List UInt8 := dkwX3_setsPattern_0 ++ dktX3_setsPattern_1
theorem dksX3_setsPattern_0 : cX3_setsPattern.data.toList.drop 0 = dktX3_setsPattern_0 := by decide +kernel
theorem dksX3_setsPattern_1 : cX3_setsPattern.data.toList.drop 24 = dktX3_setsPattern_1 := dk_seg dksX3_setsPattern_0 24 rfl rfl
theorem dX3_setsPattern_0 : decode cX3_setsPattern 0 = .ok (.aload_n 0, 1) := dk_42 (dk_at dksX3_setsPattern_0 0 rfl rfl)
theorem dX3_setsPattern_1 : decode cX3_setsPattern 1 = .ok (.getfield 13, 3) := dk_180 0 13 (dk_at dksX3_setsPattern_0 1 rfl rfl)
theorem dX3_setsPattern_4 : decode cX3_setsPattern 4 = .ok (.iload_n 1, 1) := dk_27 (dk_at dksX3_setsPattern_0 4 rfl rfl)
theorem dX3_setsPattern_5 : decode cX3_setsPattern 5 = .ok (.bipush 6, 2) := dk_16 6 (dk_at dksX3_setsPattern_0 5 rfl rfl)
theorem dX3_setsPattern_7 : decode cX3_setsPattern 7 = .ok (.invokestatic 73, 3) := dk_184 0 73 (dk_at dksX3_setsPattern_0 7 rfl rfl)
theorem dX3_setsPattern_10 : decode cX3_setsPattern 10 = .ok (.iload_n 2, 1) := dk_28 (dk_at dksX3_setsPattern_0 10 rfl rfl)
theorem dX3_setsPattern_11 : decode cX3_setsPattern 11 = .ok (.iastore, 1) := dk_79 (dk_at dksX3_setsPattern_0 11 rfl rfl)
theorem dX3_setsPattern_12 : decode cX3_setsPattern 12 = .ok (.aload_n 0, 1) := dk_42 (dk_at dksX3_setsPattern_0 12 rfl rfl)
theorem dX3_setsPattern_13 : decode cX3_setsPattern 13 = .ok (.getfield 13, 3) := dk_180 0 13 (dk_at dksX3_setsPattern_0 13 rfl rfl)
theorem dX3_setsPattern_16 : decode cX3_setsPattern 16 = .ok (.iload_n 1, 1) := dk_27 (dk_at dksX3_setsPattern_0 16 rfl rfl)
theorem dX3_setsPattern_17 : decode cX3_setsPattern 17 = .ok (.bipush 7, 2) := dk_16 7 (dk_at dksX3_setsPattern_0 17 rfl rfl)
theorem dX3_setsPattern_19 : decode cX3_setsPattern 19 = .ok (.invokestatic 73, 3) := dk_184 0 73 (dk_at dksX3_setsPattern_0 19 rfl rfl)
theorem dX3_setsPattern_22 : decode cX3_setsPattern 22 = .ok (.iload_n 3, 1) := dk_29 (dk_at dksX3_setsPattern_0 22 rfl rfl)
theorem dX3_setsPattern_23 : decode cX3_setsPattern 23 = .ok (.iastore, 1) := dk_79 (dk_at dksX3_setsPattern_0 23 rfl rfl)
theorem dX3_setsPattern_24 : decode cX3_setsPattern 24 = .ok (.return_, 1) := dk_177 (dk_at dksX3_setsPattern_1 0 rfl rfl)
abbrev cX3_fit : ByteArray := prog_13_method_41_code
def yX3_fit : MethodName := ⟨RX3, "fit", "(I)I"⟩
def dkwX3_fit_2 : List UInt8 := [172]
abbrev dktX3_fit_2 : List UInt8 := dkwX3_fit_2 ++ []
def dkwX3_fit_1 : List UInt8 := [153, 0, 9, 42, 5, 182, 0, 135, 172, 42, 182, 0, 138, 42, 27, 182, 0, 168, 61, 42, 182, 0, 141, 28]
abbrev dktX3_fit_1 : List UInt8 := dkwX3_fit_1 ++ dktX3_fit_2
def dkwX3_fit_0 : List UInt8 := [42, 3, 181, 0, 51, 42, 27, 182, 0, 148, 154, 0, 9, 42, 4, 182, 0, 63, 172, 42, 182, 0, 164]
abbrev dktX3_fit_0 : List UInt8 := dkwX3_fit_0 ++ dktX3_fit_1
theorem dksX3_fit_0 : cX3_fit.data.toList.drop 0 = dktX3_fit_0 := by decide +kernel
theorem dksX3_fit_1 : cX3_fit.data.toList.drop 23 = dktX3_fit_1 := dk_seg dksX3_fit_0 23 rfl rfl
theorem dksX3_fit_2 : cX3_fit.data.toList.drop 47 = dktX3_fit_2 := dk_seg dksX3_fit_1 24 rfl rfl
theorem dX3_fit_0 : decode cX3_fit 0 = .ok (.aload_n 0, 1) := dk_42 (dk_at dksX3_fit_0 0 rfl rfl)
theorem dX3_fit_1 : decode cX3_fit 1 = .ok (.iconst 0, 1) := dk_3 (dk_at dksX3_fit_0 1 rfl rfl)
theorem dX3_fit_2 : decode cX3_fit 2 = .ok (.putfield 51, 3) := dk_181 0 51 (dk_at dksX3_fit_0 2 rfl rfl)
theorem dX3_fit_5 : decode cX3_fit 5 = .ok (.aload_n 0, 1) := dk_42 (dk_at dksX3_fit_0 5 rfl rfl)
theorem dX3_fit_6 : decode cX3_fit 6 = .ok (.iload_n 1, 1) := dk_27 (dk_at dksX3_fit_0 6 rfl rfl)
theorem dX3_fit_7 : decode cX3_fit 7 = .ok (.invokevirtual 148, 3) := dk_182 0 148 (dk_at dksX3_fit_0 7 rfl rfl)
theorem dX3_fit_10 : decode cX3_fit 10 = .ok (.ifCond .ne 9, 3) := dk_154 0 9 (dk_at dksX3_fit_0 10 rfl rfl)
theorem dX3_fit_13 : decode cX3_fit 13 = .ok (.aload_n 0, 1) := dk_42 (dk_at dksX3_fit_0 13 rfl rfl)
theorem dX3_fit_14 : decode cX3_fit 14 = .ok (.iconst 1, 1) := dk_4 (dk_at dksX3_fit_0 14 rfl rfl)
theorem dX3_fit_15 : decode cX3_fit 15 = .ok (.invokevirtual 63, 3) := dk_182 0 63 (dk_at dksX3_fit_0 15 rfl rfl)
theorem dX3_fit_18 : decode cX3_fit 18 = .ok (.ireturn, 1) := dk_172 (dk_at dksX3_fit_0 18 rfl rfl)
theorem dX3_fit_19 : decode cX3_fit 19 = .ok (.aload_n 0, 1) := dk_42 (dk_at dksX3_fit_0 19 rfl rfl)
theorem dX3_fit_20 : decode cX3_fit 20 = .ok (.invokevirtual 164, 3) := dk_182 0 164 (dk_at dksX3_fit_0 20 rfl rfl)
theorem dX3_fit_23 : decode cX3_fit 23 = .ok (.ifCond .eq 9, 3) := dk_153 0 9 (dk_at dksX3_fit_1 0 rfl rfl)
theorem dX3_fit_26 : decode cX3_fit 26 = .ok (.aload_n 0, 1) := dk_42 (dk_at dksX3_fit_1 3 rfl rfl)
theorem dX3_fit_27 : decode cX3_fit 27 = .ok (.iconst 2, 1) := dk_5 (dk_at dksX3_fit_1 4 rfl rfl)
theorem dX3_fit_28 : decode cX3_fit 28 = .ok (.invokevirtual 135, 3) := dk_182 0 135 (dk_at dksX3_fit_1 5 rfl rfl)
theorem dX3_fit_31 : decode cX3_fit 31 = .ok (.ireturn, 1) := dk_172 (dk_at dksX3_fit_1 8 rfl rfl)
theorem dX3_fit_32 : decode cX3_fit 32 = .ok (.aload_n 0, 1) := dk_42 (dk_at dksX3_fit_1 9 rfl rfl)
theorem dX3_fit_33 : decode cX3_fit 33 = .ok (.invokevirtual 138, 3) := dk_182 0 138 (dk_at dksX3_fit_1 10 rfl rfl)
theorem dX3_fit_36 : decode cX3_fit 36 = .ok (.aload_n 0, 1) := dk_42 (dk_at dksX3_fit_1 13 rfl rfl)
theorem dX3_fit_37 : decode cX3_fit 37 = .ok (.iload_n 1, 1) := dk_27 (dk_at dksX3_fit_1 14 rfl rfl)
theorem dX3_fit_38 : decode cX3_fit 38 = .ok (.invokevirtual 168, 3) := dk_182 0 168 (dk_at dksX3_fit_1 15 rfl rfl)
theorem dX3_fit_41 : decode cX3_fit 41 = .ok (.istore_n 2, 1) := dk_61 (dk_at dksX3_fit_1 18 rfl rfl)
theorem dX3_fit_42 : decode cX3_fit 42 = .ok (.aload_n 0, 1) := dk_42 (dk_at dksX3_fit_1 19 rfl rfl)
theorem dX3_fit_43 : decode cX3_fit 43 = .ok (.invokevirtual 141, 3) := dk_182 0 141 (dk_at dksX3_fit_1 20 rfl rfl)
theorem dX3_fit_46 : decode cX3_fit 46 = .ok (.iload_n 2, 1) := dk_28 (dk_at dksX3_fit_1 23 rfl rfl)
theorem dX3_fit_47 : decode cX3_fit 47 = .ok (.ireturn, 1) := dk_172 (dk_at dksX3_fit_2 0 rfl rfl)
abbrev cX3_mayNotFit : ByteArray := prog_13_method_39_code
def yX3_mayNotFit : MethodName := ⟨RX3, "mayNotFit", "()Z"⟩
def dkwX3_mayNotFit_1 : List UInt8 := [3, 172]
abbrev dktX3_mayNotFit_1 : List UInt8 := dkwX3_mayNotFit_1 ++ []
def dkwX3_mayNotFit_0 : List UInt8 := [42, 180, 0, 13, 16, 12, 46, 154, 0, 17, 42, 16, 8, 3, 182, 0, 132, 153, 0, 7, 4, 167, 0, 4]
abbrev dktX3_mayNotFit_0 : List UInt8 := dkwX3_mayNotFit_0 ++ dktX3_mayNotFit_1
theorem dksX3_mayNotFit_0 : cX3_mayNotFit.data.toList.drop 0 = dktX3_mayNotFit_0 := by decide +kernel
theorem dksX3_mayNotFit_1 : cX3_mayNotFit.data.toList.drop 24 = dktX3_mayNotFit_1 := dk_seg dksX3_mayNotFit_0 24 rfl rfl
theorem dX3_mayNotFit_0 : decode cX3_mayNotFit 0 = .ok (.aload_n 0, 1) := dk_42 (dk_at dksX3_mayNotFit_0 0 rfl rfl)
theorem dX3_mayNotFit_1 : decode cX3_mayNotFit 1 = .ok (.getfield 13, 3) := dk_180 0 13 (dk_at dksX3_mayNotFit_0 1 rfl rfl)
theorem dX3_mayNotFit_4 : decode cX3_mayNotFit 4 = .ok (.bipush 12, 2) := dk_16 12 (dk_at dksX3_mayNotFit_0 4 rfl rfl)
theorem dX3_mayNotFit_6 : decode cX3_mayNotFit 6 = .ok (.iaload, 1) := dk_46 (dk_at dksX3_mayNotFit_0 6 rfl rfl)
theorem dX3_mayNotFit_7 : decode cX3_mayNotFit 7 = .ok (.ifCond .ne 17, 3) := dk_154 0 17 (dk_at dksX3_mayNotFit_0 7 rfl rfl)
theorem dX3_mayNotFit_10 : decode cX3_mayNotFit 10 = .ok (.aload_n 0, 1) := dk_42 (dk_at dksX3_mayNotFit_0 10 rfl rfl)
theorem dX3_mayNotFit_11 : decode cX3_mayNotFit 11 = .ok (.bipush 8, 2) := dk_16 8 (dk_at dksX3_mayNotFit_0 11 rfl rfl)
theorem dX3_mayNotFit_13 : decode cX3_mayNotFit 13 = .ok (.iconst 0, 1) := dk_3 (dk_at dksX3_mayNotFit_0 13 rfl rfl)
theorem dX3_mayNotFit_14 : decode cX3_mayNotFit 14 = .ok (.invokevirtual 132, 3) := dk_182 0 132 (dk_at dksX3_mayNotFit_0 14 rfl rfl)
theorem dX3_mayNotFit_17 : decode cX3_mayNotFit 17 = .ok (.ifCond .eq 7, 3) := dk_153 0 7 (dk_at dksX3_mayNotFit_0 17 rfl rfl)
theorem dX3_mayNotFit_20 : decode cX3_mayNotFit 20 = .ok (.iconst 1, 1) := dk_4 (dk_at dksX3_mayNotFit_0 20 rfl rfl)
theorem dX3_mayNotFit_21 : decode cX3_mayNotFit 21 = .ok (.goto 4, 3) := dk_167 0 4 (dk_at dksX3_mayNotFit_0 21 rfl rfl)
theorem dX3_mayNotFit_24 : decode cX3_mayNotFit 24 = .ok (.iconst 0, 1) := dk_3 (dk_at dksX3_mayNotFit_1 0 rfl rfl)
theorem dX3_mayNotFit_25 : decode cX3_mayNotFit 25 = .ok (.ireturn, 1) := dk_172 (dk_at dksX3_mayNotFit_1 1 rfl rfl)
abbrev cX3_fits : ByteArray := prog_13_method_40_code
def yX3_fits : MethodName := ⟨RX3, "fits", "(I)I"⟩
def dkwX3_fits_2 : List UInt8 := [5, 184, 0, 84, 27, 79, 28, 172]
abbrev dktX3_fits_2 : List UInt8 := dkwX3_fits_2 ++ []
def dkwX3_fits_1 : List UInt8 := [27, 6, 182, 0, 81, 182, 0, 144, 42, 180, 0, 13, 27, 6, 184, 0, 73, 28, 79, 42, 180, 0, 13, 28]
abbrev dktX3_fits_1 : List UInt8 := dkwX3_fits_1 ++ dktX3_fits_2
def dkwX3_fits_0 : List UInt8 := [42, 180, 0, 13, 16, 13, 46, 61, 42, 3, 182, 0, 161, 42, 27, 6, 182, 0, 81, 155, 0, 13, 42, 42]
abbrev dktX3_fits_0 : List UInt8 := dkwX3_fits_0 ++ dktX3_fits_1
theorem dksX3_fits_0 : cX3_fits.data.toList.drop 0 = dktX3_fits_0 := by decide +kernel
theorem dksX3_fits_1 : cX3_fits.data.toList.drop 24 = dktX3_fits_1 := dk_seg dksX3_fits_0 24 rfl rfl
theorem dksX3_fits_2 : cX3_fits.data.toList.drop 48 = dktX3_fits_2 := dk_seg dksX3_fits_1 24 rfl rfl
theorem dX3_fits_0 : decode cX3_fits 0 = .ok (.aload_n 0, 1) := dk_42 (dk_at dksX3_fits_0 0 rfl rfl)
theorem dX3_fits_1 : decode cX3_fits 1 = .ok (.getfield 13, 3) := dk_180 0 13 (dk_at dksX3_fits_0 1 rfl rfl)
theorem dX3_fits_4 : decode cX3_fits 4 = .ok (.bipush 13, 2) := dk_16 13 (dk_at dksX3_fits_0 4 rfl rfl)
theorem dX3_fits_6 : decode cX3_fits 6 = .ok (.iaload, 1) := dk_46 (dk_at dksX3_fits_0 6 rfl rfl)
theorem dX3_fits_7 : decode cX3_fits 7 = .ok (.istore_n 2, 1) := dk_61 (dk_at dksX3_fits_0 7 rfl rfl)
theorem dX3_fits_8 : decode cX3_fits 8 = .ok (.aload_n 0, 1) := dk_42 (dk_at dksX3_fits_0 8 rfl rfl)
theorem dX3_fits_9 : decode cX3_fits 9 = .ok (.iconst 0, 1) := dk_3 (dk_at dksX3_fits_0 9 rfl rfl)
theorem dX3_fits_10 : decode cX3_fits 10 = .ok (.invokevirtual 161, 3) := dk_182 0 161 (dk_at dksX3_fits_0 10 rfl rfl)
theorem dX3_fits_13 : decode cX3_fits 13 = .ok (.aload_n 0, 1) := dk_42 (dk_at dksX3_fits_0 13 rfl rfl)
theorem dX3_fits_14 : decode cX3_fits 14 = .ok (.iload_n 1, 1) := dk_27 (dk_at dksX3_fits_0 14 rfl rfl)
theorem dX3_fits_15 : decode cX3_fits 15 = .ok (.iconst 3, 1) := dk_6 (dk_at dksX3_fits_0 15 rfl rfl)
theorem dX3_fits_16 : decode cX3_fits 16 = .ok (.invokevirtual 81, 3) := dk_182 0 81 (dk_at dksX3_fits_0 16 rfl rfl)
theorem dX3_fits_19 : decode cX3_fits 19 = .ok (.ifCond .lt 13, 3) := dk_155 0 13 (dk_at dksX3_fits_0 19 rfl rfl)
theorem dX3_fits_22 : decode cX3_fits 22 = .ok (.aload_n 0, 1) := dk_42 (dk_at dksX3_fits_0 22 rfl rfl)
theorem dX3_fits_23 : decode cX3_fits 23 = .ok (.aload_n 0, 1) := dk_42 (dk_at dksX3_fits_0 23 rfl rfl)
theorem dX3_fits_24 : decode cX3_fits 24 = .ok (.iload_n 1, 1) := dk_27 (dk_at dksX3_fits_1 0 rfl rfl)
theorem dX3_fits_25 : decode cX3_fits 25 = .ok (.iconst 3, 1) := dk_6 (dk_at dksX3_fits_1 1 rfl rfl)
theorem dX3_fits_26 : decode cX3_fits 26 = .ok (.invokevirtual 81, 3) := dk_182 0 81 (dk_at dksX3_fits_1 2 rfl rfl)
theorem dX3_fits_29 : decode cX3_fits 29 = .ok (.invokevirtual 144, 3) := dk_182 0 144 (dk_at dksX3_fits_1 5 rfl rfl)
theorem dX3_fits_32 : decode cX3_fits 32 = .ok (.aload_n 0, 1) := dk_42 (dk_at dksX3_fits_1 8 rfl rfl)
theorem dX3_fits_33 : decode cX3_fits 33 = .ok (.getfield 13, 3) := dk_180 0 13 (dk_at dksX3_fits_1 9 rfl rfl)
theorem dX3_fits_36 : decode cX3_fits 36 = .ok (.iload_n 1, 1) := dk_27 (dk_at dksX3_fits_1 12 rfl rfl)
theorem dX3_fits_37 : decode cX3_fits 37 = .ok (.iconst 3, 1) := dk_6 (dk_at dksX3_fits_1 13 rfl rfl)
theorem dX3_fits_38 : decode cX3_fits 38 = .ok (.invokestatic 73, 3) := dk_184 0 73 (dk_at dksX3_fits_1 14 rfl rfl)
theorem dX3_fits_41 : decode cX3_fits 41 = .ok (.iload_n 2, 1) := dk_28 (dk_at dksX3_fits_1 17 rfl rfl)
theorem dX3_fits_42 : decode cX3_fits 42 = .ok (.iastore, 1) := dk_79 (dk_at dksX3_fits_1 18 rfl rfl)
theorem dX3_fits_43 : decode cX3_fits 43 = .ok (.aload_n 0, 1) := dk_42 (dk_at dksX3_fits_1 19 rfl rfl)
theorem dX3_fits_44 : decode cX3_fits 44 = .ok (.getfield 13, 3) := dk_180 0 13 (dk_at dksX3_fits_1 20 rfl rfl)
theorem dX3_fits_47 : decode cX3_fits 47 = .ok (.iload_n 2, 1) := dk_28 (dk_at dksX3_fits_1 23 rfl rfl)
theorem dX3_fits_48 : decode cX3_fits 48 = .ok (.iconst 2, 1) := dk_5 (dk_at dksX3_fits_2 0 rfl rfl)
theorem dX3_fits_49 : decode cX3_fits 49 = .ok (.invokestatic 84, 3) := dk_184 0 84 (dk_at dksX3_fits_2 1 rfl rfl)
theorem dX3_fits_52 : decode cX3_fits 52 = .ok (.iload_n 1, 1) := dk_27 (dk_at dksX3_fits_2 4 rfl rfl)
theorem dX3_fits_53 : decode cX3_fits 53 = .ok (.iastore, 1) := dk_79 (dk_at dksX3_fits_2 5 rfl rfl)
theorem dX3_fits_54 : decode cX3_fits 54 = .ok (.iload_n 2, 1) := dk_28 (dk_at dksX3_fits_2 6 rfl rfl)
theorem dX3_fits_55 : decode cX3_fits 55 = .ok (.ireturn, 1) := dk_172 (dk_at dksX3_fits_2 7 rfl rfl)
abbrev cX3_leavesStore : ByteArray := prog_13_method_33_code
def yX3_leavesStore : MethodName := ⟨RX3, "leavesStore", "(I)V"⟩
def dkwX3_leavesStore_2 : List UInt8 := [46, 4, 100, 79, 42, 180, 0, 13, 16, 13, 42, 180, 0, 13, 16, 12, 46, 96, 3, 79, 177]
abbrev dktX3_leavesStore_2 : List UInt8 := dkwX3_leavesStore_2 ++ []
def dkwX3_leavesStore_1 : List UInt8 := [180, 0, 13, 16, 13, 28, 96, 4, 96, 46, 79, 132, 2, 1, 167, 255, 220, 42, 180, 0, 13, 16, 12, 92]
abbrev dktX3_leavesStore_1 : List UInt8 := dkwX3_leavesStore_1 ++ dktX3_leavesStore_2
def dkwX3_leavesStore_0 : List UInt8 := [27, 61, 28, 4, 96, 42, 180, 0, 13, 16, 12, 46, 162, 0, 29, 42, 180, 0, 13, 16, 13, 28, 96, 42]
abbrev dktX3_leavesStore_0 : List UInt8 := dkwX3_leavesStore_0 ++ dktX3_leavesStore_1
theorem dksX3_leavesStore_0 : cX3_leavesStore.data.toList.drop 0 = dktX3_leavesStore_0 := by decide +kernel
theorem dksX3_leavesStore_1 : cX3_leavesStore.data.toList.drop 24 = dktX3_leavesStore_1 := dk_seg dksX3_leavesStore_0 24 rfl rfl
theorem dksX3_leavesStore_2 : cX3_leavesStore.data.toList.drop 48 = dktX3_leavesStore_2 := dk_seg dksX3_leavesStore_1 24 rfl rfl
theorem dX3_leavesStore_0 : decode cX3_leavesStore 0 = .ok (.iload_n 1, 1) := dk_27 (dk_at dksX3_leavesStore_0 0 rfl rfl)
theorem dX3_leavesStore_1 : decode cX3_leavesStore 1 = .ok (.istore_n 2, 1) := dk_61 (dk_at dksX3_leavesStore_0 1 rfl rfl)
theorem dX3_leavesStore_2 : decode cX3_leavesStore 2 = .ok (.iload_n 2, 1) := dk_28 (dk_at dksX3_leavesStore_0 2 rfl rfl)
theorem dX3_leavesStore_3 : decode cX3_leavesStore 3 = .ok (.iconst 1, 1) := dk_4 (dk_at dksX3_leavesStore_0 3 rfl rfl)
theorem dX3_leavesStore_4 : decode cX3_leavesStore 4 = .ok (.iadd, 1) := dk_96 (dk_at dksX3_leavesStore_0 4 rfl rfl)
theorem dX3_leavesStore_5 : decode cX3_leavesStore 5 = .ok (.aload_n 0, 1) := dk_42 (dk_at dksX3_leavesStore_0 5 rfl rfl)
theorem dX3_leavesStore_6 : decode cX3_leavesStore 6 = .ok (.getfield 13, 3) := dk_180 0 13 (dk_at dksX3_leavesStore_0 6 rfl rfl)
theorem dX3_leavesStore_9 : decode cX3_leavesStore 9 = .ok (.bipush 12, 2) := dk_16 12 (dk_at dksX3_leavesStore_0 9 rfl rfl)
theorem dX3_leavesStore_11 : decode cX3_leavesStore 11 = .ok (.iaload, 1) := dk_46 (dk_at dksX3_leavesStore_0 11 rfl rfl)
theorem dX3_leavesStore_12 : decode cX3_leavesStore 12 = .ok (.if_icmp .ge 29, 3) := dk_162 0 29 (dk_at dksX3_leavesStore_0 12 rfl rfl)
theorem dX3_leavesStore_15 : decode cX3_leavesStore 15 = .ok (.aload_n 0, 1) := dk_42 (dk_at dksX3_leavesStore_0 15 rfl rfl)
theorem dX3_leavesStore_16 : decode cX3_leavesStore 16 = .ok (.getfield 13, 3) := dk_180 0 13 (dk_at dksX3_leavesStore_0 16 rfl rfl)
theorem dX3_leavesStore_19 : decode cX3_leavesStore 19 = .ok (.bipush 13, 2) := dk_16 13 (dk_at dksX3_leavesStore_0 19 rfl rfl)
theorem dX3_leavesStore_21 : decode cX3_leavesStore 21 = .ok (.iload_n 2, 1) := dk_28 (dk_at dksX3_leavesStore_0 21 rfl rfl)
theorem dX3_leavesStore_22 : decode cX3_leavesStore 22 = .ok (.iadd, 1) := dk_96 (dk_at dksX3_leavesStore_0 22 rfl rfl)
theorem dX3_leavesStore_23 : decode cX3_leavesStore 23 = .ok (.aload_n 0, 1) := dk_42 (dk_at dksX3_leavesStore_0 23 rfl rfl)
theorem dX3_leavesStore_24 : decode cX3_leavesStore 24 = .ok (.getfield 13, 3) := dk_180 0 13 (dk_at dksX3_leavesStore_1 0 rfl rfl)
theorem dX3_leavesStore_27 : decode cX3_leavesStore 27 = .ok (.bipush 13, 2) := dk_16 13 (dk_at dksX3_leavesStore_1 3 rfl rfl)
theorem dX3_leavesStore_29 : decode cX3_leavesStore 29 = .ok (.iload_n 2, 1) := dk_28 (dk_at dksX3_leavesStore_1 5 rfl rfl)
theorem dX3_leavesStore_30 : decode cX3_leavesStore 30 = .ok (.iadd, 1) := dk_96 (dk_at dksX3_leavesStore_1 6 rfl rfl)
theorem dX3_leavesStore_31 : decode cX3_leavesStore 31 = .ok (.iconst 1, 1) := dk_4 (dk_at dksX3_leavesStore_1 7 rfl rfl)
theorem dX3_leavesStore_32 : decode cX3_leavesStore 32 = .ok (.iadd, 1) := dk_96 (dk_at dksX3_leavesStore_1 8 rfl rfl)
theorem dX3_leavesStore_33 : decode cX3_leavesStore 33 = .ok (.iaload, 1) := dk_46 (dk_at dksX3_leavesStore_1 9 rfl rfl)
theorem dX3_leavesStore_34 : decode cX3_leavesStore 34 = .ok (.iastore, 1) := dk_79 (dk_at dksX3_leavesStore_1 10 rfl rfl)
theorem dX3_leavesStore_35 : decode cX3_leavesStore 35 = .ok (.iinc 2 1, 3) := dk_132 2 1 (dk_at dksX3_leavesStore_1 11 rfl rfl)
theorem dX3_leavesStore_38 : decode cX3_leavesStore 38 = .ok (.goto (-36), 3) := dk_167 255 220 (dk_at dksX3_leavesStore_1 14 rfl rfl)
theorem dX3_leavesStore_41 : decode cX3_leavesStore 41 = .ok (.aload_n 0, 1) := dk_42 (dk_at dksX3_leavesStore_1 17 rfl rfl)
theorem dX3_leavesStore_42 : decode cX3_leavesStore 42 = .ok (.getfield 13, 3) := dk_180 0 13 (dk_at dksX3_leavesStore_1 18 rfl rfl)
theorem dX3_leavesStore_45 : decode cX3_leavesStore 45 = .ok (.bipush 12, 2) := dk_16 12 (dk_at dksX3_leavesStore_1 21 rfl rfl)
theorem dX3_leavesStore_47 : decode cX3_leavesStore 47 = .ok (.dup2, 1) := dk_92 (dk_at dksX3_leavesStore_1 23 rfl rfl)
theorem dX3_leavesStore_48 : decode cX3_leavesStore 48 = .ok (.iaload, 1) := dk_46 (dk_at dksX3_leavesStore_2 0 rfl rfl)
theorem dX3_leavesStore_49 : decode cX3_leavesStore 49 = .ok (.iconst 1, 1) := dk_4 (dk_at dksX3_leavesStore_2 1 rfl rfl)
theorem dX3_leavesStore_50 : decode cX3_leavesStore 50 = .ok (.isub, 1) := dk_100 (dk_at dksX3_leavesStore_2 2 rfl rfl)
theorem dX3_leavesStore_51 : decode cX3_leavesStore 51 = .ok (.iastore, 1) := dk_79 (dk_at dksX3_leavesStore_2 3 rfl rfl)
theorem dX3_leavesStore_52 : decode cX3_leavesStore 52 = .ok (.aload_n 0, 1) := dk_42 (dk_at dksX3_leavesStore_2 4 rfl rfl)
theorem dX3_leavesStore_53 : decode cX3_leavesStore 53 = .ok (.getfield 13, 3) := dk_180 0 13 (dk_at dksX3_leavesStore_2 5 rfl rfl)
theorem dX3_leavesStore_56 : decode cX3_leavesStore 56 = .ok (.bipush 13, 2) := dk_16 13 (dk_at dksX3_leavesStore_2 8 rfl rfl)
theorem dX3_leavesStore_58 : decode cX3_leavesStore 58 = .ok (.aload_n 0, 1) := dk_42 (dk_at dksX3_leavesStore_2 10 rfl rfl)
theorem dX3_leavesStore_59 : decode cX3_leavesStore 59 = .ok (.getfield 13, 3) := dk_180 0 13 (dk_at dksX3_leavesStore_2 11 rfl rfl)
theorem dX3_leavesStore_62 : decode cX3_leavesStore 62 = .ok (.bipush 12, 2) := dk_16 12 (dk_at dksX3_leavesStore_2 14 rfl rfl)
theorem dX3_leavesStore_64 : decode cX3_leavesStore 64 = .ok (.iaload, 1) := dk_46 (dk_at dksX3_leavesStore_2 16 rfl rfl)
theorem dX3_leavesStore_65 : decode cX3_leavesStore 65 = .ok (.iadd, 1) := dk_96 (dk_at dksX3_leavesStore_2 17 rfl rfl)
theorem dX3_leavesStore_66 : decode cX3_leavesStore 66 = .ok (.iconst 0, 1) := dk_3 (dk_at dksX3_leavesStore_2 18 rfl rfl)
theorem dX3_leavesStore_67 : decode cX3_leavesStore 67 = .ok (.iastore, 1) := dk_79 (dk_at dksX3_leavesStore_2 19 rfl rfl)
theorem dX3_leavesStore_68 : decode cX3_leavesStore 68 = .ok (.return_, 1) := dk_177 (dk_at dksX3_leavesStore_2 20 rfl rfl)
abbrev cX3_light : ByteArray := prog_13_method_47_code
def yX3_light : MethodName := ⟨RX3, "light", "(I)I"⟩
def dkwX3_light_2 : List UInt8 := [42, 182, 0, 141, 42, 182, 0, 174, 172]
abbrev dktX3_light_2 : List UInt8 := dkwX3_light_2 ++ []
def dkwX3_light_1 : List UInt8 := [153, 0, 9, 42, 5, 182, 0, 135, 172, 42, 182, 0, 138, 42, 180, 0, 13, 27, 7, 184, 0, 73, 4, 79]
abbrev dktX3_light_1 : List UInt8 := dkwX3_light_1 ++ dktX3_light_2
def dkwX3_light_0 : List UInt8 := [42, 3, 181, 0, 51, 42, 27, 182, 0, 148, 154, 0, 9, 42, 4, 182, 0, 63, 172, 42, 27, 182, 0, 171]
abbrev dktX3_light_0 : List UInt8 := dkwX3_light_0 ++ dktX3_light_1
theorem dksX3_light_0 : cX3_light.data.toList.drop 0 = dktX3_light_0 := by decide +kernel
theorem dksX3_light_1 : cX3_light.data.toList.drop 24 = dktX3_light_1 := dk_seg dksX3_light_0 24 rfl rfl
theorem dksX3_light_2 : cX3_light.data.toList.drop 48 = dktX3_light_2 := dk_seg dksX3_light_1 24 rfl rfl
theorem dX3_light_0 : decode cX3_light 0 = .ok (.aload_n 0, 1) := dk_42 (dk_at dksX3_light_0 0 rfl rfl)
theorem dX3_light_1 : decode cX3_light 1 = .ok (.iconst 0, 1) := dk_3 (dk_at dksX3_light_0 1 rfl rfl)
theorem dX3_light_2 : decode cX3_light 2 = .ok (.putfield 51, 3) := dk_181 0 51 (dk_at dksX3_light_0 2 rfl rfl)
theorem dX3_light_5 : decode cX3_light 5 = .ok (.aload_n 0, 1) := dk_42 (dk_at dksX3_light_0 5 rfl rfl)
theorem dX3_light_6 : decode cX3_light 6 = .ok (.iload_n 1, 1) := dk_27 (dk_at dksX3_light_0 6 rfl rfl)
theorem dX3_light_7 : decode cX3_light 7 = .ok (.invokevirtual 148, 3) := dk_182 0 148 (dk_at dksX3_light_0 7 rfl rfl)
theorem dX3_light_10 : decode cX3_light 10 = .ok (.ifCond .ne 9, 3) := dk_154 0 9 (dk_at dksX3_light_0 10 rfl rfl)
theorem dX3_light_13 : decode cX3_light 13 = .ok (.aload_n 0, 1) := dk_42 (dk_at dksX3_light_0 13 rfl rfl)
theorem dX3_light_14 : decode cX3_light 14 = .ok (.iconst 1, 1) := dk_4 (dk_at dksX3_light_0 14 rfl rfl)
theorem dX3_light_15 : decode cX3_light 15 = .ok (.invokevirtual 63, 3) := dk_182 0 63 (dk_at dksX3_light_0 15 rfl rfl)
theorem dX3_light_18 : decode cX3_light 18 = .ok (.ireturn, 1) := dk_172 (dk_at dksX3_light_0 18 rfl rfl)
theorem dX3_light_19 : decode cX3_light 19 = .ok (.aload_n 0, 1) := dk_42 (dk_at dksX3_light_0 19 rfl rfl)
theorem dX3_light_20 : decode cX3_light 20 = .ok (.iload_n 1, 1) := dk_27 (dk_at dksX3_light_0 20 rfl rfl)
theorem dX3_light_21 : decode cX3_light 21 = .ok (.invokevirtual 171, 3) := dk_182 0 171 (dk_at dksX3_light_0 21 rfl rfl)
theorem dX3_light_24 : decode cX3_light 24 = .ok (.ifCond .eq 9, 3) := dk_153 0 9 (dk_at dksX3_light_1 0 rfl rfl)
theorem dX3_light_27 : decode cX3_light 27 = .ok (.aload_n 0, 1) := dk_42 (dk_at dksX3_light_1 3 rfl rfl)
theorem dX3_light_28 : decode cX3_light 28 = .ok (.iconst 2, 1) := dk_5 (dk_at dksX3_light_1 4 rfl rfl)
theorem dX3_light_29 : decode cX3_light 29 = .ok (.invokevirtual 135, 3) := dk_182 0 135 (dk_at dksX3_light_1 5 rfl rfl)
theorem dX3_light_32 : decode cX3_light 32 = .ok (.ireturn, 1) := dk_172 (dk_at dksX3_light_1 8 rfl rfl)
theorem dX3_light_33 : decode cX3_light 33 = .ok (.aload_n 0, 1) := dk_42 (dk_at dksX3_light_1 9 rfl rfl)
theorem dX3_light_34 : decode cX3_light 34 = .ok (.invokevirtual 138, 3) := dk_182 0 138 (dk_at dksX3_light_1 10 rfl rfl)
theorem dX3_light_37 : decode cX3_light 37 = .ok (.aload_n 0, 1) := dk_42 (dk_at dksX3_light_1 13 rfl rfl)
theorem dX3_light_38 : decode cX3_light 38 = .ok (.getfield 13, 3) := dk_180 0 13 (dk_at dksX3_light_1 14 rfl rfl)
theorem dX3_light_41 : decode cX3_light 41 = .ok (.iload_n 1, 1) := dk_27 (dk_at dksX3_light_1 17 rfl rfl)
theorem dX3_light_42 : decode cX3_light 42 = .ok (.iconst 4, 1) := dk_7 (dk_at dksX3_light_1 18 rfl rfl)
theorem dX3_light_43 : decode cX3_light 43 = .ok (.invokestatic 73, 3) := dk_184 0 73 (dk_at dksX3_light_1 19 rfl rfl)
theorem dX3_light_46 : decode cX3_light 46 = .ok (.iconst 1, 1) := dk_4 (dk_at dksX3_light_1 22 rfl rfl)
theorem dX3_light_47 : decode cX3_light 47 = .ok (.iastore, 1) := dk_79 (dk_at dksX3_light_1 23 rfl rfl)
theorem dX3_light_48 : decode cX3_light 48 = .ok (.aload_n 0, 1) := dk_42 (dk_at dksX3_light_2 0 rfl rfl)
theorem dX3_light_49 : decode cX3_light 49 = .ok (.invokevirtual 141, 3) := dk_182 0 141 (dk_at dksX3_light_2 1 rfl rfl)
theorem dX3_light_52 : decode cX3_light 52 = .ok (.aload_n 0, 1) := dk_42 (dk_at dksX3_light_2 4 rfl rfl)
theorem dX3_light_53 : decode cX3_light 53 = .ok (.invokevirtual 174, 3) := dk_182 0 174 (dk_at dksX3_light_2 5 rfl rfl)
theorem dX3_light_56 : decode cX3_light 56 = .ok (.ireturn, 1) := dk_172 (dk_at dksX3_light_2 8 rfl rfl)
abbrev cX3_mayNotLight : ByteArray := prog_13_method_42_code
def yX3_mayNotLight : MethodName := ⟨RX3, "mayNotLight", "(I)Z"⟩
def dkwX3_mayNotLight_4 : List UInt8 := [132, 2, 1, 167, 255, 217, 3, 172]
abbrev dktX3_mayNotLight_4 : List UInt8 := dkwX3_mayNotLight_4 ++ []
def dkwX3_mayNotLight_3 : List UInt8 := [182, 0, 109, 153, 0, 20, 42, 28, 27, 182, 0, 113, 153, 0, 11, 42, 16, 6, 28, 182, 0, 132, 172]
abbrev dktX3_mayNotLight_3 : List UInt8 := dkwX3_mayNotLight_3 ++ dktX3_mayNotLight_4
def dkwX3_mayNotLight_2 : List UInt8 := [182, 0, 90, 182, 0, 132, 172, 3, 61, 28, 42, 180, 0, 13, 16, 10, 46, 162, 0, 34, 42, 28]
abbrev dktX3_mayNotLight_2 : List UInt8 := dkwX3_mayNotLight_2 ++ dktX3_mayNotLight_3
def dkwX3_mayNotLight_1 : List UInt8 := [153, 0, 10, 42, 6, 27, 182, 0, 132, 172, 42, 27, 182, 0, 90, 8, 162, 0, 14, 42, 8, 42, 27]
abbrev dktX3_mayNotLight_1 : List UInt8 := dkwX3_mayNotLight_1 ++ dktX3_mayNotLight_2
def dkwX3_mayNotLight_0 : List UInt8 := [42, 27, 8, 182, 0, 81, 4, 160, 0, 10, 42, 5, 27, 182, 0, 132, 172, 42, 27, 182, 0, 109]
abbrev dktX3_mayNotLight_0 : List UInt8 := dkwX3_mayNotLight_0 ++ dktX3_mayNotLight_1
theorem dksX3_mayNotLight_0 : cX3_mayNotLight.data.toList.drop 0 = dktX3_mayNotLight_0 := by decide +kernel
theorem dksX3_mayNotLight_1 : cX3_mayNotLight.data.toList.drop 22 = dktX3_mayNotLight_1 := dk_seg dksX3_mayNotLight_0 22 rfl rfl
theorem dksX3_mayNotLight_2 : cX3_mayNotLight.data.toList.drop 45 = dktX3_mayNotLight_2 := dk_seg dksX3_mayNotLight_1 23 rfl rfl
theorem dksX3_mayNotLight_3 : cX3_mayNotLight.data.toList.drop 67 = dktX3_mayNotLight_3 := dk_seg dksX3_mayNotLight_2 22 rfl rfl
theorem dksX3_mayNotLight_4 : cX3_mayNotLight.data.toList.drop 90 = dktX3_mayNotLight_4 := dk_seg dksX3_mayNotLight_3 23 rfl rfl
theorem dX3_mayNotLight_0 : decode cX3_mayNotLight 0 = .ok (.aload_n 0, 1) := dk_42 (dk_at dksX3_mayNotLight_0 0 rfl rfl)
theorem dX3_mayNotLight_1 : decode cX3_mayNotLight 1 = .ok (.iload_n 1, 1) := dk_27 (dk_at dksX3_mayNotLight_0 1 rfl rfl)
theorem dX3_mayNotLight_2 : decode cX3_mayNotLight 2 = .ok (.iconst 5, 1) := dk_8 (dk_at dksX3_mayNotLight_0 2 rfl rfl)
theorem dX3_mayNotLight_3 : decode cX3_mayNotLight 3 = .ok (.invokevirtual 81, 3) := dk_182 0 81 (dk_at dksX3_mayNotLight_0 3 rfl rfl)
theorem dX3_mayNotLight_6 : decode cX3_mayNotLight 6 = .ok (.iconst 1, 1) := dk_4 (dk_at dksX3_mayNotLight_0 6 rfl rfl)
theorem dX3_mayNotLight_7 : decode cX3_mayNotLight 7 = .ok (.if_icmp .ne 10, 3) := dk_160 0 10 (dk_at dksX3_mayNotLight_0 7 rfl rfl)
theorem dX3_mayNotLight_10 : decode cX3_mayNotLight 10 = .ok (.aload_n 0, 1) := dk_42 (dk_at dksX3_mayNotLight_0 10 rfl rfl)
theorem dX3_mayNotLight_11 : decode cX3_mayNotLight 11 = .ok (.iconst 2, 1) := dk_5 (dk_at dksX3_mayNotLight_0 11 rfl rfl)
theorem dX3_mayNotLight_12 : decode cX3_mayNotLight 12 = .ok (.iload_n 1, 1) := dk_27 (dk_at dksX3_mayNotLight_0 12 rfl rfl)
theorem dX3_mayNotLight_13 : decode cX3_mayNotLight 13 = .ok (.invokevirtual 132, 3) := dk_182 0 132 (dk_at dksX3_mayNotLight_0 13 rfl rfl)
theorem dX3_mayNotLight_16 : decode cX3_mayNotLight 16 = .ok (.ireturn, 1) := dk_172 (dk_at dksX3_mayNotLight_0 16 rfl rfl)
theorem dX3_mayNotLight_17 : decode cX3_mayNotLight 17 = .ok (.aload_n 0, 1) := dk_42 (dk_at dksX3_mayNotLight_0 17 rfl rfl)
theorem dX3_mayNotLight_18 : decode cX3_mayNotLight 18 = .ok (.iload_n 1, 1) := dk_27 (dk_at dksX3_mayNotLight_0 18 rfl rfl)
theorem dX3_mayNotLight_19 : decode cX3_mayNotLight 19 = .ok (.invokevirtual 109, 3) := dk_182 0 109 (dk_at dksX3_mayNotLight_0 19 rfl rfl)
theorem dX3_mayNotLight_22 : decode cX3_mayNotLight 22 = .ok (.ifCond .eq 10, 3) := dk_153 0 10 (dk_at dksX3_mayNotLight_1 0 rfl rfl)
theorem dX3_mayNotLight_25 : decode cX3_mayNotLight 25 = .ok (.aload_n 0, 1) := dk_42 (dk_at dksX3_mayNotLight_1 3 rfl rfl)
theorem dX3_mayNotLight_26 : decode cX3_mayNotLight 26 = .ok (.iconst 3, 1) := dk_6 (dk_at dksX3_mayNotLight_1 4 rfl rfl)
theorem dX3_mayNotLight_27 : decode cX3_mayNotLight 27 = .ok (.iload_n 1, 1) := dk_27 (dk_at dksX3_mayNotLight_1 5 rfl rfl)
theorem dX3_mayNotLight_28 : decode cX3_mayNotLight 28 = .ok (.invokevirtual 132, 3) := dk_182 0 132 (dk_at dksX3_mayNotLight_1 6 rfl rfl)
theorem dX3_mayNotLight_31 : decode cX3_mayNotLight 31 = .ok (.ireturn, 1) := dk_172 (dk_at dksX3_mayNotLight_1 9 rfl rfl)
theorem dX3_mayNotLight_32 : decode cX3_mayNotLight 32 = .ok (.aload_n 0, 1) := dk_42 (dk_at dksX3_mayNotLight_1 10 rfl rfl)
theorem dX3_mayNotLight_33 : decode cX3_mayNotLight 33 = .ok (.iload_n 1, 1) := dk_27 (dk_at dksX3_mayNotLight_1 11 rfl rfl)
theorem dX3_mayNotLight_34 : decode cX3_mayNotLight 34 = .ok (.invokevirtual 90, 3) := dk_182 0 90 (dk_at dksX3_mayNotLight_1 12 rfl rfl)
theorem dX3_mayNotLight_37 : decode cX3_mayNotLight 37 = .ok (.iconst 5, 1) := dk_8 (dk_at dksX3_mayNotLight_1 15 rfl rfl)
theorem dX3_mayNotLight_38 : decode cX3_mayNotLight 38 = .ok (.if_icmp .ge 14, 3) := dk_162 0 14 (dk_at dksX3_mayNotLight_1 16 rfl rfl)
theorem dX3_mayNotLight_41 : decode cX3_mayNotLight 41 = .ok (.aload_n 0, 1) := dk_42 (dk_at dksX3_mayNotLight_1 19 rfl rfl)
theorem dX3_mayNotLight_42 : decode cX3_mayNotLight 42 = .ok (.iconst 5, 1) := dk_8 (dk_at dksX3_mayNotLight_1 20 rfl rfl)
theorem dX3_mayNotLight_43 : decode cX3_mayNotLight 43 = .ok (.aload_n 0, 1) := dk_42 (dk_at dksX3_mayNotLight_1 21 rfl rfl)
theorem dX3_mayNotLight_44 : decode cX3_mayNotLight 44 = .ok (.iload_n 1, 1) := dk_27 (dk_at dksX3_mayNotLight_1 22 rfl rfl)
theorem dX3_mayNotLight_45 : decode cX3_mayNotLight 45 = .ok (.invokevirtual 90, 3) := dk_182 0 90 (dk_at dksX3_mayNotLight_2 0 rfl rfl)
theorem dX3_mayNotLight_48 : decode cX3_mayNotLight 48 = .ok (.invokevirtual 132, 3) := dk_182 0 132 (dk_at dksX3_mayNotLight_2 3 rfl rfl)
theorem dX3_mayNotLight_51 : decode cX3_mayNotLight 51 = .ok (.ireturn, 1) := dk_172 (dk_at dksX3_mayNotLight_2 6 rfl rfl)
theorem dX3_mayNotLight_52 : decode cX3_mayNotLight 52 = .ok (.iconst 0, 1) := dk_3 (dk_at dksX3_mayNotLight_2 7 rfl rfl)
theorem dX3_mayNotLight_53 : decode cX3_mayNotLight 53 = .ok (.istore_n 2, 1) := dk_61 (dk_at dksX3_mayNotLight_2 8 rfl rfl)
theorem dX3_mayNotLight_54 : decode cX3_mayNotLight 54 = .ok (.iload_n 2, 1) := dk_28 (dk_at dksX3_mayNotLight_2 9 rfl rfl)
theorem dX3_mayNotLight_55 : decode cX3_mayNotLight 55 = .ok (.aload_n 0, 1) := dk_42 (dk_at dksX3_mayNotLight_2 10 rfl rfl)
theorem dX3_mayNotLight_56 : decode cX3_mayNotLight 56 = .ok (.getfield 13, 3) := dk_180 0 13 (dk_at dksX3_mayNotLight_2 11 rfl rfl)
theorem dX3_mayNotLight_59 : decode cX3_mayNotLight 59 = .ok (.bipush 10, 2) := dk_16 10 (dk_at dksX3_mayNotLight_2 14 rfl rfl)
theorem dX3_mayNotLight_61 : decode cX3_mayNotLight 61 = .ok (.iaload, 1) := dk_46 (dk_at dksX3_mayNotLight_2 16 rfl rfl)
theorem dX3_mayNotLight_62 : decode cX3_mayNotLight 62 = .ok (.if_icmp .ge 34, 3) := dk_162 0 34 (dk_at dksX3_mayNotLight_2 17 rfl rfl)
theorem dX3_mayNotLight_65 : decode cX3_mayNotLight 65 = .ok (.aload_n 0, 1) := dk_42 (dk_at dksX3_mayNotLight_2 20 rfl rfl)
theorem dX3_mayNotLight_66 : decode cX3_mayNotLight 66 = .ok (.iload_n 2, 1) := dk_28 (dk_at dksX3_mayNotLight_2 21 rfl rfl)
theorem dX3_mayNotLight_67 : decode cX3_mayNotLight 67 = .ok (.invokevirtual 109, 3) := dk_182 0 109 (dk_at dksX3_mayNotLight_3 0 rfl rfl)
theorem dX3_mayNotLight_70 : decode cX3_mayNotLight 70 = .ok (.ifCond .eq 20, 3) := dk_153 0 20 (dk_at dksX3_mayNotLight_3 3 rfl rfl)
theorem dX3_mayNotLight_73 : decode cX3_mayNotLight 73 = .ok (.aload_n 0, 1) := dk_42 (dk_at dksX3_mayNotLight_3 6 rfl rfl)
theorem dX3_mayNotLight_74 : decode cX3_mayNotLight 74 = .ok (.iload_n 2, 1) := dk_28 (dk_at dksX3_mayNotLight_3 7 rfl rfl)
theorem dX3_mayNotLight_75 : decode cX3_mayNotLight 75 = .ok (.iload_n 1, 1) := dk_27 (dk_at dksX3_mayNotLight_3 8 rfl rfl)
theorem dX3_mayNotLight_76 : decode cX3_mayNotLight 76 = .ok (.invokevirtual 113, 3) := dk_182 0 113 (dk_at dksX3_mayNotLight_3 9 rfl rfl)
theorem dX3_mayNotLight_79 : decode cX3_mayNotLight 79 = .ok (.ifCond .eq 11, 3) := dk_153 0 11 (dk_at dksX3_mayNotLight_3 12 rfl rfl)
theorem dX3_mayNotLight_82 : decode cX3_mayNotLight 82 = .ok (.aload_n 0, 1) := dk_42 (dk_at dksX3_mayNotLight_3 15 rfl rfl)
theorem dX3_mayNotLight_83 : decode cX3_mayNotLight 83 = .ok (.bipush 6, 2) := dk_16 6 (dk_at dksX3_mayNotLight_3 16 rfl rfl)
theorem dX3_mayNotLight_85 : decode cX3_mayNotLight 85 = .ok (.iload_n 2, 1) := dk_28 (dk_at dksX3_mayNotLight_3 18 rfl rfl)
theorem dX3_mayNotLight_86 : decode cX3_mayNotLight 86 = .ok (.invokevirtual 132, 3) := dk_182 0 132 (dk_at dksX3_mayNotLight_3 19 rfl rfl)
theorem dX3_mayNotLight_89 : decode cX3_mayNotLight 89 = .ok (.ireturn, 1) := dk_172 (dk_at dksX3_mayNotLight_3 22 rfl rfl)
theorem dX3_mayNotLight_90 : decode cX3_mayNotLight 90 = .ok (.iinc 2 1, 3) := dk_132 2 1 (dk_at dksX3_mayNotLight_4 0 rfl rfl)
theorem dX3_mayNotLight_93 : decode cX3_mayNotLight 93 = .ok (.goto (-39), 3) := dk_167 255 217 (dk_at dksX3_mayNotLight_4 3 rfl rfl)
theorem dX3_mayNotLight_96 : decode cX3_mayNotLight 96 = .ok (.iconst 0, 1) := dk_3 (dk_at dksX3_mayNotLight_4 6 rfl rfl)
theorem dX3_mayNotLight_97 : decode cX3_mayNotLight 97 = .ok (.ireturn, 1) := dk_172 (dk_at dksX3_mayNotLight_4 7 rfl rfl)
abbrev cX3_litOnes : ByteArray := prog_13_method_17_code
def yX3_litOnes : MethodName := ⟨RX3, "litOnes", "()I"⟩
def dkwX3_litOnes_1 : List UInt8 := [132, 2, 1, 167, 255, 233, 27, 172]
abbrev dktX3_litOnes_1 : List UInt8 := dkwX3_litOnes_1 ++ []
def dkwX3_litOnes_0 : List UInt8 := [3, 60, 3, 61, 28, 42, 180, 0, 13, 16, 10, 46, 162, 0, 18, 27, 42, 28, 7, 182, 0, 81, 96, 60]
abbrev dktX3_litOnes_0 : List UInt8 := dkwX3_litOnes_0 ++ dktX3_litOnes_1
theorem dksX3_litOnes_0 : cX3_litOnes.data.toList.drop 0 = dktX3_litOnes_0 := by decide +kernel
theorem dksX3_litOnes_1 : cX3_litOnes.data.toList.drop 24 = dktX3_litOnes_1 := dk_seg dksX3_litOnes_0 24 rfl rfl
theorem dX3_litOnes_0 : decode cX3_litOnes 0 = .ok (.iconst 0, 1) := dk_3 (dk_at dksX3_litOnes_0 0 rfl rfl)
theorem dX3_litOnes_1 : decode cX3_litOnes 1 = .ok (.istore_n 1, 1) := dk_60 (dk_at dksX3_litOnes_0 1 rfl rfl)
theorem dX3_litOnes_2 : decode cX3_litOnes 2 = .ok (.iconst 0, 1) := dk_3 (dk_at dksX3_litOnes_0 2 rfl rfl)
theorem dX3_litOnes_3 : decode cX3_litOnes 3 = .ok (.istore_n 2, 1) := dk_61 (dk_at dksX3_litOnes_0 3 rfl rfl)
theorem dX3_litOnes_4 : decode cX3_litOnes 4 = .ok (.iload_n 2, 1) := dk_28 (dk_at dksX3_litOnes_0 4 rfl rfl)
theorem dX3_litOnes_5 : decode cX3_litOnes 5 = .ok (.aload_n 0, 1) := dk_42 (dk_at dksX3_litOnes_0 5 rfl rfl)
theorem dX3_litOnes_6 : decode cX3_litOnes 6 = .ok (.getfield 13, 3) := dk_180 0 13 (dk_at dksX3_litOnes_0 6 rfl rfl)
theorem dX3_litOnes_9 : decode cX3_litOnes 9 = .ok (.bipush 10, 2) := dk_16 10 (dk_at dksX3_litOnes_0 9 rfl rfl)
theorem dX3_litOnes_11 : decode cX3_litOnes 11 = .ok (.iaload, 1) := dk_46 (dk_at dksX3_litOnes_0 11 rfl rfl)
theorem dX3_litOnes_12 : decode cX3_litOnes 12 = .ok (.if_icmp .ge 18, 3) := dk_162 0 18 (dk_at dksX3_litOnes_0 12 rfl rfl)
theorem dX3_litOnes_15 : decode cX3_litOnes 15 = .ok (.iload_n 1, 1) := dk_27 (dk_at dksX3_litOnes_0 15 rfl rfl)
theorem dX3_litOnes_16 : decode cX3_litOnes 16 = .ok (.aload_n 0, 1) := dk_42 (dk_at dksX3_litOnes_0 16 rfl rfl)
theorem dX3_litOnes_17 : decode cX3_litOnes 17 = .ok (.iload_n 2, 1) := dk_28 (dk_at dksX3_litOnes_0 17 rfl rfl)
theorem dX3_litOnes_18 : decode cX3_litOnes 18 = .ok (.iconst 4, 1) := dk_7 (dk_at dksX3_litOnes_0 18 rfl rfl)
theorem dX3_litOnes_19 : decode cX3_litOnes 19 = .ok (.invokevirtual 81, 3) := dk_182 0 81 (dk_at dksX3_litOnes_0 19 rfl rfl)
theorem dX3_litOnes_22 : decode cX3_litOnes 22 = .ok (.iadd, 1) := dk_96 (dk_at dksX3_litOnes_0 22 rfl rfl)
theorem dX3_litOnes_23 : decode cX3_litOnes 23 = .ok (.istore_n 1, 1) := dk_60 (dk_at dksX3_litOnes_0 23 rfl rfl)
theorem dX3_litOnes_24 : decode cX3_litOnes 24 = .ok (.iinc 2 1, 3) := dk_132 2 1 (dk_at dksX3_litOnes_1 0 rfl rfl)
theorem dX3_litOnes_27 : decode cX3_litOnes 27 = .ok (.goto (-23), 3) := dk_167 255 233 (dk_at dksX3_litOnes_1 3 rfl rfl)
theorem dX3_litOnes_30 : decode cX3_litOnes 30 = .ok (.iload_n 1, 1) := dk_27 (dk_at dksX3_litOnes_1 6 rfl rfl)
theorem dX3_litOnes_31 : decode cX3_litOnes 31 = .ok (.ireturn, 1) := dk_172 (dk_at dksX3_litOnes_1 7 rfl rfl)
abbrev cX3_darken : ByteArray := prog_13_method_48_code
def yX3_darken : MethodName := ⟨RX3, "darken", "(I)I"⟩
def dkwX3_darken_2 : List UInt8 := [42, 182, 0, 141, 42, 182, 0, 174, 172]
abbrev dktX3_darken_2 : List UInt8 := dkwX3_darken_2 ++ []
def dkwX3_darken_1 : List UInt8 := [153, 0, 9, 42, 5, 182, 0, 135, 172, 42, 182, 0, 138, 42, 180, 0, 13, 27, 7, 184, 0, 73, 3, 79]
abbrev dktX3_darken_1 : List UInt8 := dkwX3_darken_1 ++ dktX3_darken_2
def dkwX3_darken_0 : List UInt8 := [42, 3, 181, 0, 51, 42, 27, 182, 0, 148, 154, 0, 9, 42, 4, 182, 0, 63, 172, 42, 27, 182, 0, 177]
abbrev dktX3_darken_0 : List UInt8 := dkwX3_darken_0 ++ dktX3_darken_1
theorem dksX3_darken_0 : cX3_darken.data.toList.drop 0 = dktX3_darken_0 := by decide +kernel
theorem dksX3_darken_1 : cX3_darken.data.toList.drop 24 = dktX3_darken_1 := dk_seg dksX3_darken_0 24 rfl rfl
theorem dksX3_darken_2 : cX3_darken.data.toList.drop 48 = dktX3_darken_2 := dk_seg dksX3_darken_1 24 rfl rfl
theorem dX3_darken_0 : decode cX3_darken 0 = .ok (.aload_n 0, 1) := dk_42 (dk_at dksX3_darken_0 0 rfl rfl)
theorem dX3_darken_1 : decode cX3_darken 1 = .ok (.iconst 0, 1) := dk_3 (dk_at dksX3_darken_0 1 rfl rfl)
theorem dX3_darken_2 : decode cX3_darken 2 = .ok (.putfield 51, 3) := dk_181 0 51 (dk_at dksX3_darken_0 2 rfl rfl)
theorem dX3_darken_5 : decode cX3_darken 5 = .ok (.aload_n 0, 1) := dk_42 (dk_at dksX3_darken_0 5 rfl rfl)
theorem dX3_darken_6 : decode cX3_darken 6 = .ok (.iload_n 1, 1) := dk_27 (dk_at dksX3_darken_0 6 rfl rfl)
theorem dX3_darken_7 : decode cX3_darken 7 = .ok (.invokevirtual 148, 3) := dk_182 0 148 (dk_at dksX3_darken_0 7 rfl rfl)
theorem dX3_darken_10 : decode cX3_darken 10 = .ok (.ifCond .ne 9, 3) := dk_154 0 9 (dk_at dksX3_darken_0 10 rfl rfl)
theorem dX3_darken_13 : decode cX3_darken 13 = .ok (.aload_n 0, 1) := dk_42 (dk_at dksX3_darken_0 13 rfl rfl)
theorem dX3_darken_14 : decode cX3_darken 14 = .ok (.iconst 1, 1) := dk_4 (dk_at dksX3_darken_0 14 rfl rfl)
theorem dX3_darken_15 : decode cX3_darken 15 = .ok (.invokevirtual 63, 3) := dk_182 0 63 (dk_at dksX3_darken_0 15 rfl rfl)
theorem dX3_darken_18 : decode cX3_darken 18 = .ok (.ireturn, 1) := dk_172 (dk_at dksX3_darken_0 18 rfl rfl)
theorem dX3_darken_19 : decode cX3_darken 19 = .ok (.aload_n 0, 1) := dk_42 (dk_at dksX3_darken_0 19 rfl rfl)
theorem dX3_darken_20 : decode cX3_darken 20 = .ok (.iload_n 1, 1) := dk_27 (dk_at dksX3_darken_0 20 rfl rfl)
theorem dX3_darken_21 : decode cX3_darken 21 = .ok (.invokevirtual 177, 3) := dk_182 0 177 (dk_at dksX3_darken_0 21 rfl rfl)
theorem dX3_darken_24 : decode cX3_darken 24 = .ok (.ifCond .eq 9, 3) := dk_153 0 9 (dk_at dksX3_darken_1 0 rfl rfl)
theorem dX3_darken_27 : decode cX3_darken 27 = .ok (.aload_n 0, 1) := dk_42 (dk_at dksX3_darken_1 3 rfl rfl)
theorem dX3_darken_28 : decode cX3_darken 28 = .ok (.iconst 2, 1) := dk_5 (dk_at dksX3_darken_1 4 rfl rfl)
theorem dX3_darken_29 : decode cX3_darken 29 = .ok (.invokevirtual 135, 3) := dk_182 0 135 (dk_at dksX3_darken_1 5 rfl rfl)
theorem dX3_darken_32 : decode cX3_darken 32 = .ok (.ireturn, 1) := dk_172 (dk_at dksX3_darken_1 8 rfl rfl)
theorem dX3_darken_33 : decode cX3_darken 33 = .ok (.aload_n 0, 1) := dk_42 (dk_at dksX3_darken_1 9 rfl rfl)
theorem dX3_darken_34 : decode cX3_darken 34 = .ok (.invokevirtual 138, 3) := dk_182 0 138 (dk_at dksX3_darken_1 10 rfl rfl)
theorem dX3_darken_37 : decode cX3_darken 37 = .ok (.aload_n 0, 1) := dk_42 (dk_at dksX3_darken_1 13 rfl rfl)
theorem dX3_darken_38 : decode cX3_darken 38 = .ok (.getfield 13, 3) := dk_180 0 13 (dk_at dksX3_darken_1 14 rfl rfl)
theorem dX3_darken_41 : decode cX3_darken 41 = .ok (.iload_n 1, 1) := dk_27 (dk_at dksX3_darken_1 17 rfl rfl)
theorem dX3_darken_42 : decode cX3_darken 42 = .ok (.iconst 4, 1) := dk_7 (dk_at dksX3_darken_1 18 rfl rfl)
theorem dX3_darken_43 : decode cX3_darken 43 = .ok (.invokestatic 73, 3) := dk_184 0 73 (dk_at dksX3_darken_1 19 rfl rfl)
theorem dX3_darken_46 : decode cX3_darken 46 = .ok (.iconst 0, 1) := dk_3 (dk_at dksX3_darken_1 22 rfl rfl)
theorem dX3_darken_47 : decode cX3_darken 47 = .ok (.iastore, 1) := dk_79 (dk_at dksX3_darken_1 23 rfl rfl)
theorem dX3_darken_48 : decode cX3_darken 48 = .ok (.aload_n 0, 1) := dk_42 (dk_at dksX3_darken_2 0 rfl rfl)
theorem dX3_darken_49 : decode cX3_darken 49 = .ok (.invokevirtual 141, 3) := dk_182 0 141 (dk_at dksX3_darken_2 1 rfl rfl)
theorem dX3_darken_52 : decode cX3_darken 52 = .ok (.aload_n 0, 1) := dk_42 (dk_at dksX3_darken_2 4 rfl rfl)
theorem dX3_darken_53 : decode cX3_darken 53 = .ok (.invokevirtual 174, 3) := dk_182 0 174 (dk_at dksX3_darken_2 5 rfl rfl)
theorem dX3_darken_56 : decode cX3_darken 56 = .ok (.ireturn, 1) := dk_172 (dk_at dksX3_darken_2 8 rfl rfl)
abbrev cX3_mayNotDarken : ByteArray := prog_13_method_43_code
def yX3_mayNotDarken : MethodName := ⟨RX3, "mayNotDarken", "(I)Z"⟩
def dkwX3_mayNotDarken_0 : List UInt8 := [42, 27, 182, 0, 109, 154, 0, 16, 42, 7, 27, 182, 0, 132, 153, 0, 7, 4, 167, 0, 4, 3, 172]
abbrev dktX3_mayNotDarken_0 : List UInt8 := dkwX3_mayNotDarken_0 ++ []
theorem dksX3_mayNotDarken_0 : cX3_mayNotDarken.data.toList.drop 0 = dktX3_mayNotDarken_0 := by decide +kernel
theorem dX3_mayNotDarken_0 : decode cX3_mayNotDarken 0 = .ok (.aload_n 0, 1) := dk_42 (dk_at dksX3_mayNotDarken_0 0 rfl rfl)
theorem dX3_mayNotDarken_1 : decode cX3_mayNotDarken 1 = .ok (.iload_n 1, 1) := dk_27 (dk_at dksX3_mayNotDarken_0 1 rfl rfl)
theorem dX3_mayNotDarken_2 : decode cX3_mayNotDarken 2 = .ok (.invokevirtual 109, 3) := dk_182 0 109 (dk_at dksX3_mayNotDarken_0 2 rfl rfl)
theorem dX3_mayNotDarken_5 : decode cX3_mayNotDarken 5 = .ok (.ifCond .ne 16, 3) := dk_154 0 16 (dk_at dksX3_mayNotDarken_0 5 rfl rfl)
theorem dX3_mayNotDarken_8 : decode cX3_mayNotDarken 8 = .ok (.aload_n 0, 1) := dk_42 (dk_at dksX3_mayNotDarken_0 8 rfl rfl)
theorem dX3_mayNotDarken_9 : decode cX3_mayNotDarken 9 = .ok (.iconst 4, 1) := dk_7 (dk_at dksX3_mayNotDarken_0 9 rfl rfl)
theorem dX3_mayNotDarken_10 : decode cX3_mayNotDarken 10 = .ok (.iload_n 1, 1) := dk_27 (dk_at dksX3_mayNotDarken_0 10 rfl rfl)
theorem dX3_mayNotDarken_11 : decode cX3_mayNotDarken 11 = .ok (.invokevirtual 132, 3) := dk_182 0 132 (dk_at dksX3_mayNotDarken_0 11 rfl rfl)
theorem dX3_mayNotDarken_14 : decode cX3_mayNotDarken 14 = .ok (.ifCond .eq 7, 3) := dk_153 0 7 (dk_at dksX3_mayNotDarken_0 14 rfl rfl)
theorem dX3_mayNotDarken_17 : decode cX3_mayNotDarken 17 = .ok (.iconst 1, 1) := dk_4 (dk_at dksX3_mayNotDarken_0 17 rfl rfl)
theorem dX3_mayNotDarken_18 : decode cX3_mayNotDarken 18 = .ok (.goto 4, 3) := dk_167 0 4 (dk_at dksX3_mayNotDarken_0 18 rfl rfl)
theorem dX3_mayNotDarken_21 : decode cX3_mayNotDarken 21 = .ok (.iconst 0, 1) := dk_3 (dk_at dksX3_mayNotDarken_0 21 rfl rfl)
theorem dX3_mayNotDarken_22 : decode cX3_mayNotDarken 22 = .ok (.ireturn, 1) := dk_172 (dk_at dksX3_mayNotDarken_0 22 rfl rfl)
abbrev cX3_breakDown : ByteArray := prog_13_method_49_code
def yX3_breakDown : MethodName := ⟨RX3, "breakDown", "(I)I"⟩
def dkwX3_breakDown_2 : List UInt8 := [182, 0, 174, 172]
abbrev dktX3_breakDown_2 : List UInt8 := dkwX3_breakDown_2 ++ []
def dkwX3_breakDown_1 : List UInt8 := [153, 0, 9, 42, 5, 182, 0, 135, 172, 42, 182, 0, 138, 42, 27, 182, 0, 183, 42, 182, 0, 141, 42]
abbrev dktX3_breakDown_1 : List UInt8 := dkwX3_breakDown_1 ++ dktX3_breakDown_2
def dkwX3_breakDown_0 : List UInt8 := [42, 3, 181, 0, 51, 42, 27, 182, 0, 148, 154, 0, 9, 42, 4, 182, 0, 63, 172, 42, 27, 182, 0, 180]
abbrev dktX3_breakDown_0 : List UInt8 := dkwX3_breakDown_0 ++ dktX3_breakDown_1
theorem dksX3_breakDown_0 : cX3_breakDown.data.toList.drop 0 = dktX3_breakDown_0 := by decide +kernel
theorem dksX3_breakDown_1 : cX3_breakDown.data.toList.drop 24 = dktX3_breakDown_1 := dk_seg dksX3_breakDown_0 24 rfl rfl
theorem dksX3_breakDown_2 : cX3_breakDown.data.toList.drop 47 = dktX3_breakDown_2 := dk_seg dksX3_breakDown_1 23 rfl rfl
theorem dX3_breakDown_0 : decode cX3_breakDown 0 = .ok (.aload_n 0, 1) := dk_42 (dk_at dksX3_breakDown_0 0 rfl rfl)
theorem dX3_breakDown_1 : decode cX3_breakDown 1 = .ok (.iconst 0, 1) := dk_3 (dk_at dksX3_breakDown_0 1 rfl rfl)
theorem dX3_breakDown_2 : decode cX3_breakDown 2 = .ok (.putfield 51, 3) := dk_181 0 51 (dk_at dksX3_breakDown_0 2 rfl rfl)
theorem dX3_breakDown_5 : decode cX3_breakDown 5 = .ok (.aload_n 0, 1) := dk_42 (dk_at dksX3_breakDown_0 5 rfl rfl)
theorem dX3_breakDown_6 : decode cX3_breakDown 6 = .ok (.iload_n 1, 1) := dk_27 (dk_at dksX3_breakDown_0 6 rfl rfl)
theorem dX3_breakDown_7 : decode cX3_breakDown 7 = .ok (.invokevirtual 148, 3) := dk_182 0 148 (dk_at dksX3_breakDown_0 7 rfl rfl)
theorem dX3_breakDown_10 : decode cX3_breakDown 10 = .ok (.ifCond .ne 9, 3) := dk_154 0 9 (dk_at dksX3_breakDown_0 10 rfl rfl)
theorem dX3_breakDown_13 : decode cX3_breakDown 13 = .ok (.aload_n 0, 1) := dk_42 (dk_at dksX3_breakDown_0 13 rfl rfl)
theorem dX3_breakDown_14 : decode cX3_breakDown 14 = .ok (.iconst 1, 1) := dk_4 (dk_at dksX3_breakDown_0 14 rfl rfl)
theorem dX3_breakDown_15 : decode cX3_breakDown 15 = .ok (.invokevirtual 63, 3) := dk_182 0 63 (dk_at dksX3_breakDown_0 15 rfl rfl)
theorem dX3_breakDown_18 : decode cX3_breakDown 18 = .ok (.ireturn, 1) := dk_172 (dk_at dksX3_breakDown_0 18 rfl rfl)
theorem dX3_breakDown_19 : decode cX3_breakDown 19 = .ok (.aload_n 0, 1) := dk_42 (dk_at dksX3_breakDown_0 19 rfl rfl)
theorem dX3_breakDown_20 : decode cX3_breakDown 20 = .ok (.iload_n 1, 1) := dk_27 (dk_at dksX3_breakDown_0 20 rfl rfl)
theorem dX3_breakDown_21 : decode cX3_breakDown 21 = .ok (.invokevirtual 180, 3) := dk_182 0 180 (dk_at dksX3_breakDown_0 21 rfl rfl)
theorem dX3_breakDown_24 : decode cX3_breakDown 24 = .ok (.ifCond .eq 9, 3) := dk_153 0 9 (dk_at dksX3_breakDown_1 0 rfl rfl)
theorem dX3_breakDown_27 : decode cX3_breakDown 27 = .ok (.aload_n 0, 1) := dk_42 (dk_at dksX3_breakDown_1 3 rfl rfl)
theorem dX3_breakDown_28 : decode cX3_breakDown 28 = .ok (.iconst 2, 1) := dk_5 (dk_at dksX3_breakDown_1 4 rfl rfl)
theorem dX3_breakDown_29 : decode cX3_breakDown 29 = .ok (.invokevirtual 135, 3) := dk_182 0 135 (dk_at dksX3_breakDown_1 5 rfl rfl)
theorem dX3_breakDown_32 : decode cX3_breakDown 32 = .ok (.ireturn, 1) := dk_172 (dk_at dksX3_breakDown_1 8 rfl rfl)
theorem dX3_breakDown_33 : decode cX3_breakDown 33 = .ok (.aload_n 0, 1) := dk_42 (dk_at dksX3_breakDown_1 9 rfl rfl)
theorem dX3_breakDown_34 : decode cX3_breakDown 34 = .ok (.invokevirtual 138, 3) := dk_182 0 138 (dk_at dksX3_breakDown_1 10 rfl rfl)
theorem dX3_breakDown_37 : decode cX3_breakDown 37 = .ok (.aload_n 0, 1) := dk_42 (dk_at dksX3_breakDown_1 13 rfl rfl)
theorem dX3_breakDown_38 : decode cX3_breakDown 38 = .ok (.iload_n 1, 1) := dk_27 (dk_at dksX3_breakDown_1 14 rfl rfl)
theorem dX3_breakDown_39 : decode cX3_breakDown 39 = .ok (.invokevirtual 183, 3) := dk_182 0 183 (dk_at dksX3_breakDown_1 15 rfl rfl)
theorem dX3_breakDown_42 : decode cX3_breakDown 42 = .ok (.aload_n 0, 1) := dk_42 (dk_at dksX3_breakDown_1 18 rfl rfl)
theorem dX3_breakDown_43 : decode cX3_breakDown 43 = .ok (.invokevirtual 141, 3) := dk_182 0 141 (dk_at dksX3_breakDown_1 19 rfl rfl)
theorem dX3_breakDown_46 : decode cX3_breakDown 46 = .ok (.aload_n 0, 1) := dk_42 (dk_at dksX3_breakDown_1 22 rfl rfl)
theorem dX3_breakDown_47 : decode cX3_breakDown 47 = .ok (.invokevirtual 174, 3) := dk_182 0 174 (dk_at dksX3_breakDown_2 0 rfl rfl)
theorem dX3_breakDown_50 : decode cX3_breakDown 50 = .ok (.ireturn, 1) := dk_172 (dk_at dksX3_breakDown_2 3 rfl rfl)
abbrev cX3_mayNotBreak : ByteArray := prog_13_method_44_code
def yX3_mayNotBreak : MethodName := ⟨RX3, "mayNotBreak", "(I)Z"⟩
def dkwX3_mayNotBreak_1 : List UInt8 := [172]
abbrev dktX3_mayNotBreak_1 : List UInt8 := dkwX3_mayNotBreak_1 ++ []
def dkwX3_mayNotBreak_0 : List UInt8 := [42, 27, 8, 182, 0, 81, 4, 160, 0, 16, 42, 5, 27, 182, 0, 132, 153, 0, 7, 4, 167, 0, 4, 3]
abbrev dktX3_mayNotBreak_0 : List UInt8 := dkwX3_mayNotBreak_0 ++ dktX3_mayNotBreak_1
theorem dksX3_mayNotBreak_0 : cX3_mayNotBreak.data.toList.drop 0 = dktX3_mayNotBreak_0 := by decide +kernel
theorem dksX3_mayNotBreak_1 : cX3_mayNotBreak.data.toList.drop 24 = dktX3_mayNotBreak_1 := dk_seg dksX3_mayNotBreak_0 24 rfl rfl
theorem dX3_mayNotBreak_0 : decode cX3_mayNotBreak 0 = .ok (.aload_n 0, 1) := dk_42 (dk_at dksX3_mayNotBreak_0 0 rfl rfl)
theorem dX3_mayNotBreak_1 : decode cX3_mayNotBreak 1 = .ok (.iload_n 1, 1) := dk_27 (dk_at dksX3_mayNotBreak_0 1 rfl rfl)
theorem dX3_mayNotBreak_2 : decode cX3_mayNotBreak 2 = .ok (.iconst 5, 1) := dk_8 (dk_at dksX3_mayNotBreak_0 2 rfl rfl)
theorem dX3_mayNotBreak_3 : decode cX3_mayNotBreak 3 = .ok (.invokevirtual 81, 3) := dk_182 0 81 (dk_at dksX3_mayNotBreak_0 3 rfl rfl)
theorem dX3_mayNotBreak_6 : decode cX3_mayNotBreak 6 = .ok (.iconst 1, 1) := dk_4 (dk_at dksX3_mayNotBreak_0 6 rfl rfl)
theorem dX3_mayNotBreak_7 : decode cX3_mayNotBreak 7 = .ok (.if_icmp .ne 16, 3) := dk_160 0 16 (dk_at dksX3_mayNotBreak_0 7 rfl rfl)
theorem dX3_mayNotBreak_10 : decode cX3_mayNotBreak 10 = .ok (.aload_n 0, 1) := dk_42 (dk_at dksX3_mayNotBreak_0 10 rfl rfl)
theorem dX3_mayNotBreak_11 : decode cX3_mayNotBreak 11 = .ok (.iconst 2, 1) := dk_5 (dk_at dksX3_mayNotBreak_0 11 rfl rfl)
theorem dX3_mayNotBreak_12 : decode cX3_mayNotBreak 12 = .ok (.iload_n 1, 1) := dk_27 (dk_at dksX3_mayNotBreak_0 12 rfl rfl)
theorem dX3_mayNotBreak_13 : decode cX3_mayNotBreak 13 = .ok (.invokevirtual 132, 3) := dk_182 0 132 (dk_at dksX3_mayNotBreak_0 13 rfl rfl)
theorem dX3_mayNotBreak_16 : decode cX3_mayNotBreak 16 = .ok (.ifCond .eq 7, 3) := dk_153 0 7 (dk_at dksX3_mayNotBreak_0 16 rfl rfl)
theorem dX3_mayNotBreak_19 : decode cX3_mayNotBreak 19 = .ok (.iconst 1, 1) := dk_4 (dk_at dksX3_mayNotBreak_0 19 rfl rfl)
theorem dX3_mayNotBreak_20 : decode cX3_mayNotBreak 20 = .ok (.goto 4, 3) := dk_167 0 4 (dk_at dksX3_mayNotBreak_0 20 rfl rfl)
theorem dX3_mayNotBreak_23 : decode cX3_mayNotBreak 23 = .ok (.iconst 0, 1) := dk_3 (dk_at dksX3_mayNotBreak_0 23 rfl rfl)
theorem dX3_mayNotBreak_24 : decode cX3_mayNotBreak 24 = .ok (.ireturn, 1) := dk_172 (dk_at dksX3_mayNotBreak_1 0 rfl rfl)
abbrev cX3_breaks : ByteArray := prog_13_method_46_code
def yX3_breaks : MethodName := ⟨RX3, "breaks", "(I)V"⟩
def dkwX3_breaks_0 : List UInt8 := [42, 180, 0, 13, 27, 8, 184, 0, 73, 4, 79, 42, 180, 0, 13, 27, 7, 184, 0, 73, 3, 79, 177]
abbrev dktX3_breaks_0 : List UInt8 := dkwX3_breaks_0 ++ []
theorem dksX3_breaks_0 : cX3_breaks.data.toList.drop 0 = dktX3_breaks_0 := by decide +kernel
theorem dX3_breaks_0 : decode cX3_breaks 0 = .ok (.aload_n 0, 1) := dk_42 (dk_at dksX3_breaks_0 0 rfl rfl)
theorem dX3_breaks_1 : decode cX3_breaks 1 = .ok (.getfield 13, 3) := dk_180 0 13 (dk_at dksX3_breaks_0 1 rfl rfl)
theorem dX3_breaks_4 : decode cX3_breaks 4 = .ok (.iload_n 1, 1) := dk_27 (dk_at dksX3_breaks_0 4 rfl rfl)
theorem dX3_breaks_5 : decode cX3_breaks 5 = .ok (.iconst 5, 1) := dk_8 (dk_at dksX3_breaks_0 5 rfl rfl)
theorem dX3_breaks_6 : decode cX3_breaks 6 = .ok (.invokestatic 73, 3) := dk_184 0 73 (dk_at dksX3_breaks_0 6 rfl rfl)
theorem dX3_breaks_9 : decode cX3_breaks 9 = .ok (.iconst 1, 1) := dk_4 (dk_at dksX3_breaks_0 9 rfl rfl)
theorem dX3_breaks_10 : decode cX3_breaks 10 = .ok (.iastore, 1) := dk_79 (dk_at dksX3_breaks_0 10 rfl rfl)
theorem dX3_breaks_11 : decode cX3_breaks 11 = .ok (.aload_n 0, 1) := dk_42 (dk_at dksX3_breaks_0 11 rfl rfl)
theorem dX3_breaks_12 : decode cX3_breaks 12 = .ok (.getfield 13, 3) := dk_180 0 13 (dk_at dksX3_breaks_0 12 rfl rfl)
theorem dX3_breaks_15 : decode cX3_breaks 15 = .ok (.iload_n 1, 1) := dk_27 (dk_at dksX3_breaks_0 15 rfl rfl)
theorem dX3_breaks_16 : decode cX3_breaks 16 = .ok (.iconst 4, 1) := dk_7 (dk_at dksX3_breaks_0 16 rfl rfl)
theorem dX3_breaks_17 : decode cX3_breaks 17 = .ok (.invokestatic 73, 3) := dk_184 0 73 (dk_at dksX3_breaks_0 17 rfl rfl)
theorem dX3_breaks_20 : decode cX3_breaks 20 = .ok (.iconst 0, 1) := dk_3 (dk_at dksX3_breaks_0 20 rfl rfl)
theorem dX3_breaks_21 : decode cX3_breaks 21 = .ok (.iastore, 1) := dk_79 (dk_at dksX3_breaks_0 21 rfl rfl)
theorem dX3_breaks_22 : decode cX3_breaks 22 = .ok (.return_, 1) := dk_177 (dk_at dksX3_breaks_0 22 rfl rfl)
abbrev cX3_mend : ByteArray := prog_13_method_50_code
def yX3_mend : MethodName := ⟨RX3, "mend", "(I)I"⟩
def dkwX3_mend_2 : List UInt8 := [42, 182, 0, 141, 42, 182, 0, 189, 172]
abbrev dktX3_mend_2 : List UInt8 := dkwX3_mend_2 ++ []
def dkwX3_mend_1 : List UInt8 := [153, 0, 9, 42, 5, 182, 0, 135, 172, 42, 182, 0, 138, 42, 180, 0, 13, 27, 8, 184, 0, 73, 3, 79]
abbrev dktX3_mend_1 : List UInt8 := dkwX3_mend_1 ++ dktX3_mend_2
def dkwX3_mend_0 : List UInt8 := [42, 3, 181, 0, 51, 42, 27, 182, 0, 148, 154, 0, 9, 42, 4, 182, 0, 63, 172, 42, 27, 182, 0, 186]
abbrev dktX3_mend_0 : List UInt8 := dkwX3_mend_0 ++ dktX3_mend_1
theorem dksX3_mend_0 : cX3_mend.data.toList.drop 0 = dktX3_mend_0 := by decide +kernel
theorem dksX3_mend_1 : cX3_mend.data.toList.drop 24 = dktX3_mend_1 := dk_seg dksX3_mend_0 24 rfl rfl
theorem dksX3_mend_2 : cX3_mend.data.toList.drop 48 = dktX3_mend_2 := dk_seg dksX3_mend_1 24 rfl rfl
theorem dX3_mend_0 : decode cX3_mend 0 = .ok (.aload_n 0, 1) := dk_42 (dk_at dksX3_mend_0 0 rfl rfl)
theorem dX3_mend_1 : decode cX3_mend 1 = .ok (.iconst 0, 1) := dk_3 (dk_at dksX3_mend_0 1 rfl rfl)
theorem dX3_mend_2 : decode cX3_mend 2 = .ok (.putfield 51, 3) := dk_181 0 51 (dk_at dksX3_mend_0 2 rfl rfl)
theorem dX3_mend_5 : decode cX3_mend 5 = .ok (.aload_n 0, 1) := dk_42 (dk_at dksX3_mend_0 5 rfl rfl)
theorem dX3_mend_6 : decode cX3_mend 6 = .ok (.iload_n 1, 1) := dk_27 (dk_at dksX3_mend_0 6 rfl rfl)
theorem dX3_mend_7 : decode cX3_mend 7 = .ok (.invokevirtual 148, 3) := dk_182 0 148 (dk_at dksX3_mend_0 7 rfl rfl)
theorem dX3_mend_10 : decode cX3_mend 10 = .ok (.ifCond .ne 9, 3) := dk_154 0 9 (dk_at dksX3_mend_0 10 rfl rfl)
theorem dX3_mend_13 : decode cX3_mend 13 = .ok (.aload_n 0, 1) := dk_42 (dk_at dksX3_mend_0 13 rfl rfl)
theorem dX3_mend_14 : decode cX3_mend 14 = .ok (.iconst 1, 1) := dk_4 (dk_at dksX3_mend_0 14 rfl rfl)
theorem dX3_mend_15 : decode cX3_mend 15 = .ok (.invokevirtual 63, 3) := dk_182 0 63 (dk_at dksX3_mend_0 15 rfl rfl)
theorem dX3_mend_18 : decode cX3_mend 18 = .ok (.ireturn, 1) := dk_172 (dk_at dksX3_mend_0 18 rfl rfl)
theorem dX3_mend_19 : decode cX3_mend 19 = .ok (.aload_n 0, 1) := dk_42 (dk_at dksX3_mend_0 19 rfl rfl)
theorem dX3_mend_20 : decode cX3_mend 20 = .ok (.iload_n 1, 1) := dk_27 (dk_at dksX3_mend_0 20 rfl rfl)
theorem dX3_mend_21 : decode cX3_mend 21 = .ok (.invokevirtual 186, 3) := dk_182 0 186 (dk_at dksX3_mend_0 21 rfl rfl)
theorem dX3_mend_24 : decode cX3_mend 24 = .ok (.ifCond .eq 9, 3) := dk_153 0 9 (dk_at dksX3_mend_1 0 rfl rfl)
theorem dX3_mend_27 : decode cX3_mend 27 = .ok (.aload_n 0, 1) := dk_42 (dk_at dksX3_mend_1 3 rfl rfl)
theorem dX3_mend_28 : decode cX3_mend 28 = .ok (.iconst 2, 1) := dk_5 (dk_at dksX3_mend_1 4 rfl rfl)
theorem dX3_mend_29 : decode cX3_mend 29 = .ok (.invokevirtual 135, 3) := dk_182 0 135 (dk_at dksX3_mend_1 5 rfl rfl)
theorem dX3_mend_32 : decode cX3_mend 32 = .ok (.ireturn, 1) := dk_172 (dk_at dksX3_mend_1 8 rfl rfl)
theorem dX3_mend_33 : decode cX3_mend 33 = .ok (.aload_n 0, 1) := dk_42 (dk_at dksX3_mend_1 9 rfl rfl)
theorem dX3_mend_34 : decode cX3_mend 34 = .ok (.invokevirtual 138, 3) := dk_182 0 138 (dk_at dksX3_mend_1 10 rfl rfl)
theorem dX3_mend_37 : decode cX3_mend 37 = .ok (.aload_n 0, 1) := dk_42 (dk_at dksX3_mend_1 13 rfl rfl)
theorem dX3_mend_38 : decode cX3_mend 38 = .ok (.getfield 13, 3) := dk_180 0 13 (dk_at dksX3_mend_1 14 rfl rfl)
theorem dX3_mend_41 : decode cX3_mend 41 = .ok (.iload_n 1, 1) := dk_27 (dk_at dksX3_mend_1 17 rfl rfl)
theorem dX3_mend_42 : decode cX3_mend 42 = .ok (.iconst 5, 1) := dk_8 (dk_at dksX3_mend_1 18 rfl rfl)
theorem dX3_mend_43 : decode cX3_mend 43 = .ok (.invokestatic 73, 3) := dk_184 0 73 (dk_at dksX3_mend_1 19 rfl rfl)
theorem dX3_mend_46 : decode cX3_mend 46 = .ok (.iconst 0, 1) := dk_3 (dk_at dksX3_mend_1 22 rfl rfl)
theorem dX3_mend_47 : decode cX3_mend 47 = .ok (.iastore, 1) := dk_79 (dk_at dksX3_mend_1 23 rfl rfl)
theorem dX3_mend_48 : decode cX3_mend 48 = .ok (.aload_n 0, 1) := dk_42 (dk_at dksX3_mend_2 0 rfl rfl)
theorem dX3_mend_49 : decode cX3_mend 49 = .ok (.invokevirtual 141, 3) := dk_182 0 141 (dk_at dksX3_mend_2 1 rfl rfl)
theorem dX3_mend_52 : decode cX3_mend 52 = .ok (.aload_n 0, 1) := dk_42 (dk_at dksX3_mend_2 4 rfl rfl)
theorem dX3_mend_53 : decode cX3_mend 53 = .ok (.invokevirtual 189, 3) := dk_182 0 189 (dk_at dksX3_mend_2 5 rfl rfl)
theorem dX3_mend_56 : decode cX3_mend 56 = .ok (.ireturn, 1) := dk_172 (dk_at dksX3_mend_2 8 rfl rfl)
abbrev cX3_mayNotMend : ByteArray := prog_13_method_45_code
def yX3_mayNotMend : MethodName := ⟨RX3, "mayNotMend", "(I)Z"⟩
def dkwX3_mayNotMend_1 : List UInt8 := [172]
abbrev dktX3_mayNotMend_1 : List UInt8 := dkwX3_mayNotMend_1 ++ []
def dkwX3_mayNotMend_0 : List UInt8 := [42, 27, 8, 182, 0, 81, 154, 0, 17, 42, 16, 7, 27, 182, 0, 132, 153, 0, 7, 4, 167, 0, 4, 3]
abbrev dktX3_mayNotMend_0 : List UInt8 := dkwX3_mayNotMend_0 ++ dktX3_mayNotMend_1
theorem dksX3_mayNotMend_0 : cX3_mayNotMend.data.toList.drop 0 = dktX3_mayNotMend_0 := by decide +kernel
theorem dksX3_mayNotMend_1 : cX3_mayNotMend.data.toList.drop 24 = dktX3_mayNotMend_1 := dk_seg dksX3_mayNotMend_0 24 rfl rfl
theorem dX3_mayNotMend_0 : decode cX3_mayNotMend 0 = .ok (.aload_n 0, 1) := dk_42 (dk_at dksX3_mayNotMend_0 0 rfl rfl)
theorem dX3_mayNotMend_1 : decode cX3_mayNotMend 1 = .ok (.iload_n 1, 1) := dk_27 (dk_at dksX3_mayNotMend_0 1 rfl rfl)
theorem dX3_mayNotMend_2 : decode cX3_mayNotMend 2 = .ok (.iconst 5, 1) := dk_8 (dk_at dksX3_mayNotMend_0 2 rfl rfl)
theorem dX3_mayNotMend_3 : decode cX3_mayNotMend 3 = .ok (.invokevirtual 81, 3) := dk_182 0 81 (dk_at dksX3_mayNotMend_0 3 rfl rfl)
theorem dX3_mayNotMend_6 : decode cX3_mayNotMend 6 = .ok (.ifCond .ne 17, 3) := dk_154 0 17 (dk_at dksX3_mayNotMend_0 6 rfl rfl)
theorem dX3_mayNotMend_9 : decode cX3_mayNotMend 9 = .ok (.aload_n 0, 1) := dk_42 (dk_at dksX3_mayNotMend_0 9 rfl rfl)
theorem dX3_mayNotMend_10 : decode cX3_mayNotMend 10 = .ok (.bipush 7, 2) := dk_16 7 (dk_at dksX3_mayNotMend_0 10 rfl rfl)
theorem dX3_mayNotMend_12 : decode cX3_mayNotMend 12 = .ok (.iload_n 1, 1) := dk_27 (dk_at dksX3_mayNotMend_0 12 rfl rfl)
theorem dX3_mayNotMend_13 : decode cX3_mayNotMend 13 = .ok (.invokevirtual 132, 3) := dk_182 0 132 (dk_at dksX3_mayNotMend_0 13 rfl rfl)
theorem dX3_mayNotMend_16 : decode cX3_mayNotMend 16 = .ok (.ifCond .eq 7, 3) := dk_153 0 7 (dk_at dksX3_mayNotMend_0 16 rfl rfl)
theorem dX3_mayNotMend_19 : decode cX3_mayNotMend 19 = .ok (.iconst 1, 1) := dk_4 (dk_at dksX3_mayNotMend_0 19 rfl rfl)
theorem dX3_mayNotMend_20 : decode cX3_mayNotMend 20 = .ok (.goto 4, 3) := dk_167 0 4 (dk_at dksX3_mayNotMend_0 20 rfl rfl)
theorem dX3_mayNotMend_23 : decode cX3_mayNotMend 23 = .ok (.iconst 0, 1) := dk_3 (dk_at dksX3_mayNotMend_0 23 rfl rfl)
theorem dX3_mayNotMend_24 : decode cX3_mayNotMend 24 = .ok (.ireturn, 1) := dk_172 (dk_at dksX3_mayNotMend_1 0 rfl rfl)
abbrev cX3_brokenOnes : ByteArray := prog_13_method_18_code
def yX3_brokenOnes : MethodName := ⟨RX3, "brokenOnes", "()I"⟩
def dkwX3_brokenOnes_1 : List UInt8 := [132, 2, 1, 167, 255, 233, 27, 172]
abbrev dktX3_brokenOnes_1 : List UInt8 := dkwX3_brokenOnes_1 ++ []
def dkwX3_brokenOnes_0 : List UInt8 := [3, 60, 3, 61, 28, 42, 180, 0, 13, 16, 10, 46, 162, 0, 18, 27, 42, 28, 8, 182, 0, 81, 96, 60]
abbrev dktX3_brokenOnes_0 : List UInt8 := dkwX3_brokenOnes_0 ++ dktX3_brokenOnes_1
theorem dksX3_brokenOnes_0 : cX3_brokenOnes.data.toList.drop 0 = dktX3_brokenOnes_0 := by decide +kernel
theorem dksX3_brokenOnes_1 : cX3_brokenOnes.data.toList.drop 24 = dktX3_brokenOnes_1 := dk_seg dksX3_brokenOnes_0 24 rfl rfl
theorem dX3_brokenOnes_0 : decode cX3_brokenOnes 0 = .ok (.iconst 0, 1) := dk_3 (dk_at dksX3_brokenOnes_0 0 rfl rfl)
theorem dX3_brokenOnes_1 : decode cX3_brokenOnes 1 = .ok (.istore_n 1, 1) := dk_60 (dk_at dksX3_brokenOnes_0 1 rfl rfl)
theorem dX3_brokenOnes_2 : decode cX3_brokenOnes 2 = .ok (.iconst 0, 1) := dk_3 (dk_at dksX3_brokenOnes_0 2 rfl rfl)
theorem dX3_brokenOnes_3 : decode cX3_brokenOnes 3 = .ok (.istore_n 2, 1) := dk_61 (dk_at dksX3_brokenOnes_0 3 rfl rfl)
theorem dX3_brokenOnes_4 : decode cX3_brokenOnes 4 = .ok (.iload_n 2, 1) := dk_28 (dk_at dksX3_brokenOnes_0 4 rfl rfl)
theorem dX3_brokenOnes_5 : decode cX3_brokenOnes 5 = .ok (.aload_n 0, 1) := dk_42 (dk_at dksX3_brokenOnes_0 5 rfl rfl)
theorem dX3_brokenOnes_6 : decode cX3_brokenOnes 6 = .ok (.getfield 13, 3) := dk_180 0 13 (dk_at dksX3_brokenOnes_0 6 rfl rfl)
theorem dX3_brokenOnes_9 : decode cX3_brokenOnes 9 = .ok (.bipush 10, 2) := dk_16 10 (dk_at dksX3_brokenOnes_0 9 rfl rfl)
theorem dX3_brokenOnes_11 : decode cX3_brokenOnes 11 = .ok (.iaload, 1) := dk_46 (dk_at dksX3_brokenOnes_0 11 rfl rfl)
theorem dX3_brokenOnes_12 : decode cX3_brokenOnes 12 = .ok (.if_icmp .ge 18, 3) := dk_162 0 18 (dk_at dksX3_brokenOnes_0 12 rfl rfl)
theorem dX3_brokenOnes_15 : decode cX3_brokenOnes 15 = .ok (.iload_n 1, 1) := dk_27 (dk_at dksX3_brokenOnes_0 15 rfl rfl)
theorem dX3_brokenOnes_16 : decode cX3_brokenOnes 16 = .ok (.aload_n 0, 1) := dk_42 (dk_at dksX3_brokenOnes_0 16 rfl rfl)
theorem dX3_brokenOnes_17 : decode cX3_brokenOnes 17 = .ok (.iload_n 2, 1) := dk_28 (dk_at dksX3_brokenOnes_0 17 rfl rfl)
theorem dX3_brokenOnes_18 : decode cX3_brokenOnes 18 = .ok (.iconst 5, 1) := dk_8 (dk_at dksX3_brokenOnes_0 18 rfl rfl)
theorem dX3_brokenOnes_19 : decode cX3_brokenOnes 19 = .ok (.invokevirtual 81, 3) := dk_182 0 81 (dk_at dksX3_brokenOnes_0 19 rfl rfl)
theorem dX3_brokenOnes_22 : decode cX3_brokenOnes 22 = .ok (.iadd, 1) := dk_96 (dk_at dksX3_brokenOnes_0 22 rfl rfl)
theorem dX3_brokenOnes_23 : decode cX3_brokenOnes 23 = .ok (.istore_n 1, 1) := dk_60 (dk_at dksX3_brokenOnes_0 23 rfl rfl)
theorem dX3_brokenOnes_24 : decode cX3_brokenOnes 24 = .ok (.iinc 2 1, 3) := dk_132 2 1 (dk_at dksX3_brokenOnes_1 0 rfl rfl)
theorem dX3_brokenOnes_27 : decode cX3_brokenOnes 27 = .ok (.goto (-23), 3) := dk_167 255 233 (dk_at dksX3_brokenOnes_1 3 rfl rfl)
theorem dX3_brokenOnes_30 : decode cX3_brokenOnes 30 = .ok (.iload_n 1, 1) := dk_27 (dk_at dksX3_brokenOnes_1 6 rfl rfl)
theorem dX3_brokenOnes_31 : decode cX3_brokenOnes 31 = .ok (.ireturn, 1) := dk_172 (dk_at dksX3_brokenOnes_1 7 rfl rfl)
abbrev cX3_fog : ByteArray := prog_13_method_51_code
def yX3_fog : MethodName := ⟨RX3, "fog", "(II)I"⟩
def dkwX3_fog_2 : List UInt8 := [96, 46, 62, 42, 180, 0, 13, 6, 27, 96, 28, 79, 42, 182, 0, 141, 29, 172]
abbrev dktX3_fog_2 : List UInt8 := dkwX3_fog_2 ++ []
def dkwX3_fog_1 : List UInt8 := [16, 9, 184, 0, 77, 154, 0, 9, 42, 5, 182, 0, 63, 172, 42, 182, 0, 138, 42, 180, 0, 13, 6, 27]
abbrev dktX3_fog_1 : List UInt8 := dkwX3_fog_1 ++ dktX3_fog_2
def dkwX3_fog_0 : List UInt8 := [42, 3, 181, 0, 51, 27, 3, 16, 6, 184, 0, 77, 154, 0, 9, 42, 4, 182, 0, 63, 172, 28, 3]
abbrev dktX3_fog_0 : List UInt8 := dkwX3_fog_0 ++ dktX3_fog_1
theorem dksX3_fog_0 : cX3_fog.data.toList.drop 0 = dktX3_fog_0 := by decide +kernel
theorem dksX3_fog_1 : cX3_fog.data.toList.drop 23 = dktX3_fog_1 := dk_seg dksX3_fog_0 23 rfl rfl
theorem dksX3_fog_2 : cX3_fog.data.toList.drop 47 = dktX3_fog_2 := dk_seg dksX3_fog_1 24 rfl rfl
theorem dX3_fog_0 : decode cX3_fog 0 = .ok (.aload_n 0, 1) := dk_42 (dk_at dksX3_fog_0 0 rfl rfl)
theorem dX3_fog_1 : decode cX3_fog 1 = .ok (.iconst 0, 1) := dk_3 (dk_at dksX3_fog_0 1 rfl rfl)
theorem dX3_fog_2 : decode cX3_fog 2 = .ok (.putfield 51, 3) := dk_181 0 51 (dk_at dksX3_fog_0 2 rfl rfl)
theorem dX3_fog_5 : decode cX3_fog 5 = .ok (.iload_n 1, 1) := dk_27 (dk_at dksX3_fog_0 5 rfl rfl)
theorem dX3_fog_6 : decode cX3_fog 6 = .ok (.iconst 0, 1) := dk_3 (dk_at dksX3_fog_0 6 rfl rfl)
theorem dX3_fog_7 : decode cX3_fog 7 = .ok (.bipush 6, 2) := dk_16 6 (dk_at dksX3_fog_0 7 rfl rfl)
theorem dX3_fog_9 : decode cX3_fog 9 = .ok (.invokestatic 77, 3) := dk_184 0 77 (dk_at dksX3_fog_0 9 rfl rfl)
theorem dX3_fog_12 : decode cX3_fog 12 = .ok (.ifCond .ne 9, 3) := dk_154 0 9 (dk_at dksX3_fog_0 12 rfl rfl)
theorem dX3_fog_15 : decode cX3_fog 15 = .ok (.aload_n 0, 1) := dk_42 (dk_at dksX3_fog_0 15 rfl rfl)
theorem dX3_fog_16 : decode cX3_fog 16 = .ok (.iconst 1, 1) := dk_4 (dk_at dksX3_fog_0 16 rfl rfl)
theorem dX3_fog_17 : decode cX3_fog 17 = .ok (.invokevirtual 63, 3) := dk_182 0 63 (dk_at dksX3_fog_0 17 rfl rfl)
theorem dX3_fog_20 : decode cX3_fog 20 = .ok (.ireturn, 1) := dk_172 (dk_at dksX3_fog_0 20 rfl rfl)
theorem dX3_fog_21 : decode cX3_fog 21 = .ok (.iload_n 2, 1) := dk_28 (dk_at dksX3_fog_0 21 rfl rfl)
theorem dX3_fog_22 : decode cX3_fog 22 = .ok (.iconst 0, 1) := dk_3 (dk_at dksX3_fog_0 22 rfl rfl)
theorem dX3_fog_23 : decode cX3_fog 23 = .ok (.bipush 9, 2) := dk_16 9 (dk_at dksX3_fog_1 0 rfl rfl)
theorem dX3_fog_25 : decode cX3_fog 25 = .ok (.invokestatic 77, 3) := dk_184 0 77 (dk_at dksX3_fog_1 2 rfl rfl)
theorem dX3_fog_28 : decode cX3_fog 28 = .ok (.ifCond .ne 9, 3) := dk_154 0 9 (dk_at dksX3_fog_1 5 rfl rfl)
theorem dX3_fog_31 : decode cX3_fog 31 = .ok (.aload_n 0, 1) := dk_42 (dk_at dksX3_fog_1 8 rfl rfl)
theorem dX3_fog_32 : decode cX3_fog 32 = .ok (.iconst 2, 1) := dk_5 (dk_at dksX3_fog_1 9 rfl rfl)
theorem dX3_fog_33 : decode cX3_fog 33 = .ok (.invokevirtual 63, 3) := dk_182 0 63 (dk_at dksX3_fog_1 10 rfl rfl)
theorem dX3_fog_36 : decode cX3_fog 36 = .ok (.ireturn, 1) := dk_172 (dk_at dksX3_fog_1 13 rfl rfl)
theorem dX3_fog_37 : decode cX3_fog 37 = .ok (.aload_n 0, 1) := dk_42 (dk_at dksX3_fog_1 14 rfl rfl)
theorem dX3_fog_38 : decode cX3_fog 38 = .ok (.invokevirtual 138, 3) := dk_182 0 138 (dk_at dksX3_fog_1 15 rfl rfl)
theorem dX3_fog_41 : decode cX3_fog 41 = .ok (.aload_n 0, 1) := dk_42 (dk_at dksX3_fog_1 18 rfl rfl)
theorem dX3_fog_42 : decode cX3_fog 42 = .ok (.getfield 13, 3) := dk_180 0 13 (dk_at dksX3_fog_1 19 rfl rfl)
theorem dX3_fog_45 : decode cX3_fog 45 = .ok (.iconst 3, 1) := dk_6 (dk_at dksX3_fog_1 22 rfl rfl)
theorem dX3_fog_46 : decode cX3_fog 46 = .ok (.iload_n 1, 1) := dk_27 (dk_at dksX3_fog_1 23 rfl rfl)
theorem dX3_fog_47 : decode cX3_fog 47 = .ok (.iadd, 1) := dk_96 (dk_at dksX3_fog_2 0 rfl rfl)
theorem dX3_fog_48 : decode cX3_fog 48 = .ok (.iaload, 1) := dk_46 (dk_at dksX3_fog_2 1 rfl rfl)
theorem dX3_fog_49 : decode cX3_fog 49 = .ok (.istore_n 3, 1) := dk_62 (dk_at dksX3_fog_2 2 rfl rfl)
theorem dX3_fog_50 : decode cX3_fog 50 = .ok (.aload_n 0, 1) := dk_42 (dk_at dksX3_fog_2 3 rfl rfl)
theorem dX3_fog_51 : decode cX3_fog 51 = .ok (.getfield 13, 3) := dk_180 0 13 (dk_at dksX3_fog_2 4 rfl rfl)
theorem dX3_fog_54 : decode cX3_fog 54 = .ok (.iconst 3, 1) := dk_6 (dk_at dksX3_fog_2 7 rfl rfl)
theorem dX3_fog_55 : decode cX3_fog 55 = .ok (.iload_n 1, 1) := dk_27 (dk_at dksX3_fog_2 8 rfl rfl)
theorem dX3_fog_56 : decode cX3_fog 56 = .ok (.iadd, 1) := dk_96 (dk_at dksX3_fog_2 9 rfl rfl)
theorem dX3_fog_57 : decode cX3_fog 57 = .ok (.iload_n 2, 1) := dk_28 (dk_at dksX3_fog_2 10 rfl rfl)
theorem dX3_fog_58 : decode cX3_fog 58 = .ok (.iastore, 1) := dk_79 (dk_at dksX3_fog_2 11 rfl rfl)
theorem dX3_fog_59 : decode cX3_fog 59 = .ok (.aload_n 0, 1) := dk_42 (dk_at dksX3_fog_2 12 rfl rfl)
theorem dX3_fog_60 : decode cX3_fog 60 = .ok (.invokevirtual 141, 3) := dk_182 0 141 (dk_at dksX3_fog_2 13 rfl rfl)
theorem dX3_fog_63 : decode cX3_fog 63 = .ok (.iload_n 3, 1) := dk_29 (dk_at dksX3_fog_2 16 rfl rfl)
theorem dX3_fog_64 : decode cX3_fog 64 = .ok (.ireturn, 1) := dk_172 (dk_at dksX3_fog_2 17 rfl rfl)
abbrev cX3_handOn : ByteArray := prog_13_method_53_code
def yX3_handOn : MethodName := ⟨RX3, "handOn", "()I"⟩
def dkwX3_handOn_6 : List UInt8 := [164, 0, 8, 21, 4, 167, 0, 4, 3, 172]
abbrev dktX3_handOn_6 : List UInt8 := dkwX3_handOn_6 ++ []
def dkwX3_handOn_5 : List UInt8 := [182, 0, 81, 5, 184, 0, 84, 21, 5, 79, 132, 5, 1, 167, 255, 213, 42, 182, 0, 141, 21, 4, 4]
abbrev dktX3_handOn_5 : List UInt8 := dkwX3_handOn_5 ++ dktX3_handOn_6
def dkwX3_handOn_4 : List UInt8 := [16, 10, 46, 162, 0, 37, 42, 21, 5, 6, 182, 0, 81, 155, 0, 21, 42, 180, 0, 13, 42, 21, 5, 6]
abbrev dktX3_handOn_4 : List UInt8 := dkwX3_handOn_4 ++ dktX3_handOn_5
def dkwX3_handOn_3 : List UInt8 := [4, 164, 0, 14, 42, 180, 0, 13, 27, 6, 184, 0, 73, 29, 79, 3, 54, 5, 21, 5, 42, 180, 0, 13]
abbrev dktX3_handOn_3 : List UInt8 := dkwX3_handOn_3 ++ dktX3_handOn_4
def dkwX3_handOn_2 : List UInt8 := [29, 79, 21, 5, 62, 132, 4, 1, 42, 42, 28, 3, 182, 0, 81, 182, 0, 192, 61, 167, 255, 212, 21, 4]
abbrev dktX3_handOn_2 : List UInt8 := dkwX3_handOn_2 ++ dktX3_handOn_3
def dkwX3_handOn_1 : List UInt8 := [155, 0, 46, 42, 28, 6, 182, 0, 81, 54, 5, 29, 155, 0, 14, 42, 180, 0, 13, 28, 6, 184, 0, 73]
abbrev dktX3_handOn_1 : List UInt8 := dkwX3_handOn_1 ++ dktX3_handOn_2
def dkwX3_handOn_0 : List UInt8 := [42, 3, 181, 0, 51, 42, 182, 0, 138, 42, 2, 182, 0, 192, 60, 27, 61, 2, 62, 3, 54, 4, 28]
abbrev dktX3_handOn_0 : List UInt8 := dkwX3_handOn_0 ++ dktX3_handOn_1
theorem dksX3_handOn_0 : cX3_handOn.data.toList.drop 0 = dktX3_handOn_0 := by decide +kernel
theorem dksX3_handOn_1 : cX3_handOn.data.toList.drop 23 = dktX3_handOn_1 := dk_seg dksX3_handOn_0 23 rfl rfl
theorem dksX3_handOn_2 : cX3_handOn.data.toList.drop 47 = dktX3_handOn_2 := dk_seg dksX3_handOn_1 24 rfl rfl
theorem dksX3_handOn_3 : cX3_handOn.data.toList.drop 71 = dktX3_handOn_3 := dk_seg dksX3_handOn_2 24 rfl rfl
theorem dksX3_handOn_4 : cX3_handOn.data.toList.drop 95 = dktX3_handOn_4 := dk_seg dksX3_handOn_3 24 rfl rfl
theorem dksX3_handOn_5 : cX3_handOn.data.toList.drop 119 = dktX3_handOn_5 := dk_seg dksX3_handOn_4 24 rfl rfl
theorem dksX3_handOn_6 : cX3_handOn.data.toList.drop 142 = dktX3_handOn_6 := dk_seg dksX3_handOn_5 23 rfl rfl
theorem dX3_handOn_0 : decode cX3_handOn 0 = .ok (.aload_n 0, 1) := dk_42 (dk_at dksX3_handOn_0 0 rfl rfl)
theorem dX3_handOn_1 : decode cX3_handOn 1 = .ok (.iconst 0, 1) := dk_3 (dk_at dksX3_handOn_0 1 rfl rfl)
theorem dX3_handOn_2 : decode cX3_handOn 2 = .ok (.putfield 51, 3) := dk_181 0 51 (dk_at dksX3_handOn_0 2 rfl rfl)
theorem dX3_handOn_5 : decode cX3_handOn 5 = .ok (.aload_n 0, 1) := dk_42 (dk_at dksX3_handOn_0 5 rfl rfl)
theorem dX3_handOn_6 : decode cX3_handOn 6 = .ok (.invokevirtual 138, 3) := dk_182 0 138 (dk_at dksX3_handOn_0 6 rfl rfl)
theorem dX3_handOn_9 : decode cX3_handOn 9 = .ok (.aload_n 0, 1) := dk_42 (dk_at dksX3_handOn_0 9 rfl rfl)
theorem dX3_handOn_10 : decode cX3_handOn 10 = .ok (.iconst (-1), 1) := dk_2 (dk_at dksX3_handOn_0 10 rfl rfl)
theorem dX3_handOn_11 : decode cX3_handOn 11 = .ok (.invokevirtual 192, 3) := dk_182 0 192 (dk_at dksX3_handOn_0 11 rfl rfl)
theorem dX3_handOn_14 : decode cX3_handOn 14 = .ok (.istore_n 1, 1) := dk_60 (dk_at dksX3_handOn_0 14 rfl rfl)
theorem dX3_handOn_15 : decode cX3_handOn 15 = .ok (.iload_n 1, 1) := dk_27 (dk_at dksX3_handOn_0 15 rfl rfl)
theorem dX3_handOn_16 : decode cX3_handOn 16 = .ok (.istore_n 2, 1) := dk_61 (dk_at dksX3_handOn_0 16 rfl rfl)
theorem dX3_handOn_17 : decode cX3_handOn 17 = .ok (.iconst (-1), 1) := dk_2 (dk_at dksX3_handOn_0 17 rfl rfl)
theorem dX3_handOn_18 : decode cX3_handOn 18 = .ok (.istore_n 3, 1) := dk_62 (dk_at dksX3_handOn_0 18 rfl rfl)
theorem dX3_handOn_19 : decode cX3_handOn 19 = .ok (.iconst 0, 1) := dk_3 (dk_at dksX3_handOn_0 19 rfl rfl)
theorem dX3_handOn_20 : decode cX3_handOn 20 = .ok (.istore 4, 2) := dk_54 4 (dk_at dksX3_handOn_0 20 rfl rfl)
theorem dX3_handOn_22 : decode cX3_handOn 22 = .ok (.iload_n 2, 1) := dk_28 (dk_at dksX3_handOn_0 22 rfl rfl)
theorem dX3_handOn_23 : decode cX3_handOn 23 = .ok (.ifCond .lt 46, 3) := dk_155 0 46 (dk_at dksX3_handOn_1 0 rfl rfl)
theorem dX3_handOn_26 : decode cX3_handOn 26 = .ok (.aload_n 0, 1) := dk_42 (dk_at dksX3_handOn_1 3 rfl rfl)
theorem dX3_handOn_27 : decode cX3_handOn 27 = .ok (.iload_n 2, 1) := dk_28 (dk_at dksX3_handOn_1 4 rfl rfl)
theorem dX3_handOn_28 : decode cX3_handOn 28 = .ok (.iconst 3, 1) := dk_6 (dk_at dksX3_handOn_1 5 rfl rfl)
theorem dX3_handOn_29 : decode cX3_handOn 29 = .ok (.invokevirtual 81, 3) := dk_182 0 81 (dk_at dksX3_handOn_1 6 rfl rfl)
theorem dX3_handOn_32 : decode cX3_handOn 32 = .ok (.istore 5, 2) := dk_54 5 (dk_at dksX3_handOn_1 9 rfl rfl)
theorem dX3_handOn_34 : decode cX3_handOn 34 = .ok (.iload_n 3, 1) := dk_29 (dk_at dksX3_handOn_1 11 rfl rfl)
theorem dX3_handOn_35 : decode cX3_handOn 35 = .ok (.ifCond .lt 14, 3) := dk_155 0 14 (dk_at dksX3_handOn_1 12 rfl rfl)
theorem dX3_handOn_38 : decode cX3_handOn 38 = .ok (.aload_n 0, 1) := dk_42 (dk_at dksX3_handOn_1 15 rfl rfl)
theorem dX3_handOn_39 : decode cX3_handOn 39 = .ok (.getfield 13, 3) := dk_180 0 13 (dk_at dksX3_handOn_1 16 rfl rfl)
theorem dX3_handOn_42 : decode cX3_handOn 42 = .ok (.iload_n 2, 1) := dk_28 (dk_at dksX3_handOn_1 19 rfl rfl)
theorem dX3_handOn_43 : decode cX3_handOn 43 = .ok (.iconst 3, 1) := dk_6 (dk_at dksX3_handOn_1 20 rfl rfl)
theorem dX3_handOn_44 : decode cX3_handOn 44 = .ok (.invokestatic 73, 3) := dk_184 0 73 (dk_at dksX3_handOn_1 21 rfl rfl)
theorem dX3_handOn_47 : decode cX3_handOn 47 = .ok (.iload_n 3, 1) := dk_29 (dk_at dksX3_handOn_2 0 rfl rfl)
theorem dX3_handOn_48 : decode cX3_handOn 48 = .ok (.iastore, 1) := dk_79 (dk_at dksX3_handOn_2 1 rfl rfl)
theorem dX3_handOn_49 : decode cX3_handOn 49 = .ok (.iload 5, 2) := dk_21 5 (dk_at dksX3_handOn_2 2 rfl rfl)
theorem dX3_handOn_51 : decode cX3_handOn 51 = .ok (.istore_n 3, 1) := dk_62 (dk_at dksX3_handOn_2 4 rfl rfl)
theorem dX3_handOn_52 : decode cX3_handOn 52 = .ok (.iinc 4 1, 3) := dk_132 4 1 (dk_at dksX3_handOn_2 5 rfl rfl)
theorem dX3_handOn_55 : decode cX3_handOn 55 = .ok (.aload_n 0, 1) := dk_42 (dk_at dksX3_handOn_2 8 rfl rfl)
theorem dX3_handOn_56 : decode cX3_handOn 56 = .ok (.aload_n 0, 1) := dk_42 (dk_at dksX3_handOn_2 9 rfl rfl)
theorem dX3_handOn_57 : decode cX3_handOn 57 = .ok (.iload_n 2, 1) := dk_28 (dk_at dksX3_handOn_2 10 rfl rfl)
theorem dX3_handOn_58 : decode cX3_handOn 58 = .ok (.iconst 0, 1) := dk_3 (dk_at dksX3_handOn_2 11 rfl rfl)
theorem dX3_handOn_59 : decode cX3_handOn 59 = .ok (.invokevirtual 81, 3) := dk_182 0 81 (dk_at dksX3_handOn_2 12 rfl rfl)
theorem dX3_handOn_62 : decode cX3_handOn 62 = .ok (.invokevirtual 192, 3) := dk_182 0 192 (dk_at dksX3_handOn_2 15 rfl rfl)
theorem dX3_handOn_65 : decode cX3_handOn 65 = .ok (.istore_n 2, 1) := dk_61 (dk_at dksX3_handOn_2 18 rfl rfl)
theorem dX3_handOn_66 : decode cX3_handOn 66 = .ok (.goto (-44), 3) := dk_167 255 212 (dk_at dksX3_handOn_2 19 rfl rfl)
theorem dX3_handOn_69 : decode cX3_handOn 69 = .ok (.iload 4, 2) := dk_21 4 (dk_at dksX3_handOn_2 22 rfl rfl)
theorem dX3_handOn_71 : decode cX3_handOn 71 = .ok (.iconst 1, 1) := dk_4 (dk_at dksX3_handOn_3 0 rfl rfl)
theorem dX3_handOn_72 : decode cX3_handOn 72 = .ok (.if_icmp .le 14, 3) := dk_164 0 14 (dk_at dksX3_handOn_3 1 rfl rfl)
theorem dX3_handOn_75 : decode cX3_handOn 75 = .ok (.aload_n 0, 1) := dk_42 (dk_at dksX3_handOn_3 4 rfl rfl)
theorem dX3_handOn_76 : decode cX3_handOn 76 = .ok (.getfield 13, 3) := dk_180 0 13 (dk_at dksX3_handOn_3 5 rfl rfl)
theorem dX3_handOn_79 : decode cX3_handOn 79 = .ok (.iload_n 1, 1) := dk_27 (dk_at dksX3_handOn_3 8 rfl rfl)
theorem dX3_handOn_80 : decode cX3_handOn 80 = .ok (.iconst 3, 1) := dk_6 (dk_at dksX3_handOn_3 9 rfl rfl)
theorem dX3_handOn_81 : decode cX3_handOn 81 = .ok (.invokestatic 73, 3) := dk_184 0 73 (dk_at dksX3_handOn_3 10 rfl rfl)
theorem dX3_handOn_84 : decode cX3_handOn 84 = .ok (.iload_n 3, 1) := dk_29 (dk_at dksX3_handOn_3 13 rfl rfl)
theorem dX3_handOn_85 : decode cX3_handOn 85 = .ok (.iastore, 1) := dk_79 (dk_at dksX3_handOn_3 14 rfl rfl)
theorem dX3_handOn_86 : decode cX3_handOn 86 = .ok (.iconst 0, 1) := dk_3 (dk_at dksX3_handOn_3 15 rfl rfl)
theorem dX3_handOn_87 : decode cX3_handOn 87 = .ok (.istore 5, 2) := dk_54 5 (dk_at dksX3_handOn_3 16 rfl rfl)
theorem dX3_handOn_89 : decode cX3_handOn 89 = .ok (.iload 5, 2) := dk_21 5 (dk_at dksX3_handOn_3 18 rfl rfl)
theorem dX3_handOn_91 : decode cX3_handOn 91 = .ok (.aload_n 0, 1) := dk_42 (dk_at dksX3_handOn_3 20 rfl rfl)
theorem dX3_handOn_92 : decode cX3_handOn 92 = .ok (.getfield 13, 3) := dk_180 0 13 (dk_at dksX3_handOn_3 21 rfl rfl)
theorem dX3_handOn_95 : decode cX3_handOn 95 = .ok (.bipush 10, 2) := dk_16 10 (dk_at dksX3_handOn_4 0 rfl rfl)
theorem dX3_handOn_97 : decode cX3_handOn 97 = .ok (.iaload, 1) := dk_46 (dk_at dksX3_handOn_4 2 rfl rfl)
theorem dX3_handOn_98 : decode cX3_handOn 98 = .ok (.if_icmp .ge 37, 3) := dk_162 0 37 (dk_at dksX3_handOn_4 3 rfl rfl)
theorem dX3_handOn_101 : decode cX3_handOn 101 = .ok (.aload_n 0, 1) := dk_42 (dk_at dksX3_handOn_4 6 rfl rfl)
theorem dX3_handOn_102 : decode cX3_handOn 102 = .ok (.iload 5, 2) := dk_21 5 (dk_at dksX3_handOn_4 7 rfl rfl)
theorem dX3_handOn_104 : decode cX3_handOn 104 = .ok (.iconst 3, 1) := dk_6 (dk_at dksX3_handOn_4 9 rfl rfl)
theorem dX3_handOn_105 : decode cX3_handOn 105 = .ok (.invokevirtual 81, 3) := dk_182 0 81 (dk_at dksX3_handOn_4 10 rfl rfl)
theorem dX3_handOn_108 : decode cX3_handOn 108 = .ok (.ifCond .lt 21, 3) := dk_155 0 21 (dk_at dksX3_handOn_4 13 rfl rfl)
theorem dX3_handOn_111 : decode cX3_handOn 111 = .ok (.aload_n 0, 1) := dk_42 (dk_at dksX3_handOn_4 16 rfl rfl)
theorem dX3_handOn_112 : decode cX3_handOn 112 = .ok (.getfield 13, 3) := dk_180 0 13 (dk_at dksX3_handOn_4 17 rfl rfl)
theorem dX3_handOn_115 : decode cX3_handOn 115 = .ok (.aload_n 0, 1) := dk_42 (dk_at dksX3_handOn_4 20 rfl rfl)
theorem dX3_handOn_116 : decode cX3_handOn 116 = .ok (.iload 5, 2) := dk_21 5 (dk_at dksX3_handOn_4 21 rfl rfl)
theorem dX3_handOn_118 : decode cX3_handOn 118 = .ok (.iconst 3, 1) := dk_6 (dk_at dksX3_handOn_4 23 rfl rfl)
theorem dX3_handOn_119 : decode cX3_handOn 119 = .ok (.invokevirtual 81, 3) := dk_182 0 81 (dk_at dksX3_handOn_5 0 rfl rfl)
theorem dX3_handOn_122 : decode cX3_handOn 122 = .ok (.iconst 2, 1) := dk_5 (dk_at dksX3_handOn_5 3 rfl rfl)
theorem dX3_handOn_123 : decode cX3_handOn 123 = .ok (.invokestatic 84, 3) := dk_184 0 84 (dk_at dksX3_handOn_5 4 rfl rfl)
theorem dX3_handOn_126 : decode cX3_handOn 126 = .ok (.iload 5, 2) := dk_21 5 (dk_at dksX3_handOn_5 7 rfl rfl)
theorem dX3_handOn_128 : decode cX3_handOn 128 = .ok (.iastore, 1) := dk_79 (dk_at dksX3_handOn_5 9 rfl rfl)
theorem dX3_handOn_129 : decode cX3_handOn 129 = .ok (.iinc 5 1, 3) := dk_132 5 1 (dk_at dksX3_handOn_5 10 rfl rfl)
theorem dX3_handOn_132 : decode cX3_handOn 132 = .ok (.goto (-43), 3) := dk_167 255 213 (dk_at dksX3_handOn_5 13 rfl rfl)
theorem dX3_handOn_135 : decode cX3_handOn 135 = .ok (.aload_n 0, 1) := dk_42 (dk_at dksX3_handOn_5 16 rfl rfl)
theorem dX3_handOn_136 : decode cX3_handOn 136 = .ok (.invokevirtual 141, 3) := dk_182 0 141 (dk_at dksX3_handOn_5 17 rfl rfl)
theorem dX3_handOn_139 : decode cX3_handOn 139 = .ok (.iload 4, 2) := dk_21 4 (dk_at dksX3_handOn_5 20 rfl rfl)
theorem dX3_handOn_141 : decode cX3_handOn 141 = .ok (.iconst 1, 1) := dk_4 (dk_at dksX3_handOn_5 22 rfl rfl)
theorem dX3_handOn_142 : decode cX3_handOn 142 = .ok (.if_icmp .le 8, 3) := dk_164 0 8 (dk_at dksX3_handOn_6 0 rfl rfl)
theorem dX3_handOn_145 : decode cX3_handOn 145 = .ok (.iload 4, 2) := dk_21 4 (dk_at dksX3_handOn_6 3 rfl rfl)
theorem dX3_handOn_147 : decode cX3_handOn 147 = .ok (.goto 4, 3) := dk_167 0 4 (dk_at dksX3_handOn_6 5 rfl rfl)
theorem dX3_handOn_150 : decode cX3_handOn 150 = .ok (.iconst 0, 1) := dk_3 (dk_at dksX3_handOn_6 8 rfl rfl)
theorem dX3_handOn_151 : decode cX3_handOn 151 = .ok (.ireturn, 1) := dk_172 (dk_at dksX3_handOn_6 9 rfl rfl)
abbrev cX3_nextWithLens : ByteArray := prog_13_method_52_code
def yX3_nextWithLens : MethodName := ⟨RX3, "nextWithLens", "(I)I"⟩
def dkwX3_nextWithLens_2 : List UInt8 := [28, 3, 182, 0, 81, 162, 0, 5, 29, 61, 132, 3, 1, 167, 255, 199, 28, 172]
abbrev dktX3_nextWithLens_2 : List UInt8 := dkwX3_nextWithLens_2 ++ []
def dkwX3_nextWithLens_1 : List UInt8 := [42, 29, 3, 182, 0, 81, 27, 163, 0, 6, 167, 0, 24, 28, 155, 0, 18, 42, 29, 3, 182, 0, 81, 42]
abbrev dktX3_nextWithLens_1 : List UInt8 := dkwX3_nextWithLens_1 ++ dktX3_nextWithLens_2
def dkwX3_nextWithLens_0 : List UInt8 := [2, 61, 3, 62, 29, 42, 180, 0, 13, 16, 10, 46, 162, 0, 52, 42, 29, 6, 182, 0, 81, 155, 0, 37]
abbrev dktX3_nextWithLens_0 : List UInt8 := dkwX3_nextWithLens_0 ++ dktX3_nextWithLens_1
theorem dksX3_nextWithLens_0 : cX3_nextWithLens.data.toList.drop 0 = dktX3_nextWithLens_0 := by decide +kernel
theorem dksX3_nextWithLens_1 : cX3_nextWithLens.data.toList.drop 24 = dktX3_nextWithLens_1 := dk_seg dksX3_nextWithLens_0 24 rfl rfl
theorem dksX3_nextWithLens_2 : cX3_nextWithLens.data.toList.drop 48 = dktX3_nextWithLens_2 := dk_seg dksX3_nextWithLens_1 24 rfl rfl
theorem dX3_nextWithLens_0 : decode cX3_nextWithLens 0 = .ok (.iconst (-1), 1) := dk_2 (dk_at dksX3_nextWithLens_0 0 rfl rfl)
theorem dX3_nextWithLens_1 : decode cX3_nextWithLens 1 = .ok (.istore_n 2, 1) := dk_61 (dk_at dksX3_nextWithLens_0 1 rfl rfl)
theorem dX3_nextWithLens_2 : decode cX3_nextWithLens 2 = .ok (.iconst 0, 1) := dk_3 (dk_at dksX3_nextWithLens_0 2 rfl rfl)
theorem dX3_nextWithLens_3 : decode cX3_nextWithLens 3 = .ok (.istore_n 3, 1) := dk_62 (dk_at dksX3_nextWithLens_0 3 rfl rfl)
theorem dX3_nextWithLens_4 : decode cX3_nextWithLens 4 = .ok (.iload_n 3, 1) := dk_29 (dk_at dksX3_nextWithLens_0 4 rfl rfl)
theorem dX3_nextWithLens_5 : decode cX3_nextWithLens 5 = .ok (.aload_n 0, 1) := dk_42 (dk_at dksX3_nextWithLens_0 5 rfl rfl)
theorem dX3_nextWithLens_6 : decode cX3_nextWithLens 6 = .ok (.getfield 13, 3) := dk_180 0 13 (dk_at dksX3_nextWithLens_0 6 rfl rfl)
theorem dX3_nextWithLens_9 : decode cX3_nextWithLens 9 = .ok (.bipush 10, 2) := dk_16 10 (dk_at dksX3_nextWithLens_0 9 rfl rfl)
theorem dX3_nextWithLens_11 : decode cX3_nextWithLens 11 = .ok (.iaload, 1) := dk_46 (dk_at dksX3_nextWithLens_0 11 rfl rfl)
theorem dX3_nextWithLens_12 : decode cX3_nextWithLens 12 = .ok (.if_icmp .ge 52, 3) := dk_162 0 52 (dk_at dksX3_nextWithLens_0 12 rfl rfl)
theorem dX3_nextWithLens_15 : decode cX3_nextWithLens 15 = .ok (.aload_n 0, 1) := dk_42 (dk_at dksX3_nextWithLens_0 15 rfl rfl)
theorem dX3_nextWithLens_16 : decode cX3_nextWithLens 16 = .ok (.iload_n 3, 1) := dk_29 (dk_at dksX3_nextWithLens_0 16 rfl rfl)
theorem dX3_nextWithLens_17 : decode cX3_nextWithLens 17 = .ok (.iconst 3, 1) := dk_6 (dk_at dksX3_nextWithLens_0 17 rfl rfl)
theorem dX3_nextWithLens_18 : decode cX3_nextWithLens 18 = .ok (.invokevirtual 81, 3) := dk_182 0 81 (dk_at dksX3_nextWithLens_0 18 rfl rfl)
theorem dX3_nextWithLens_21 : decode cX3_nextWithLens 21 = .ok (.ifCond .lt 37, 3) := dk_155 0 37 (dk_at dksX3_nextWithLens_0 21 rfl rfl)
theorem dX3_nextWithLens_24 : decode cX3_nextWithLens 24 = .ok (.aload_n 0, 1) := dk_42 (dk_at dksX3_nextWithLens_1 0 rfl rfl)
theorem dX3_nextWithLens_25 : decode cX3_nextWithLens 25 = .ok (.iload_n 3, 1) := dk_29 (dk_at dksX3_nextWithLens_1 1 rfl rfl)
theorem dX3_nextWithLens_26 : decode cX3_nextWithLens 26 = .ok (.iconst 0, 1) := dk_3 (dk_at dksX3_nextWithLens_1 2 rfl rfl)
theorem dX3_nextWithLens_27 : decode cX3_nextWithLens 27 = .ok (.invokevirtual 81, 3) := dk_182 0 81 (dk_at dksX3_nextWithLens_1 3 rfl rfl)
theorem dX3_nextWithLens_30 : decode cX3_nextWithLens 30 = .ok (.iload_n 1, 1) := dk_27 (dk_at dksX3_nextWithLens_1 6 rfl rfl)
theorem dX3_nextWithLens_31 : decode cX3_nextWithLens 31 = .ok (.if_icmp .gt 6, 3) := dk_163 0 6 (dk_at dksX3_nextWithLens_1 7 rfl rfl)
theorem dX3_nextWithLens_34 : decode cX3_nextWithLens 34 = .ok (.goto 24, 3) := dk_167 0 24 (dk_at dksX3_nextWithLens_1 10 rfl rfl)
theorem dX3_nextWithLens_37 : decode cX3_nextWithLens 37 = .ok (.iload_n 2, 1) := dk_28 (dk_at dksX3_nextWithLens_1 13 rfl rfl)
theorem dX3_nextWithLens_38 : decode cX3_nextWithLens 38 = .ok (.ifCond .lt 18, 3) := dk_155 0 18 (dk_at dksX3_nextWithLens_1 14 rfl rfl)
theorem dX3_nextWithLens_41 : decode cX3_nextWithLens 41 = .ok (.aload_n 0, 1) := dk_42 (dk_at dksX3_nextWithLens_1 17 rfl rfl)
theorem dX3_nextWithLens_42 : decode cX3_nextWithLens 42 = .ok (.iload_n 3, 1) := dk_29 (dk_at dksX3_nextWithLens_1 18 rfl rfl)
theorem dX3_nextWithLens_43 : decode cX3_nextWithLens 43 = .ok (.iconst 0, 1) := dk_3 (dk_at dksX3_nextWithLens_1 19 rfl rfl)
theorem dX3_nextWithLens_44 : decode cX3_nextWithLens 44 = .ok (.invokevirtual 81, 3) := dk_182 0 81 (dk_at dksX3_nextWithLens_1 20 rfl rfl)
theorem dX3_nextWithLens_47 : decode cX3_nextWithLens 47 = .ok (.aload_n 0, 1) := dk_42 (dk_at dksX3_nextWithLens_1 23 rfl rfl)
theorem dX3_nextWithLens_48 : decode cX3_nextWithLens 48 = .ok (.iload_n 2, 1) := dk_28 (dk_at dksX3_nextWithLens_2 0 rfl rfl)
theorem dX3_nextWithLens_49 : decode cX3_nextWithLens 49 = .ok (.iconst 0, 1) := dk_3 (dk_at dksX3_nextWithLens_2 1 rfl rfl)
theorem dX3_nextWithLens_50 : decode cX3_nextWithLens 50 = .ok (.invokevirtual 81, 3) := dk_182 0 81 (dk_at dksX3_nextWithLens_2 2 rfl rfl)
theorem dX3_nextWithLens_53 : decode cX3_nextWithLens 53 = .ok (.if_icmp .ge 5, 3) := dk_162 0 5 (dk_at dksX3_nextWithLens_2 5 rfl rfl)
theorem dX3_nextWithLens_56 : decode cX3_nextWithLens 56 = .ok (.iload_n 3, 1) := dk_29 (dk_at dksX3_nextWithLens_2 8 rfl rfl)
theorem dX3_nextWithLens_57 : decode cX3_nextWithLens 57 = .ok (.istore_n 2, 1) := dk_61 (dk_at dksX3_nextWithLens_2 9 rfl rfl)
theorem dX3_nextWithLens_58 : decode cX3_nextWithLens 58 = .ok (.iinc 3 1, 3) := dk_132 3 1 (dk_at dksX3_nextWithLens_2 10 rfl rfl)
theorem dX3_nextWithLens_61 : decode cX3_nextWithLens 61 = .ok (.goto (-57), 3) := dk_167 255 199 (dk_at dksX3_nextWithLens_2 13 rfl rfl)
theorem dX3_nextWithLens_64 : decode cX3_nextWithLens 64 = .ok (.iload_n 2, 1) := dk_28 (dk_at dksX3_nextWithLens_2 16 rfl rfl)
theorem dX3_nextWithLens_65 : decode cX3_nextWithLens 65 = .ok (.ireturn, 1) := dk_172 (dk_at dksX3_nextWithLens_2 17 rfl rfl)
abbrev cX3_scrap : ByteArray := prog_13_method_54_code
def yX3_scrap : MethodName := ⟨RX3, "scrap", "()I"⟩
def dkwX3_scrap_3 : List UInt8 := [132, 1, 1, 167, 255, 195, 42, 182, 0, 141, 27, 172]
abbrev dktX3_scrap_3 : List UInt8 := dkwX3_scrap_3 ++ []
def dkwX3_scrap_2 : List UInt8 := [132, 2, 1, 167, 255, 218, 42, 28, 182, 0, 161, 42, 180, 0, 13, 29, 5, 184, 0, 84, 16, 254, 79]
abbrev dktX3_scrap_2 : List UInt8 := dkwX3_scrap_2 ++ dktX3_scrap_3
def dkwX3_scrap_1 : List UInt8 := [42, 180, 0, 13, 16, 13, 28, 96, 46, 62, 42, 180, 0, 13, 29, 3, 184, 0, 84, 46, 8, 161, 0, 9]
abbrev dktX3_scrap_1 : List UInt8 := dkwX3_scrap_1 ++ dktX3_scrap_2
def dkwX3_scrap_0 : List UInt8 := [42, 3, 181, 0, 51, 42, 182, 0, 138, 3, 60, 3, 61, 28, 42, 180, 0, 13, 16, 12, 46, 162, 0, 56]
abbrev dktX3_scrap_0 : List UInt8 := dkwX3_scrap_0 ++ dktX3_scrap_1
theorem dksX3_scrap_0 : cX3_scrap.data.toList.drop 0 = dktX3_scrap_0 := by decide +kernel
theorem dksX3_scrap_1 : cX3_scrap.data.toList.drop 24 = dktX3_scrap_1 := dk_seg dksX3_scrap_0 24 rfl rfl
theorem dksX3_scrap_2 : cX3_scrap.data.toList.drop 48 = dktX3_scrap_2 := dk_seg dksX3_scrap_1 24 rfl rfl
theorem dksX3_scrap_3 : cX3_scrap.data.toList.drop 71 = dktX3_scrap_3 := dk_seg dksX3_scrap_2 23 rfl rfl
theorem dX3_scrap_0 : decode cX3_scrap 0 = .ok (.aload_n 0, 1) := dk_42 (dk_at dksX3_scrap_0 0 rfl rfl)
theorem dX3_scrap_1 : decode cX3_scrap 1 = .ok (.iconst 0, 1) := dk_3 (dk_at dksX3_scrap_0 1 rfl rfl)
theorem dX3_scrap_2 : decode cX3_scrap 2 = .ok (.putfield 51, 3) := dk_181 0 51 (dk_at dksX3_scrap_0 2 rfl rfl)
theorem dX3_scrap_5 : decode cX3_scrap 5 = .ok (.aload_n 0, 1) := dk_42 (dk_at dksX3_scrap_0 5 rfl rfl)
theorem dX3_scrap_6 : decode cX3_scrap 6 = .ok (.invokevirtual 138, 3) := dk_182 0 138 (dk_at dksX3_scrap_0 6 rfl rfl)
theorem dX3_scrap_9 : decode cX3_scrap 9 = .ok (.iconst 0, 1) := dk_3 (dk_at dksX3_scrap_0 9 rfl rfl)
theorem dX3_scrap_10 : decode cX3_scrap 10 = .ok (.istore_n 1, 1) := dk_60 (dk_at dksX3_scrap_0 10 rfl rfl)
theorem dX3_scrap_11 : decode cX3_scrap 11 = .ok (.iconst 0, 1) := dk_3 (dk_at dksX3_scrap_0 11 rfl rfl)
theorem dX3_scrap_12 : decode cX3_scrap 12 = .ok (.istore_n 2, 1) := dk_61 (dk_at dksX3_scrap_0 12 rfl rfl)
theorem dX3_scrap_13 : decode cX3_scrap 13 = .ok (.iload_n 2, 1) := dk_28 (dk_at dksX3_scrap_0 13 rfl rfl)
theorem dX3_scrap_14 : decode cX3_scrap 14 = .ok (.aload_n 0, 1) := dk_42 (dk_at dksX3_scrap_0 14 rfl rfl)
theorem dX3_scrap_15 : decode cX3_scrap 15 = .ok (.getfield 13, 3) := dk_180 0 13 (dk_at dksX3_scrap_0 15 rfl rfl)
theorem dX3_scrap_18 : decode cX3_scrap 18 = .ok (.bipush 12, 2) := dk_16 12 (dk_at dksX3_scrap_0 18 rfl rfl)
theorem dX3_scrap_20 : decode cX3_scrap 20 = .ok (.iaload, 1) := dk_46 (dk_at dksX3_scrap_0 20 rfl rfl)
theorem dX3_scrap_21 : decode cX3_scrap 21 = .ok (.if_icmp .ge 56, 3) := dk_162 0 56 (dk_at dksX3_scrap_0 21 rfl rfl)
theorem dX3_scrap_24 : decode cX3_scrap 24 = .ok (.aload_n 0, 1) := dk_42 (dk_at dksX3_scrap_1 0 rfl rfl)
theorem dX3_scrap_25 : decode cX3_scrap 25 = .ok (.getfield 13, 3) := dk_180 0 13 (dk_at dksX3_scrap_1 1 rfl rfl)
theorem dX3_scrap_28 : decode cX3_scrap 28 = .ok (.bipush 13, 2) := dk_16 13 (dk_at dksX3_scrap_1 4 rfl rfl)
theorem dX3_scrap_30 : decode cX3_scrap 30 = .ok (.iload_n 2, 1) := dk_28 (dk_at dksX3_scrap_1 6 rfl rfl)
theorem dX3_scrap_31 : decode cX3_scrap 31 = .ok (.iadd, 1) := dk_96 (dk_at dksX3_scrap_1 7 rfl rfl)
theorem dX3_scrap_32 : decode cX3_scrap 32 = .ok (.iaload, 1) := dk_46 (dk_at dksX3_scrap_1 8 rfl rfl)
theorem dX3_scrap_33 : decode cX3_scrap 33 = .ok (.istore_n 3, 1) := dk_62 (dk_at dksX3_scrap_1 9 rfl rfl)
theorem dX3_scrap_34 : decode cX3_scrap 34 = .ok (.aload_n 0, 1) := dk_42 (dk_at dksX3_scrap_1 10 rfl rfl)
theorem dX3_scrap_35 : decode cX3_scrap 35 = .ok (.getfield 13, 3) := dk_180 0 13 (dk_at dksX3_scrap_1 11 rfl rfl)
theorem dX3_scrap_38 : decode cX3_scrap 38 = .ok (.iload_n 3, 1) := dk_29 (dk_at dksX3_scrap_1 14 rfl rfl)
theorem dX3_scrap_39 : decode cX3_scrap 39 = .ok (.iconst 0, 1) := dk_3 (dk_at dksX3_scrap_1 15 rfl rfl)
theorem dX3_scrap_40 : decode cX3_scrap 40 = .ok (.invokestatic 84, 3) := dk_184 0 84 (dk_at dksX3_scrap_1 16 rfl rfl)
theorem dX3_scrap_43 : decode cX3_scrap 43 = .ok (.iaload, 1) := dk_46 (dk_at dksX3_scrap_1 19 rfl rfl)
theorem dX3_scrap_44 : decode cX3_scrap 44 = .ok (.iconst 5, 1) := dk_8 (dk_at dksX3_scrap_1 20 rfl rfl)
theorem dX3_scrap_45 : decode cX3_scrap 45 = .ok (.if_icmp .lt 9, 3) := dk_161 0 9 (dk_at dksX3_scrap_1 21 rfl rfl)
theorem dX3_scrap_48 : decode cX3_scrap 48 = .ok (.iinc 2 1, 3) := dk_132 2 1 (dk_at dksX3_scrap_2 0 rfl rfl)
theorem dX3_scrap_51 : decode cX3_scrap 51 = .ok (.goto (-38), 3) := dk_167 255 218 (dk_at dksX3_scrap_2 3 rfl rfl)
theorem dX3_scrap_54 : decode cX3_scrap 54 = .ok (.aload_n 0, 1) := dk_42 (dk_at dksX3_scrap_2 6 rfl rfl)
theorem dX3_scrap_55 : decode cX3_scrap 55 = .ok (.iload_n 2, 1) := dk_28 (dk_at dksX3_scrap_2 7 rfl rfl)
theorem dX3_scrap_56 : decode cX3_scrap 56 = .ok (.invokevirtual 161, 3) := dk_182 0 161 (dk_at dksX3_scrap_2 8 rfl rfl)
theorem dX3_scrap_59 : decode cX3_scrap 59 = .ok (.aload_n 0, 1) := dk_42 (dk_at dksX3_scrap_2 11 rfl rfl)
theorem dX3_scrap_60 : decode cX3_scrap 60 = .ok (.getfield 13, 3) := dk_180 0 13 (dk_at dksX3_scrap_2 12 rfl rfl)
theorem dX3_scrap_63 : decode cX3_scrap 63 = .ok (.iload_n 3, 1) := dk_29 (dk_at dksX3_scrap_2 15 rfl rfl)
theorem dX3_scrap_64 : decode cX3_scrap 64 = .ok (.iconst 2, 1) := dk_5 (dk_at dksX3_scrap_2 16 rfl rfl)
theorem dX3_scrap_65 : decode cX3_scrap 65 = .ok (.invokestatic 84, 3) := dk_184 0 84 (dk_at dksX3_scrap_2 17 rfl rfl)
theorem dX3_scrap_68 : decode cX3_scrap 68 = .ok (.bipush (-2), 2) := dk_16 254 (dk_at dksX3_scrap_2 20 rfl rfl)
theorem dX3_scrap_70 : decode cX3_scrap 70 = .ok (.iastore, 1) := dk_79 (dk_at dksX3_scrap_2 22 rfl rfl)
theorem dX3_scrap_71 : decode cX3_scrap 71 = .ok (.iinc 1 1, 3) := dk_132 1 1 (dk_at dksX3_scrap_3 0 rfl rfl)
theorem dX3_scrap_74 : decode cX3_scrap 74 = .ok (.goto (-61), 3) := dk_167 255 195 (dk_at dksX3_scrap_3 3 rfl rfl)
theorem dX3_scrap_77 : decode cX3_scrap 77 = .ok (.aload_n 0, 1) := dk_42 (dk_at dksX3_scrap_3 6 rfl rfl)
theorem dX3_scrap_78 : decode cX3_scrap 78 = .ok (.invokevirtual 141, 3) := dk_182 0 141 (dk_at dksX3_scrap_3 7 rfl rfl)
theorem dX3_scrap_81 : decode cX3_scrap 81 = .ok (.iload_n 1, 1) := dk_27 (dk_at dksX3_scrap_3 10 rfl rfl)
theorem dX3_scrap_82 : decode cX3_scrap 82 = .ok (.ireturn, 1) := dk_172 (dk_at dksX3_scrap_3 11 rfl rfl)
abbrev cX3_nights : ByteArray := prog_13_method_57_code
def yX3_nights : MethodName := ⟨RX3, "nights", "(I)I"⟩
def dkwX3_nights_2 : List UInt8 := [96, 42, 180, 0, 22, 4, 46, 100, 42, 180, 0, 22, 5, 46, 100, 172]
abbrev dktX3_nights_2 : List UInt8 := dkwX3_nights_2 ++ []
def dkwX3_nights_1 : List UInt8 := [182, 0, 138, 42, 27, 182, 0, 198, 42, 182, 0, 141, 42, 180, 0, 13, 4, 46, 42, 180, 0, 13, 5, 46]
abbrev dktX3_nights_1 : List UInt8 := dkwX3_nights_1 ++ dktX3_nights_2
def dkwX3_nights_0 : List UInt8 := [42, 3, 181, 0, 51, 27, 4, 16, 30, 184, 0, 77, 154, 0, 9, 42, 4, 182, 0, 63, 172, 42]
abbrev dktX3_nights_0 : List UInt8 := dkwX3_nights_0 ++ dktX3_nights_1
theorem dksX3_nights_0 : cX3_nights.data.toList.drop 0 = dktX3_nights_0 := by decide +kernel
theorem dksX3_nights_1 : cX3_nights.data.toList.drop 22 = dktX3_nights_1 := dk_seg dksX3_nights_0 22 rfl rfl
theorem dksX3_nights_2 : cX3_nights.data.toList.drop 46 = dktX3_nights_2 := dk_seg dksX3_nights_1 24 rfl rfl
theorem dX3_nights_0 : decode cX3_nights 0 = .ok (.aload_n 0, 1) := dk_42 (dk_at dksX3_nights_0 0 rfl rfl)
theorem dX3_nights_1 : decode cX3_nights 1 = .ok (.iconst 0, 1) := dk_3 (dk_at dksX3_nights_0 1 rfl rfl)
theorem dX3_nights_2 : decode cX3_nights 2 = .ok (.putfield 51, 3) := dk_181 0 51 (dk_at dksX3_nights_0 2 rfl rfl)
theorem dX3_nights_5 : decode cX3_nights 5 = .ok (.iload_n 1, 1) := dk_27 (dk_at dksX3_nights_0 5 rfl rfl)
theorem dX3_nights_6 : decode cX3_nights 6 = .ok (.iconst 1, 1) := dk_4 (dk_at dksX3_nights_0 6 rfl rfl)
theorem dX3_nights_7 : decode cX3_nights 7 = .ok (.bipush 30, 2) := dk_16 30 (dk_at dksX3_nights_0 7 rfl rfl)
theorem dX3_nights_9 : decode cX3_nights 9 = .ok (.invokestatic 77, 3) := dk_184 0 77 (dk_at dksX3_nights_0 9 rfl rfl)
theorem dX3_nights_12 : decode cX3_nights 12 = .ok (.ifCond .ne 9, 3) := dk_154 0 9 (dk_at dksX3_nights_0 12 rfl rfl)
theorem dX3_nights_15 : decode cX3_nights 15 = .ok (.aload_n 0, 1) := dk_42 (dk_at dksX3_nights_0 15 rfl rfl)
theorem dX3_nights_16 : decode cX3_nights 16 = .ok (.iconst 1, 1) := dk_4 (dk_at dksX3_nights_0 16 rfl rfl)
theorem dX3_nights_17 : decode cX3_nights 17 = .ok (.invokevirtual 63, 3) := dk_182 0 63 (dk_at dksX3_nights_0 17 rfl rfl)
theorem dX3_nights_20 : decode cX3_nights 20 = .ok (.ireturn, 1) := dk_172 (dk_at dksX3_nights_0 20 rfl rfl)
theorem dX3_nights_21 : decode cX3_nights 21 = .ok (.aload_n 0, 1) := dk_42 (dk_at dksX3_nights_0 21 rfl rfl)
theorem dX3_nights_22 : decode cX3_nights 22 = .ok (.invokevirtual 138, 3) := dk_182 0 138 (dk_at dksX3_nights_1 0 rfl rfl)
theorem dX3_nights_25 : decode cX3_nights 25 = .ok (.aload_n 0, 1) := dk_42 (dk_at dksX3_nights_1 3 rfl rfl)
theorem dX3_nights_26 : decode cX3_nights 26 = .ok (.iload_n 1, 1) := dk_27 (dk_at dksX3_nights_1 4 rfl rfl)
theorem dX3_nights_27 : decode cX3_nights 27 = .ok (.invokevirtual 198, 3) := dk_182 0 198 (dk_at dksX3_nights_1 5 rfl rfl)
theorem dX3_nights_30 : decode cX3_nights 30 = .ok (.aload_n 0, 1) := dk_42 (dk_at dksX3_nights_1 8 rfl rfl)
theorem dX3_nights_31 : decode cX3_nights 31 = .ok (.invokevirtual 141, 3) := dk_182 0 141 (dk_at dksX3_nights_1 9 rfl rfl)
theorem dX3_nights_34 : decode cX3_nights 34 = .ok (.aload_n 0, 1) := dk_42 (dk_at dksX3_nights_1 12 rfl rfl)
theorem dX3_nights_35 : decode cX3_nights 35 = .ok (.getfield 13, 3) := dk_180 0 13 (dk_at dksX3_nights_1 13 rfl rfl)
theorem dX3_nights_38 : decode cX3_nights 38 = .ok (.iconst 1, 1) := dk_4 (dk_at dksX3_nights_1 16 rfl rfl)
theorem dX3_nights_39 : decode cX3_nights 39 = .ok (.iaload, 1) := dk_46 (dk_at dksX3_nights_1 17 rfl rfl)
theorem dX3_nights_40 : decode cX3_nights 40 = .ok (.aload_n 0, 1) := dk_42 (dk_at dksX3_nights_1 18 rfl rfl)
theorem dX3_nights_41 : decode cX3_nights 41 = .ok (.getfield 13, 3) := dk_180 0 13 (dk_at dksX3_nights_1 19 rfl rfl)
theorem dX3_nights_44 : decode cX3_nights 44 = .ok (.iconst 2, 1) := dk_5 (dk_at dksX3_nights_1 22 rfl rfl)
theorem dX3_nights_45 : decode cX3_nights 45 = .ok (.iaload, 1) := dk_46 (dk_at dksX3_nights_1 23 rfl rfl)
theorem dX3_nights_46 : decode cX3_nights 46 = .ok (.iadd, 1) := dk_96 (dk_at dksX3_nights_2 0 rfl rfl)
theorem dX3_nights_47 : decode cX3_nights 47 = .ok (.aload_n 0, 1) := dk_42 (dk_at dksX3_nights_2 1 rfl rfl)
theorem dX3_nights_48 : decode cX3_nights 48 = .ok (.getfield 22, 3) := dk_180 0 22 (dk_at dksX3_nights_2 2 rfl rfl)
theorem dX3_nights_51 : decode cX3_nights 51 = .ok (.iconst 1, 1) := dk_4 (dk_at dksX3_nights_2 5 rfl rfl)
theorem dX3_nights_52 : decode cX3_nights 52 = .ok (.iaload, 1) := dk_46 (dk_at dksX3_nights_2 6 rfl rfl)
theorem dX3_nights_53 : decode cX3_nights 53 = .ok (.isub, 1) := dk_100 (dk_at dksX3_nights_2 7 rfl rfl)
theorem dX3_nights_54 : decode cX3_nights 54 = .ok (.aload_n 0, 1) := dk_42 (dk_at dksX3_nights_2 8 rfl rfl)
theorem dX3_nights_55 : decode cX3_nights 55 = .ok (.getfield 22, 3) := dk_180 0 22 (dk_at dksX3_nights_2 9 rfl rfl)
theorem dX3_nights_58 : decode cX3_nights 58 = .ok (.iconst 2, 1) := dk_5 (dk_at dksX3_nights_2 12 rfl rfl)
theorem dX3_nights_59 : decode cX3_nights 59 = .ok (.iaload, 1) := dk_46 (dk_at dksX3_nights_2 13 rfl rfl)
theorem dX3_nights_60 : decode cX3_nights 60 = .ok (.isub, 1) := dk_100 (dk_at dksX3_nights_2 14 rfl rfl)
theorem dX3_nights_61 : decode cX3_nights 61 = .ok (.ireturn, 1) := dk_172 (dk_at dksX3_nights_2 15 rfl rfl)
abbrev cX3_goesNights : ByteArray := prog_13_method_56_code
def yX3_goesNights : MethodName := ⟨RX3, "goesNights", "(I)V"⟩
def dkwX3_goesNights_0 : List UInt8 := [3, 61, 28, 27, 162, 0, 13, 42, 182, 0, 195, 132, 2, 1, 167, 255, 244, 177]
abbrev dktX3_goesNights_0 : List UInt8 := dkwX3_goesNights_0 ++ []
theorem dksX3_goesNights_0 : cX3_goesNights.data.toList.drop 0 = dktX3_goesNights_0 := by decide +kernel
theorem dX3_goesNights_0 : decode cX3_goesNights 0 = .ok (.iconst 0, 1) := dk_3 (dk_at dksX3_goesNights_0 0 rfl rfl)
theorem dX3_goesNights_1 : decode cX3_goesNights 1 = .ok (.istore_n 2, 1) := dk_61 (dk_at dksX3_goesNights_0 1 rfl rfl)
theorem dX3_goesNights_2 : decode cX3_goesNights 2 = .ok (.iload_n 2, 1) := dk_28 (dk_at dksX3_goesNights_0 2 rfl rfl)
theorem dX3_goesNights_3 : decode cX3_goesNights 3 = .ok (.iload_n 1, 1) := dk_27 (dk_at dksX3_goesNights_0 3 rfl rfl)
theorem dX3_goesNights_4 : decode cX3_goesNights 4 = .ok (.if_icmp .ge 13, 3) := dk_162 0 13 (dk_at dksX3_goesNights_0 4 rfl rfl)
theorem dX3_goesNights_7 : decode cX3_goesNights 7 = .ok (.aload_n 0, 1) := dk_42 (dk_at dksX3_goesNights_0 7 rfl rfl)
theorem dX3_goesNights_8 : decode cX3_goesNights 8 = .ok (.invokevirtual 195, 3) := dk_182 0 195 (dk_at dksX3_goesNights_0 8 rfl rfl)
theorem dX3_goesNights_11 : decode cX3_goesNights 11 = .ok (.iinc 2 1, 3) := dk_132 2 1 (dk_at dksX3_goesNights_0 11 rfl rfl)
theorem dX3_goesNights_14 : decode cX3_goesNights 14 = .ok (.goto (-12), 3) := dk_167 255 244 (dk_at dksX3_goesNights_0 14 rfl rfl)
theorem dX3_goesNights_17 : decode cX3_goesNights 17 = .ok (.return_, 1) := dk_177 (dk_at dksX3_goesNights_0 17 rfl rfl)
abbrev cX3_goesNight : ByteArray := prog_13_method_55_code
def yX3_goesNight : MethodName := ⟨RX3, "goesNight", "()V"⟩
def dkwX3_goesNight_7 : List UInt8 := [167, 0, 4, 3, 96, 79, 132, 1, 1, 167, 255, 191, 42, 182, 0, 120, 177]
abbrev dktX3_goesNight_7 : List UInt8 := dkwX3_goesNight_7 ++ []
def dkwX3_goesNight_6 : List UInt8 := [42, 180, 0, 13, 28, 3, 184, 0, 84, 46, 42, 180, 0, 13, 28, 4, 184, 0, 84, 46, 162, 0, 7, 4]
abbrev dktX3_goesNight_6 : List UInt8 := dkwX3_goesNight_6 ++ dktX3_goesNight_7
def dkwX3_goesNight_5 : List UInt8 := [162, 0, 60, 42, 180, 0, 13, 16, 13, 27, 96, 46, 61, 42, 180, 0, 13, 28, 3, 184, 0, 84, 92, 46]
abbrev dktX3_goesNight_5 : List UInt8 := dkwX3_goesNight_5 ++ dktX3_goesNight_6
def dkwX3_goesNight_4 : List UInt8 := [180, 0, 13, 28, 46, 100, 79, 132, 1, 1, 167, 255, 165, 3, 60, 27, 42, 180, 0, 13, 16, 12, 46]
abbrev dktX3_goesNight_4 : List UInt8 := dkwX3_goesNight_4 ++ dktX3_goesNight_5
def dkwX3_goesNight_3 : List UInt8 := [62, 42, 180, 0, 13, 28, 92, 46, 29, 42, 180, 0, 13, 28, 46, 162, 0, 7, 29, 167, 0, 9, 42]
abbrev dktX3_goesNight_3 : List UInt8 := dkwX3_goesNight_3 ++ dktX3_goesNight_4
def dkwX3_goesNight_2 : List UInt8 := [180, 0, 13, 6, 42, 27, 3, 182, 0, 81, 16, 10, 108, 96, 46, 8, 161, 0, 7, 5, 167, 0, 4, 4]
abbrev dktX3_goesNight_2 : List UInt8 := dkwX3_goesNight_2 ++ dktX3_goesNight_3
def dkwX3_goesNight_1 : List UInt8 := [27, 182, 0, 109, 154, 0, 6, 167, 0, 69, 42, 27, 6, 182, 0, 81, 3, 184, 0, 84, 61, 42]
abbrev dktX3_goesNight_1 : List UInt8 := dkwX3_goesNight_1 ++ dktX3_goesNight_2
def dkwX3_goesNight_0 : List UInt8 := [42, 180, 0, 13, 3, 92, 46, 4, 96, 79, 3, 60, 27, 42, 180, 0, 13, 16, 10, 46, 162, 0, 86, 42]
abbrev dktX3_goesNight_0 : List UInt8 := dkwX3_goesNight_0 ++ dktX3_goesNight_1
theorem dksX3_goesNight_0 : cX3_goesNight.data.toList.drop 0 = dktX3_goesNight_0 := by decide +kernel
theorem dksX3_goesNight_1 : cX3_goesNight.data.toList.drop 24 = dktX3_goesNight_1 := dk_seg dksX3_goesNight_0 24 rfl rfl
theorem dksX3_goesNight_2 : cX3_goesNight.data.toList.drop 46 = dktX3_goesNight_2 := dk_seg dksX3_goesNight_1 22 rfl rfl
theorem dksX3_goesNight_3 : cX3_goesNight.data.toList.drop 70 = dktX3_goesNight_3 := dk_seg dksX3_goesNight_2 24 rfl rfl
theorem dksX3_goesNight_4 : cX3_goesNight.data.toList.drop 93 = dktX3_goesNight_4 := dk_seg dksX3_goesNight_3 23 rfl rfl
theorem dksX3_goesNight_5 : cX3_goesNight.data.toList.drop 116 = dktX3_goesNight_5 := dk_seg dksX3_goesNight_4 23 rfl rfl
theorem dksX3_goesNight_6 : cX3_goesNight.data.toList.drop 140 = dktX3_goesNight_6 := dk_seg dksX3_goesNight_5 24 rfl rfl
theorem dksX3_goesNight_7 : cX3_goesNight.data.toList.drop 164 = dktX3_goesNight_7 := dk_seg dksX3_goesNight_6 24 rfl rfl
theorem dX3_goesNight_0 : decode cX3_goesNight 0 = .ok (.aload_n 0, 1) := dk_42 (dk_at dksX3_goesNight_0 0 rfl rfl)
theorem dX3_goesNight_1 : decode cX3_goesNight 1 = .ok (.getfield 13, 3) := dk_180 0 13 (dk_at dksX3_goesNight_0 1 rfl rfl)
theorem dX3_goesNight_4 : decode cX3_goesNight 4 = .ok (.iconst 0, 1) := dk_3 (dk_at dksX3_goesNight_0 4 rfl rfl)
theorem dX3_goesNight_5 : decode cX3_goesNight 5 = .ok (.dup2, 1) := dk_92 (dk_at dksX3_goesNight_0 5 rfl rfl)
theorem dX3_goesNight_6 : decode cX3_goesNight 6 = .ok (.iaload, 1) := dk_46 (dk_at dksX3_goesNight_0 6 rfl rfl)
theorem dX3_goesNight_7 : decode cX3_goesNight 7 = .ok (.iconst 1, 1) := dk_4 (dk_at dksX3_goesNight_0 7 rfl rfl)
theorem dX3_goesNight_8 : decode cX3_goesNight 8 = .ok (.iadd, 1) := dk_96 (dk_at dksX3_goesNight_0 8 rfl rfl)
theorem dX3_goesNight_9 : decode cX3_goesNight 9 = .ok (.iastore, 1) := dk_79 (dk_at dksX3_goesNight_0 9 rfl rfl)
theorem dX3_goesNight_10 : decode cX3_goesNight 10 = .ok (.iconst 0, 1) := dk_3 (dk_at dksX3_goesNight_0 10 rfl rfl)
theorem dX3_goesNight_11 : decode cX3_goesNight 11 = .ok (.istore_n 1, 1) := dk_60 (dk_at dksX3_goesNight_0 11 rfl rfl)
theorem dX3_goesNight_12 : decode cX3_goesNight 12 = .ok (.iload_n 1, 1) := dk_27 (dk_at dksX3_goesNight_0 12 rfl rfl)
theorem dX3_goesNight_13 : decode cX3_goesNight 13 = .ok (.aload_n 0, 1) := dk_42 (dk_at dksX3_goesNight_0 13 rfl rfl)
theorem dX3_goesNight_14 : decode cX3_goesNight 14 = .ok (.getfield 13, 3) := dk_180 0 13 (dk_at dksX3_goesNight_0 14 rfl rfl)
theorem dX3_goesNight_17 : decode cX3_goesNight 17 = .ok (.bipush 10, 2) := dk_16 10 (dk_at dksX3_goesNight_0 17 rfl rfl)
theorem dX3_goesNight_19 : decode cX3_goesNight 19 = .ok (.iaload, 1) := dk_46 (dk_at dksX3_goesNight_0 19 rfl rfl)
theorem dX3_goesNight_20 : decode cX3_goesNight 20 = .ok (.if_icmp .ge 86, 3) := dk_162 0 86 (dk_at dksX3_goesNight_0 20 rfl rfl)
theorem dX3_goesNight_23 : decode cX3_goesNight 23 = .ok (.aload_n 0, 1) := dk_42 (dk_at dksX3_goesNight_0 23 rfl rfl)
theorem dX3_goesNight_24 : decode cX3_goesNight 24 = .ok (.iload_n 1, 1) := dk_27 (dk_at dksX3_goesNight_1 0 rfl rfl)
theorem dX3_goesNight_25 : decode cX3_goesNight 25 = .ok (.invokevirtual 109, 3) := dk_182 0 109 (dk_at dksX3_goesNight_1 1 rfl rfl)
theorem dX3_goesNight_28 : decode cX3_goesNight 28 = .ok (.ifCond .ne 6, 3) := dk_154 0 6 (dk_at dksX3_goesNight_1 4 rfl rfl)
theorem dX3_goesNight_31 : decode cX3_goesNight 31 = .ok (.goto 69, 3) := dk_167 0 69 (dk_at dksX3_goesNight_1 7 rfl rfl)
theorem dX3_goesNight_34 : decode cX3_goesNight 34 = .ok (.aload_n 0, 1) := dk_42 (dk_at dksX3_goesNight_1 10 rfl rfl)
theorem dX3_goesNight_35 : decode cX3_goesNight 35 = .ok (.iload_n 1, 1) := dk_27 (dk_at dksX3_goesNight_1 11 rfl rfl)
theorem dX3_goesNight_36 : decode cX3_goesNight 36 = .ok (.iconst 3, 1) := dk_6 (dk_at dksX3_goesNight_1 12 rfl rfl)
theorem dX3_goesNight_37 : decode cX3_goesNight 37 = .ok (.invokevirtual 81, 3) := dk_182 0 81 (dk_at dksX3_goesNight_1 13 rfl rfl)
theorem dX3_goesNight_40 : decode cX3_goesNight 40 = .ok (.iconst 0, 1) := dk_3 (dk_at dksX3_goesNight_1 16 rfl rfl)
theorem dX3_goesNight_41 : decode cX3_goesNight 41 = .ok (.invokestatic 84, 3) := dk_184 0 84 (dk_at dksX3_goesNight_1 17 rfl rfl)
theorem dX3_goesNight_44 : decode cX3_goesNight 44 = .ok (.istore_n 2, 1) := dk_61 (dk_at dksX3_goesNight_1 20 rfl rfl)
theorem dX3_goesNight_45 : decode cX3_goesNight 45 = .ok (.aload_n 0, 1) := dk_42 (dk_at dksX3_goesNight_1 21 rfl rfl)
theorem dX3_goesNight_46 : decode cX3_goesNight 46 = .ok (.getfield 13, 3) := dk_180 0 13 (dk_at dksX3_goesNight_2 0 rfl rfl)
theorem dX3_goesNight_49 : decode cX3_goesNight 49 = .ok (.iconst 3, 1) := dk_6 (dk_at dksX3_goesNight_2 3 rfl rfl)
theorem dX3_goesNight_50 : decode cX3_goesNight 50 = .ok (.aload_n 0, 1) := dk_42 (dk_at dksX3_goesNight_2 4 rfl rfl)
theorem dX3_goesNight_51 : decode cX3_goesNight 51 = .ok (.iload_n 1, 1) := dk_27 (dk_at dksX3_goesNight_2 5 rfl rfl)
theorem dX3_goesNight_52 : decode cX3_goesNight 52 = .ok (.iconst 0, 1) := dk_3 (dk_at dksX3_goesNight_2 6 rfl rfl)
theorem dX3_goesNight_53 : decode cX3_goesNight 53 = .ok (.invokevirtual 81, 3) := dk_182 0 81 (dk_at dksX3_goesNight_2 7 rfl rfl)
theorem dX3_goesNight_56 : decode cX3_goesNight 56 = .ok (.bipush 10, 2) := dk_16 10 (dk_at dksX3_goesNight_2 10 rfl rfl)
theorem dX3_goesNight_58 : decode cX3_goesNight 58 = .ok (.idiv, 1) := dk_108 (dk_at dksX3_goesNight_2 12 rfl rfl)
theorem dX3_goesNight_59 : decode cX3_goesNight 59 = .ok (.iadd, 1) := dk_96 (dk_at dksX3_goesNight_2 13 rfl rfl)
theorem dX3_goesNight_60 : decode cX3_goesNight 60 = .ok (.iaload, 1) := dk_46 (dk_at dksX3_goesNight_2 14 rfl rfl)
theorem dX3_goesNight_61 : decode cX3_goesNight 61 = .ok (.iconst 5, 1) := dk_8 (dk_at dksX3_goesNight_2 15 rfl rfl)
theorem dX3_goesNight_62 : decode cX3_goesNight 62 = .ok (.if_icmp .lt 7, 3) := dk_161 0 7 (dk_at dksX3_goesNight_2 16 rfl rfl)
theorem dX3_goesNight_65 : decode cX3_goesNight 65 = .ok (.iconst 2, 1) := dk_5 (dk_at dksX3_goesNight_2 19 rfl rfl)
theorem dX3_goesNight_66 : decode cX3_goesNight 66 = .ok (.goto 4, 3) := dk_167 0 4 (dk_at dksX3_goesNight_2 20 rfl rfl)
theorem dX3_goesNight_69 : decode cX3_goesNight 69 = .ok (.iconst 1, 1) := dk_4 (dk_at dksX3_goesNight_2 23 rfl rfl)
theorem dX3_goesNight_70 : decode cX3_goesNight 70 = .ok (.istore_n 3, 1) := dk_62 (dk_at dksX3_goesNight_3 0 rfl rfl)
theorem dX3_goesNight_71 : decode cX3_goesNight 71 = .ok (.aload_n 0, 1) := dk_42 (dk_at dksX3_goesNight_3 1 rfl rfl)
theorem dX3_goesNight_72 : decode cX3_goesNight 72 = .ok (.getfield 13, 3) := dk_180 0 13 (dk_at dksX3_goesNight_3 2 rfl rfl)
theorem dX3_goesNight_75 : decode cX3_goesNight 75 = .ok (.iload_n 2, 1) := dk_28 (dk_at dksX3_goesNight_3 5 rfl rfl)
theorem dX3_goesNight_76 : decode cX3_goesNight 76 = .ok (.dup2, 1) := dk_92 (dk_at dksX3_goesNight_3 6 rfl rfl)
theorem dX3_goesNight_77 : decode cX3_goesNight 77 = .ok (.iaload, 1) := dk_46 (dk_at dksX3_goesNight_3 7 rfl rfl)
theorem dX3_goesNight_78 : decode cX3_goesNight 78 = .ok (.iload_n 3, 1) := dk_29 (dk_at dksX3_goesNight_3 8 rfl rfl)
theorem dX3_goesNight_79 : decode cX3_goesNight 79 = .ok (.aload_n 0, 1) := dk_42 (dk_at dksX3_goesNight_3 9 rfl rfl)
theorem dX3_goesNight_80 : decode cX3_goesNight 80 = .ok (.getfield 13, 3) := dk_180 0 13 (dk_at dksX3_goesNight_3 10 rfl rfl)
theorem dX3_goesNight_83 : decode cX3_goesNight 83 = .ok (.iload_n 2, 1) := dk_28 (dk_at dksX3_goesNight_3 13 rfl rfl)
theorem dX3_goesNight_84 : decode cX3_goesNight 84 = .ok (.iaload, 1) := dk_46 (dk_at dksX3_goesNight_3 14 rfl rfl)
theorem dX3_goesNight_85 : decode cX3_goesNight 85 = .ok (.if_icmp .ge 7, 3) := dk_162 0 7 (dk_at dksX3_goesNight_3 15 rfl rfl)
theorem dX3_goesNight_88 : decode cX3_goesNight 88 = .ok (.iload_n 3, 1) := dk_29 (dk_at dksX3_goesNight_3 18 rfl rfl)
theorem dX3_goesNight_89 : decode cX3_goesNight 89 = .ok (.goto 9, 3) := dk_167 0 9 (dk_at dksX3_goesNight_3 19 rfl rfl)
theorem dX3_goesNight_92 : decode cX3_goesNight 92 = .ok (.aload_n 0, 1) := dk_42 (dk_at dksX3_goesNight_3 22 rfl rfl)
theorem dX3_goesNight_93 : decode cX3_goesNight 93 = .ok (.getfield 13, 3) := dk_180 0 13 (dk_at dksX3_goesNight_4 0 rfl rfl)
theorem dX3_goesNight_96 : decode cX3_goesNight 96 = .ok (.iload_n 2, 1) := dk_28 (dk_at dksX3_goesNight_4 3 rfl rfl)
theorem dX3_goesNight_97 : decode cX3_goesNight 97 = .ok (.iaload, 1) := dk_46 (dk_at dksX3_goesNight_4 4 rfl rfl)
theorem dX3_goesNight_98 : decode cX3_goesNight 98 = .ok (.isub, 1) := dk_100 (dk_at dksX3_goesNight_4 5 rfl rfl)
theorem dX3_goesNight_99 : decode cX3_goesNight 99 = .ok (.iastore, 1) := dk_79 (dk_at dksX3_goesNight_4 6 rfl rfl)
theorem dX3_goesNight_100 : decode cX3_goesNight 100 = .ok (.iinc 1 1, 3) := dk_132 1 1 (dk_at dksX3_goesNight_4 7 rfl rfl)
theorem dX3_goesNight_103 : decode cX3_goesNight 103 = .ok (.goto (-91), 3) := dk_167 255 165 (dk_at dksX3_goesNight_4 10 rfl rfl)
theorem dX3_goesNight_106 : decode cX3_goesNight 106 = .ok (.iconst 0, 1) := dk_3 (dk_at dksX3_goesNight_4 13 rfl rfl)
theorem dX3_goesNight_107 : decode cX3_goesNight 107 = .ok (.istore_n 1, 1) := dk_60 (dk_at dksX3_goesNight_4 14 rfl rfl)
theorem dX3_goesNight_108 : decode cX3_goesNight 108 = .ok (.iload_n 1, 1) := dk_27 (dk_at dksX3_goesNight_4 15 rfl rfl)
theorem dX3_goesNight_109 : decode cX3_goesNight 109 = .ok (.aload_n 0, 1) := dk_42 (dk_at dksX3_goesNight_4 16 rfl rfl)
theorem dX3_goesNight_110 : decode cX3_goesNight 110 = .ok (.getfield 13, 3) := dk_180 0 13 (dk_at dksX3_goesNight_4 17 rfl rfl)
theorem dX3_goesNight_113 : decode cX3_goesNight 113 = .ok (.bipush 12, 2) := dk_16 12 (dk_at dksX3_goesNight_4 20 rfl rfl)
theorem dX3_goesNight_115 : decode cX3_goesNight 115 = .ok (.iaload, 1) := dk_46 (dk_at dksX3_goesNight_4 22 rfl rfl)
theorem dX3_goesNight_116 : decode cX3_goesNight 116 = .ok (.if_icmp .ge 60, 3) := dk_162 0 60 (dk_at dksX3_goesNight_5 0 rfl rfl)
theorem dX3_goesNight_119 : decode cX3_goesNight 119 = .ok (.aload_n 0, 1) := dk_42 (dk_at dksX3_goesNight_5 3 rfl rfl)
theorem dX3_goesNight_120 : decode cX3_goesNight 120 = .ok (.getfield 13, 3) := dk_180 0 13 (dk_at dksX3_goesNight_5 4 rfl rfl)
theorem dX3_goesNight_123 : decode cX3_goesNight 123 = .ok (.bipush 13, 2) := dk_16 13 (dk_at dksX3_goesNight_5 7 rfl rfl)
theorem dX3_goesNight_125 : decode cX3_goesNight 125 = .ok (.iload_n 1, 1) := dk_27 (dk_at dksX3_goesNight_5 9 rfl rfl)
theorem dX3_goesNight_126 : decode cX3_goesNight 126 = .ok (.iadd, 1) := dk_96 (dk_at dksX3_goesNight_5 10 rfl rfl)
theorem dX3_goesNight_127 : decode cX3_goesNight 127 = .ok (.iaload, 1) := dk_46 (dk_at dksX3_goesNight_5 11 rfl rfl)
theorem dX3_goesNight_128 : decode cX3_goesNight 128 = .ok (.istore_n 2, 1) := dk_61 (dk_at dksX3_goesNight_5 12 rfl rfl)
theorem dX3_goesNight_129 : decode cX3_goesNight 129 = .ok (.aload_n 0, 1) := dk_42 (dk_at dksX3_goesNight_5 13 rfl rfl)
theorem dX3_goesNight_130 : decode cX3_goesNight 130 = .ok (.getfield 13, 3) := dk_180 0 13 (dk_at dksX3_goesNight_5 14 rfl rfl)
theorem dX3_goesNight_133 : decode cX3_goesNight 133 = .ok (.iload_n 2, 1) := dk_28 (dk_at dksX3_goesNight_5 17 rfl rfl)
theorem dX3_goesNight_134 : decode cX3_goesNight 134 = .ok (.iconst 0, 1) := dk_3 (dk_at dksX3_goesNight_5 18 rfl rfl)
theorem dX3_goesNight_135 : decode cX3_goesNight 135 = .ok (.invokestatic 84, 3) := dk_184 0 84 (dk_at dksX3_goesNight_5 19 rfl rfl)
theorem dX3_goesNight_138 : decode cX3_goesNight 138 = .ok (.dup2, 1) := dk_92 (dk_at dksX3_goesNight_5 22 rfl rfl)
theorem dX3_goesNight_139 : decode cX3_goesNight 139 = .ok (.iaload, 1) := dk_46 (dk_at dksX3_goesNight_5 23 rfl rfl)
theorem dX3_goesNight_140 : decode cX3_goesNight 140 = .ok (.aload_n 0, 1) := dk_42 (dk_at dksX3_goesNight_6 0 rfl rfl)
theorem dX3_goesNight_141 : decode cX3_goesNight 141 = .ok (.getfield 13, 3) := dk_180 0 13 (dk_at dksX3_goesNight_6 1 rfl rfl)
theorem dX3_goesNight_144 : decode cX3_goesNight 144 = .ok (.iload_n 2, 1) := dk_28 (dk_at dksX3_goesNight_6 4 rfl rfl)
theorem dX3_goesNight_145 : decode cX3_goesNight 145 = .ok (.iconst 0, 1) := dk_3 (dk_at dksX3_goesNight_6 5 rfl rfl)
theorem dX3_goesNight_146 : decode cX3_goesNight 146 = .ok (.invokestatic 84, 3) := dk_184 0 84 (dk_at dksX3_goesNight_6 6 rfl rfl)
theorem dX3_goesNight_149 : decode cX3_goesNight 149 = .ok (.iaload, 1) := dk_46 (dk_at dksX3_goesNight_6 9 rfl rfl)
theorem dX3_goesNight_150 : decode cX3_goesNight 150 = .ok (.aload_n 0, 1) := dk_42 (dk_at dksX3_goesNight_6 10 rfl rfl)
theorem dX3_goesNight_151 : decode cX3_goesNight 151 = .ok (.getfield 13, 3) := dk_180 0 13 (dk_at dksX3_goesNight_6 11 rfl rfl)
theorem dX3_goesNight_154 : decode cX3_goesNight 154 = .ok (.iload_n 2, 1) := dk_28 (dk_at dksX3_goesNight_6 14 rfl rfl)
theorem dX3_goesNight_155 : decode cX3_goesNight 155 = .ok (.iconst 1, 1) := dk_4 (dk_at dksX3_goesNight_6 15 rfl rfl)
theorem dX3_goesNight_156 : decode cX3_goesNight 156 = .ok (.invokestatic 84, 3) := dk_184 0 84 (dk_at dksX3_goesNight_6 16 rfl rfl)
theorem dX3_goesNight_159 : decode cX3_goesNight 159 = .ok (.iaload, 1) := dk_46 (dk_at dksX3_goesNight_6 19 rfl rfl)
theorem dX3_goesNight_160 : decode cX3_goesNight 160 = .ok (.if_icmp .ge 7, 3) := dk_162 0 7 (dk_at dksX3_goesNight_6 20 rfl rfl)
theorem dX3_goesNight_163 : decode cX3_goesNight 163 = .ok (.iconst 1, 1) := dk_4 (dk_at dksX3_goesNight_6 23 rfl rfl)
theorem dX3_goesNight_164 : decode cX3_goesNight 164 = .ok (.goto 4, 3) := dk_167 0 4 (dk_at dksX3_goesNight_7 0 rfl rfl)
theorem dX3_goesNight_167 : decode cX3_goesNight 167 = .ok (.iconst 0, 1) := dk_3 (dk_at dksX3_goesNight_7 3 rfl rfl)
theorem dX3_goesNight_168 : decode cX3_goesNight 168 = .ok (.iadd, 1) := dk_96 (dk_at dksX3_goesNight_7 4 rfl rfl)
theorem dX3_goesNight_169 : decode cX3_goesNight 169 = .ok (.iastore, 1) := dk_79 (dk_at dksX3_goesNight_7 5 rfl rfl)
theorem dX3_goesNight_170 : decode cX3_goesNight 170 = .ok (.iinc 1 1, 3) := dk_132 1 1 (dk_at dksX3_goesNight_7 6 rfl rfl)
theorem dX3_goesNight_173 : decode cX3_goesNight 173 = .ok (.goto (-65), 3) := dk_167 255 191 (dk_at dksX3_goesNight_7 9 rfl rfl)
theorem dX3_goesNight_176 : decode cX3_goesNight 176 = .ok (.aload_n 0, 1) := dk_42 (dk_at dksX3_goesNight_7 12 rfl rfl)
theorem dX3_goesNight_177 : decode cX3_goesNight 177 = .ok (.invokevirtual 120, 3) := dk_182 0 120 (dk_at dksX3_goesNight_7 13 rfl rfl)
theorem dX3_goesNight_180 : decode cX3_goesNight 180 = .ok (.return_, 1) := dk_177 (dk_at dksX3_goesNight_7 16 rfl rfl)
abbrev cX3_cost : ByteArray := prog_13_method_58_code
def yX3_cost : MethodName := ⟨RX3, "cost", "(II)I"⟩
def dkwX3_cost_1 : List UInt8 := [167, 0, 9, 42, 27, 28, 182, 0, 87, 172]
abbrev dktX3_cost_1 : List UInt8 := dkwX3_cost_1 ++ []
def dkwX3_cost_0 : List UInt8 := [42, 3, 181, 0, 51, 27, 184, 0, 126, 153, 0, 10, 28, 184, 0, 126, 154, 0, 11, 42, 4, 182, 0, 63]
abbrev dktX3_cost_0 : List UInt8 := dkwX3_cost_0 ++ dktX3_cost_1
theorem dksX3_cost_0 : cX3_cost.data.toList.drop 0 = dktX3_cost_0 := by decide +kernel
theorem dksX3_cost_1 : cX3_cost.data.toList.drop 24 = dktX3_cost_1 := dk_seg dksX3_cost_0 24 rfl rfl
theorem dX3_cost_0 : decode cX3_cost 0 = .ok (.aload_n 0, 1) := dk_42 (dk_at dksX3_cost_0 0 rfl rfl)
theorem dX3_cost_1 : decode cX3_cost 1 = .ok (.iconst 0, 1) := dk_3 (dk_at dksX3_cost_0 1 rfl rfl)
theorem dX3_cost_2 : decode cX3_cost 2 = .ok (.putfield 51, 3) := dk_181 0 51 (dk_at dksX3_cost_0 2 rfl rfl)
theorem dX3_cost_5 : decode cX3_cost 5 = .ok (.iload_n 1, 1) := dk_27 (dk_at dksX3_cost_0 5 rfl rfl)
theorem dX3_cost_6 : decode cX3_cost 6 = .ok (.invokestatic 126, 3) := dk_184 0 126 (dk_at dksX3_cost_0 6 rfl rfl)
theorem dX3_cost_9 : decode cX3_cost 9 = .ok (.ifCond .eq 10, 3) := dk_153 0 10 (dk_at dksX3_cost_0 9 rfl rfl)
theorem dX3_cost_12 : decode cX3_cost 12 = .ok (.iload_n 2, 1) := dk_28 (dk_at dksX3_cost_0 12 rfl rfl)
theorem dX3_cost_13 : decode cX3_cost 13 = .ok (.invokestatic 126, 3) := dk_184 0 126 (dk_at dksX3_cost_0 13 rfl rfl)
theorem dX3_cost_16 : decode cX3_cost 16 = .ok (.ifCond .ne 11, 3) := dk_154 0 11 (dk_at dksX3_cost_0 16 rfl rfl)
theorem dX3_cost_19 : decode cX3_cost 19 = .ok (.aload_n 0, 1) := dk_42 (dk_at dksX3_cost_0 19 rfl rfl)
theorem dX3_cost_20 : decode cX3_cost 20 = .ok (.iconst 1, 1) := dk_4 (dk_at dksX3_cost_0 20 rfl rfl)
theorem dX3_cost_21 : decode cX3_cost 21 = .ok (.invokevirtual 63, 3) := dk_182 0 63 (dk_at dksX3_cost_0 21 rfl rfl)
theorem dX3_cost_24 : decode cX3_cost 24 = .ok (.goto 9, 3) := dk_167 0 9 (dk_at dksX3_cost_1 0 rfl rfl)
theorem dX3_cost_27 : decode cX3_cost 27 = .ok (.aload_n 0, 1) := dk_42 (dk_at dksX3_cost_1 3 rfl rfl)
theorem dX3_cost_28 : decode cX3_cost 28 = .ok (.iload_n 1, 1) := dk_27 (dk_at dksX3_cost_1 4 rfl rfl)
theorem dX3_cost_29 : decode cX3_cost 29 = .ok (.iload_n 2, 1) := dk_28 (dk_at dksX3_cost_1 5 rfl rfl)
theorem dX3_cost_30 : decode cX3_cost 30 = .ok (.invokevirtual 87, 3) := dk_182 0 87 (dk_at dksX3_cost_1 6 rfl rfl)
theorem dX3_cost_33 : decode cX3_cost 33 = .ok (.ireturn, 1) := dk_172 (dk_at dksX3_cost_1 9 rfl rfl)
abbrev cX3_reaches : ByteArray := prog_13_method_59_code
def yX3_reaches : MethodName := ⟨RX3, "reaches", "(II)Z"⟩
def dkwX3_reaches_1 : List UInt8 := [182, 0, 63, 153, 0, 7, 4, 167, 0, 4, 3, 172, 42, 27, 28, 182, 0, 93, 172]
abbrev dktX3_reaches_1 : List UInt8 := dkwX3_reaches_1 ++ []
def dkwX3_reaches_0 : List UInt8 := [42, 3, 181, 0, 51, 42, 27, 182, 0, 148, 153, 0, 10, 28, 184, 0, 126, 154, 0, 17, 42, 4]
abbrev dktX3_reaches_0 : List UInt8 := dkwX3_reaches_0 ++ dktX3_reaches_1
theorem dksX3_reaches_0 : cX3_reaches.data.toList.drop 0 = dktX3_reaches_0 := by decide +kernel
theorem dksX3_reaches_1 : cX3_reaches.data.toList.drop 22 = dktX3_reaches_1 := dk_seg dksX3_reaches_0 22 rfl rfl
theorem dX3_reaches_0 : decode cX3_reaches 0 = .ok (.aload_n 0, 1) := dk_42 (dk_at dksX3_reaches_0 0 rfl rfl)
theorem dX3_reaches_1 : decode cX3_reaches 1 = .ok (.iconst 0, 1) := dk_3 (dk_at dksX3_reaches_0 1 rfl rfl)
theorem dX3_reaches_2 : decode cX3_reaches 2 = .ok (.putfield 51, 3) := dk_181 0 51 (dk_at dksX3_reaches_0 2 rfl rfl)
theorem dX3_reaches_5 : decode cX3_reaches 5 = .ok (.aload_n 0, 1) := dk_42 (dk_at dksX3_reaches_0 5 rfl rfl)
theorem dX3_reaches_6 : decode cX3_reaches 6 = .ok (.iload_n 1, 1) := dk_27 (dk_at dksX3_reaches_0 6 rfl rfl)
theorem dX3_reaches_7 : decode cX3_reaches 7 = .ok (.invokevirtual 148, 3) := dk_182 0 148 (dk_at dksX3_reaches_0 7 rfl rfl)
theorem dX3_reaches_10 : decode cX3_reaches 10 = .ok (.ifCond .eq 10, 3) := dk_153 0 10 (dk_at dksX3_reaches_0 10 rfl rfl)
theorem dX3_reaches_13 : decode cX3_reaches 13 = .ok (.iload_n 2, 1) := dk_28 (dk_at dksX3_reaches_0 13 rfl rfl)
theorem dX3_reaches_14 : decode cX3_reaches 14 = .ok (.invokestatic 126, 3) := dk_184 0 126 (dk_at dksX3_reaches_0 14 rfl rfl)
theorem dX3_reaches_17 : decode cX3_reaches 17 = .ok (.ifCond .ne 17, 3) := dk_154 0 17 (dk_at dksX3_reaches_0 17 rfl rfl)
theorem dX3_reaches_20 : decode cX3_reaches 20 = .ok (.aload_n 0, 1) := dk_42 (dk_at dksX3_reaches_0 20 rfl rfl)
theorem dX3_reaches_21 : decode cX3_reaches 21 = .ok (.iconst 1, 1) := dk_4 (dk_at dksX3_reaches_0 21 rfl rfl)
theorem dX3_reaches_22 : decode cX3_reaches 22 = .ok (.invokevirtual 63, 3) := dk_182 0 63 (dk_at dksX3_reaches_1 0 rfl rfl)
theorem dX3_reaches_25 : decode cX3_reaches 25 = .ok (.ifCond .eq 7, 3) := dk_153 0 7 (dk_at dksX3_reaches_1 3 rfl rfl)
theorem dX3_reaches_28 : decode cX3_reaches 28 = .ok (.iconst 1, 1) := dk_4 (dk_at dksX3_reaches_1 6 rfl rfl)
theorem dX3_reaches_29 : decode cX3_reaches 29 = .ok (.goto 4, 3) := dk_167 0 4 (dk_at dksX3_reaches_1 7 rfl rfl)
theorem dX3_reaches_32 : decode cX3_reaches 32 = .ok (.iconst 0, 1) := dk_3 (dk_at dksX3_reaches_1 10 rfl rfl)
theorem dX3_reaches_33 : decode cX3_reaches 33 = .ok (.ireturn, 1) := dk_172 (dk_at dksX3_reaches_1 11 rfl rfl)
theorem dX3_reaches_34 : decode cX3_reaches 34 = .ok (.aload_n 0, 1) := dk_42 (dk_at dksX3_reaches_1 12 rfl rfl)
theorem dX3_reaches_35 : decode cX3_reaches 35 = .ok (.iload_n 1, 1) := dk_27 (dk_at dksX3_reaches_1 13 rfl rfl)
theorem dX3_reaches_36 : decode cX3_reaches 36 = .ok (.iload_n 2, 1) := dk_28 (dk_at dksX3_reaches_1 14 rfl rfl)
theorem dX3_reaches_37 : decode cX3_reaches 37 = .ok (.invokevirtual 93, 3) := dk_182 0 93 (dk_at dksX3_reaches_1 15 rfl rfl)
theorem dX3_reaches_40 : decode cX3_reaches 40 = .ok (.ireturn, 1) := dk_172 (dk_at dksX3_reaches_1 18 rfl rfl)
abbrev cX3_farthest : ByteArray := prog_13_method_61_code
def yX3_farthest : MethodName := ⟨RX3, "farthest", "(IZ)I"⟩
def dkwX3_farthest_2 : List UInt8 := [182, 0, 201, 172]
abbrev dktX3_farthest_2 : List UInt8 := dkwX3_farthest_2 ++ []
def dkwX3_farthest_1 : List UInt8 := [182, 0, 81, 156, 0, 9, 42, 5, 182, 0, 63, 172, 42, 27, 28, 153, 0, 7, 4, 167, 0, 4, 2]
abbrev dktX3_farthest_1 : List UInt8 := dkwX3_farthest_1 ++ dktX3_farthest_2
def dkwX3_farthest_0 : List UInt8 := [42, 3, 181, 0, 51, 42, 27, 182, 0, 148, 154, 0, 9, 42, 4, 182, 0, 63, 172, 42, 27, 6]
abbrev dktX3_farthest_0 : List UInt8 := dkwX3_farthest_0 ++ dktX3_farthest_1
theorem dksX3_farthest_0 : cX3_farthest.data.toList.drop 0 = dktX3_farthest_0 := by decide +kernel
theorem dksX3_farthest_1 : cX3_farthest.data.toList.drop 22 = dktX3_farthest_1 := dk_seg dksX3_farthest_0 22 rfl rfl
theorem dksX3_farthest_2 : cX3_farthest.data.toList.drop 45 = dktX3_farthest_2 := dk_seg dksX3_farthest_1 23 rfl rfl
theorem dX3_farthest_0 : decode cX3_farthest 0 = .ok (.aload_n 0, 1) := dk_42 (dk_at dksX3_farthest_0 0 rfl rfl)
theorem dX3_farthest_1 : decode cX3_farthest 1 = .ok (.iconst 0, 1) := dk_3 (dk_at dksX3_farthest_0 1 rfl rfl)
theorem dX3_farthest_2 : decode cX3_farthest 2 = .ok (.putfield 51, 3) := dk_181 0 51 (dk_at dksX3_farthest_0 2 rfl rfl)
theorem dX3_farthest_5 : decode cX3_farthest 5 = .ok (.aload_n 0, 1) := dk_42 (dk_at dksX3_farthest_0 5 rfl rfl)
theorem dX3_farthest_6 : decode cX3_farthest 6 = .ok (.iload_n 1, 1) := dk_27 (dk_at dksX3_farthest_0 6 rfl rfl)
theorem dX3_farthest_7 : decode cX3_farthest 7 = .ok (.invokevirtual 148, 3) := dk_182 0 148 (dk_at dksX3_farthest_0 7 rfl rfl)
theorem dX3_farthest_10 : decode cX3_farthest 10 = .ok (.ifCond .ne 9, 3) := dk_154 0 9 (dk_at dksX3_farthest_0 10 rfl rfl)
theorem dX3_farthest_13 : decode cX3_farthest 13 = .ok (.aload_n 0, 1) := dk_42 (dk_at dksX3_farthest_0 13 rfl rfl)
theorem dX3_farthest_14 : decode cX3_farthest 14 = .ok (.iconst 1, 1) := dk_4 (dk_at dksX3_farthest_0 14 rfl rfl)
theorem dX3_farthest_15 : decode cX3_farthest 15 = .ok (.invokevirtual 63, 3) := dk_182 0 63 (dk_at dksX3_farthest_0 15 rfl rfl)
theorem dX3_farthest_18 : decode cX3_farthest 18 = .ok (.ireturn, 1) := dk_172 (dk_at dksX3_farthest_0 18 rfl rfl)
theorem dX3_farthest_19 : decode cX3_farthest 19 = .ok (.aload_n 0, 1) := dk_42 (dk_at dksX3_farthest_0 19 rfl rfl)
theorem dX3_farthest_20 : decode cX3_farthest 20 = .ok (.iload_n 1, 1) := dk_27 (dk_at dksX3_farthest_0 20 rfl rfl)
theorem dX3_farthest_21 : decode cX3_farthest 21 = .ok (.iconst 3, 1) := dk_6 (dk_at dksX3_farthest_0 21 rfl rfl)
theorem dX3_farthest_22 : decode cX3_farthest 22 = .ok (.invokevirtual 81, 3) := dk_182 0 81 (dk_at dksX3_farthest_1 0 rfl rfl)
theorem dX3_farthest_25 : decode cX3_farthest 25 = .ok (.ifCond .ge 9, 3) := dk_156 0 9 (dk_at dksX3_farthest_1 3 rfl rfl)
theorem dX3_farthest_28 : decode cX3_farthest 28 = .ok (.aload_n 0, 1) := dk_42 (dk_at dksX3_farthest_1 6 rfl rfl)
theorem dX3_farthest_29 : decode cX3_farthest 29 = .ok (.iconst 2, 1) := dk_5 (dk_at dksX3_farthest_1 7 rfl rfl)
theorem dX3_farthest_30 : decode cX3_farthest 30 = .ok (.invokevirtual 63, 3) := dk_182 0 63 (dk_at dksX3_farthest_1 8 rfl rfl)
theorem dX3_farthest_33 : decode cX3_farthest 33 = .ok (.ireturn, 1) := dk_172 (dk_at dksX3_farthest_1 11 rfl rfl)
theorem dX3_farthest_34 : decode cX3_farthest 34 = .ok (.aload_n 0, 1) := dk_42 (dk_at dksX3_farthest_1 12 rfl rfl)
theorem dX3_farthest_35 : decode cX3_farthest 35 = .ok (.iload_n 1, 1) := dk_27 (dk_at dksX3_farthest_1 13 rfl rfl)
theorem dX3_farthest_36 : decode cX3_farthest 36 = .ok (.iload_n 2, 1) := dk_28 (dk_at dksX3_farthest_1 14 rfl rfl)
theorem dX3_farthest_37 : decode cX3_farthest 37 = .ok (.ifCond .eq 7, 3) := dk_153 0 7 (dk_at dksX3_farthest_1 15 rfl rfl)
theorem dX3_farthest_40 : decode cX3_farthest 40 = .ok (.iconst 1, 1) := dk_4 (dk_at dksX3_farthest_1 18 rfl rfl)
theorem dX3_farthest_41 : decode cX3_farthest 41 = .ok (.goto 4, 3) := dk_167 0 4 (dk_at dksX3_farthest_1 19 rfl rfl)
theorem dX3_farthest_44 : decode cX3_farthest 44 = .ok (.iconst (-1), 1) := dk_2 (dk_at dksX3_farthest_1 22 rfl rfl)
theorem dX3_farthest_45 : decode cX3_farthest 45 = .ok (.invokevirtual 201, 3) := dk_182 0 201 (dk_at dksX3_farthest_2 0 rfl rfl)
theorem dX3_farthest_48 : decode cX3_farthest 48 = .ok (.ireturn, 1) := dk_172 (dk_at dksX3_farthest_2 3 rfl rfl)
abbrev cX3_farPlace : ByteArray := prog_13_method_60_code
def yX3_farPlace : MethodName := ⟨RX3, "farPlace", "(II)I"⟩
def dkwX3_farPlace_1 : List UInt8 := [153, 0, 10, 29, 28, 96, 62, 167, 255, 232, 29, 172]
abbrev dktX3_farPlace_1 : List UInt8 := dkwX3_farPlace_1 ++ []
def dkwX3_farPlace_0 : List UInt8 := [42, 27, 3, 182, 0, 81, 62, 29, 28, 96, 184, 0, 126, 153, 0, 21, 42, 27, 29, 28, 96, 182, 0, 93]
abbrev dktX3_farPlace_0 : List UInt8 := dkwX3_farPlace_0 ++ dktX3_farPlace_1
theorem dksX3_farPlace_0 : cX3_farPlace.data.toList.drop 0 = dktX3_farPlace_0 := by decide +kernel
theorem dksX3_farPlace_1 : cX3_farPlace.data.toList.drop 24 = dktX3_farPlace_1 := dk_seg dksX3_farPlace_0 24 rfl rfl
theorem dX3_farPlace_0 : decode cX3_farPlace 0 = .ok (.aload_n 0, 1) := dk_42 (dk_at dksX3_farPlace_0 0 rfl rfl)
theorem dX3_farPlace_1 : decode cX3_farPlace 1 = .ok (.iload_n 1, 1) := dk_27 (dk_at dksX3_farPlace_0 1 rfl rfl)
theorem dX3_farPlace_2 : decode cX3_farPlace 2 = .ok (.iconst 0, 1) := dk_3 (dk_at dksX3_farPlace_0 2 rfl rfl)
theorem dX3_farPlace_3 : decode cX3_farPlace 3 = .ok (.invokevirtual 81, 3) := dk_182 0 81 (dk_at dksX3_farPlace_0 3 rfl rfl)
theorem dX3_farPlace_6 : decode cX3_farPlace 6 = .ok (.istore_n 3, 1) := dk_62 (dk_at dksX3_farPlace_0 6 rfl rfl)
theorem dX3_farPlace_7 : decode cX3_farPlace 7 = .ok (.iload_n 3, 1) := dk_29 (dk_at dksX3_farPlace_0 7 rfl rfl)
theorem dX3_farPlace_8 : decode cX3_farPlace 8 = .ok (.iload_n 2, 1) := dk_28 (dk_at dksX3_farPlace_0 8 rfl rfl)
theorem dX3_farPlace_9 : decode cX3_farPlace 9 = .ok (.iadd, 1) := dk_96 (dk_at dksX3_farPlace_0 9 rfl rfl)
theorem dX3_farPlace_10 : decode cX3_farPlace 10 = .ok (.invokestatic 126, 3) := dk_184 0 126 (dk_at dksX3_farPlace_0 10 rfl rfl)
theorem dX3_farPlace_13 : decode cX3_farPlace 13 = .ok (.ifCond .eq 21, 3) := dk_153 0 21 (dk_at dksX3_farPlace_0 13 rfl rfl)
theorem dX3_farPlace_16 : decode cX3_farPlace 16 = .ok (.aload_n 0, 1) := dk_42 (dk_at dksX3_farPlace_0 16 rfl rfl)
theorem dX3_farPlace_17 : decode cX3_farPlace 17 = .ok (.iload_n 1, 1) := dk_27 (dk_at dksX3_farPlace_0 17 rfl rfl)
theorem dX3_farPlace_18 : decode cX3_farPlace 18 = .ok (.iload_n 3, 1) := dk_29 (dk_at dksX3_farPlace_0 18 rfl rfl)
theorem dX3_farPlace_19 : decode cX3_farPlace 19 = .ok (.iload_n 2, 1) := dk_28 (dk_at dksX3_farPlace_0 19 rfl rfl)
theorem dX3_farPlace_20 : decode cX3_farPlace 20 = .ok (.iadd, 1) := dk_96 (dk_at dksX3_farPlace_0 20 rfl rfl)
theorem dX3_farPlace_21 : decode cX3_farPlace 21 = .ok (.invokevirtual 93, 3) := dk_182 0 93 (dk_at dksX3_farPlace_0 21 rfl rfl)
theorem dX3_farPlace_24 : decode cX3_farPlace 24 = .ok (.ifCond .eq 10, 3) := dk_153 0 10 (dk_at dksX3_farPlace_1 0 rfl rfl)
theorem dX3_farPlace_27 : decode cX3_farPlace 27 = .ok (.iload_n 3, 1) := dk_29 (dk_at dksX3_farPlace_1 3 rfl rfl)
theorem dX3_farPlace_28 : decode cX3_farPlace 28 = .ok (.iload_n 2, 1) := dk_28 (dk_at dksX3_farPlace_1 4 rfl rfl)
theorem dX3_farPlace_29 : decode cX3_farPlace 29 = .ok (.iadd, 1) := dk_96 (dk_at dksX3_farPlace_1 5 rfl rfl)
theorem dX3_farPlace_30 : decode cX3_farPlace 30 = .ok (.istore_n 3, 1) := dk_62 (dk_at dksX3_farPlace_1 6 rfl rfl)
theorem dX3_farPlace_31 : decode cX3_farPlace 31 = .ok (.goto (-24), 3) := dk_167 255 232 (dk_at dksX3_farPlace_1 7 rfl rfl)
theorem dX3_farPlace_34 : decode cX3_farPlace 34 = .ok (.iload_n 3, 1) := dk_29 (dk_at dksX3_farPlace_1 10 rfl rfl)
theorem dX3_farPlace_35 : decode cX3_farPlace 35 = .ok (.ireturn, 1) := dk_172 (dk_at dksX3_farPlace_1 11 rfl rfl)
abbrev cX3_areAlike : ByteArray := prog_13_method_62_code
def yX3_areAlike : MethodName := ⟨RX3, "areAlike", "(II)Z"⟩
def dkwX3_areAlike_1 : List UInt8 := [182, 0, 63, 153, 0, 7, 4, 167, 0, 4, 3, 172, 42, 27, 28, 182, 0, 106, 172]
abbrev dktX3_areAlike_1 : List UInt8 := dkwX3_areAlike_1 ++ []
def dkwX3_areAlike_0 : List UInt8 := [42, 3, 181, 0, 51, 42, 27, 182, 0, 148, 153, 0, 11, 42, 28, 182, 0, 148, 154, 0, 17, 42, 4]
abbrev dktX3_areAlike_0 : List UInt8 := dkwX3_areAlike_0 ++ dktX3_areAlike_1
theorem dksX3_areAlike_0 : cX3_areAlike.data.toList.drop 0 = dktX3_areAlike_0 := by decide +kernel
theorem dksX3_areAlike_1 : cX3_areAlike.data.toList.drop 23 = dktX3_areAlike_1 := dk_seg dksX3_areAlike_0 23 rfl rfl
theorem dX3_areAlike_0 : decode cX3_areAlike 0 = .ok (.aload_n 0, 1) := dk_42 (dk_at dksX3_areAlike_0 0 rfl rfl)
theorem dX3_areAlike_1 : decode cX3_areAlike 1 = .ok (.iconst 0, 1) := dk_3 (dk_at dksX3_areAlike_0 1 rfl rfl)
theorem dX3_areAlike_2 : decode cX3_areAlike 2 = .ok (.putfield 51, 3) := dk_181 0 51 (dk_at dksX3_areAlike_0 2 rfl rfl)
theorem dX3_areAlike_5 : decode cX3_areAlike 5 = .ok (.aload_n 0, 1) := dk_42 (dk_at dksX3_areAlike_0 5 rfl rfl)
theorem dX3_areAlike_6 : decode cX3_areAlike 6 = .ok (.iload_n 1, 1) := dk_27 (dk_at dksX3_areAlike_0 6 rfl rfl)
theorem dX3_areAlike_7 : decode cX3_areAlike 7 = .ok (.invokevirtual 148, 3) := dk_182 0 148 (dk_at dksX3_areAlike_0 7 rfl rfl)
theorem dX3_areAlike_10 : decode cX3_areAlike 10 = .ok (.ifCond .eq 11, 3) := dk_153 0 11 (dk_at dksX3_areAlike_0 10 rfl rfl)
theorem dX3_areAlike_13 : decode cX3_areAlike 13 = .ok (.aload_n 0, 1) := dk_42 (dk_at dksX3_areAlike_0 13 rfl rfl)
theorem dX3_areAlike_14 : decode cX3_areAlike 14 = .ok (.iload_n 2, 1) := dk_28 (dk_at dksX3_areAlike_0 14 rfl rfl)
theorem dX3_areAlike_15 : decode cX3_areAlike 15 = .ok (.invokevirtual 148, 3) := dk_182 0 148 (dk_at dksX3_areAlike_0 15 rfl rfl)
theorem dX3_areAlike_18 : decode cX3_areAlike 18 = .ok (.ifCond .ne 17, 3) := dk_154 0 17 (dk_at dksX3_areAlike_0 18 rfl rfl)
theorem dX3_areAlike_21 : decode cX3_areAlike 21 = .ok (.aload_n 0, 1) := dk_42 (dk_at dksX3_areAlike_0 21 rfl rfl)
theorem dX3_areAlike_22 : decode cX3_areAlike 22 = .ok (.iconst 1, 1) := dk_4 (dk_at dksX3_areAlike_0 22 rfl rfl)
theorem dX3_areAlike_23 : decode cX3_areAlike 23 = .ok (.invokevirtual 63, 3) := dk_182 0 63 (dk_at dksX3_areAlike_1 0 rfl rfl)
theorem dX3_areAlike_26 : decode cX3_areAlike 26 = .ok (.ifCond .eq 7, 3) := dk_153 0 7 (dk_at dksX3_areAlike_1 3 rfl rfl)
theorem dX3_areAlike_29 : decode cX3_areAlike 29 = .ok (.iconst 1, 1) := dk_4 (dk_at dksX3_areAlike_1 6 rfl rfl)
theorem dX3_areAlike_30 : decode cX3_areAlike 30 = .ok (.goto 4, 3) := dk_167 0 4 (dk_at dksX3_areAlike_1 7 rfl rfl)
theorem dX3_areAlike_33 : decode cX3_areAlike 33 = .ok (.iconst 0, 1) := dk_3 (dk_at dksX3_areAlike_1 10 rfl rfl)
theorem dX3_areAlike_34 : decode cX3_areAlike 34 = .ok (.ireturn, 1) := dk_172 (dk_at dksX3_areAlike_1 11 rfl rfl)
theorem dX3_areAlike_35 : decode cX3_areAlike 35 = .ok (.aload_n 0, 1) := dk_42 (dk_at dksX3_areAlike_1 12 rfl rfl)
theorem dX3_areAlike_36 : decode cX3_areAlike 36 = .ok (.iload_n 1, 1) := dk_27 (dk_at dksX3_areAlike_1 13 rfl rfl)
theorem dX3_areAlike_37 : decode cX3_areAlike 37 = .ok (.iload_n 2, 1) := dk_28 (dk_at dksX3_areAlike_1 14 rfl rfl)
theorem dX3_areAlike_38 : decode cX3_areAlike 38 = .ok (.invokevirtual 106, 3) := dk_182 0 106 (dk_at dksX3_areAlike_1 15 rfl rfl)
theorem dX3_areAlike_41 : decode cX3_areAlike 41 = .ok (.ireturn, 1) := dk_172 (dk_at dksX3_areAlike_1 18 rfl rfl)
abbrev cX3_mistakes : ByteArray := prog_13_method_63_code
def yX3_mistakes : MethodName := ⟨RX3, "mistakes", "()I"⟩
def dkwX3_mistakes_2 : List UInt8 := [167, 0, 4, 3, 96, 60, 132, 3, 1, 167, 255, 225, 132, 2, 1, 167, 255, 204, 27, 172]
abbrev dktX3_mistakes_2 : List UInt8 := dkwX3_mistakes_2 ++ []
def dkwX3_mistakes_1 : List UInt8 := [29, 42, 180, 0, 13, 16, 10, 46, 162, 0, 26, 27, 42, 28, 29, 182, 0, 113, 153, 0, 7, 4]
abbrev dktX3_mistakes_1 : List UInt8 := dkwX3_mistakes_1 ++ dktX3_mistakes_2
def dkwX3_mistakes_0 : List UInt8 := [42, 3, 181, 0, 51, 3, 60, 3, 61, 28, 42, 180, 0, 13, 16, 10, 46, 162, 0, 47, 28, 4, 96, 62]
abbrev dktX3_mistakes_0 : List UInt8 := dkwX3_mistakes_0 ++ dktX3_mistakes_1
theorem dksX3_mistakes_0 : cX3_mistakes.data.toList.drop 0 = dktX3_mistakes_0 := by decide +kernel
theorem dksX3_mistakes_1 : cX3_mistakes.data.toList.drop 24 = dktX3_mistakes_1 := dk_seg dksX3_mistakes_0 24 rfl rfl
theorem dksX3_mistakes_2 : cX3_mistakes.data.toList.drop 46 = dktX3_mistakes_2 := dk_seg dksX3_mistakes_1 22 rfl rfl
theorem dX3_mistakes_0 : decode cX3_mistakes 0 = .ok (.aload_n 0, 1) := dk_42 (dk_at dksX3_mistakes_0 0 rfl rfl)
theorem dX3_mistakes_1 : decode cX3_mistakes 1 = .ok (.iconst 0, 1) := dk_3 (dk_at dksX3_mistakes_0 1 rfl rfl)
theorem dX3_mistakes_2 : decode cX3_mistakes 2 = .ok (.putfield 51, 3) := dk_181 0 51 (dk_at dksX3_mistakes_0 2 rfl rfl)
theorem dX3_mistakes_5 : decode cX3_mistakes 5 = .ok (.iconst 0, 1) := dk_3 (dk_at dksX3_mistakes_0 5 rfl rfl)
theorem dX3_mistakes_6 : decode cX3_mistakes 6 = .ok (.istore_n 1, 1) := dk_60 (dk_at dksX3_mistakes_0 6 rfl rfl)
theorem dX3_mistakes_7 : decode cX3_mistakes 7 = .ok (.iconst 0, 1) := dk_3 (dk_at dksX3_mistakes_0 7 rfl rfl)
theorem dX3_mistakes_8 : decode cX3_mistakes 8 = .ok (.istore_n 2, 1) := dk_61 (dk_at dksX3_mistakes_0 8 rfl rfl)
theorem dX3_mistakes_9 : decode cX3_mistakes 9 = .ok (.iload_n 2, 1) := dk_28 (dk_at dksX3_mistakes_0 9 rfl rfl)
theorem dX3_mistakes_10 : decode cX3_mistakes 10 = .ok (.aload_n 0, 1) := dk_42 (dk_at dksX3_mistakes_0 10 rfl rfl)
theorem dX3_mistakes_11 : decode cX3_mistakes 11 = .ok (.getfield 13, 3) := dk_180 0 13 (dk_at dksX3_mistakes_0 11 rfl rfl)
theorem dX3_mistakes_14 : decode cX3_mistakes 14 = .ok (.bipush 10, 2) := dk_16 10 (dk_at dksX3_mistakes_0 14 rfl rfl)
theorem dX3_mistakes_16 : decode cX3_mistakes 16 = .ok (.iaload, 1) := dk_46 (dk_at dksX3_mistakes_0 16 rfl rfl)
theorem dX3_mistakes_17 : decode cX3_mistakes 17 = .ok (.if_icmp .ge 47, 3) := dk_162 0 47 (dk_at dksX3_mistakes_0 17 rfl rfl)
theorem dX3_mistakes_20 : decode cX3_mistakes 20 = .ok (.iload_n 2, 1) := dk_28 (dk_at dksX3_mistakes_0 20 rfl rfl)
theorem dX3_mistakes_21 : decode cX3_mistakes 21 = .ok (.iconst 1, 1) := dk_4 (dk_at dksX3_mistakes_0 21 rfl rfl)
theorem dX3_mistakes_22 : decode cX3_mistakes 22 = .ok (.iadd, 1) := dk_96 (dk_at dksX3_mistakes_0 22 rfl rfl)
theorem dX3_mistakes_23 : decode cX3_mistakes 23 = .ok (.istore_n 3, 1) := dk_62 (dk_at dksX3_mistakes_0 23 rfl rfl)
theorem dX3_mistakes_24 : decode cX3_mistakes 24 = .ok (.iload_n 3, 1) := dk_29 (dk_at dksX3_mistakes_1 0 rfl rfl)
theorem dX3_mistakes_25 : decode cX3_mistakes 25 = .ok (.aload_n 0, 1) := dk_42 (dk_at dksX3_mistakes_1 1 rfl rfl)
theorem dX3_mistakes_26 : decode cX3_mistakes 26 = .ok (.getfield 13, 3) := dk_180 0 13 (dk_at dksX3_mistakes_1 2 rfl rfl)
theorem dX3_mistakes_29 : decode cX3_mistakes 29 = .ok (.bipush 10, 2) := dk_16 10 (dk_at dksX3_mistakes_1 5 rfl rfl)
theorem dX3_mistakes_31 : decode cX3_mistakes 31 = .ok (.iaload, 1) := dk_46 (dk_at dksX3_mistakes_1 7 rfl rfl)
theorem dX3_mistakes_32 : decode cX3_mistakes 32 = .ok (.if_icmp .ge 26, 3) := dk_162 0 26 (dk_at dksX3_mistakes_1 8 rfl rfl)
theorem dX3_mistakes_35 : decode cX3_mistakes 35 = .ok (.iload_n 1, 1) := dk_27 (dk_at dksX3_mistakes_1 11 rfl rfl)
theorem dX3_mistakes_36 : decode cX3_mistakes 36 = .ok (.aload_n 0, 1) := dk_42 (dk_at dksX3_mistakes_1 12 rfl rfl)
theorem dX3_mistakes_37 : decode cX3_mistakes 37 = .ok (.iload_n 2, 1) := dk_28 (dk_at dksX3_mistakes_1 13 rfl rfl)
theorem dX3_mistakes_38 : decode cX3_mistakes 38 = .ok (.iload_n 3, 1) := dk_29 (dk_at dksX3_mistakes_1 14 rfl rfl)
theorem dX3_mistakes_39 : decode cX3_mistakes 39 = .ok (.invokevirtual 113, 3) := dk_182 0 113 (dk_at dksX3_mistakes_1 15 rfl rfl)
theorem dX3_mistakes_42 : decode cX3_mistakes 42 = .ok (.ifCond .eq 7, 3) := dk_153 0 7 (dk_at dksX3_mistakes_1 18 rfl rfl)
theorem dX3_mistakes_45 : decode cX3_mistakes 45 = .ok (.iconst 1, 1) := dk_4 (dk_at dksX3_mistakes_1 21 rfl rfl)
theorem dX3_mistakes_46 : decode cX3_mistakes 46 = .ok (.goto 4, 3) := dk_167 0 4 (dk_at dksX3_mistakes_2 0 rfl rfl)
theorem dX3_mistakes_49 : decode cX3_mistakes 49 = .ok (.iconst 0, 1) := dk_3 (dk_at dksX3_mistakes_2 3 rfl rfl)
theorem dX3_mistakes_50 : decode cX3_mistakes 50 = .ok (.iadd, 1) := dk_96 (dk_at dksX3_mistakes_2 4 rfl rfl)
theorem dX3_mistakes_51 : decode cX3_mistakes 51 = .ok (.istore_n 1, 1) := dk_60 (dk_at dksX3_mistakes_2 5 rfl rfl)
theorem dX3_mistakes_52 : decode cX3_mistakes 52 = .ok (.iinc 3 1, 3) := dk_132 3 1 (dk_at dksX3_mistakes_2 6 rfl rfl)
theorem dX3_mistakes_55 : decode cX3_mistakes 55 = .ok (.goto (-31), 3) := dk_167 255 225 (dk_at dksX3_mistakes_2 9 rfl rfl)
theorem dX3_mistakes_58 : decode cX3_mistakes 58 = .ok (.iinc 2 1, 3) := dk_132 2 1 (dk_at dksX3_mistakes_2 12 rfl rfl)
theorem dX3_mistakes_61 : decode cX3_mistakes 61 = .ok (.goto (-52), 3) := dk_167 255 204 (dk_at dksX3_mistakes_2 15 rfl rfl)
theorem dX3_mistakes_64 : decode cX3_mistakes 64 = .ok (.iload_n 1, 1) := dk_27 (dk_at dksX3_mistakes_2 18 rfl rfl)
theorem dX3_mistakes_65 : decode cX3_mistakes 65 = .ok (.ireturn, 1) := dk_172 (dk_at dksX3_mistakes_2 19 rfl rfl)
abbrev cX3_watcher : ByteArray := prog_13_method_65_code
def yX3_watcher : MethodName := ⟨RX3, "watcher", "(I)I"⟩
def dkwX3_watcher_1 : List UInt8 := [28, 156, 0, 11, 42, 5, 182, 0, 63, 167, 0, 4, 28, 172]
abbrev dktX3_watcher_1 : List UInt8 := dkwX3_watcher_1 ++ []
def dkwX3_watcher_0 : List UInt8 := [42, 3, 181, 0, 51, 27, 184, 0, 126, 154, 0, 9, 42, 4, 182, 0, 63, 172, 42, 27, 182, 0, 204, 61]
abbrev dktX3_watcher_0 : List UInt8 := dkwX3_watcher_0 ++ dktX3_watcher_1
theorem dksX3_watcher_0 : cX3_watcher.data.toList.drop 0 = dktX3_watcher_0 := by decide +kernel
theorem dksX3_watcher_1 : cX3_watcher.data.toList.drop 24 = dktX3_watcher_1 := dk_seg dksX3_watcher_0 24 rfl rfl
theorem dX3_watcher_0 : decode cX3_watcher 0 = .ok (.aload_n 0, 1) := dk_42 (dk_at dksX3_watcher_0 0 rfl rfl)
theorem dX3_watcher_1 : decode cX3_watcher 1 = .ok (.iconst 0, 1) := dk_3 (dk_at dksX3_watcher_0 1 rfl rfl)
theorem dX3_watcher_2 : decode cX3_watcher 2 = .ok (.putfield 51, 3) := dk_181 0 51 (dk_at dksX3_watcher_0 2 rfl rfl)
theorem dX3_watcher_5 : decode cX3_watcher 5 = .ok (.iload_n 1, 1) := dk_27 (dk_at dksX3_watcher_0 5 rfl rfl)
theorem dX3_watcher_6 : decode cX3_watcher 6 = .ok (.invokestatic 126, 3) := dk_184 0 126 (dk_at dksX3_watcher_0 6 rfl rfl)
theorem dX3_watcher_9 : decode cX3_watcher 9 = .ok (.ifCond .ne 9, 3) := dk_154 0 9 (dk_at dksX3_watcher_0 9 rfl rfl)
theorem dX3_watcher_12 : decode cX3_watcher 12 = .ok (.aload_n 0, 1) := dk_42 (dk_at dksX3_watcher_0 12 rfl rfl)
theorem dX3_watcher_13 : decode cX3_watcher 13 = .ok (.iconst 1, 1) := dk_4 (dk_at dksX3_watcher_0 13 rfl rfl)
theorem dX3_watcher_14 : decode cX3_watcher 14 = .ok (.invokevirtual 63, 3) := dk_182 0 63 (dk_at dksX3_watcher_0 14 rfl rfl)
theorem dX3_watcher_17 : decode cX3_watcher 17 = .ok (.ireturn, 1) := dk_172 (dk_at dksX3_watcher_0 17 rfl rfl)
theorem dX3_watcher_18 : decode cX3_watcher 18 = .ok (.aload_n 0, 1) := dk_42 (dk_at dksX3_watcher_0 18 rfl rfl)
theorem dX3_watcher_19 : decode cX3_watcher 19 = .ok (.iload_n 1, 1) := dk_27 (dk_at dksX3_watcher_0 19 rfl rfl)
theorem dX3_watcher_20 : decode cX3_watcher 20 = .ok (.invokevirtual 204, 3) := dk_182 0 204 (dk_at dksX3_watcher_0 20 rfl rfl)
theorem dX3_watcher_23 : decode cX3_watcher 23 = .ok (.istore_n 2, 1) := dk_61 (dk_at dksX3_watcher_0 23 rfl rfl)
theorem dX3_watcher_24 : decode cX3_watcher 24 = .ok (.iload_n 2, 1) := dk_28 (dk_at dksX3_watcher_1 0 rfl rfl)
theorem dX3_watcher_25 : decode cX3_watcher 25 = .ok (.ifCond .ge 11, 3) := dk_156 0 11 (dk_at dksX3_watcher_1 1 rfl rfl)
theorem dX3_watcher_28 : decode cX3_watcher 28 = .ok (.aload_n 0, 1) := dk_42 (dk_at dksX3_watcher_1 4 rfl rfl)
theorem dX3_watcher_29 : decode cX3_watcher 29 = .ok (.iconst 2, 1) := dk_5 (dk_at dksX3_watcher_1 5 rfl rfl)
theorem dX3_watcher_30 : decode cX3_watcher 30 = .ok (.invokevirtual 63, 3) := dk_182 0 63 (dk_at dksX3_watcher_1 6 rfl rfl)
theorem dX3_watcher_33 : decode cX3_watcher 33 = .ok (.goto 4, 3) := dk_167 0 4 (dk_at dksX3_watcher_1 9 rfl rfl)
theorem dX3_watcher_36 : decode cX3_watcher 36 = .ok (.iload_n 2, 1) := dk_28 (dk_at dksX3_watcher_1 12 rfl rfl)
theorem dX3_watcher_37 : decode cX3_watcher 37 = .ok (.ireturn, 1) := dk_172 (dk_at dksX3_watcher_1 13 rfl rfl)
abbrev cX3_watcherOf : ByteArray := prog_13_method_64_code
def yX3_watcherOf : MethodName := ⟨RX3, "watcherOf", "(I)I"⟩
def dkwX3_watcherOf_3 : List UInt8 := [182, 0, 87, 62, 132, 4, 1, 167, 255, 187, 28, 172]
abbrev dktX3_watcherOf_3 : List UInt8 := dkwX3_watcherOf_3 ++ []
def dkwX3_watcherOf_2 : List UInt8 := [27, 182, 0, 87, 29, 161, 0, 6, 167, 0, 19, 21, 4, 61, 42, 42, 21, 4, 3, 182, 0, 81, 27]
abbrev dktX3_watcherOf_2 : List UInt8 := dkwX3_watcherOf_2 ++ dktX3_watcherOf_3
def dkwX3_watcherOf_1 : List UInt8 := [182, 0, 109, 153, 0, 48, 42, 21, 4, 27, 182, 0, 93, 153, 0, 38, 42, 42, 21, 4, 3, 182, 0, 81]
abbrev dktX3_watcherOf_1 : List UInt8 := dkwX3_watcherOf_1 ++ dktX3_watcherOf_2
def dkwX3_watcherOf_0 : List UInt8 := [2, 61, 17, 3, 232, 62, 3, 54, 4, 21, 4, 42, 180, 0, 13, 16, 10, 46, 162, 0, 63, 42, 21, 4]
abbrev dktX3_watcherOf_0 : List UInt8 := dkwX3_watcherOf_0 ++ dktX3_watcherOf_1
theorem dksX3_watcherOf_0 : cX3_watcherOf.data.toList.drop 0 = dktX3_watcherOf_0 := by decide +kernel
theorem dksX3_watcherOf_1 : cX3_watcherOf.data.toList.drop 24 = dktX3_watcherOf_1 := dk_seg dksX3_watcherOf_0 24 rfl rfl
theorem dksX3_watcherOf_2 : cX3_watcherOf.data.toList.drop 48 = dktX3_watcherOf_2 := dk_seg dksX3_watcherOf_1 24 rfl rfl
theorem dksX3_watcherOf_3 : cX3_watcherOf.data.toList.drop 71 = dktX3_watcherOf_3 := dk_seg dksX3_watcherOf_2 23 rfl rfl
theorem dX3_watcherOf_0 : decode cX3_watcherOf 0 = .ok (.iconst (-1), 1) := dk_2 (dk_at dksX3_watcherOf_0 0 rfl rfl)
theorem dX3_watcherOf_1 : decode cX3_watcherOf 1 = .ok (.istore_n 2, 1) := dk_61 (dk_at dksX3_watcherOf_0 1 rfl rfl)
theorem dX3_watcherOf_2 : decode cX3_watcherOf 2 = .ok (.sipush 1000, 3) := dk_17 3 232 (dk_at dksX3_watcherOf_0 2 rfl rfl)
theorem dX3_watcherOf_5 : decode cX3_watcherOf 5 = .ok (.istore_n 3, 1) := dk_62 (dk_at dksX3_watcherOf_0 5 rfl rfl)
theorem dX3_watcherOf_6 : decode cX3_watcherOf 6 = .ok (.iconst 0, 1) := dk_3 (dk_at dksX3_watcherOf_0 6 rfl rfl)
theorem dX3_watcherOf_7 : decode cX3_watcherOf 7 = .ok (.istore 4, 2) := dk_54 4 (dk_at dksX3_watcherOf_0 7 rfl rfl)
theorem dX3_watcherOf_9 : decode cX3_watcherOf 9 = .ok (.iload 4, 2) := dk_21 4 (dk_at dksX3_watcherOf_0 9 rfl rfl)
theorem dX3_watcherOf_11 : decode cX3_watcherOf 11 = .ok (.aload_n 0, 1) := dk_42 (dk_at dksX3_watcherOf_0 11 rfl rfl)
theorem dX3_watcherOf_12 : decode cX3_watcherOf 12 = .ok (.getfield 13, 3) := dk_180 0 13 (dk_at dksX3_watcherOf_0 12 rfl rfl)
theorem dX3_watcherOf_15 : decode cX3_watcherOf 15 = .ok (.bipush 10, 2) := dk_16 10 (dk_at dksX3_watcherOf_0 15 rfl rfl)
theorem dX3_watcherOf_17 : decode cX3_watcherOf 17 = .ok (.iaload, 1) := dk_46 (dk_at dksX3_watcherOf_0 17 rfl rfl)
theorem dX3_watcherOf_18 : decode cX3_watcherOf 18 = .ok (.if_icmp .ge 63, 3) := dk_162 0 63 (dk_at dksX3_watcherOf_0 18 rfl rfl)
theorem dX3_watcherOf_21 : decode cX3_watcherOf 21 = .ok (.aload_n 0, 1) := dk_42 (dk_at dksX3_watcherOf_0 21 rfl rfl)
theorem dX3_watcherOf_22 : decode cX3_watcherOf 22 = .ok (.iload 4, 2) := dk_21 4 (dk_at dksX3_watcherOf_0 22 rfl rfl)
theorem dX3_watcherOf_24 : decode cX3_watcherOf 24 = .ok (.invokevirtual 109, 3) := dk_182 0 109 (dk_at dksX3_watcherOf_1 0 rfl rfl)
theorem dX3_watcherOf_27 : decode cX3_watcherOf 27 = .ok (.ifCond .eq 48, 3) := dk_153 0 48 (dk_at dksX3_watcherOf_1 3 rfl rfl)
theorem dX3_watcherOf_30 : decode cX3_watcherOf 30 = .ok (.aload_n 0, 1) := dk_42 (dk_at dksX3_watcherOf_1 6 rfl rfl)
theorem dX3_watcherOf_31 : decode cX3_watcherOf 31 = .ok (.iload 4, 2) := dk_21 4 (dk_at dksX3_watcherOf_1 7 rfl rfl)
theorem dX3_watcherOf_33 : decode cX3_watcherOf 33 = .ok (.iload_n 1, 1) := dk_27 (dk_at dksX3_watcherOf_1 9 rfl rfl)
theorem dX3_watcherOf_34 : decode cX3_watcherOf 34 = .ok (.invokevirtual 93, 3) := dk_182 0 93 (dk_at dksX3_watcherOf_1 10 rfl rfl)
theorem dX3_watcherOf_37 : decode cX3_watcherOf 37 = .ok (.ifCond .eq 38, 3) := dk_153 0 38 (dk_at dksX3_watcherOf_1 13 rfl rfl)
theorem dX3_watcherOf_40 : decode cX3_watcherOf 40 = .ok (.aload_n 0, 1) := dk_42 (dk_at dksX3_watcherOf_1 16 rfl rfl)
theorem dX3_watcherOf_41 : decode cX3_watcherOf 41 = .ok (.aload_n 0, 1) := dk_42 (dk_at dksX3_watcherOf_1 17 rfl rfl)
theorem dX3_watcherOf_42 : decode cX3_watcherOf 42 = .ok (.iload 4, 2) := dk_21 4 (dk_at dksX3_watcherOf_1 18 rfl rfl)
theorem dX3_watcherOf_44 : decode cX3_watcherOf 44 = .ok (.iconst 0, 1) := dk_3 (dk_at dksX3_watcherOf_1 20 rfl rfl)
theorem dX3_watcherOf_45 : decode cX3_watcherOf 45 = .ok (.invokevirtual 81, 3) := dk_182 0 81 (dk_at dksX3_watcherOf_1 21 rfl rfl)
theorem dX3_watcherOf_48 : decode cX3_watcherOf 48 = .ok (.iload_n 1, 1) := dk_27 (dk_at dksX3_watcherOf_2 0 rfl rfl)
theorem dX3_watcherOf_49 : decode cX3_watcherOf 49 = .ok (.invokevirtual 87, 3) := dk_182 0 87 (dk_at dksX3_watcherOf_2 1 rfl rfl)
theorem dX3_watcherOf_52 : decode cX3_watcherOf 52 = .ok (.iload_n 3, 1) := dk_29 (dk_at dksX3_watcherOf_2 4 rfl rfl)
theorem dX3_watcherOf_53 : decode cX3_watcherOf 53 = .ok (.if_icmp .lt 6, 3) := dk_161 0 6 (dk_at dksX3_watcherOf_2 5 rfl rfl)
theorem dX3_watcherOf_56 : decode cX3_watcherOf 56 = .ok (.goto 19, 3) := dk_167 0 19 (dk_at dksX3_watcherOf_2 8 rfl rfl)
theorem dX3_watcherOf_59 : decode cX3_watcherOf 59 = .ok (.iload 4, 2) := dk_21 4 (dk_at dksX3_watcherOf_2 11 rfl rfl)
theorem dX3_watcherOf_61 : decode cX3_watcherOf 61 = .ok (.istore_n 2, 1) := dk_61 (dk_at dksX3_watcherOf_2 13 rfl rfl)
theorem dX3_watcherOf_62 : decode cX3_watcherOf 62 = .ok (.aload_n 0, 1) := dk_42 (dk_at dksX3_watcherOf_2 14 rfl rfl)
theorem dX3_watcherOf_63 : decode cX3_watcherOf 63 = .ok (.aload_n 0, 1) := dk_42 (dk_at dksX3_watcherOf_2 15 rfl rfl)
theorem dX3_watcherOf_64 : decode cX3_watcherOf 64 = .ok (.iload 4, 2) := dk_21 4 (dk_at dksX3_watcherOf_2 16 rfl rfl)
theorem dX3_watcherOf_66 : decode cX3_watcherOf 66 = .ok (.iconst 0, 1) := dk_3 (dk_at dksX3_watcherOf_2 18 rfl rfl)
theorem dX3_watcherOf_67 : decode cX3_watcherOf 67 = .ok (.invokevirtual 81, 3) := dk_182 0 81 (dk_at dksX3_watcherOf_2 19 rfl rfl)
theorem dX3_watcherOf_70 : decode cX3_watcherOf 70 = .ok (.iload_n 1, 1) := dk_27 (dk_at dksX3_watcherOf_2 22 rfl rfl)
theorem dX3_watcherOf_71 : decode cX3_watcherOf 71 = .ok (.invokevirtual 87, 3) := dk_182 0 87 (dk_at dksX3_watcherOf_3 0 rfl rfl)
theorem dX3_watcherOf_74 : decode cX3_watcherOf 74 = .ok (.istore_n 3, 1) := dk_62 (dk_at dksX3_watcherOf_3 3 rfl rfl)
theorem dX3_watcherOf_75 : decode cX3_watcherOf 75 = .ok (.iinc 4 1, 3) := dk_132 4 1 (dk_at dksX3_watcherOf_3 4 rfl rfl)
theorem dX3_watcherOf_78 : decode cX3_watcherOf 78 = .ok (.goto (-69), 3) := dk_167 255 187 (dk_at dksX3_watcherOf_3 7 rfl rfl)
theorem dX3_watcherOf_81 : decode cX3_watcherOf 81 = .ok (.iload_n 2, 1) := dk_28 (dk_at dksX3_watcherOf_3 10 rfl rfl)
theorem dX3_watcherOf_82 : decode cX3_watcherOf 82 = .ok (.ireturn, 1) := dk_172 (dk_at dksX3_watcherOf_3 11 rfl rfl)
abbrev cX3_watched : ByteArray := prog_13_method_67_code
def yX3_watched : MethodName := ⟨RX3, "watched", "(I)I"⟩
def dkwX3_watched_1 : List UInt8 := [182, 0, 63, 172]
abbrev dktX3_watched_1 : List UInt8 := dkwX3_watched_1 ++ []
def dkwX3_watched_0 : List UInt8 := [42, 3, 181, 0, 51, 42, 27, 182, 0, 148, 153, 0, 11, 42, 27, 182, 0, 207, 167, 0, 8, 42, 4]
abbrev dktX3_watched_0 : List UInt8 := dkwX3_watched_0 ++ dktX3_watched_1
theorem dksX3_watched_0 : cX3_watched.data.toList.drop 0 = dktX3_watched_0 := by decide +kernel
theorem dksX3_watched_1 : cX3_watched.data.toList.drop 23 = dktX3_watched_1 := dk_seg dksX3_watched_0 23 rfl rfl
theorem dX3_watched_0 : decode cX3_watched 0 = .ok (.aload_n 0, 1) := dk_42 (dk_at dksX3_watched_0 0 rfl rfl)
theorem dX3_watched_1 : decode cX3_watched 1 = .ok (.iconst 0, 1) := dk_3 (dk_at dksX3_watched_0 1 rfl rfl)
theorem dX3_watched_2 : decode cX3_watched 2 = .ok (.putfield 51, 3) := dk_181 0 51 (dk_at dksX3_watched_0 2 rfl rfl)
theorem dX3_watched_5 : decode cX3_watched 5 = .ok (.aload_n 0, 1) := dk_42 (dk_at dksX3_watched_0 5 rfl rfl)
theorem dX3_watched_6 : decode cX3_watched 6 = .ok (.iload_n 1, 1) := dk_27 (dk_at dksX3_watched_0 6 rfl rfl)
theorem dX3_watched_7 : decode cX3_watched 7 = .ok (.invokevirtual 148, 3) := dk_182 0 148 (dk_at dksX3_watched_0 7 rfl rfl)
theorem dX3_watched_10 : decode cX3_watched 10 = .ok (.ifCond .eq 11, 3) := dk_153 0 11 (dk_at dksX3_watched_0 10 rfl rfl)
theorem dX3_watched_13 : decode cX3_watched 13 = .ok (.aload_n 0, 1) := dk_42 (dk_at dksX3_watched_0 13 rfl rfl)
theorem dX3_watched_14 : decode cX3_watched 14 = .ok (.iload_n 1, 1) := dk_27 (dk_at dksX3_watched_0 14 rfl rfl)
theorem dX3_watched_15 : decode cX3_watched 15 = .ok (.invokevirtual 207, 3) := dk_182 0 207 (dk_at dksX3_watched_0 15 rfl rfl)
theorem dX3_watched_18 : decode cX3_watched 18 = .ok (.goto 8, 3) := dk_167 0 8 (dk_at dksX3_watched_0 18 rfl rfl)
theorem dX3_watched_21 : decode cX3_watched 21 = .ok (.aload_n 0, 1) := dk_42 (dk_at dksX3_watched_0 21 rfl rfl)
theorem dX3_watched_22 : decode cX3_watched 22 = .ok (.iconst 1, 1) := dk_4 (dk_at dksX3_watched_0 22 rfl rfl)
theorem dX3_watched_23 : decode cX3_watched 23 = .ok (.invokevirtual 63, 3) := dk_182 0 63 (dk_at dksX3_watched_1 0 rfl rfl)
theorem dX3_watched_26 : decode cX3_watched 26 = .ok (.ireturn, 1) := dk_172 (dk_at dksX3_watched_1 3 rfl rfl)
abbrev cX3_watchedBy : ByteArray := prog_13_method_66_code
def yX3_watchedBy : MethodName := ⟨RX3, "watchedBy", "(I)I"⟩
def dkwX3_watchedBy_1 : List UInt8 := [3, 96, 61, 132, 3, 1, 167, 255, 230, 28, 172]
abbrev dktX3_watchedBy_1 : List UInt8 := dkwX3_watchedBy_1 ++ []
def dkwX3_watchedBy_0 : List UInt8 := [3, 61, 3, 62, 29, 16, 61, 162, 0, 26, 28, 42, 29, 182, 0, 204, 27, 160, 0, 7, 4, 167, 0, 4]
abbrev dktX3_watchedBy_0 : List UInt8 := dkwX3_watchedBy_0 ++ dktX3_watchedBy_1
theorem dksX3_watchedBy_0 : cX3_watchedBy.data.toList.drop 0 = dktX3_watchedBy_0 := by decide +kernel
theorem dksX3_watchedBy_1 : cX3_watchedBy.data.toList.drop 24 = dktX3_watchedBy_1 := dk_seg dksX3_watchedBy_0 24 rfl rfl
theorem dX3_watchedBy_0 : decode cX3_watchedBy 0 = .ok (.iconst 0, 1) := dk_3 (dk_at dksX3_watchedBy_0 0 rfl rfl)
theorem dX3_watchedBy_1 : decode cX3_watchedBy 1 = .ok (.istore_n 2, 1) := dk_61 (dk_at dksX3_watchedBy_0 1 rfl rfl)
theorem dX3_watchedBy_2 : decode cX3_watchedBy 2 = .ok (.iconst 0, 1) := dk_3 (dk_at dksX3_watchedBy_0 2 rfl rfl)
theorem dX3_watchedBy_3 : decode cX3_watchedBy 3 = .ok (.istore_n 3, 1) := dk_62 (dk_at dksX3_watchedBy_0 3 rfl rfl)
theorem dX3_watchedBy_4 : decode cX3_watchedBy 4 = .ok (.iload_n 3, 1) := dk_29 (dk_at dksX3_watchedBy_0 4 rfl rfl)
theorem dX3_watchedBy_5 : decode cX3_watchedBy 5 = .ok (.bipush 61, 2) := dk_16 61 (dk_at dksX3_watchedBy_0 5 rfl rfl)
theorem dX3_watchedBy_7 : decode cX3_watchedBy 7 = .ok (.if_icmp .ge 26, 3) := dk_162 0 26 (dk_at dksX3_watchedBy_0 7 rfl rfl)
theorem dX3_watchedBy_10 : decode cX3_watchedBy 10 = .ok (.iload_n 2, 1) := dk_28 (dk_at dksX3_watchedBy_0 10 rfl rfl)
theorem dX3_watchedBy_11 : decode cX3_watchedBy 11 = .ok (.aload_n 0, 1) := dk_42 (dk_at dksX3_watchedBy_0 11 rfl rfl)
theorem dX3_watchedBy_12 : decode cX3_watchedBy 12 = .ok (.iload_n 3, 1) := dk_29 (dk_at dksX3_watchedBy_0 12 rfl rfl)
theorem dX3_watchedBy_13 : decode cX3_watchedBy 13 = .ok (.invokevirtual 204, 3) := dk_182 0 204 (dk_at dksX3_watchedBy_0 13 rfl rfl)
theorem dX3_watchedBy_16 : decode cX3_watchedBy 16 = .ok (.iload_n 1, 1) := dk_27 (dk_at dksX3_watchedBy_0 16 rfl rfl)
theorem dX3_watchedBy_17 : decode cX3_watchedBy 17 = .ok (.if_icmp .ne 7, 3) := dk_160 0 7 (dk_at dksX3_watchedBy_0 17 rfl rfl)
theorem dX3_watchedBy_20 : decode cX3_watchedBy 20 = .ok (.iconst 1, 1) := dk_4 (dk_at dksX3_watchedBy_0 20 rfl rfl)
theorem dX3_watchedBy_21 : decode cX3_watchedBy 21 = .ok (.goto 4, 3) := dk_167 0 4 (dk_at dksX3_watchedBy_0 21 rfl rfl)
theorem dX3_watchedBy_24 : decode cX3_watchedBy 24 = .ok (.iconst 0, 1) := dk_3 (dk_at dksX3_watchedBy_1 0 rfl rfl)
theorem dX3_watchedBy_25 : decode cX3_watchedBy 25 = .ok (.iadd, 1) := dk_96 (dk_at dksX3_watchedBy_1 1 rfl rfl)
theorem dX3_watchedBy_26 : decode cX3_watchedBy 26 = .ok (.istore_n 2, 1) := dk_61 (dk_at dksX3_watchedBy_1 2 rfl rfl)
theorem dX3_watchedBy_27 : decode cX3_watchedBy 27 = .ok (.iinc 3 1, 3) := dk_132 3 1 (dk_at dksX3_watchedBy_1 3 rfl rfl)
theorem dX3_watchedBy_30 : decode cX3_watchedBy 30 = .ok (.goto (-26), 3) := dk_167 255 230 (dk_at dksX3_watchedBy_1 6 rfl rfl)
theorem dX3_watchedBy_33 : decode cX3_watchedBy 33 = .ok (.iload_n 2, 1) := dk_28 (dk_at dksX3_watchedBy_1 9 rfl rfl)
theorem dX3_watchedBy_34 : decode cX3_watchedBy 34 = .ok (.ireturn, 1) := dk_172 (dk_at dksX3_watchedBy_1 10 rfl rfl)
abbrev cX3_unwatched : ByteArray := prog_13_method_68_code
def yX3_unwatched : MethodName := ⟨RX3, "unwatched", "()I"⟩
def dkwX3_unwatched_0 : List UInt8 := [42, 3, 181, 0, 51, 42, 2, 182, 0, 207, 172]
abbrev dktX3_unwatched_0 : List UInt8 := dkwX3_unwatched_0 ++ []
theorem dksX3_unwatched_0 : cX3_unwatched.data.toList.drop 0 = dktX3_unwatched_0 := by decide +kernel
theorem dX3_unwatched_0 : decode cX3_unwatched 0 = .ok (.aload_n 0, 1) := dk_42 (dk_at dksX3_unwatched_0 0 rfl rfl)
theorem dX3_unwatched_1 : decode cX3_unwatched 1 = .ok (.iconst 0, 1) := dk_3 (dk_at dksX3_unwatched_0 1 rfl rfl)
theorem dX3_unwatched_2 : decode cX3_unwatched 2 = .ok (.putfield 51, 3) := dk_181 0 51 (dk_at dksX3_unwatched_0 2 rfl rfl)
theorem dX3_unwatched_5 : decode cX3_unwatched 5 = .ok (.aload_n 0, 1) := dk_42 (dk_at dksX3_unwatched_0 5 rfl rfl)
theorem dX3_unwatched_6 : decode cX3_unwatched 6 = .ok (.iconst (-1), 1) := dk_2 (dk_at dksX3_unwatched_0 6 rfl rfl)
theorem dX3_unwatched_7 : decode cX3_unwatched 7 = .ok (.invokevirtual 207, 3) := dk_182 0 207 (dk_at dksX3_unwatched_0 7 rfl rfl)
theorem dX3_unwatched_10 : decode cX3_unwatched 10 = .ok (.ireturn, 1) := dk_172 (dk_at dksX3_unwatched_0 10 rfl rfl)
abbrev cX3_unwatchedAgain : ByteArray := prog_13_method_70_code
def yX3_unwatchedAgain : MethodName := ⟨RX3, "unwatchedAgain", "()I"⟩
def dkwX3_unwatchedAgain_1 : List UInt8 := [3, 167, 0, 4, 4, 96, 60, 132, 2, 1, 167, 255, 231, 27, 172]
abbrev dktX3_unwatchedAgain_1 : List UInt8 := dkwX3_unwatchedAgain_1 ++ []
def dkwX3_unwatchedAgain_0 : List UInt8 := [42, 3, 181, 0, 51, 3, 60, 3, 61, 28, 16, 61, 162, 0, 25, 27, 42, 28, 182, 0, 210, 153, 0, 7]
abbrev dktX3_unwatchedAgain_0 : List UInt8 := dkwX3_unwatchedAgain_0 ++ dktX3_unwatchedAgain_1
theorem dksX3_unwatchedAgain_0 : cX3_unwatchedAgain.data.toList.drop 0 = dktX3_unwatchedAgain_0 := by decide +kernel
theorem dksX3_unwatchedAgain_1 : cX3_unwatchedAgain.data.toList.drop 24 = dktX3_unwatchedAgain_1 := dk_seg dksX3_unwatchedAgain_0 24 rfl rfl
theorem dX3_unwatchedAgain_0 : decode cX3_unwatchedAgain 0 = .ok (.aload_n 0, 1) := dk_42 (dk_at dksX3_unwatchedAgain_0 0 rfl rfl)
theorem dX3_unwatchedAgain_1 : decode cX3_unwatchedAgain 1 = .ok (.iconst 0, 1) := dk_3 (dk_at dksX3_unwatchedAgain_0 1 rfl rfl)
theorem dX3_unwatchedAgain_2 : decode cX3_unwatchedAgain 2 = .ok (.putfield 51, 3) := dk_181 0 51 (dk_at dksX3_unwatchedAgain_0 2 rfl rfl)
theorem dX3_unwatchedAgain_5 : decode cX3_unwatchedAgain 5 = .ok (.iconst 0, 1) := dk_3 (dk_at dksX3_unwatchedAgain_0 5 rfl rfl)
theorem dX3_unwatchedAgain_6 : decode cX3_unwatchedAgain 6 = .ok (.istore_n 1, 1) := dk_60 (dk_at dksX3_unwatchedAgain_0 6 rfl rfl)
theorem dX3_unwatchedAgain_7 : decode cX3_unwatchedAgain 7 = .ok (.iconst 0, 1) := dk_3 (dk_at dksX3_unwatchedAgain_0 7 rfl rfl)
theorem dX3_unwatchedAgain_8 : decode cX3_unwatchedAgain 8 = .ok (.istore_n 2, 1) := dk_61 (dk_at dksX3_unwatchedAgain_0 8 rfl rfl)
theorem dX3_unwatchedAgain_9 : decode cX3_unwatchedAgain 9 = .ok (.iload_n 2, 1) := dk_28 (dk_at dksX3_unwatchedAgain_0 9 rfl rfl)
theorem dX3_unwatchedAgain_10 : decode cX3_unwatchedAgain 10 = .ok (.bipush 61, 2) := dk_16 61 (dk_at dksX3_unwatchedAgain_0 10 rfl rfl)
theorem dX3_unwatchedAgain_12 : decode cX3_unwatchedAgain 12 = .ok (.if_icmp .ge 25, 3) := dk_162 0 25 (dk_at dksX3_unwatchedAgain_0 12 rfl rfl)
theorem dX3_unwatchedAgain_15 : decode cX3_unwatchedAgain 15 = .ok (.iload_n 1, 1) := dk_27 (dk_at dksX3_unwatchedAgain_0 15 rfl rfl)
theorem dX3_unwatchedAgain_16 : decode cX3_unwatchedAgain 16 = .ok (.aload_n 0, 1) := dk_42 (dk_at dksX3_unwatchedAgain_0 16 rfl rfl)
theorem dX3_unwatchedAgain_17 : decode cX3_unwatchedAgain 17 = .ok (.iload_n 2, 1) := dk_28 (dk_at dksX3_unwatchedAgain_0 17 rfl rfl)
theorem dX3_unwatchedAgain_18 : decode cX3_unwatchedAgain 18 = .ok (.invokevirtual 210, 3) := dk_182 0 210 (dk_at dksX3_unwatchedAgain_0 18 rfl rfl)
theorem dX3_unwatchedAgain_21 : decode cX3_unwatchedAgain 21 = .ok (.ifCond .eq 7, 3) := dk_153 0 7 (dk_at dksX3_unwatchedAgain_0 21 rfl rfl)
theorem dX3_unwatchedAgain_24 : decode cX3_unwatchedAgain 24 = .ok (.iconst 0, 1) := dk_3 (dk_at dksX3_unwatchedAgain_1 0 rfl rfl)
theorem dX3_unwatchedAgain_25 : decode cX3_unwatchedAgain 25 = .ok (.goto 4, 3) := dk_167 0 4 (dk_at dksX3_unwatchedAgain_1 1 rfl rfl)
theorem dX3_unwatchedAgain_28 : decode cX3_unwatchedAgain 28 = .ok (.iconst 1, 1) := dk_4 (dk_at dksX3_unwatchedAgain_1 4 rfl rfl)
theorem dX3_unwatchedAgain_29 : decode cX3_unwatchedAgain 29 = .ok (.iadd, 1) := dk_96 (dk_at dksX3_unwatchedAgain_1 5 rfl rfl)
theorem dX3_unwatchedAgain_30 : decode cX3_unwatchedAgain 30 = .ok (.istore_n 1, 1) := dk_60 (dk_at dksX3_unwatchedAgain_1 6 rfl rfl)
theorem dX3_unwatchedAgain_31 : decode cX3_unwatchedAgain 31 = .ok (.iinc 2 1, 3) := dk_132 2 1 (dk_at dksX3_unwatchedAgain_1 7 rfl rfl)
theorem dX3_unwatchedAgain_34 : decode cX3_unwatchedAgain 34 = .ok (.goto (-25), 3) := dk_167 255 231 (dk_at dksX3_unwatchedAgain_1 10 rfl rfl)
theorem dX3_unwatchedAgain_37 : decode cX3_unwatchedAgain 37 = .ok (.iload_n 1, 1) := dk_27 (dk_at dksX3_unwatchedAgain_1 13 rfl rfl)
theorem dX3_unwatchedAgain_38 : decode cX3_unwatchedAgain 38 = .ok (.ireturn, 1) := dk_172 (dk_at dksX3_unwatchedAgain_1 14 rfl rfl)
abbrev cX3_isInStretch : ByteArray := prog_13_method_69_code
def yX3_isInStretch : MethodName := ⟨RX3, "isInStretch", "(I)Z"⟩
def dkwX3_isInStretch_2 : List UInt8 := [3, 172]
abbrev dktX3_isInStretch_2 : List UInt8 := dkwX3_isInStretch_2 ++ []
def dkwX3_isInStretch_1 : List UInt8 := [2, 182, 0, 201, 42, 28, 4, 182, 0, 201, 184, 0, 77, 153, 0, 5, 4, 172, 132, 2, 1, 167, 255, 213]
abbrev dktX3_isInStretch_1 : List UInt8 := dkwX3_isInStretch_1 ++ dktX3_isInStretch_2
def dkwX3_isInStretch_0 : List UInt8 := [3, 61, 28, 42, 180, 0, 13, 16, 10, 46, 162, 0, 38, 42, 28, 182, 0, 109, 153, 0, 24, 27, 42, 28]
abbrev dktX3_isInStretch_0 : List UInt8 := dkwX3_isInStretch_0 ++ dktX3_isInStretch_1
theorem dksX3_isInStretch_0 : cX3_isInStretch.data.toList.drop 0 = dktX3_isInStretch_0 := by decide +kernel
theorem dksX3_isInStretch_1 : cX3_isInStretch.data.toList.drop 24 = dktX3_isInStretch_1 := dk_seg dksX3_isInStretch_0 24 rfl rfl
theorem dksX3_isInStretch_2 : cX3_isInStretch.data.toList.drop 48 = dktX3_isInStretch_2 := dk_seg dksX3_isInStretch_1 24 rfl rfl
theorem dX3_isInStretch_0 : decode cX3_isInStretch 0 = .ok (.iconst 0, 1) := dk_3 (dk_at dksX3_isInStretch_0 0 rfl rfl)
theorem dX3_isInStretch_1 : decode cX3_isInStretch 1 = .ok (.istore_n 2, 1) := dk_61 (dk_at dksX3_isInStretch_0 1 rfl rfl)
theorem dX3_isInStretch_2 : decode cX3_isInStretch 2 = .ok (.iload_n 2, 1) := dk_28 (dk_at dksX3_isInStretch_0 2 rfl rfl)
theorem dX3_isInStretch_3 : decode cX3_isInStretch 3 = .ok (.aload_n 0, 1) := dk_42 (dk_at dksX3_isInStretch_0 3 rfl rfl)
theorem dX3_isInStretch_4 : decode cX3_isInStretch 4 = .ok (.getfield 13, 3) := dk_180 0 13 (dk_at dksX3_isInStretch_0 4 rfl rfl)
theorem dX3_isInStretch_7 : decode cX3_isInStretch 7 = .ok (.bipush 10, 2) := dk_16 10 (dk_at dksX3_isInStretch_0 7 rfl rfl)
theorem dX3_isInStretch_9 : decode cX3_isInStretch 9 = .ok (.iaload, 1) := dk_46 (dk_at dksX3_isInStretch_0 9 rfl rfl)
theorem dX3_isInStretch_10 : decode cX3_isInStretch 10 = .ok (.if_icmp .ge 38, 3) := dk_162 0 38 (dk_at dksX3_isInStretch_0 10 rfl rfl)
theorem dX3_isInStretch_13 : decode cX3_isInStretch 13 = .ok (.aload_n 0, 1) := dk_42 (dk_at dksX3_isInStretch_0 13 rfl rfl)
theorem dX3_isInStretch_14 : decode cX3_isInStretch 14 = .ok (.iload_n 2, 1) := dk_28 (dk_at dksX3_isInStretch_0 14 rfl rfl)
theorem dX3_isInStretch_15 : decode cX3_isInStretch 15 = .ok (.invokevirtual 109, 3) := dk_182 0 109 (dk_at dksX3_isInStretch_0 15 rfl rfl)
theorem dX3_isInStretch_18 : decode cX3_isInStretch 18 = .ok (.ifCond .eq 24, 3) := dk_153 0 24 (dk_at dksX3_isInStretch_0 18 rfl rfl)
theorem dX3_isInStretch_21 : decode cX3_isInStretch 21 = .ok (.iload_n 1, 1) := dk_27 (dk_at dksX3_isInStretch_0 21 rfl rfl)
theorem dX3_isInStretch_22 : decode cX3_isInStretch 22 = .ok (.aload_n 0, 1) := dk_42 (dk_at dksX3_isInStretch_0 22 rfl rfl)
theorem dX3_isInStretch_23 : decode cX3_isInStretch 23 = .ok (.iload_n 2, 1) := dk_28 (dk_at dksX3_isInStretch_0 23 rfl rfl)
theorem dX3_isInStretch_24 : decode cX3_isInStretch 24 = .ok (.iconst (-1), 1) := dk_2 (dk_at dksX3_isInStretch_1 0 rfl rfl)
theorem dX3_isInStretch_25 : decode cX3_isInStretch 25 = .ok (.invokevirtual 201, 3) := dk_182 0 201 (dk_at dksX3_isInStretch_1 1 rfl rfl)
theorem dX3_isInStretch_28 : decode cX3_isInStretch 28 = .ok (.aload_n 0, 1) := dk_42 (dk_at dksX3_isInStretch_1 4 rfl rfl)
theorem dX3_isInStretch_29 : decode cX3_isInStretch 29 = .ok (.iload_n 2, 1) := dk_28 (dk_at dksX3_isInStretch_1 5 rfl rfl)
theorem dX3_isInStretch_30 : decode cX3_isInStretch 30 = .ok (.iconst 1, 1) := dk_4 (dk_at dksX3_isInStretch_1 6 rfl rfl)
theorem dX3_isInStretch_31 : decode cX3_isInStretch 31 = .ok (.invokevirtual 201, 3) := dk_182 0 201 (dk_at dksX3_isInStretch_1 7 rfl rfl)
theorem dX3_isInStretch_34 : decode cX3_isInStretch 34 = .ok (.invokestatic 77, 3) := dk_184 0 77 (dk_at dksX3_isInStretch_1 10 rfl rfl)
theorem dX3_isInStretch_37 : decode cX3_isInStretch 37 = .ok (.ifCond .eq 5, 3) := dk_153 0 5 (dk_at dksX3_isInStretch_1 13 rfl rfl)
theorem dX3_isInStretch_40 : decode cX3_isInStretch 40 = .ok (.iconst 1, 1) := dk_4 (dk_at dksX3_isInStretch_1 16 rfl rfl)
theorem dX3_isInStretch_41 : decode cX3_isInStretch 41 = .ok (.ireturn, 1) := dk_172 (dk_at dksX3_isInStretch_1 17 rfl rfl)
theorem dX3_isInStretch_42 : decode cX3_isInStretch 42 = .ok (.iinc 2 1, 3) := dk_132 2 1 (dk_at dksX3_isInStretch_1 18 rfl rfl)
theorem dX3_isInStretch_45 : decode cX3_isInStretch 45 = .ok (.goto (-43), 3) := dk_167 255 213 (dk_at dksX3_isInStretch_1 21 rfl rfl)
theorem dX3_isInStretch_48 : decode cX3_isInStretch 48 = .ok (.iconst 0, 1) := dk_3 (dk_at dksX3_isInStretch_2 0 rfl rfl)
theorem dX3_isInStretch_49 : decode cX3_isInStretch 49 = .ok (.ireturn, 1) := dk_172 (dk_at dksX3_isInStretch_2 1 rfl rfl)
abbrev cX3_margin : ByteArray := prog_13_method_73_code
def yX3_margin : MethodName := ⟨RX3, "margin", "(II)I"⟩
def dkwX3_margin_2 : List UInt8 := [167, 0, 8, 42, 5, 182, 0, 63, 172]
abbrev dktX3_margin_2 : List UInt8 := dkwX3_margin_2 ++ []
def dkwX3_margin_1 : List UInt8 := [160, 0, 9, 42, 4, 182, 0, 63, 172, 42, 27, 28, 182, 0, 213, 153, 0, 12, 42, 27, 28, 182, 0, 216]
abbrev dktX3_margin_1 : List UInt8 := dkwX3_margin_1 ++ dktX3_margin_2
def dkwX3_margin_0 : List UInt8 := [42, 3, 181, 0, 51, 42, 27, 182, 0, 148, 153, 0, 16, 42, 28, 182, 0, 148, 153, 0, 8, 27, 28]
abbrev dktX3_margin_0 : List UInt8 := dkwX3_margin_0 ++ dktX3_margin_1
theorem dksX3_margin_0 : cX3_margin.data.toList.drop 0 = dktX3_margin_0 := by decide +kernel
theorem dksX3_margin_1 : cX3_margin.data.toList.drop 23 = dktX3_margin_1 := dk_seg dksX3_margin_0 23 rfl rfl
theorem dksX3_margin_2 : cX3_margin.data.toList.drop 47 = dktX3_margin_2 := dk_seg dksX3_margin_1 24 rfl rfl
theorem dX3_margin_0 : decode cX3_margin 0 = .ok (.aload_n 0, 1) := dk_42 (dk_at dksX3_margin_0 0 rfl rfl)
theorem dX3_margin_1 : decode cX3_margin 1 = .ok (.iconst 0, 1) := dk_3 (dk_at dksX3_margin_0 1 rfl rfl)
theorem dX3_margin_2 : decode cX3_margin 2 = .ok (.putfield 51, 3) := dk_181 0 51 (dk_at dksX3_margin_0 2 rfl rfl)
theorem dX3_margin_5 : decode cX3_margin 5 = .ok (.aload_n 0, 1) := dk_42 (dk_at dksX3_margin_0 5 rfl rfl)
theorem dX3_margin_6 : decode cX3_margin 6 = .ok (.iload_n 1, 1) := dk_27 (dk_at dksX3_margin_0 6 rfl rfl)
theorem dX3_margin_7 : decode cX3_margin 7 = .ok (.invokevirtual 148, 3) := dk_182 0 148 (dk_at dksX3_margin_0 7 rfl rfl)
theorem dX3_margin_10 : decode cX3_margin 10 = .ok (.ifCond .eq 16, 3) := dk_153 0 16 (dk_at dksX3_margin_0 10 rfl rfl)
theorem dX3_margin_13 : decode cX3_margin 13 = .ok (.aload_n 0, 1) := dk_42 (dk_at dksX3_margin_0 13 rfl rfl)
theorem dX3_margin_14 : decode cX3_margin 14 = .ok (.iload_n 2, 1) := dk_28 (dk_at dksX3_margin_0 14 rfl rfl)
theorem dX3_margin_15 : decode cX3_margin 15 = .ok (.invokevirtual 148, 3) := dk_182 0 148 (dk_at dksX3_margin_0 15 rfl rfl)
theorem dX3_margin_18 : decode cX3_margin 18 = .ok (.ifCond .eq 8, 3) := dk_153 0 8 (dk_at dksX3_margin_0 18 rfl rfl)
theorem dX3_margin_21 : decode cX3_margin 21 = .ok (.iload_n 1, 1) := dk_27 (dk_at dksX3_margin_0 21 rfl rfl)
theorem dX3_margin_22 : decode cX3_margin 22 = .ok (.iload_n 2, 1) := dk_28 (dk_at dksX3_margin_0 22 rfl rfl)
theorem dX3_margin_23 : decode cX3_margin 23 = .ok (.if_icmp .ne 9, 3) := dk_160 0 9 (dk_at dksX3_margin_1 0 rfl rfl)
theorem dX3_margin_26 : decode cX3_margin 26 = .ok (.aload_n 0, 1) := dk_42 (dk_at dksX3_margin_1 3 rfl rfl)
theorem dX3_margin_27 : decode cX3_margin 27 = .ok (.iconst 1, 1) := dk_4 (dk_at dksX3_margin_1 4 rfl rfl)
theorem dX3_margin_28 : decode cX3_margin 28 = .ok (.invokevirtual 63, 3) := dk_182 0 63 (dk_at dksX3_margin_1 5 rfl rfl)
theorem dX3_margin_31 : decode cX3_margin 31 = .ok (.ireturn, 1) := dk_172 (dk_at dksX3_margin_1 8 rfl rfl)
theorem dX3_margin_32 : decode cX3_margin 32 = .ok (.aload_n 0, 1) := dk_42 (dk_at dksX3_margin_1 9 rfl rfl)
theorem dX3_margin_33 : decode cX3_margin 33 = .ok (.iload_n 1, 1) := dk_27 (dk_at dksX3_margin_1 10 rfl rfl)
theorem dX3_margin_34 : decode cX3_margin 34 = .ok (.iload_n 2, 1) := dk_28 (dk_at dksX3_margin_1 11 rfl rfl)
theorem dX3_margin_35 : decode cX3_margin 35 = .ok (.invokevirtual 213, 3) := dk_182 0 213 (dk_at dksX3_margin_1 12 rfl rfl)
theorem dX3_margin_38 : decode cX3_margin 38 = .ok (.ifCond .eq 12, 3) := dk_153 0 12 (dk_at dksX3_margin_1 15 rfl rfl)
theorem dX3_margin_41 : decode cX3_margin 41 = .ok (.aload_n 0, 1) := dk_42 (dk_at dksX3_margin_1 18 rfl rfl)
theorem dX3_margin_42 : decode cX3_margin 42 = .ok (.iload_n 1, 1) := dk_27 (dk_at dksX3_margin_1 19 rfl rfl)
theorem dX3_margin_43 : decode cX3_margin 43 = .ok (.iload_n 2, 1) := dk_28 (dk_at dksX3_margin_1 20 rfl rfl)
theorem dX3_margin_44 : decode cX3_margin 44 = .ok (.invokevirtual 216, 3) := dk_182 0 216 (dk_at dksX3_margin_1 21 rfl rfl)
theorem dX3_margin_47 : decode cX3_margin 47 = .ok (.goto 8, 3) := dk_167 0 8 (dk_at dksX3_margin_2 0 rfl rfl)
theorem dX3_margin_50 : decode cX3_margin 50 = .ok (.aload_n 0, 1) := dk_42 (dk_at dksX3_margin_2 3 rfl rfl)
theorem dX3_margin_51 : decode cX3_margin 51 = .ok (.iconst 2, 1) := dk_5 (dk_at dksX3_margin_2 4 rfl rfl)
theorem dX3_margin_52 : decode cX3_margin 52 = .ok (.invokevirtual 63, 3) := dk_182 0 63 (dk_at dksX3_margin_2 5 rfl rfl)
theorem dX3_margin_55 : decode cX3_margin 55 = .ok (.ireturn, 1) := dk_172 (dk_at dksX3_margin_2 8 rfl rfl)
abbrev cX3_canSignal : ByteArray := prog_13_method_71_code
def yX3_canSignal : MethodName := ⟨RX3, "canSignal", "(II)Z"⟩
def dkwX3_canSignal_1 : List UInt8 := [42, 28, 3, 182, 0, 81, 182, 0, 93, 153, 0, 7, 4, 167, 0, 4, 3, 172]
abbrev dktX3_canSignal_1 : List UInt8 := dkwX3_canSignal_1 ++ []
def dkwX3_canSignal_0 : List UInt8 := [27, 28, 159, 0, 38, 42, 27, 182, 0, 109, 153, 0, 30, 42, 28, 8, 182, 0, 81, 154, 0, 21, 42, 27]
abbrev dktX3_canSignal_0 : List UInt8 := dkwX3_canSignal_0 ++ dktX3_canSignal_1
theorem dksX3_canSignal_0 : cX3_canSignal.data.toList.drop 0 = dktX3_canSignal_0 := by decide +kernel
theorem dksX3_canSignal_1 : cX3_canSignal.data.toList.drop 24 = dktX3_canSignal_1 := dk_seg dksX3_canSignal_0 24 rfl rfl
theorem dX3_canSignal_0 : decode cX3_canSignal 0 = .ok (.iload_n 1, 1) := dk_27 (dk_at dksX3_canSignal_0 0 rfl rfl)
theorem dX3_canSignal_1 : decode cX3_canSignal 1 = .ok (.iload_n 2, 1) := dk_28 (dk_at dksX3_canSignal_0 1 rfl rfl)
theorem dX3_canSignal_2 : decode cX3_canSignal 2 = .ok (.if_icmp .eq 38, 3) := dk_159 0 38 (dk_at dksX3_canSignal_0 2 rfl rfl)
theorem dX3_canSignal_5 : decode cX3_canSignal 5 = .ok (.aload_n 0, 1) := dk_42 (dk_at dksX3_canSignal_0 5 rfl rfl)
theorem dX3_canSignal_6 : decode cX3_canSignal 6 = .ok (.iload_n 1, 1) := dk_27 (dk_at dksX3_canSignal_0 6 rfl rfl)
theorem dX3_canSignal_7 : decode cX3_canSignal 7 = .ok (.invokevirtual 109, 3) := dk_182 0 109 (dk_at dksX3_canSignal_0 7 rfl rfl)
theorem dX3_canSignal_10 : decode cX3_canSignal 10 = .ok (.ifCond .eq 30, 3) := dk_153 0 30 (dk_at dksX3_canSignal_0 10 rfl rfl)
theorem dX3_canSignal_13 : decode cX3_canSignal 13 = .ok (.aload_n 0, 1) := dk_42 (dk_at dksX3_canSignal_0 13 rfl rfl)
theorem dX3_canSignal_14 : decode cX3_canSignal 14 = .ok (.iload_n 2, 1) := dk_28 (dk_at dksX3_canSignal_0 14 rfl rfl)
theorem dX3_canSignal_15 : decode cX3_canSignal 15 = .ok (.iconst 5, 1) := dk_8 (dk_at dksX3_canSignal_0 15 rfl rfl)
theorem dX3_canSignal_16 : decode cX3_canSignal 16 = .ok (.invokevirtual 81, 3) := dk_182 0 81 (dk_at dksX3_canSignal_0 16 rfl rfl)
theorem dX3_canSignal_19 : decode cX3_canSignal 19 = .ok (.ifCond .ne 21, 3) := dk_154 0 21 (dk_at dksX3_canSignal_0 19 rfl rfl)
theorem dX3_canSignal_22 : decode cX3_canSignal 22 = .ok (.aload_n 0, 1) := dk_42 (dk_at dksX3_canSignal_0 22 rfl rfl)
theorem dX3_canSignal_23 : decode cX3_canSignal 23 = .ok (.iload_n 1, 1) := dk_27 (dk_at dksX3_canSignal_0 23 rfl rfl)
theorem dX3_canSignal_24 : decode cX3_canSignal 24 = .ok (.aload_n 0, 1) := dk_42 (dk_at dksX3_canSignal_1 0 rfl rfl)
theorem dX3_canSignal_25 : decode cX3_canSignal 25 = .ok (.iload_n 2, 1) := dk_28 (dk_at dksX3_canSignal_1 1 rfl rfl)
theorem dX3_canSignal_26 : decode cX3_canSignal 26 = .ok (.iconst 0, 1) := dk_3 (dk_at dksX3_canSignal_1 2 rfl rfl)
theorem dX3_canSignal_27 : decode cX3_canSignal 27 = .ok (.invokevirtual 81, 3) := dk_182 0 81 (dk_at dksX3_canSignal_1 3 rfl rfl)
theorem dX3_canSignal_30 : decode cX3_canSignal 30 = .ok (.invokevirtual 93, 3) := dk_182 0 93 (dk_at dksX3_canSignal_1 6 rfl rfl)
theorem dX3_canSignal_33 : decode cX3_canSignal 33 = .ok (.ifCond .eq 7, 3) := dk_153 0 7 (dk_at dksX3_canSignal_1 9 rfl rfl)
theorem dX3_canSignal_36 : decode cX3_canSignal 36 = .ok (.iconst 1, 1) := dk_4 (dk_at dksX3_canSignal_1 12 rfl rfl)
theorem dX3_canSignal_37 : decode cX3_canSignal 37 = .ok (.goto 4, 3) := dk_167 0 4 (dk_at dksX3_canSignal_1 13 rfl rfl)
theorem dX3_canSignal_40 : decode cX3_canSignal 40 = .ok (.iconst 0, 1) := dk_3 (dk_at dksX3_canSignal_1 16 rfl rfl)
theorem dX3_canSignal_41 : decode cX3_canSignal 41 = .ok (.ireturn, 1) := dk_172 (dk_at dksX3_canSignal_1 17 rfl rfl)
abbrev cX3_marginOf : ByteArray := prog_13_method_72_code
def yX3_marginOf : MethodName := ⟨RX3, "marginOf", "(II)I"⟩
def dkwX3_marginOf_0 : List UInt8 := [42, 27, 182, 0, 90, 42, 42, 27, 3, 182, 0, 81, 42, 28, 3, 182, 0, 81, 182, 0, 87, 100, 172]
abbrev dktX3_marginOf_0 : List UInt8 := dkwX3_marginOf_0 ++ []
theorem dksX3_marginOf_0 : cX3_marginOf.data.toList.drop 0 = dktX3_marginOf_0 := by decide +kernel
theorem dX3_marginOf_0 : decode cX3_marginOf 0 = .ok (.aload_n 0, 1) := dk_42 (dk_at dksX3_marginOf_0 0 rfl rfl)
theorem dX3_marginOf_1 : decode cX3_marginOf 1 = .ok (.iload_n 1, 1) := dk_27 (dk_at dksX3_marginOf_0 1 rfl rfl)
theorem dX3_marginOf_2 : decode cX3_marginOf 2 = .ok (.invokevirtual 90, 3) := dk_182 0 90 (dk_at dksX3_marginOf_0 2 rfl rfl)
theorem dX3_marginOf_5 : decode cX3_marginOf 5 = .ok (.aload_n 0, 1) := dk_42 (dk_at dksX3_marginOf_0 5 rfl rfl)
theorem dX3_marginOf_6 : decode cX3_marginOf 6 = .ok (.aload_n 0, 1) := dk_42 (dk_at dksX3_marginOf_0 6 rfl rfl)
theorem dX3_marginOf_7 : decode cX3_marginOf 7 = .ok (.iload_n 1, 1) := dk_27 (dk_at dksX3_marginOf_0 7 rfl rfl)
theorem dX3_marginOf_8 : decode cX3_marginOf 8 = .ok (.iconst 0, 1) := dk_3 (dk_at dksX3_marginOf_0 8 rfl rfl)
theorem dX3_marginOf_9 : decode cX3_marginOf 9 = .ok (.invokevirtual 81, 3) := dk_182 0 81 (dk_at dksX3_marginOf_0 9 rfl rfl)
theorem dX3_marginOf_12 : decode cX3_marginOf 12 = .ok (.aload_n 0, 1) := dk_42 (dk_at dksX3_marginOf_0 12 rfl rfl)
theorem dX3_marginOf_13 : decode cX3_marginOf 13 = .ok (.iload_n 2, 1) := dk_28 (dk_at dksX3_marginOf_0 13 rfl rfl)
theorem dX3_marginOf_14 : decode cX3_marginOf 14 = .ok (.iconst 0, 1) := dk_3 (dk_at dksX3_marginOf_0 14 rfl rfl)
theorem dX3_marginOf_15 : decode cX3_marginOf 15 = .ok (.invokevirtual 81, 3) := dk_182 0 81 (dk_at dksX3_marginOf_0 15 rfl rfl)
theorem dX3_marginOf_18 : decode cX3_marginOf 18 = .ok (.invokevirtual 87, 3) := dk_182 0 87 (dk_at dksX3_marginOf_0 18 rfl rfl)
theorem dX3_marginOf_21 : decode cX3_marginOf 21 = .ok (.isub, 1) := dk_100 (dk_at dksX3_marginOf_0 21 rfl rfl)
theorem dX3_marginOf_22 : decode cX3_marginOf 22 = .ok (.ireturn, 1) := dk_172 (dk_at dksX3_marginOf_0 22 rfl rfl)
abbrev cX3_signals : ByteArray := prog_13_method_77_code
def yX3_signals : MethodName := ⟨RX3, "signals", "(II)I"⟩
def dkwX3_signals_2 : List UInt8 := [182, 0, 63, 172]
abbrev dktX3_signals_2 : List UInt8 := dkwX3_signals_2 ++ []
def dkwX3_signals_1 : List UInt8 := [182, 0, 63, 172, 42, 27, 28, 182, 0, 228, 153, 0, 10, 42, 180, 0, 222, 167, 0, 8, 42, 5]
abbrev dktX3_signals_1 : List UInt8 := dkwX3_signals_1 ++ dktX3_signals_2
def dkwX3_signals_0 : List UInt8 := [42, 3, 181, 0, 51, 42, 27, 182, 0, 148, 153, 0, 11, 42, 28, 182, 0, 148, 154, 0, 9, 42, 4]
abbrev dktX3_signals_0 : List UInt8 := dkwX3_signals_0 ++ dktX3_signals_1
theorem dksX3_signals_0 : cX3_signals.data.toList.drop 0 = dktX3_signals_0 := by decide +kernel
theorem dksX3_signals_1 : cX3_signals.data.toList.drop 23 = dktX3_signals_1 := dk_seg dksX3_signals_0 23 rfl rfl
theorem dksX3_signals_2 : cX3_signals.data.toList.drop 45 = dktX3_signals_2 := dk_seg dksX3_signals_1 22 rfl rfl
theorem dX3_signals_0 : decode cX3_signals 0 = .ok (.aload_n 0, 1) := dk_42 (dk_at dksX3_signals_0 0 rfl rfl)
theorem dX3_signals_1 : decode cX3_signals 1 = .ok (.iconst 0, 1) := dk_3 (dk_at dksX3_signals_0 1 rfl rfl)
theorem dX3_signals_2 : decode cX3_signals 2 = .ok (.putfield 51, 3) := dk_181 0 51 (dk_at dksX3_signals_0 2 rfl rfl)
theorem dX3_signals_5 : decode cX3_signals 5 = .ok (.aload_n 0, 1) := dk_42 (dk_at dksX3_signals_0 5 rfl rfl)
theorem dX3_signals_6 : decode cX3_signals 6 = .ok (.iload_n 1, 1) := dk_27 (dk_at dksX3_signals_0 6 rfl rfl)
theorem dX3_signals_7 : decode cX3_signals 7 = .ok (.invokevirtual 148, 3) := dk_182 0 148 (dk_at dksX3_signals_0 7 rfl rfl)
theorem dX3_signals_10 : decode cX3_signals 10 = .ok (.ifCond .eq 11, 3) := dk_153 0 11 (dk_at dksX3_signals_0 10 rfl rfl)
theorem dX3_signals_13 : decode cX3_signals 13 = .ok (.aload_n 0, 1) := dk_42 (dk_at dksX3_signals_0 13 rfl rfl)
theorem dX3_signals_14 : decode cX3_signals 14 = .ok (.iload_n 2, 1) := dk_28 (dk_at dksX3_signals_0 14 rfl rfl)
theorem dX3_signals_15 : decode cX3_signals 15 = .ok (.invokevirtual 148, 3) := dk_182 0 148 (dk_at dksX3_signals_0 15 rfl rfl)
theorem dX3_signals_18 : decode cX3_signals 18 = .ok (.ifCond .ne 9, 3) := dk_154 0 9 (dk_at dksX3_signals_0 18 rfl rfl)
theorem dX3_signals_21 : decode cX3_signals 21 = .ok (.aload_n 0, 1) := dk_42 (dk_at dksX3_signals_0 21 rfl rfl)
theorem dX3_signals_22 : decode cX3_signals 22 = .ok (.iconst 1, 1) := dk_4 (dk_at dksX3_signals_0 22 rfl rfl)
theorem dX3_signals_23 : decode cX3_signals 23 = .ok (.invokevirtual 63, 3) := dk_182 0 63 (dk_at dksX3_signals_1 0 rfl rfl)
theorem dX3_signals_26 : decode cX3_signals 26 = .ok (.ireturn, 1) := dk_172 (dk_at dksX3_signals_1 3 rfl rfl)
theorem dX3_signals_27 : decode cX3_signals 27 = .ok (.aload_n 0, 1) := dk_42 (dk_at dksX3_signals_1 4 rfl rfl)
theorem dX3_signals_28 : decode cX3_signals 28 = .ok (.iload_n 1, 1) := dk_27 (dk_at dksX3_signals_1 5 rfl rfl)
theorem dX3_signals_29 : decode cX3_signals 29 = .ok (.iload_n 2, 1) := dk_28 (dk_at dksX3_signals_1 6 rfl rfl)
theorem dX3_signals_30 : decode cX3_signals 30 = .ok (.invokevirtual 228, 3) := dk_182 0 228 (dk_at dksX3_signals_1 7 rfl rfl)
theorem dX3_signals_33 : decode cX3_signals 33 = .ok (.ifCond .eq 10, 3) := dk_153 0 10 (dk_at dksX3_signals_1 10 rfl rfl)
theorem dX3_signals_36 : decode cX3_signals 36 = .ok (.aload_n 0, 1) := dk_42 (dk_at dksX3_signals_1 13 rfl rfl)
theorem dX3_signals_37 : decode cX3_signals 37 = .ok (.getfield 222, 3) := dk_180 0 222 (dk_at dksX3_signals_1 14 rfl rfl)
theorem dX3_signals_40 : decode cX3_signals 40 = .ok (.goto 8, 3) := dk_167 0 8 (dk_at dksX3_signals_1 17 rfl rfl)
theorem dX3_signals_43 : decode cX3_signals 43 = .ok (.aload_n 0, 1) := dk_42 (dk_at dksX3_signals_1 20 rfl rfl)
theorem dX3_signals_44 : decode cX3_signals 44 = .ok (.iconst 2, 1) := dk_5 (dk_at dksX3_signals_1 21 rfl rfl)
theorem dX3_signals_45 : decode cX3_signals 45 = .ok (.invokevirtual 63, 3) := dk_182 0 63 (dk_at dksX3_signals_2 0 rfl rfl)
theorem dX3_signals_48 : decode cX3_signals 48 = .ok (.ireturn, 1) := dk_172 (dk_at dksX3_signals_2 3 rfl rfl)
abbrev cX3_findRoute : ByteArray := prog_13_method_76_code
def yX3_findRoute : MethodName := ⟨RX3, "findRoute", "(II)Z"⟩
def dkwX3_findRoute_2 : List UInt8 := [181, 0, 222, 42, 29, 182, 0, 225, 62, 167, 255, 225, 42, 180, 0, 28, 42, 180, 0, 222, 28, 79, 4, 172]
abbrev dktX3_findRoute_2 : List UInt8 := dkwX3_findRoute_2 ++ []
def dkwX3_findRoute_1 : List UInt8 := [27, 62, 29, 28, 159, 0, 32, 42, 180, 0, 28, 42, 180, 0, 222, 29, 79, 42, 89, 180, 0, 222, 4, 96]
abbrev dktX3_findRoute_1 : List UInt8 := dkwX3_findRoute_1 ++ dktX3_findRoute_2
def dkwX3_findRoute_0 : List UInt8 := [42, 28, 182, 0, 219, 42, 180, 0, 25, 27, 46, 17, 3, 232, 161, 0, 5, 3, 172, 42, 3, 181, 0, 222]
abbrev dktX3_findRoute_0 : List UInt8 := dkwX3_findRoute_0 ++ dktX3_findRoute_1
theorem dksX3_findRoute_0 : cX3_findRoute.data.toList.drop 0 = dktX3_findRoute_0 := by decide +kernel
theorem dksX3_findRoute_1 : cX3_findRoute.data.toList.drop 24 = dktX3_findRoute_1 := dk_seg dksX3_findRoute_0 24 rfl rfl
theorem dksX3_findRoute_2 : cX3_findRoute.data.toList.drop 48 = dktX3_findRoute_2 := dk_seg dksX3_findRoute_1 24 rfl rfl
theorem dX3_findRoute_0 : decode cX3_findRoute 0 = .ok (.aload_n 0, 1) := dk_42 (dk_at dksX3_findRoute_0 0 rfl rfl)
theorem dX3_findRoute_1 : decode cX3_findRoute 1 = .ok (.iload_n 2, 1) := dk_28 (dk_at dksX3_findRoute_0 1 rfl rfl)
theorem dX3_findRoute_2 : decode cX3_findRoute 2 = .ok (.invokevirtual 219, 3) := dk_182 0 219 (dk_at dksX3_findRoute_0 2 rfl rfl)
theorem dX3_findRoute_5 : decode cX3_findRoute 5 = .ok (.aload_n 0, 1) := dk_42 (dk_at dksX3_findRoute_0 5 rfl rfl)
theorem dX3_findRoute_6 : decode cX3_findRoute 6 = .ok (.getfield 25, 3) := dk_180 0 25 (dk_at dksX3_findRoute_0 6 rfl rfl)
theorem dX3_findRoute_9 : decode cX3_findRoute 9 = .ok (.iload_n 1, 1) := dk_27 (dk_at dksX3_findRoute_0 9 rfl rfl)
theorem dX3_findRoute_10 : decode cX3_findRoute 10 = .ok (.iaload, 1) := dk_46 (dk_at dksX3_findRoute_0 10 rfl rfl)
theorem dX3_findRoute_11 : decode cX3_findRoute 11 = .ok (.sipush 1000, 3) := dk_17 3 232 (dk_at dksX3_findRoute_0 11 rfl rfl)
theorem dX3_findRoute_14 : decode cX3_findRoute 14 = .ok (.if_icmp .lt 5, 3) := dk_161 0 5 (dk_at dksX3_findRoute_0 14 rfl rfl)
theorem dX3_findRoute_17 : decode cX3_findRoute 17 = .ok (.iconst 0, 1) := dk_3 (dk_at dksX3_findRoute_0 17 rfl rfl)
theorem dX3_findRoute_18 : decode cX3_findRoute 18 = .ok (.ireturn, 1) := dk_172 (dk_at dksX3_findRoute_0 18 rfl rfl)
theorem dX3_findRoute_19 : decode cX3_findRoute 19 = .ok (.aload_n 0, 1) := dk_42 (dk_at dksX3_findRoute_0 19 rfl rfl)
theorem dX3_findRoute_20 : decode cX3_findRoute 20 = .ok (.iconst 0, 1) := dk_3 (dk_at dksX3_findRoute_0 20 rfl rfl)
theorem dX3_findRoute_21 : decode cX3_findRoute 21 = .ok (.putfield 222, 3) := dk_181 0 222 (dk_at dksX3_findRoute_0 21 rfl rfl)
theorem dX3_findRoute_24 : decode cX3_findRoute 24 = .ok (.iload_n 1, 1) := dk_27 (dk_at dksX3_findRoute_1 0 rfl rfl)
theorem dX3_findRoute_25 : decode cX3_findRoute 25 = .ok (.istore_n 3, 1) := dk_62 (dk_at dksX3_findRoute_1 1 rfl rfl)
theorem dX3_findRoute_26 : decode cX3_findRoute 26 = .ok (.iload_n 3, 1) := dk_29 (dk_at dksX3_findRoute_1 2 rfl rfl)
theorem dX3_findRoute_27 : decode cX3_findRoute 27 = .ok (.iload_n 2, 1) := dk_28 (dk_at dksX3_findRoute_1 3 rfl rfl)
theorem dX3_findRoute_28 : decode cX3_findRoute 28 = .ok (.if_icmp .eq 32, 3) := dk_159 0 32 (dk_at dksX3_findRoute_1 4 rfl rfl)
theorem dX3_findRoute_31 : decode cX3_findRoute 31 = .ok (.aload_n 0, 1) := dk_42 (dk_at dksX3_findRoute_1 7 rfl rfl)
theorem dX3_findRoute_32 : decode cX3_findRoute 32 = .ok (.getfield 28, 3) := dk_180 0 28 (dk_at dksX3_findRoute_1 8 rfl rfl)
theorem dX3_findRoute_35 : decode cX3_findRoute 35 = .ok (.aload_n 0, 1) := dk_42 (dk_at dksX3_findRoute_1 11 rfl rfl)
theorem dX3_findRoute_36 : decode cX3_findRoute 36 = .ok (.getfield 222, 3) := dk_180 0 222 (dk_at dksX3_findRoute_1 12 rfl rfl)
theorem dX3_findRoute_39 : decode cX3_findRoute 39 = .ok (.iload_n 3, 1) := dk_29 (dk_at dksX3_findRoute_1 15 rfl rfl)
theorem dX3_findRoute_40 : decode cX3_findRoute 40 = .ok (.iastore, 1) := dk_79 (dk_at dksX3_findRoute_1 16 rfl rfl)
theorem dX3_findRoute_41 : decode cX3_findRoute 41 = .ok (.aload_n 0, 1) := dk_42 (dk_at dksX3_findRoute_1 17 rfl rfl)
theorem dX3_findRoute_42 : decode cX3_findRoute 42 = .ok (.dup, 1) := dk_89 (dk_at dksX3_findRoute_1 18 rfl rfl)
theorem dX3_findRoute_43 : decode cX3_findRoute 43 = .ok (.getfield 222, 3) := dk_180 0 222 (dk_at dksX3_findRoute_1 19 rfl rfl)
theorem dX3_findRoute_46 : decode cX3_findRoute 46 = .ok (.iconst 1, 1) := dk_4 (dk_at dksX3_findRoute_1 22 rfl rfl)
theorem dX3_findRoute_47 : decode cX3_findRoute 47 = .ok (.iadd, 1) := dk_96 (dk_at dksX3_findRoute_1 23 rfl rfl)
theorem dX3_findRoute_48 : decode cX3_findRoute 48 = .ok (.putfield 222, 3) := dk_181 0 222 (dk_at dksX3_findRoute_2 0 rfl rfl)
theorem dX3_findRoute_51 : decode cX3_findRoute 51 = .ok (.aload_n 0, 1) := dk_42 (dk_at dksX3_findRoute_2 3 rfl rfl)
theorem dX3_findRoute_52 : decode cX3_findRoute 52 = .ok (.iload_n 3, 1) := dk_29 (dk_at dksX3_findRoute_2 4 rfl rfl)
theorem dX3_findRoute_53 : decode cX3_findRoute 53 = .ok (.invokevirtual 225, 3) := dk_182 0 225 (dk_at dksX3_findRoute_2 5 rfl rfl)
theorem dX3_findRoute_56 : decode cX3_findRoute 56 = .ok (.istore_n 3, 1) := dk_62 (dk_at dksX3_findRoute_2 8 rfl rfl)
theorem dX3_findRoute_57 : decode cX3_findRoute 57 = .ok (.goto (-31), 3) := dk_167 255 225 (dk_at dksX3_findRoute_2 9 rfl rfl)
theorem dX3_findRoute_60 : decode cX3_findRoute 60 = .ok (.aload_n 0, 1) := dk_42 (dk_at dksX3_findRoute_2 12 rfl rfl)
theorem dX3_findRoute_61 : decode cX3_findRoute 61 = .ok (.getfield 28, 3) := dk_180 0 28 (dk_at dksX3_findRoute_2 13 rfl rfl)
theorem dX3_findRoute_64 : decode cX3_findRoute 64 = .ok (.aload_n 0, 1) := dk_42 (dk_at dksX3_findRoute_2 16 rfl rfl)
theorem dX3_findRoute_65 : decode cX3_findRoute 65 = .ok (.getfield 222, 3) := dk_180 0 222 (dk_at dksX3_findRoute_2 17 rfl rfl)
theorem dX3_findRoute_68 : decode cX3_findRoute 68 = .ok (.iload_n 2, 1) := dk_28 (dk_at dksX3_findRoute_2 20 rfl rfl)
theorem dX3_findRoute_69 : decode cX3_findRoute 69 = .ok (.iastore, 1) := dk_79 (dk_at dksX3_findRoute_2 21 rfl rfl)
theorem dX3_findRoute_70 : decode cX3_findRoute 70 = .ok (.iconst 1, 1) := dk_4 (dk_at dksX3_findRoute_2 22 rfl rfl)
theorem dX3_findRoute_71 : decode cX3_findRoute 71 = .ok (.ireturn, 1) := dk_172 (dk_at dksX3_findRoute_2 23 rfl rfl)
abbrev cX3_findFar : ByteArray := prog_13_method_74_code
def yX3_findFar : MethodName := ⟨RX3, "findFar", "(I)V"⟩
def dkwX3_findFar_5 : List UInt8 := [167, 255, 198, 132, 3, 1, 167, 255, 178, 132, 2, 1, 167, 255, 164, 177]
abbrev dktX3_findFar_5 : List UInt8 := dkwX3_findFar_5 ++ []
def dkwX3_findFar_4 : List UInt8 := [46, 162, 0, 18, 42, 180, 0, 25, 29, 42, 180, 0, 25, 21, 4, 46, 4, 96, 79, 132, 4, 1]
abbrev dktX3_findFar_4 : List UInt8 := dkwX3_findFar_4 ++ dktX3_findFar_5
def dkwX3_findFar_3 : List UInt8 := [42, 29, 21, 4, 182, 0, 213, 153, 0, 36, 42, 180, 0, 25, 21, 4, 46, 4, 96, 42, 180, 0, 25, 29]
abbrev dktX3_findFar_3 : List UInt8 := dkwX3_findFar_3 ++ dktX3_findFar_4
def dkwX3_findFar_2 : List UInt8 := [180, 0, 13, 16, 10, 46, 162, 0, 73, 3, 54, 4, 21, 4, 42, 180, 0, 13, 16, 10, 46, 162, 0, 52]
abbrev dktX3_findFar_2 : List UInt8 := dkwX3_findFar_2 ++ dktX3_findFar_3
def dkwX3_findFar_1 : List UInt8 := [17, 3, 232, 79, 132, 2, 1, 167, 255, 229, 3, 61, 28, 16, 8, 162, 0, 92, 3, 62, 29, 42]
abbrev dktX3_findFar_1 : List UInt8 := dkwX3_findFar_1 ++ dktX3_findFar_2
def dkwX3_findFar_0 : List UInt8 := [3, 61, 28, 16, 8, 162, 0, 27, 42, 180, 0, 25, 28, 28, 27, 160, 0, 7, 3, 167, 0, 6]
abbrev dktX3_findFar_0 : List UInt8 := dkwX3_findFar_0 ++ dktX3_findFar_1
theorem dksX3_findFar_0 : cX3_findFar.data.toList.drop 0 = dktX3_findFar_0 := by decide +kernel
theorem dksX3_findFar_1 : cX3_findFar.data.toList.drop 22 = dktX3_findFar_1 := dk_seg dksX3_findFar_0 22 rfl rfl
theorem dksX3_findFar_2 : cX3_findFar.data.toList.drop 44 = dktX3_findFar_2 := dk_seg dksX3_findFar_1 22 rfl rfl
theorem dksX3_findFar_3 : cX3_findFar.data.toList.drop 68 = dktX3_findFar_3 := dk_seg dksX3_findFar_2 24 rfl rfl
theorem dksX3_findFar_4 : cX3_findFar.data.toList.drop 92 = dktX3_findFar_4 := dk_seg dksX3_findFar_3 24 rfl rfl
theorem dksX3_findFar_5 : cX3_findFar.data.toList.drop 114 = dktX3_findFar_5 := dk_seg dksX3_findFar_4 22 rfl rfl
theorem dX3_findFar_0 : decode cX3_findFar 0 = .ok (.iconst 0, 1) := dk_3 (dk_at dksX3_findFar_0 0 rfl rfl)
theorem dX3_findFar_1 : decode cX3_findFar 1 = .ok (.istore_n 2, 1) := dk_61 (dk_at dksX3_findFar_0 1 rfl rfl)
theorem dX3_findFar_2 : decode cX3_findFar 2 = .ok (.iload_n 2, 1) := dk_28 (dk_at dksX3_findFar_0 2 rfl rfl)
theorem dX3_findFar_3 : decode cX3_findFar 3 = .ok (.bipush 8, 2) := dk_16 8 (dk_at dksX3_findFar_0 3 rfl rfl)
theorem dX3_findFar_5 : decode cX3_findFar 5 = .ok (.if_icmp .ge 27, 3) := dk_162 0 27 (dk_at dksX3_findFar_0 5 rfl rfl)
theorem dX3_findFar_8 : decode cX3_findFar 8 = .ok (.aload_n 0, 1) := dk_42 (dk_at dksX3_findFar_0 8 rfl rfl)
theorem dX3_findFar_9 : decode cX3_findFar 9 = .ok (.getfield 25, 3) := dk_180 0 25 (dk_at dksX3_findFar_0 9 rfl rfl)
theorem dX3_findFar_12 : decode cX3_findFar 12 = .ok (.iload_n 2, 1) := dk_28 (dk_at dksX3_findFar_0 12 rfl rfl)
theorem dX3_findFar_13 : decode cX3_findFar 13 = .ok (.iload_n 2, 1) := dk_28 (dk_at dksX3_findFar_0 13 rfl rfl)
theorem dX3_findFar_14 : decode cX3_findFar 14 = .ok (.iload_n 1, 1) := dk_27 (dk_at dksX3_findFar_0 14 rfl rfl)
theorem dX3_findFar_15 : decode cX3_findFar 15 = .ok (.if_icmp .ne 7, 3) := dk_160 0 7 (dk_at dksX3_findFar_0 15 rfl rfl)
theorem dX3_findFar_18 : decode cX3_findFar 18 = .ok (.iconst 0, 1) := dk_3 (dk_at dksX3_findFar_0 18 rfl rfl)
theorem dX3_findFar_19 : decode cX3_findFar 19 = .ok (.goto 6, 3) := dk_167 0 6 (dk_at dksX3_findFar_0 19 rfl rfl)
theorem dX3_findFar_22 : decode cX3_findFar 22 = .ok (.sipush 1000, 3) := dk_17 3 232 (dk_at dksX3_findFar_1 0 rfl rfl)
theorem dX3_findFar_25 : decode cX3_findFar 25 = .ok (.iastore, 1) := dk_79 (dk_at dksX3_findFar_1 3 rfl rfl)
theorem dX3_findFar_26 : decode cX3_findFar 26 = .ok (.iinc 2 1, 3) := dk_132 2 1 (dk_at dksX3_findFar_1 4 rfl rfl)
theorem dX3_findFar_29 : decode cX3_findFar 29 = .ok (.goto (-27), 3) := dk_167 255 229 (dk_at dksX3_findFar_1 7 rfl rfl)
theorem dX3_findFar_32 : decode cX3_findFar 32 = .ok (.iconst 0, 1) := dk_3 (dk_at dksX3_findFar_1 10 rfl rfl)
theorem dX3_findFar_33 : decode cX3_findFar 33 = .ok (.istore_n 2, 1) := dk_61 (dk_at dksX3_findFar_1 11 rfl rfl)
theorem dX3_findFar_34 : decode cX3_findFar 34 = .ok (.iload_n 2, 1) := dk_28 (dk_at dksX3_findFar_1 12 rfl rfl)
theorem dX3_findFar_35 : decode cX3_findFar 35 = .ok (.bipush 8, 2) := dk_16 8 (dk_at dksX3_findFar_1 13 rfl rfl)
theorem dX3_findFar_37 : decode cX3_findFar 37 = .ok (.if_icmp .ge 92, 3) := dk_162 0 92 (dk_at dksX3_findFar_1 15 rfl rfl)
theorem dX3_findFar_40 : decode cX3_findFar 40 = .ok (.iconst 0, 1) := dk_3 (dk_at dksX3_findFar_1 18 rfl rfl)
theorem dX3_findFar_41 : decode cX3_findFar 41 = .ok (.istore_n 3, 1) := dk_62 (dk_at dksX3_findFar_1 19 rfl rfl)
theorem dX3_findFar_42 : decode cX3_findFar 42 = .ok (.iload_n 3, 1) := dk_29 (dk_at dksX3_findFar_1 20 rfl rfl)
theorem dX3_findFar_43 : decode cX3_findFar 43 = .ok (.aload_n 0, 1) := dk_42 (dk_at dksX3_findFar_1 21 rfl rfl)
theorem dX3_findFar_44 : decode cX3_findFar 44 = .ok (.getfield 13, 3) := dk_180 0 13 (dk_at dksX3_findFar_2 0 rfl rfl)
theorem dX3_findFar_47 : decode cX3_findFar 47 = .ok (.bipush 10, 2) := dk_16 10 (dk_at dksX3_findFar_2 3 rfl rfl)
theorem dX3_findFar_49 : decode cX3_findFar 49 = .ok (.iaload, 1) := dk_46 (dk_at dksX3_findFar_2 5 rfl rfl)
theorem dX3_findFar_50 : decode cX3_findFar 50 = .ok (.if_icmp .ge 73, 3) := dk_162 0 73 (dk_at dksX3_findFar_2 6 rfl rfl)
theorem dX3_findFar_53 : decode cX3_findFar 53 = .ok (.iconst 0, 1) := dk_3 (dk_at dksX3_findFar_2 9 rfl rfl)
theorem dX3_findFar_54 : decode cX3_findFar 54 = .ok (.istore 4, 2) := dk_54 4 (dk_at dksX3_findFar_2 10 rfl rfl)
theorem dX3_findFar_56 : decode cX3_findFar 56 = .ok (.iload 4, 2) := dk_21 4 (dk_at dksX3_findFar_2 12 rfl rfl)
theorem dX3_findFar_58 : decode cX3_findFar 58 = .ok (.aload_n 0, 1) := dk_42 (dk_at dksX3_findFar_2 14 rfl rfl)
theorem dX3_findFar_59 : decode cX3_findFar 59 = .ok (.getfield 13, 3) := dk_180 0 13 (dk_at dksX3_findFar_2 15 rfl rfl)
theorem dX3_findFar_62 : decode cX3_findFar 62 = .ok (.bipush 10, 2) := dk_16 10 (dk_at dksX3_findFar_2 18 rfl rfl)
theorem dX3_findFar_64 : decode cX3_findFar 64 = .ok (.iaload, 1) := dk_46 (dk_at dksX3_findFar_2 20 rfl rfl)
theorem dX3_findFar_65 : decode cX3_findFar 65 = .ok (.if_icmp .ge 52, 3) := dk_162 0 52 (dk_at dksX3_findFar_2 21 rfl rfl)
theorem dX3_findFar_68 : decode cX3_findFar 68 = .ok (.aload_n 0, 1) := dk_42 (dk_at dksX3_findFar_3 0 rfl rfl)
theorem dX3_findFar_69 : decode cX3_findFar 69 = .ok (.iload_n 3, 1) := dk_29 (dk_at dksX3_findFar_3 1 rfl rfl)
theorem dX3_findFar_70 : decode cX3_findFar 70 = .ok (.iload 4, 2) := dk_21 4 (dk_at dksX3_findFar_3 2 rfl rfl)
theorem dX3_findFar_72 : decode cX3_findFar 72 = .ok (.invokevirtual 213, 3) := dk_182 0 213 (dk_at dksX3_findFar_3 4 rfl rfl)
theorem dX3_findFar_75 : decode cX3_findFar 75 = .ok (.ifCond .eq 36, 3) := dk_153 0 36 (dk_at dksX3_findFar_3 7 rfl rfl)
theorem dX3_findFar_78 : decode cX3_findFar 78 = .ok (.aload_n 0, 1) := dk_42 (dk_at dksX3_findFar_3 10 rfl rfl)
theorem dX3_findFar_79 : decode cX3_findFar 79 = .ok (.getfield 25, 3) := dk_180 0 25 (dk_at dksX3_findFar_3 11 rfl rfl)
theorem dX3_findFar_82 : decode cX3_findFar 82 = .ok (.iload 4, 2) := dk_21 4 (dk_at dksX3_findFar_3 14 rfl rfl)
theorem dX3_findFar_84 : decode cX3_findFar 84 = .ok (.iaload, 1) := dk_46 (dk_at dksX3_findFar_3 16 rfl rfl)
theorem dX3_findFar_85 : decode cX3_findFar 85 = .ok (.iconst 1, 1) := dk_4 (dk_at dksX3_findFar_3 17 rfl rfl)
theorem dX3_findFar_86 : decode cX3_findFar 86 = .ok (.iadd, 1) := dk_96 (dk_at dksX3_findFar_3 18 rfl rfl)
theorem dX3_findFar_87 : decode cX3_findFar 87 = .ok (.aload_n 0, 1) := dk_42 (dk_at dksX3_findFar_3 19 rfl rfl)
theorem dX3_findFar_88 : decode cX3_findFar 88 = .ok (.getfield 25, 3) := dk_180 0 25 (dk_at dksX3_findFar_3 20 rfl rfl)
theorem dX3_findFar_91 : decode cX3_findFar 91 = .ok (.iload_n 3, 1) := dk_29 (dk_at dksX3_findFar_3 23 rfl rfl)
theorem dX3_findFar_92 : decode cX3_findFar 92 = .ok (.iaload, 1) := dk_46 (dk_at dksX3_findFar_4 0 rfl rfl)
theorem dX3_findFar_93 : decode cX3_findFar 93 = .ok (.if_icmp .ge 18, 3) := dk_162 0 18 (dk_at dksX3_findFar_4 1 rfl rfl)
theorem dX3_findFar_96 : decode cX3_findFar 96 = .ok (.aload_n 0, 1) := dk_42 (dk_at dksX3_findFar_4 4 rfl rfl)
theorem dX3_findFar_97 : decode cX3_findFar 97 = .ok (.getfield 25, 3) := dk_180 0 25 (dk_at dksX3_findFar_4 5 rfl rfl)
theorem dX3_findFar_100 : decode cX3_findFar 100 = .ok (.iload_n 3, 1) := dk_29 (dk_at dksX3_findFar_4 8 rfl rfl)
theorem dX3_findFar_101 : decode cX3_findFar 101 = .ok (.aload_n 0, 1) := dk_42 (dk_at dksX3_findFar_4 9 rfl rfl)
theorem dX3_findFar_102 : decode cX3_findFar 102 = .ok (.getfield 25, 3) := dk_180 0 25 (dk_at dksX3_findFar_4 10 rfl rfl)
theorem dX3_findFar_105 : decode cX3_findFar 105 = .ok (.iload 4, 2) := dk_21 4 (dk_at dksX3_findFar_4 13 rfl rfl)
theorem dX3_findFar_107 : decode cX3_findFar 107 = .ok (.iaload, 1) := dk_46 (dk_at dksX3_findFar_4 15 rfl rfl)
theorem dX3_findFar_108 : decode cX3_findFar 108 = .ok (.iconst 1, 1) := dk_4 (dk_at dksX3_findFar_4 16 rfl rfl)
theorem dX3_findFar_109 : decode cX3_findFar 109 = .ok (.iadd, 1) := dk_96 (dk_at dksX3_findFar_4 17 rfl rfl)
theorem dX3_findFar_110 : decode cX3_findFar 110 = .ok (.iastore, 1) := dk_79 (dk_at dksX3_findFar_4 18 rfl rfl)
theorem dX3_findFar_111 : decode cX3_findFar 111 = .ok (.iinc 4 1, 3) := dk_132 4 1 (dk_at dksX3_findFar_4 19 rfl rfl)
theorem dX3_findFar_114 : decode cX3_findFar 114 = .ok (.goto (-58), 3) := dk_167 255 198 (dk_at dksX3_findFar_5 0 rfl rfl)
theorem dX3_findFar_117 : decode cX3_findFar 117 = .ok (.iinc 3 1, 3) := dk_132 3 1 (dk_at dksX3_findFar_5 3 rfl rfl)
theorem dX3_findFar_120 : decode cX3_findFar 120 = .ok (.goto (-78), 3) := dk_167 255 178 (dk_at dksX3_findFar_5 6 rfl rfl)
theorem dX3_findFar_123 : decode cX3_findFar 123 = .ok (.iinc 2 1, 3) := dk_132 2 1 (dk_at dksX3_findFar_5 9 rfl rfl)
theorem dX3_findFar_126 : decode cX3_findFar 126 = .ok (.goto (-92), 3) := dk_167 255 164 (dk_at dksX3_findFar_5 12 rfl rfl)
theorem dX3_findFar_129 : decode cX3_findFar 129 = .ok (.return_, 1) := dk_177 (dk_at dksX3_findFar_5 15 rfl rfl)
abbrev cX3_nextOf : ByteArray := prog_13_method_75_code
def yX3_nextOf : MethodName := ⟨RX3, "nextOf", "(I)I"⟩
def dkwX3_nextOf_2 : List UInt8 := [2, 172]
abbrev dktX3_nextOf_2 : List UInt8 := dkwX3_nextOf_2 ++ []
def dkwX3_nextOf_1 : List UInt8 := [180, 0, 25, 28, 46, 4, 96, 42, 180, 0, 25, 27, 46, 160, 0, 5, 28, 172, 132, 2, 1, 167, 255, 214]
abbrev dktX3_nextOf_1 : List UInt8 := dkwX3_nextOf_1 ++ dktX3_nextOf_2
def dkwX3_nextOf_0 : List UInt8 := [3, 61, 28, 42, 180, 0, 13, 16, 10, 46, 162, 0, 37, 42, 27, 28, 182, 0, 213, 153, 0, 22, 42]
abbrev dktX3_nextOf_0 : List UInt8 := dkwX3_nextOf_0 ++ dktX3_nextOf_1
theorem dksX3_nextOf_0 : cX3_nextOf.data.toList.drop 0 = dktX3_nextOf_0 := by decide +kernel
theorem dksX3_nextOf_1 : cX3_nextOf.data.toList.drop 23 = dktX3_nextOf_1 := dk_seg dksX3_nextOf_0 23 rfl rfl
theorem dksX3_nextOf_2 : cX3_nextOf.data.toList.drop 47 = dktX3_nextOf_2 := dk_seg dksX3_nextOf_1 24 rfl rfl
theorem dX3_nextOf_0 : decode cX3_nextOf 0 = .ok (.iconst 0, 1) := dk_3 (dk_at dksX3_nextOf_0 0 rfl rfl)
theorem dX3_nextOf_1 : decode cX3_nextOf 1 = .ok (.istore_n 2, 1) := dk_61 (dk_at dksX3_nextOf_0 1 rfl rfl)
theorem dX3_nextOf_2 : decode cX3_nextOf 2 = .ok (.iload_n 2, 1) := dk_28 (dk_at dksX3_nextOf_0 2 rfl rfl)
theorem dX3_nextOf_3 : decode cX3_nextOf 3 = .ok (.aload_n 0, 1) := dk_42 (dk_at dksX3_nextOf_0 3 rfl rfl)
theorem dX3_nextOf_4 : decode cX3_nextOf 4 = .ok (.getfield 13, 3) := dk_180 0 13 (dk_at dksX3_nextOf_0 4 rfl rfl)
theorem dX3_nextOf_7 : decode cX3_nextOf 7 = .ok (.bipush 10, 2) := dk_16 10 (dk_at dksX3_nextOf_0 7 rfl rfl)
theorem dX3_nextOf_9 : decode cX3_nextOf 9 = .ok (.iaload, 1) := dk_46 (dk_at dksX3_nextOf_0 9 rfl rfl)
theorem dX3_nextOf_10 : decode cX3_nextOf 10 = .ok (.if_icmp .ge 37, 3) := dk_162 0 37 (dk_at dksX3_nextOf_0 10 rfl rfl)
theorem dX3_nextOf_13 : decode cX3_nextOf 13 = .ok (.aload_n 0, 1) := dk_42 (dk_at dksX3_nextOf_0 13 rfl rfl)
theorem dX3_nextOf_14 : decode cX3_nextOf 14 = .ok (.iload_n 1, 1) := dk_27 (dk_at dksX3_nextOf_0 14 rfl rfl)
theorem dX3_nextOf_15 : decode cX3_nextOf 15 = .ok (.iload_n 2, 1) := dk_28 (dk_at dksX3_nextOf_0 15 rfl rfl)
theorem dX3_nextOf_16 : decode cX3_nextOf 16 = .ok (.invokevirtual 213, 3) := dk_182 0 213 (dk_at dksX3_nextOf_0 16 rfl rfl)
theorem dX3_nextOf_19 : decode cX3_nextOf 19 = .ok (.ifCond .eq 22, 3) := dk_153 0 22 (dk_at dksX3_nextOf_0 19 rfl rfl)
theorem dX3_nextOf_22 : decode cX3_nextOf 22 = .ok (.aload_n 0, 1) := dk_42 (dk_at dksX3_nextOf_0 22 rfl rfl)
theorem dX3_nextOf_23 : decode cX3_nextOf 23 = .ok (.getfield 25, 3) := dk_180 0 25 (dk_at dksX3_nextOf_1 0 rfl rfl)
theorem dX3_nextOf_26 : decode cX3_nextOf 26 = .ok (.iload_n 2, 1) := dk_28 (dk_at dksX3_nextOf_1 3 rfl rfl)
theorem dX3_nextOf_27 : decode cX3_nextOf 27 = .ok (.iaload, 1) := dk_46 (dk_at dksX3_nextOf_1 4 rfl rfl)
theorem dX3_nextOf_28 : decode cX3_nextOf 28 = .ok (.iconst 1, 1) := dk_4 (dk_at dksX3_nextOf_1 5 rfl rfl)
theorem dX3_nextOf_29 : decode cX3_nextOf 29 = .ok (.iadd, 1) := dk_96 (dk_at dksX3_nextOf_1 6 rfl rfl)
theorem dX3_nextOf_30 : decode cX3_nextOf 30 = .ok (.aload_n 0, 1) := dk_42 (dk_at dksX3_nextOf_1 7 rfl rfl)
theorem dX3_nextOf_31 : decode cX3_nextOf 31 = .ok (.getfield 25, 3) := dk_180 0 25 (dk_at dksX3_nextOf_1 8 rfl rfl)
theorem dX3_nextOf_34 : decode cX3_nextOf 34 = .ok (.iload_n 1, 1) := dk_27 (dk_at dksX3_nextOf_1 11 rfl rfl)
theorem dX3_nextOf_35 : decode cX3_nextOf 35 = .ok (.iaload, 1) := dk_46 (dk_at dksX3_nextOf_1 12 rfl rfl)
theorem dX3_nextOf_36 : decode cX3_nextOf 36 = .ok (.if_icmp .ne 5, 3) := dk_160 0 5 (dk_at dksX3_nextOf_1 13 rfl rfl)
theorem dX3_nextOf_39 : decode cX3_nextOf 39 = .ok (.iload_n 2, 1) := dk_28 (dk_at dksX3_nextOf_1 16 rfl rfl)
theorem dX3_nextOf_40 : decode cX3_nextOf 40 = .ok (.ireturn, 1) := dk_172 (dk_at dksX3_nextOf_1 17 rfl rfl)
theorem dX3_nextOf_41 : decode cX3_nextOf 41 = .ok (.iinc 2 1, 3) := dk_132 2 1 (dk_at dksX3_nextOf_1 18 rfl rfl)
theorem dX3_nextOf_44 : decode cX3_nextOf 44 = .ok (.goto (-42), 3) := dk_167 255 214 (dk_at dksX3_nextOf_1 21 rfl rfl)
theorem dX3_nextOf_47 : decode cX3_nextOf 47 = .ok (.iconst (-1), 1) := dk_2 (dk_at dksX3_nextOf_2 0 rfl rfl)
theorem dX3_nextOf_48 : decode cX3_nextOf 48 = .ok (.ireturn, 1) := dk_172 (dk_at dksX3_nextOf_2 1 rfl rfl)
abbrev cX3_signalsAgain : ByteArray := prog_13_method_78_code
def yX3_signalsAgain : MethodName := ⟨RX3, "signalsAgain", "(II)I"⟩
def dkwX3_signalsAgain_6 : List UInt8 := [42, 5, 182, 0, 63, 172]
abbrev dktX3_signalsAgain_6 : List UInt8 := dkwX3_signalsAgain_6 ++ []
def dkwX3_signalsAgain_5 : List UInt8 := [128, 54, 5, 132, 7, 1, 167, 255, 207, 132, 6, 1, 167, 255, 186, 21, 5, 62, 132, 4, 1, 167, 255, 152]
abbrev dktX3_signalsAgain_5 : List UInt8 := dkwX3_signalsAgain_5 ++ dktX3_signalsAgain_6
def dkwX3_signalsAgain_4 : List UInt8 := [160, 0, 33, 21, 5, 42, 21, 6, 21, 7, 182, 0, 213, 153, 0, 10, 4, 21, 7, 120, 167, 0, 4, 3]
abbrev dktX3_signalsAgain_4 : List UInt8 := dkwX3_signalsAgain_4 ++ dktX3_signalsAgain_5
def dkwX3_signalsAgain_3 : List UInt8 := [3, 54, 7, 21, 7, 42, 180, 0, 13, 16, 10, 46, 162, 0, 43, 29, 21, 6, 122, 4, 126, 4]
abbrev dktX3_signalsAgain_3 : List UInt8 := dkwX3_signalsAgain_3 ++ dktX3_signalsAgain_4
def dkwX3_signalsAgain_2 : List UInt8 := [160, 0, 6, 21, 4, 172, 29, 54, 5, 3, 54, 6, 21, 6, 42, 180, 0, 13, 16, 10, 46, 162, 0, 64]
abbrev dktX3_signalsAgain_2 : List UInt8 := dkwX3_signalsAgain_2 ++ dktX3_signalsAgain_3
def dkwX3_signalsAgain_1 : List UInt8 := [182, 0, 63, 172, 4, 27, 120, 62, 3, 54, 4, 21, 4, 16, 8, 162, 0, 103, 29, 28, 122, 4, 126, 4]
abbrev dktX3_signalsAgain_1 : List UInt8 := dkwX3_signalsAgain_1 ++ dktX3_signalsAgain_2
def dkwX3_signalsAgain_0 : List UInt8 := [42, 3, 181, 0, 51, 42, 27, 182, 0, 148, 153, 0, 11, 42, 28, 182, 0, 148, 154, 0, 9, 42, 4]
abbrev dktX3_signalsAgain_0 : List UInt8 := dkwX3_signalsAgain_0 ++ dktX3_signalsAgain_1
theorem dksX3_signalsAgain_0 : cX3_signalsAgain.data.toList.drop 0 = dktX3_signalsAgain_0 := by decide +kernel
theorem dksX3_signalsAgain_1 : cX3_signalsAgain.data.toList.drop 23 = dktX3_signalsAgain_1 := dk_seg dksX3_signalsAgain_0 23 rfl rfl
theorem dksX3_signalsAgain_2 : cX3_signalsAgain.data.toList.drop 47 = dktX3_signalsAgain_2 := dk_seg dksX3_signalsAgain_1 24 rfl rfl
theorem dksX3_signalsAgain_3 : cX3_signalsAgain.data.toList.drop 71 = dktX3_signalsAgain_3 := dk_seg dksX3_signalsAgain_2 24 rfl rfl
theorem dksX3_signalsAgain_4 : cX3_signalsAgain.data.toList.drop 93 = dktX3_signalsAgain_4 := dk_seg dksX3_signalsAgain_3 22 rfl rfl
theorem dksX3_signalsAgain_5 : cX3_signalsAgain.data.toList.drop 117 = dktX3_signalsAgain_5 := dk_seg dksX3_signalsAgain_4 24 rfl rfl
theorem dksX3_signalsAgain_6 : cX3_signalsAgain.data.toList.drop 141 = dktX3_signalsAgain_6 := dk_seg dksX3_signalsAgain_5 24 rfl rfl
theorem dX3_signalsAgain_0 : decode cX3_signalsAgain 0 = .ok (.aload_n 0, 1) := dk_42 (dk_at dksX3_signalsAgain_0 0 rfl rfl)
theorem dX3_signalsAgain_1 : decode cX3_signalsAgain 1 = .ok (.iconst 0, 1) := dk_3 (dk_at dksX3_signalsAgain_0 1 rfl rfl)
theorem dX3_signalsAgain_2 : decode cX3_signalsAgain 2 = .ok (.putfield 51, 3) := dk_181 0 51 (dk_at dksX3_signalsAgain_0 2 rfl rfl)
theorem dX3_signalsAgain_5 : decode cX3_signalsAgain 5 = .ok (.aload_n 0, 1) := dk_42 (dk_at dksX3_signalsAgain_0 5 rfl rfl)
theorem dX3_signalsAgain_6 : decode cX3_signalsAgain 6 = .ok (.iload_n 1, 1) := dk_27 (dk_at dksX3_signalsAgain_0 6 rfl rfl)
theorem dX3_signalsAgain_7 : decode cX3_signalsAgain 7 = .ok (.invokevirtual 148, 3) := dk_182 0 148 (dk_at dksX3_signalsAgain_0 7 rfl rfl)
theorem dX3_signalsAgain_10 : decode cX3_signalsAgain 10 = .ok (.ifCond .eq 11, 3) := dk_153 0 11 (dk_at dksX3_signalsAgain_0 10 rfl rfl)
theorem dX3_signalsAgain_13 : decode cX3_signalsAgain 13 = .ok (.aload_n 0, 1) := dk_42 (dk_at dksX3_signalsAgain_0 13 rfl rfl)
theorem dX3_signalsAgain_14 : decode cX3_signalsAgain 14 = .ok (.iload_n 2, 1) := dk_28 (dk_at dksX3_signalsAgain_0 14 rfl rfl)
theorem dX3_signalsAgain_15 : decode cX3_signalsAgain 15 = .ok (.invokevirtual 148, 3) := dk_182 0 148 (dk_at dksX3_signalsAgain_0 15 rfl rfl)
theorem dX3_signalsAgain_18 : decode cX3_signalsAgain 18 = .ok (.ifCond .ne 9, 3) := dk_154 0 9 (dk_at dksX3_signalsAgain_0 18 rfl rfl)
theorem dX3_signalsAgain_21 : decode cX3_signalsAgain 21 = .ok (.aload_n 0, 1) := dk_42 (dk_at dksX3_signalsAgain_0 21 rfl rfl)
theorem dX3_signalsAgain_22 : decode cX3_signalsAgain 22 = .ok (.iconst 1, 1) := dk_4 (dk_at dksX3_signalsAgain_0 22 rfl rfl)
theorem dX3_signalsAgain_23 : decode cX3_signalsAgain 23 = .ok (.invokevirtual 63, 3) := dk_182 0 63 (dk_at dksX3_signalsAgain_1 0 rfl rfl)
theorem dX3_signalsAgain_26 : decode cX3_signalsAgain 26 = .ok (.ireturn, 1) := dk_172 (dk_at dksX3_signalsAgain_1 3 rfl rfl)
theorem dX3_signalsAgain_27 : decode cX3_signalsAgain 27 = .ok (.iconst 1, 1) := dk_4 (dk_at dksX3_signalsAgain_1 4 rfl rfl)
theorem dX3_signalsAgain_28 : decode cX3_signalsAgain 28 = .ok (.iload_n 1, 1) := dk_27 (dk_at dksX3_signalsAgain_1 5 rfl rfl)
theorem dX3_signalsAgain_29 : decode cX3_signalsAgain 29 = .ok (.ishl, 1) := dk_120 (dk_at dksX3_signalsAgain_1 6 rfl rfl)
theorem dX3_signalsAgain_30 : decode cX3_signalsAgain 30 = .ok (.istore_n 3, 1) := dk_62 (dk_at dksX3_signalsAgain_1 7 rfl rfl)
theorem dX3_signalsAgain_31 : decode cX3_signalsAgain 31 = .ok (.iconst 0, 1) := dk_3 (dk_at dksX3_signalsAgain_1 8 rfl rfl)
theorem dX3_signalsAgain_32 : decode cX3_signalsAgain 32 = .ok (.istore 4, 2) := dk_54 4 (dk_at dksX3_signalsAgain_1 9 rfl rfl)
theorem dX3_signalsAgain_34 : decode cX3_signalsAgain 34 = .ok (.iload 4, 2) := dk_21 4 (dk_at dksX3_signalsAgain_1 11 rfl rfl)
theorem dX3_signalsAgain_36 : decode cX3_signalsAgain 36 = .ok (.bipush 8, 2) := dk_16 8 (dk_at dksX3_signalsAgain_1 13 rfl rfl)
theorem dX3_signalsAgain_38 : decode cX3_signalsAgain 38 = .ok (.if_icmp .ge 103, 3) := dk_162 0 103 (dk_at dksX3_signalsAgain_1 15 rfl rfl)
theorem dX3_signalsAgain_41 : decode cX3_signalsAgain 41 = .ok (.iload_n 3, 1) := dk_29 (dk_at dksX3_signalsAgain_1 18 rfl rfl)
theorem dX3_signalsAgain_42 : decode cX3_signalsAgain 42 = .ok (.iload_n 2, 1) := dk_28 (dk_at dksX3_signalsAgain_1 19 rfl rfl)
theorem dX3_signalsAgain_43 : decode cX3_signalsAgain 43 = .ok (.ishr, 1) := dk_122 (dk_at dksX3_signalsAgain_1 20 rfl rfl)
theorem dX3_signalsAgain_44 : decode cX3_signalsAgain 44 = .ok (.iconst 1, 1) := dk_4 (dk_at dksX3_signalsAgain_1 21 rfl rfl)
theorem dX3_signalsAgain_45 : decode cX3_signalsAgain 45 = .ok (.iand, 1) := dk_126 (dk_at dksX3_signalsAgain_1 22 rfl rfl)
theorem dX3_signalsAgain_46 : decode cX3_signalsAgain 46 = .ok (.iconst 1, 1) := dk_4 (dk_at dksX3_signalsAgain_1 23 rfl rfl)
theorem dX3_signalsAgain_47 : decode cX3_signalsAgain 47 = .ok (.if_icmp .ne 6, 3) := dk_160 0 6 (dk_at dksX3_signalsAgain_2 0 rfl rfl)
theorem dX3_signalsAgain_50 : decode cX3_signalsAgain 50 = .ok (.iload 4, 2) := dk_21 4 (dk_at dksX3_signalsAgain_2 3 rfl rfl)
theorem dX3_signalsAgain_52 : decode cX3_signalsAgain 52 = .ok (.ireturn, 1) := dk_172 (dk_at dksX3_signalsAgain_2 5 rfl rfl)
theorem dX3_signalsAgain_53 : decode cX3_signalsAgain 53 = .ok (.iload_n 3, 1) := dk_29 (dk_at dksX3_signalsAgain_2 6 rfl rfl)
theorem dX3_signalsAgain_54 : decode cX3_signalsAgain 54 = .ok (.istore 5, 2) := dk_54 5 (dk_at dksX3_signalsAgain_2 7 rfl rfl)
theorem dX3_signalsAgain_56 : decode cX3_signalsAgain 56 = .ok (.iconst 0, 1) := dk_3 (dk_at dksX3_signalsAgain_2 9 rfl rfl)
theorem dX3_signalsAgain_57 : decode cX3_signalsAgain 57 = .ok (.istore 6, 2) := dk_54 6 (dk_at dksX3_signalsAgain_2 10 rfl rfl)
theorem dX3_signalsAgain_59 : decode cX3_signalsAgain 59 = .ok (.iload 6, 2) := dk_21 6 (dk_at dksX3_signalsAgain_2 12 rfl rfl)
theorem dX3_signalsAgain_61 : decode cX3_signalsAgain 61 = .ok (.aload_n 0, 1) := dk_42 (dk_at dksX3_signalsAgain_2 14 rfl rfl)
theorem dX3_signalsAgain_62 : decode cX3_signalsAgain 62 = .ok (.getfield 13, 3) := dk_180 0 13 (dk_at dksX3_signalsAgain_2 15 rfl rfl)
theorem dX3_signalsAgain_65 : decode cX3_signalsAgain 65 = .ok (.bipush 10, 2) := dk_16 10 (dk_at dksX3_signalsAgain_2 18 rfl rfl)
theorem dX3_signalsAgain_67 : decode cX3_signalsAgain 67 = .ok (.iaload, 1) := dk_46 (dk_at dksX3_signalsAgain_2 20 rfl rfl)
theorem dX3_signalsAgain_68 : decode cX3_signalsAgain 68 = .ok (.if_icmp .ge 64, 3) := dk_162 0 64 (dk_at dksX3_signalsAgain_2 21 rfl rfl)
theorem dX3_signalsAgain_71 : decode cX3_signalsAgain 71 = .ok (.iconst 0, 1) := dk_3 (dk_at dksX3_signalsAgain_3 0 rfl rfl)
theorem dX3_signalsAgain_72 : decode cX3_signalsAgain 72 = .ok (.istore 7, 2) := dk_54 7 (dk_at dksX3_signalsAgain_3 1 rfl rfl)
theorem dX3_signalsAgain_74 : decode cX3_signalsAgain 74 = .ok (.iload 7, 2) := dk_21 7 (dk_at dksX3_signalsAgain_3 3 rfl rfl)
theorem dX3_signalsAgain_76 : decode cX3_signalsAgain 76 = .ok (.aload_n 0, 1) := dk_42 (dk_at dksX3_signalsAgain_3 5 rfl rfl)
theorem dX3_signalsAgain_77 : decode cX3_signalsAgain 77 = .ok (.getfield 13, 3) := dk_180 0 13 (dk_at dksX3_signalsAgain_3 6 rfl rfl)
theorem dX3_signalsAgain_80 : decode cX3_signalsAgain 80 = .ok (.bipush 10, 2) := dk_16 10 (dk_at dksX3_signalsAgain_3 9 rfl rfl)
theorem dX3_signalsAgain_82 : decode cX3_signalsAgain 82 = .ok (.iaload, 1) := dk_46 (dk_at dksX3_signalsAgain_3 11 rfl rfl)
theorem dX3_signalsAgain_83 : decode cX3_signalsAgain 83 = .ok (.if_icmp .ge 43, 3) := dk_162 0 43 (dk_at dksX3_signalsAgain_3 12 rfl rfl)
theorem dX3_signalsAgain_86 : decode cX3_signalsAgain 86 = .ok (.iload_n 3, 1) := dk_29 (dk_at dksX3_signalsAgain_3 15 rfl rfl)
theorem dX3_signalsAgain_87 : decode cX3_signalsAgain 87 = .ok (.iload 6, 2) := dk_21 6 (dk_at dksX3_signalsAgain_3 16 rfl rfl)
theorem dX3_signalsAgain_89 : decode cX3_signalsAgain 89 = .ok (.ishr, 1) := dk_122 (dk_at dksX3_signalsAgain_3 18 rfl rfl)
theorem dX3_signalsAgain_90 : decode cX3_signalsAgain 90 = .ok (.iconst 1, 1) := dk_4 (dk_at dksX3_signalsAgain_3 19 rfl rfl)
theorem dX3_signalsAgain_91 : decode cX3_signalsAgain 91 = .ok (.iand, 1) := dk_126 (dk_at dksX3_signalsAgain_3 20 rfl rfl)
theorem dX3_signalsAgain_92 : decode cX3_signalsAgain 92 = .ok (.iconst 1, 1) := dk_4 (dk_at dksX3_signalsAgain_3 21 rfl rfl)
theorem dX3_signalsAgain_93 : decode cX3_signalsAgain 93 = .ok (.if_icmp .ne 33, 3) := dk_160 0 33 (dk_at dksX3_signalsAgain_4 0 rfl rfl)
theorem dX3_signalsAgain_96 : decode cX3_signalsAgain 96 = .ok (.iload 5, 2) := dk_21 5 (dk_at dksX3_signalsAgain_4 3 rfl rfl)
theorem dX3_signalsAgain_98 : decode cX3_signalsAgain 98 = .ok (.aload_n 0, 1) := dk_42 (dk_at dksX3_signalsAgain_4 5 rfl rfl)
theorem dX3_signalsAgain_99 : decode cX3_signalsAgain 99 = .ok (.iload 6, 2) := dk_21 6 (dk_at dksX3_signalsAgain_4 6 rfl rfl)
theorem dX3_signalsAgain_101 : decode cX3_signalsAgain 101 = .ok (.iload 7, 2) := dk_21 7 (dk_at dksX3_signalsAgain_4 8 rfl rfl)
theorem dX3_signalsAgain_103 : decode cX3_signalsAgain 103 = .ok (.invokevirtual 213, 3) := dk_182 0 213 (dk_at dksX3_signalsAgain_4 10 rfl rfl)
theorem dX3_signalsAgain_106 : decode cX3_signalsAgain 106 = .ok (.ifCond .eq 10, 3) := dk_153 0 10 (dk_at dksX3_signalsAgain_4 13 rfl rfl)
theorem dX3_signalsAgain_109 : decode cX3_signalsAgain 109 = .ok (.iconst 1, 1) := dk_4 (dk_at dksX3_signalsAgain_4 16 rfl rfl)
theorem dX3_signalsAgain_110 : decode cX3_signalsAgain 110 = .ok (.iload 7, 2) := dk_21 7 (dk_at dksX3_signalsAgain_4 17 rfl rfl)
theorem dX3_signalsAgain_112 : decode cX3_signalsAgain 112 = .ok (.ishl, 1) := dk_120 (dk_at dksX3_signalsAgain_4 19 rfl rfl)
theorem dX3_signalsAgain_113 : decode cX3_signalsAgain 113 = .ok (.goto 4, 3) := dk_167 0 4 (dk_at dksX3_signalsAgain_4 20 rfl rfl)
theorem dX3_signalsAgain_116 : decode cX3_signalsAgain 116 = .ok (.iconst 0, 1) := dk_3 (dk_at dksX3_signalsAgain_4 23 rfl rfl)
theorem dX3_signalsAgain_117 : decode cX3_signalsAgain 117 = .ok (.ior, 1) := dk_128 (dk_at dksX3_signalsAgain_5 0 rfl rfl)
theorem dX3_signalsAgain_118 : decode cX3_signalsAgain 118 = .ok (.istore 5, 2) := dk_54 5 (dk_at dksX3_signalsAgain_5 1 rfl rfl)
theorem dX3_signalsAgain_120 : decode cX3_signalsAgain 120 = .ok (.iinc 7 1, 3) := dk_132 7 1 (dk_at dksX3_signalsAgain_5 3 rfl rfl)
theorem dX3_signalsAgain_123 : decode cX3_signalsAgain 123 = .ok (.goto (-49), 3) := dk_167 255 207 (dk_at dksX3_signalsAgain_5 6 rfl rfl)
theorem dX3_signalsAgain_126 : decode cX3_signalsAgain 126 = .ok (.iinc 6 1, 3) := dk_132 6 1 (dk_at dksX3_signalsAgain_5 9 rfl rfl)
theorem dX3_signalsAgain_129 : decode cX3_signalsAgain 129 = .ok (.goto (-70), 3) := dk_167 255 186 (dk_at dksX3_signalsAgain_5 12 rfl rfl)
theorem dX3_signalsAgain_132 : decode cX3_signalsAgain 132 = .ok (.iload 5, 2) := dk_21 5 (dk_at dksX3_signalsAgain_5 15 rfl rfl)
theorem dX3_signalsAgain_134 : decode cX3_signalsAgain 134 = .ok (.istore_n 3, 1) := dk_62 (dk_at dksX3_signalsAgain_5 17 rfl rfl)
theorem dX3_signalsAgain_135 : decode cX3_signalsAgain 135 = .ok (.iinc 4 1, 3) := dk_132 4 1 (dk_at dksX3_signalsAgain_5 18 rfl rfl)
theorem dX3_signalsAgain_138 : decode cX3_signalsAgain 138 = .ok (.goto (-104), 3) := dk_167 255 152 (dk_at dksX3_signalsAgain_5 21 rfl rfl)
theorem dX3_signalsAgain_141 : decode cX3_signalsAgain 141 = .ok (.aload_n 0, 1) := dk_42 (dk_at dksX3_signalsAgain_6 0 rfl rfl)
theorem dX3_signalsAgain_142 : decode cX3_signalsAgain 142 = .ok (.iconst 2, 1) := dk_5 (dk_at dksX3_signalsAgain_6 1 rfl rfl)
theorem dX3_signalsAgain_143 : decode cX3_signalsAgain 143 = .ok (.invokevirtual 63, 3) := dk_182 0 63 (dk_at dksX3_signalsAgain_6 2 rfl rfl)
theorem dX3_signalsAgain_146 : decode cX3_signalsAgain 146 = .ok (.ireturn, 1) := dk_172 (dk_at dksX3_signalsAgain_6 5 rfl rfl)
abbrev cX3_route : ByteArray := prog_13_method_79_code
def yX3_route : MethodName := ⟨RX3, "route", "(III)I"⟩
def dkwX3_route_2 : List UInt8 := [153, 0, 12, 42, 180, 0, 28, 29, 46, 167, 0, 8, 42, 5, 182, 0, 63, 172]
abbrev dktX3_route_2 : List UInt8 := dkwX3_route_2 ++ []
def dkwX3_route_1 : List UInt8 := [182, 0, 63, 172, 42, 27, 28, 182, 0, 228, 153, 0, 24, 29, 3, 42, 180, 0, 222, 184, 0, 77]
abbrev dktX3_route_1 : List UInt8 := dkwX3_route_1 ++ dktX3_route_2
def dkwX3_route_0 : List UInt8 := [42, 3, 181, 0, 51, 42, 27, 182, 0, 148, 153, 0, 11, 42, 28, 182, 0, 148, 154, 0, 9, 42, 4]
abbrev dktX3_route_0 : List UInt8 := dkwX3_route_0 ++ dktX3_route_1
theorem dksX3_route_0 : cX3_route.data.toList.drop 0 = dktX3_route_0 := by decide +kernel
theorem dksX3_route_1 : cX3_route.data.toList.drop 23 = dktX3_route_1 := dk_seg dksX3_route_0 23 rfl rfl
theorem dksX3_route_2 : cX3_route.data.toList.drop 45 = dktX3_route_2 := dk_seg dksX3_route_1 22 rfl rfl
theorem dX3_route_0 : decode cX3_route 0 = .ok (.aload_n 0, 1) := dk_42 (dk_at dksX3_route_0 0 rfl rfl)
theorem dX3_route_1 : decode cX3_route 1 = .ok (.iconst 0, 1) := dk_3 (dk_at dksX3_route_0 1 rfl rfl)
theorem dX3_route_2 : decode cX3_route 2 = .ok (.putfield 51, 3) := dk_181 0 51 (dk_at dksX3_route_0 2 rfl rfl)
theorem dX3_route_5 : decode cX3_route 5 = .ok (.aload_n 0, 1) := dk_42 (dk_at dksX3_route_0 5 rfl rfl)
theorem dX3_route_6 : decode cX3_route 6 = .ok (.iload_n 1, 1) := dk_27 (dk_at dksX3_route_0 6 rfl rfl)
theorem dX3_route_7 : decode cX3_route 7 = .ok (.invokevirtual 148, 3) := dk_182 0 148 (dk_at dksX3_route_0 7 rfl rfl)
theorem dX3_route_10 : decode cX3_route 10 = .ok (.ifCond .eq 11, 3) := dk_153 0 11 (dk_at dksX3_route_0 10 rfl rfl)
theorem dX3_route_13 : decode cX3_route 13 = .ok (.aload_n 0, 1) := dk_42 (dk_at dksX3_route_0 13 rfl rfl)
theorem dX3_route_14 : decode cX3_route 14 = .ok (.iload_n 2, 1) := dk_28 (dk_at dksX3_route_0 14 rfl rfl)
theorem dX3_route_15 : decode cX3_route 15 = .ok (.invokevirtual 148, 3) := dk_182 0 148 (dk_at dksX3_route_0 15 rfl rfl)
theorem dX3_route_18 : decode cX3_route 18 = .ok (.ifCond .ne 9, 3) := dk_154 0 9 (dk_at dksX3_route_0 18 rfl rfl)
theorem dX3_route_21 : decode cX3_route 21 = .ok (.aload_n 0, 1) := dk_42 (dk_at dksX3_route_0 21 rfl rfl)
theorem dX3_route_22 : decode cX3_route 22 = .ok (.iconst 1, 1) := dk_4 (dk_at dksX3_route_0 22 rfl rfl)
theorem dX3_route_23 : decode cX3_route 23 = .ok (.invokevirtual 63, 3) := dk_182 0 63 (dk_at dksX3_route_1 0 rfl rfl)
theorem dX3_route_26 : decode cX3_route 26 = .ok (.ireturn, 1) := dk_172 (dk_at dksX3_route_1 3 rfl rfl)
theorem dX3_route_27 : decode cX3_route 27 = .ok (.aload_n 0, 1) := dk_42 (dk_at dksX3_route_1 4 rfl rfl)
theorem dX3_route_28 : decode cX3_route 28 = .ok (.iload_n 1, 1) := dk_27 (dk_at dksX3_route_1 5 rfl rfl)
theorem dX3_route_29 : decode cX3_route 29 = .ok (.iload_n 2, 1) := dk_28 (dk_at dksX3_route_1 6 rfl rfl)
theorem dX3_route_30 : decode cX3_route 30 = .ok (.invokevirtual 228, 3) := dk_182 0 228 (dk_at dksX3_route_1 7 rfl rfl)
theorem dX3_route_33 : decode cX3_route 33 = .ok (.ifCond .eq 24, 3) := dk_153 0 24 (dk_at dksX3_route_1 10 rfl rfl)
theorem dX3_route_36 : decode cX3_route 36 = .ok (.iload_n 3, 1) := dk_29 (dk_at dksX3_route_1 13 rfl rfl)
theorem dX3_route_37 : decode cX3_route 37 = .ok (.iconst 0, 1) := dk_3 (dk_at dksX3_route_1 14 rfl rfl)
theorem dX3_route_38 : decode cX3_route 38 = .ok (.aload_n 0, 1) := dk_42 (dk_at dksX3_route_1 15 rfl rfl)
theorem dX3_route_39 : decode cX3_route 39 = .ok (.getfield 222, 3) := dk_180 0 222 (dk_at dksX3_route_1 16 rfl rfl)
theorem dX3_route_42 : decode cX3_route 42 = .ok (.invokestatic 77, 3) := dk_184 0 77 (dk_at dksX3_route_1 19 rfl rfl)
theorem dX3_route_45 : decode cX3_route 45 = .ok (.ifCond .eq 12, 3) := dk_153 0 12 (dk_at dksX3_route_2 0 rfl rfl)
theorem dX3_route_48 : decode cX3_route 48 = .ok (.aload_n 0, 1) := dk_42 (dk_at dksX3_route_2 3 rfl rfl)
theorem dX3_route_49 : decode cX3_route 49 = .ok (.getfield 28, 3) := dk_180 0 28 (dk_at dksX3_route_2 4 rfl rfl)
theorem dX3_route_52 : decode cX3_route 52 = .ok (.iload_n 3, 1) := dk_29 (dk_at dksX3_route_2 7 rfl rfl)
theorem dX3_route_53 : decode cX3_route 53 = .ok (.iaload, 1) := dk_46 (dk_at dksX3_route_2 8 rfl rfl)
theorem dX3_route_54 : decode cX3_route 54 = .ok (.goto 8, 3) := dk_167 0 8 (dk_at dksX3_route_2 9 rfl rfl)
theorem dX3_route_57 : decode cX3_route 57 = .ok (.aload_n 0, 1) := dk_42 (dk_at dksX3_route_2 12 rfl rfl)
theorem dX3_route_58 : decode cX3_route 58 = .ok (.iconst 2, 1) := dk_5 (dk_at dksX3_route_2 13 rfl rfl)
theorem dX3_route_59 : decode cX3_route 59 = .ok (.invokevirtual 63, 3) := dk_182 0 63 (dk_at dksX3_route_2 14 rfl rfl)
theorem dX3_route_62 : decode cX3_route 62 = .ok (.ireturn, 1) := dk_172 (dk_at dksX3_route_2 17 rfl rfl)
abbrev cX3_append : ByteArray := prog_13_method_80_code
def yX3_append : MethodName := ⟨RX3, "append", "(C)I"⟩
def dkwX3_append_2 : List UInt8 := [42, 89, 180, 0, 231, 4, 96, 181, 0, 231, 42, 180, 0, 231, 172]
abbrev dktX3_append_2 : List UInt8 := dkwX3_append_2 ++ []
def dkwX3_append_1 : List UInt8 := [180, 0, 231, 16, 60, 160, 0, 9, 42, 5, 182, 0, 63, 172, 42, 180, 0, 31, 42, 180, 0, 231, 27, 85]
abbrev dktX3_append_1 : List UInt8 := dkwX3_append_1 ++ dktX3_append_2
def dkwX3_append_0 : List UInt8 := [42, 3, 181, 0, 51, 27, 16, 33, 16, 126, 184, 0, 77, 154, 0, 9, 42, 4, 182, 0, 63, 172, 42]
abbrev dktX3_append_0 : List UInt8 := dkwX3_append_0 ++ dktX3_append_1
theorem dksX3_append_0 : cX3_append.data.toList.drop 0 = dktX3_append_0 := by decide +kernel
theorem dksX3_append_1 : cX3_append.data.toList.drop 23 = dktX3_append_1 := dk_seg dksX3_append_0 23 rfl rfl
theorem dksX3_append_2 : cX3_append.data.toList.drop 47 = dktX3_append_2 := dk_seg dksX3_append_1 24 rfl rfl
theorem dX3_append_0 : decode cX3_append 0 = .ok (.aload_n 0, 1) := dk_42 (dk_at dksX3_append_0 0 rfl rfl)
theorem dX3_append_1 : decode cX3_append 1 = .ok (.iconst 0, 1) := dk_3 (dk_at dksX3_append_0 1 rfl rfl)
theorem dX3_append_2 : decode cX3_append 2 = .ok (.putfield 51, 3) := dk_181 0 51 (dk_at dksX3_append_0 2 rfl rfl)
theorem dX3_append_5 : decode cX3_append 5 = .ok (.iload_n 1, 1) := dk_27 (dk_at dksX3_append_0 5 rfl rfl)
theorem dX3_append_6 : decode cX3_append 6 = .ok (.bipush 33, 2) := dk_16 33 (dk_at dksX3_append_0 6 rfl rfl)
theorem dX3_append_8 : decode cX3_append 8 = .ok (.bipush 126, 2) := dk_16 126 (dk_at dksX3_append_0 8 rfl rfl)
theorem dX3_append_10 : decode cX3_append 10 = .ok (.invokestatic 77, 3) := dk_184 0 77 (dk_at dksX3_append_0 10 rfl rfl)
theorem dX3_append_13 : decode cX3_append 13 = .ok (.ifCond .ne 9, 3) := dk_154 0 9 (dk_at dksX3_append_0 13 rfl rfl)
theorem dX3_append_16 : decode cX3_append 16 = .ok (.aload_n 0, 1) := dk_42 (dk_at dksX3_append_0 16 rfl rfl)
theorem dX3_append_17 : decode cX3_append 17 = .ok (.iconst 1, 1) := dk_4 (dk_at dksX3_append_0 17 rfl rfl)
theorem dX3_append_18 : decode cX3_append 18 = .ok (.invokevirtual 63, 3) := dk_182 0 63 (dk_at dksX3_append_0 18 rfl rfl)
theorem dX3_append_21 : decode cX3_append 21 = .ok (.ireturn, 1) := dk_172 (dk_at dksX3_append_0 21 rfl rfl)
theorem dX3_append_22 : decode cX3_append 22 = .ok (.aload_n 0, 1) := dk_42 (dk_at dksX3_append_0 22 rfl rfl)
theorem dX3_append_23 : decode cX3_append 23 = .ok (.getfield 231, 3) := dk_180 0 231 (dk_at dksX3_append_1 0 rfl rfl)
theorem dX3_append_26 : decode cX3_append 26 = .ok (.bipush 60, 2) := dk_16 60 (dk_at dksX3_append_1 3 rfl rfl)
theorem dX3_append_28 : decode cX3_append 28 = .ok (.if_icmp .ne 9, 3) := dk_160 0 9 (dk_at dksX3_append_1 5 rfl rfl)
theorem dX3_append_31 : decode cX3_append 31 = .ok (.aload_n 0, 1) := dk_42 (dk_at dksX3_append_1 8 rfl rfl)
theorem dX3_append_32 : decode cX3_append 32 = .ok (.iconst 2, 1) := dk_5 (dk_at dksX3_append_1 9 rfl rfl)
theorem dX3_append_33 : decode cX3_append 33 = .ok (.invokevirtual 63, 3) := dk_182 0 63 (dk_at dksX3_append_1 10 rfl rfl)
theorem dX3_append_36 : decode cX3_append 36 = .ok (.ireturn, 1) := dk_172 (dk_at dksX3_append_1 13 rfl rfl)
theorem dX3_append_37 : decode cX3_append 37 = .ok (.aload_n 0, 1) := dk_42 (dk_at dksX3_append_1 14 rfl rfl)
theorem dX3_append_38 : decode cX3_append 38 = .ok (.getfield 31, 3) := dk_180 0 31 (dk_at dksX3_append_1 15 rfl rfl)
theorem dX3_append_41 : decode cX3_append 41 = .ok (.aload_n 0, 1) := dk_42 (dk_at dksX3_append_1 18 rfl rfl)
theorem dX3_append_42 : decode cX3_append 42 = .ok (.getfield 231, 3) := dk_180 0 231 (dk_at dksX3_append_1 19 rfl rfl)
theorem dX3_append_45 : decode cX3_append 45 = .ok (.iload_n 1, 1) := dk_27 (dk_at dksX3_append_1 22 rfl rfl)
theorem dX3_append_46 : decode cX3_append 46 = .ok (.castore, 1) := dk_85 (dk_at dksX3_append_1 23 rfl rfl)
theorem dX3_append_47 : decode cX3_append 47 = .ok (.aload_n 0, 1) := dk_42 (dk_at dksX3_append_2 0 rfl rfl)
theorem dX3_append_48 : decode cX3_append 48 = .ok (.dup, 1) := dk_89 (dk_at dksX3_append_2 1 rfl rfl)
theorem dX3_append_49 : decode cX3_append 49 = .ok (.getfield 231, 3) := dk_180 0 231 (dk_at dksX3_append_2 2 rfl rfl)
theorem dX3_append_52 : decode cX3_append 52 = .ok (.iconst 1, 1) := dk_4 (dk_at dksX3_append_2 5 rfl rfl)
theorem dX3_append_53 : decode cX3_append 53 = .ok (.iadd, 1) := dk_96 (dk_at dksX3_append_2 6 rfl rfl)
theorem dX3_append_54 : decode cX3_append 54 = .ok (.putfield 231, 3) := dk_181 0 231 (dk_at dksX3_append_2 7 rfl rfl)
theorem dX3_append_57 : decode cX3_append 57 = .ok (.aload_n 0, 1) := dk_42 (dk_at dksX3_append_2 10 rfl rfl)
theorem dX3_append_58 : decode cX3_append 58 = .ok (.getfield 231, 3) := dk_180 0 231 (dk_at dksX3_append_2 11 rfl rfl)
theorem dX3_append_61 : decode cX3_append 61 = .ok (.ireturn, 1) := dk_172 (dk_at dksX3_append_2 14 rfl rfl)
abbrev cX3_send : ByteArray := prog_13_method_84_code
def yX3_send : MethodName := ⟨RX3, "send", "(II)I"⟩
def dkwX3_send_6 : List UInt8 := [21, 5, 4, 96, 46, 182, 0, 240, 132, 5, 1, 167, 255, 224, 42, 182, 0, 244, 172]
abbrev dktX3_send_6 : List UInt8 := dkwX3_send_6 ++ []
def dkwX3_send_5 : List UInt8 := [54, 5, 21, 5, 42, 180, 0, 222, 162, 0, 29, 42, 42, 180, 0, 28, 21, 5, 46, 42, 180, 0, 28]
abbrev dktX3_send_5 : List UInt8 := dkwX3_send_5 ++ dktX3_send_6
def dkwX3_send_4 : List UInt8 := [21, 5, 42, 180, 0, 31, 21, 5, 52, 85, 132, 5, 1, 167, 255, 232, 42, 21, 4, 181, 0, 234, 3]
abbrev dktX3_send_4 : List UInt8 := dkwX3_send_4 ++ dktX3_send_5
def dkwX3_send_3 : List UInt8 := [153, 0, 9, 42, 6, 182, 0, 135, 172, 3, 54, 5, 21, 5, 21, 4, 162, 0, 23, 42, 180, 0, 35]
abbrev dktX3_send_3 : List UInt8 := dkwX3_send_3 ++ dktX3_send_4
def dkwX3_send_2 : List UInt8 := [42, 5, 182, 0, 63, 172, 42, 27, 28, 182, 0, 228, 154, 0, 19, 42, 16, 9, 3, 182, 0, 132]
abbrev dktX3_send_2 : List UInt8 := dkwX3_send_2 ++ dktX3_send_3
def dkwX3_send_1 : List UInt8 := [182, 0, 63, 172, 42, 182, 0, 237, 62, 42, 180, 0, 231, 54, 4, 42, 3, 181, 0, 231, 29, 154, 0, 9]
abbrev dktX3_send_1 : List UInt8 := dkwX3_send_1 ++ dktX3_send_2
def dkwX3_send_0 : List UInt8 := [42, 3, 181, 0, 51, 42, 27, 182, 0, 148, 153, 0, 11, 42, 28, 182, 0, 148, 154, 0, 9, 42, 4]
abbrev dktX3_send_0 : List UInt8 := dkwX3_send_0 ++ dktX3_send_1
theorem dksX3_send_0 : cX3_send.data.toList.drop 0 = dktX3_send_0 := by decide +kernel
theorem dksX3_send_1 : cX3_send.data.toList.drop 23 = dktX3_send_1 := dk_seg dksX3_send_0 23 rfl rfl
theorem dksX3_send_2 : cX3_send.data.toList.drop 47 = dktX3_send_2 := dk_seg dksX3_send_1 24 rfl rfl
theorem dksX3_send_3 : cX3_send.data.toList.drop 69 = dktX3_send_3 := dk_seg dksX3_send_2 22 rfl rfl
theorem dksX3_send_4 : cX3_send.data.toList.drop 92 = dktX3_send_4 := dk_seg dksX3_send_3 23 rfl rfl
theorem dksX3_send_5 : cX3_send.data.toList.drop 115 = dktX3_send_5 := dk_seg dksX3_send_4 23 rfl rfl
theorem dksX3_send_6 : cX3_send.data.toList.drop 138 = dktX3_send_6 := dk_seg dksX3_send_5 23 rfl rfl
theorem dX3_send_0 : decode cX3_send 0 = .ok (.aload_n 0, 1) := dk_42 (dk_at dksX3_send_0 0 rfl rfl)
theorem dX3_send_1 : decode cX3_send 1 = .ok (.iconst 0, 1) := dk_3 (dk_at dksX3_send_0 1 rfl rfl)
theorem dX3_send_2 : decode cX3_send 2 = .ok (.putfield 51, 3) := dk_181 0 51 (dk_at dksX3_send_0 2 rfl rfl)
theorem dX3_send_5 : decode cX3_send 5 = .ok (.aload_n 0, 1) := dk_42 (dk_at dksX3_send_0 5 rfl rfl)
theorem dX3_send_6 : decode cX3_send 6 = .ok (.iload_n 1, 1) := dk_27 (dk_at dksX3_send_0 6 rfl rfl)
theorem dX3_send_7 : decode cX3_send 7 = .ok (.invokevirtual 148, 3) := dk_182 0 148 (dk_at dksX3_send_0 7 rfl rfl)
theorem dX3_send_10 : decode cX3_send 10 = .ok (.ifCond .eq 11, 3) := dk_153 0 11 (dk_at dksX3_send_0 10 rfl rfl)
theorem dX3_send_13 : decode cX3_send 13 = .ok (.aload_n 0, 1) := dk_42 (dk_at dksX3_send_0 13 rfl rfl)
theorem dX3_send_14 : decode cX3_send 14 = .ok (.iload_n 2, 1) := dk_28 (dk_at dksX3_send_0 14 rfl rfl)
theorem dX3_send_15 : decode cX3_send 15 = .ok (.invokevirtual 148, 3) := dk_182 0 148 (dk_at dksX3_send_0 15 rfl rfl)
theorem dX3_send_18 : decode cX3_send 18 = .ok (.ifCond .ne 9, 3) := dk_154 0 9 (dk_at dksX3_send_0 18 rfl rfl)
theorem dX3_send_21 : decode cX3_send 21 = .ok (.aload_n 0, 1) := dk_42 (dk_at dksX3_send_0 21 rfl rfl)
theorem dX3_send_22 : decode cX3_send 22 = .ok (.iconst 1, 1) := dk_4 (dk_at dksX3_send_0 22 rfl rfl)
theorem dX3_send_23 : decode cX3_send 23 = .ok (.invokevirtual 63, 3) := dk_182 0 63 (dk_at dksX3_send_1 0 rfl rfl)
theorem dX3_send_26 : decode cX3_send 26 = .ok (.ireturn, 1) := dk_172 (dk_at dksX3_send_1 3 rfl rfl)
theorem dX3_send_27 : decode cX3_send 27 = .ok (.aload_n 0, 1) := dk_42 (dk_at dksX3_send_1 4 rfl rfl)
theorem dX3_send_28 : decode cX3_send 28 = .ok (.invokevirtual 237, 3) := dk_182 0 237 (dk_at dksX3_send_1 5 rfl rfl)
theorem dX3_send_31 : decode cX3_send 31 = .ok (.istore_n 3, 1) := dk_62 (dk_at dksX3_send_1 8 rfl rfl)
theorem dX3_send_32 : decode cX3_send 32 = .ok (.aload_n 0, 1) := dk_42 (dk_at dksX3_send_1 9 rfl rfl)
theorem dX3_send_33 : decode cX3_send 33 = .ok (.getfield 231, 3) := dk_180 0 231 (dk_at dksX3_send_1 10 rfl rfl)
theorem dX3_send_36 : decode cX3_send 36 = .ok (.istore 4, 2) := dk_54 4 (dk_at dksX3_send_1 13 rfl rfl)
theorem dX3_send_38 : decode cX3_send 38 = .ok (.aload_n 0, 1) := dk_42 (dk_at dksX3_send_1 15 rfl rfl)
theorem dX3_send_39 : decode cX3_send 39 = .ok (.iconst 0, 1) := dk_3 (dk_at dksX3_send_1 16 rfl rfl)
theorem dX3_send_40 : decode cX3_send 40 = .ok (.putfield 231, 3) := dk_181 0 231 (dk_at dksX3_send_1 17 rfl rfl)
theorem dX3_send_43 : decode cX3_send 43 = .ok (.iload_n 3, 1) := dk_29 (dk_at dksX3_send_1 20 rfl rfl)
theorem dX3_send_44 : decode cX3_send 44 = .ok (.ifCond .ne 9, 3) := dk_154 0 9 (dk_at dksX3_send_1 21 rfl rfl)
theorem dX3_send_47 : decode cX3_send 47 = .ok (.aload_n 0, 1) := dk_42 (dk_at dksX3_send_2 0 rfl rfl)
theorem dX3_send_48 : decode cX3_send 48 = .ok (.iconst 2, 1) := dk_5 (dk_at dksX3_send_2 1 rfl rfl)
theorem dX3_send_49 : decode cX3_send 49 = .ok (.invokevirtual 63, 3) := dk_182 0 63 (dk_at dksX3_send_2 2 rfl rfl)
theorem dX3_send_52 : decode cX3_send 52 = .ok (.ireturn, 1) := dk_172 (dk_at dksX3_send_2 5 rfl rfl)
theorem dX3_send_53 : decode cX3_send 53 = .ok (.aload_n 0, 1) := dk_42 (dk_at dksX3_send_2 6 rfl rfl)
theorem dX3_send_54 : decode cX3_send 54 = .ok (.iload_n 1, 1) := dk_27 (dk_at dksX3_send_2 7 rfl rfl)
theorem dX3_send_55 : decode cX3_send 55 = .ok (.iload_n 2, 1) := dk_28 (dk_at dksX3_send_2 8 rfl rfl)
theorem dX3_send_56 : decode cX3_send 56 = .ok (.invokevirtual 228, 3) := dk_182 0 228 (dk_at dksX3_send_2 9 rfl rfl)
theorem dX3_send_59 : decode cX3_send 59 = .ok (.ifCond .ne 19, 3) := dk_154 0 19 (dk_at dksX3_send_2 12 rfl rfl)
theorem dX3_send_62 : decode cX3_send 62 = .ok (.aload_n 0, 1) := dk_42 (dk_at dksX3_send_2 15 rfl rfl)
theorem dX3_send_63 : decode cX3_send 63 = .ok (.bipush 9, 2) := dk_16 9 (dk_at dksX3_send_2 16 rfl rfl)
theorem dX3_send_65 : decode cX3_send 65 = .ok (.iconst 0, 1) := dk_3 (dk_at dksX3_send_2 18 rfl rfl)
theorem dX3_send_66 : decode cX3_send 66 = .ok (.invokevirtual 132, 3) := dk_182 0 132 (dk_at dksX3_send_2 19 rfl rfl)
theorem dX3_send_69 : decode cX3_send 69 = .ok (.ifCond .eq 9, 3) := dk_153 0 9 (dk_at dksX3_send_3 0 rfl rfl)
theorem dX3_send_72 : decode cX3_send 72 = .ok (.aload_n 0, 1) := dk_42 (dk_at dksX3_send_3 3 rfl rfl)
theorem dX3_send_73 : decode cX3_send 73 = .ok (.iconst 3, 1) := dk_6 (dk_at dksX3_send_3 4 rfl rfl)
theorem dX3_send_74 : decode cX3_send 74 = .ok (.invokevirtual 135, 3) := dk_182 0 135 (dk_at dksX3_send_3 5 rfl rfl)
theorem dX3_send_77 : decode cX3_send 77 = .ok (.ireturn, 1) := dk_172 (dk_at dksX3_send_3 8 rfl rfl)
theorem dX3_send_78 : decode cX3_send 78 = .ok (.iconst 0, 1) := dk_3 (dk_at dksX3_send_3 9 rfl rfl)
theorem dX3_send_79 : decode cX3_send 79 = .ok (.istore 5, 2) := dk_54 5 (dk_at dksX3_send_3 10 rfl rfl)
theorem dX3_send_81 : decode cX3_send 81 = .ok (.iload 5, 2) := dk_21 5 (dk_at dksX3_send_3 12 rfl rfl)
theorem dX3_send_83 : decode cX3_send 83 = .ok (.iload 4, 2) := dk_21 4 (dk_at dksX3_send_3 14 rfl rfl)
theorem dX3_send_85 : decode cX3_send 85 = .ok (.if_icmp .ge 23, 3) := dk_162 0 23 (dk_at dksX3_send_3 16 rfl rfl)
theorem dX3_send_88 : decode cX3_send 88 = .ok (.aload_n 0, 1) := dk_42 (dk_at dksX3_send_3 19 rfl rfl)
theorem dX3_send_89 : decode cX3_send 89 = .ok (.getfield 35, 3) := dk_180 0 35 (dk_at dksX3_send_3 20 rfl rfl)
theorem dX3_send_92 : decode cX3_send 92 = .ok (.iload 5, 2) := dk_21 5 (dk_at dksX3_send_4 0 rfl rfl)
theorem dX3_send_94 : decode cX3_send 94 = .ok (.aload_n 0, 1) := dk_42 (dk_at dksX3_send_4 2 rfl rfl)
theorem dX3_send_95 : decode cX3_send 95 = .ok (.getfield 31, 3) := dk_180 0 31 (dk_at dksX3_send_4 3 rfl rfl)
theorem dX3_send_98 : decode cX3_send 98 = .ok (.iload 5, 2) := dk_21 5 (dk_at dksX3_send_4 6 rfl rfl)
theorem dX3_send_100 : decode cX3_send 100 = .ok (.caload, 1) := dk_52 (dk_at dksX3_send_4 8 rfl rfl)
theorem dX3_send_101 : decode cX3_send 101 = .ok (.castore, 1) := dk_85 (dk_at dksX3_send_4 9 rfl rfl)
theorem dX3_send_102 : decode cX3_send 102 = .ok (.iinc 5 1, 3) := dk_132 5 1 (dk_at dksX3_send_4 10 rfl rfl)
theorem dX3_send_105 : decode cX3_send 105 = .ok (.goto (-24), 3) := dk_167 255 232 (dk_at dksX3_send_4 13 rfl rfl)
theorem dX3_send_108 : decode cX3_send 108 = .ok (.aload_n 0, 1) := dk_42 (dk_at dksX3_send_4 16 rfl rfl)
theorem dX3_send_109 : decode cX3_send 109 = .ok (.iload 4, 2) := dk_21 4 (dk_at dksX3_send_4 17 rfl rfl)
theorem dX3_send_111 : decode cX3_send 111 = .ok (.putfield 234, 3) := dk_181 0 234 (dk_at dksX3_send_4 19 rfl rfl)
theorem dX3_send_114 : decode cX3_send 114 = .ok (.iconst 0, 1) := dk_3 (dk_at dksX3_send_4 22 rfl rfl)
theorem dX3_send_115 : decode cX3_send 115 = .ok (.istore 5, 2) := dk_54 5 (dk_at dksX3_send_5 0 rfl rfl)
theorem dX3_send_117 : decode cX3_send 117 = .ok (.iload 5, 2) := dk_21 5 (dk_at dksX3_send_5 2 rfl rfl)
theorem dX3_send_119 : decode cX3_send 119 = .ok (.aload_n 0, 1) := dk_42 (dk_at dksX3_send_5 4 rfl rfl)
theorem dX3_send_120 : decode cX3_send 120 = .ok (.getfield 222, 3) := dk_180 0 222 (dk_at dksX3_send_5 5 rfl rfl)
theorem dX3_send_123 : decode cX3_send 123 = .ok (.if_icmp .ge 29, 3) := dk_162 0 29 (dk_at dksX3_send_5 8 rfl rfl)
theorem dX3_send_126 : decode cX3_send 126 = .ok (.aload_n 0, 1) := dk_42 (dk_at dksX3_send_5 11 rfl rfl)
theorem dX3_send_127 : decode cX3_send 127 = .ok (.aload_n 0, 1) := dk_42 (dk_at dksX3_send_5 12 rfl rfl)
theorem dX3_send_128 : decode cX3_send 128 = .ok (.getfield 28, 3) := dk_180 0 28 (dk_at dksX3_send_5 13 rfl rfl)
theorem dX3_send_131 : decode cX3_send 131 = .ok (.iload 5, 2) := dk_21 5 (dk_at dksX3_send_5 16 rfl rfl)
theorem dX3_send_133 : decode cX3_send 133 = .ok (.iaload, 1) := dk_46 (dk_at dksX3_send_5 18 rfl rfl)
theorem dX3_send_134 : decode cX3_send 134 = .ok (.aload_n 0, 1) := dk_42 (dk_at dksX3_send_5 19 rfl rfl)
theorem dX3_send_135 : decode cX3_send 135 = .ok (.getfield 28, 3) := dk_180 0 28 (dk_at dksX3_send_5 20 rfl rfl)
theorem dX3_send_138 : decode cX3_send 138 = .ok (.iload 5, 2) := dk_21 5 (dk_at dksX3_send_6 0 rfl rfl)
theorem dX3_send_140 : decode cX3_send 140 = .ok (.iconst 1, 1) := dk_4 (dk_at dksX3_send_6 2 rfl rfl)
theorem dX3_send_141 : decode cX3_send 141 = .ok (.iadd, 1) := dk_96 (dk_at dksX3_send_6 3 rfl rfl)
theorem dX3_send_142 : decode cX3_send 142 = .ok (.iaload, 1) := dk_46 (dk_at dksX3_send_6 4 rfl rfl)
theorem dX3_send_143 : decode cX3_send 143 = .ok (.invokevirtual 240, 3) := dk_182 0 240 (dk_at dksX3_send_6 5 rfl rfl)
theorem dX3_send_146 : decode cX3_send 146 = .ok (.iinc 5 1, 3) := dk_132 5 1 (dk_at dksX3_send_6 8 rfl rfl)
theorem dX3_send_149 : decode cX3_send 149 = .ok (.goto (-32), 3) := dk_167 255 224 (dk_at dksX3_send_6 11 rfl rfl)
theorem dX3_send_152 : decode cX3_send 152 = .ok (.aload_n 0, 1) := dk_42 (dk_at dksX3_send_6 14 rfl rfl)
theorem dX3_send_153 : decode cX3_send 153 = .ok (.invokevirtual 244, 3) := dk_182 0 244 (dk_at dksX3_send_6 15 rfl rfl)
theorem dX3_send_156 : decode cX3_send 156 = .ok (.ireturn, 1) := dk_172 (dk_at dksX3_send_6 18 rfl rfl)
abbrev cX3_isWordIn : ByteArray := prog_13_method_81_code
def yX3_isWordIn : MethodName := ⟨RX3, "isWordIn", "()Z"⟩
def dkwX3_isWordIn_1 : List UInt8 := [154, 0, 5, 3, 172, 132, 1, 1, 167, 255, 227, 42, 180, 0, 231, 4, 16, 24, 184, 0, 77, 172]
abbrev dktX3_isWordIn_1 : List UInt8 := dkwX3_isWordIn_1 ++ []
def dkwX3_isWordIn_0 : List UInt8 := [3, 60, 27, 42, 180, 0, 231, 162, 0, 27, 42, 180, 0, 31, 27, 52, 16, 97, 16, 122, 184, 0, 77]
abbrev dktX3_isWordIn_0 : List UInt8 := dkwX3_isWordIn_0 ++ dktX3_isWordIn_1
theorem dksX3_isWordIn_0 : cX3_isWordIn.data.toList.drop 0 = dktX3_isWordIn_0 := by decide +kernel
theorem dksX3_isWordIn_1 : cX3_isWordIn.data.toList.drop 23 = dktX3_isWordIn_1 := dk_seg dksX3_isWordIn_0 23 rfl rfl
theorem dX3_isWordIn_0 : decode cX3_isWordIn 0 = .ok (.iconst 0, 1) := dk_3 (dk_at dksX3_isWordIn_0 0 rfl rfl)
theorem dX3_isWordIn_1 : decode cX3_isWordIn 1 = .ok (.istore_n 1, 1) := dk_60 (dk_at dksX3_isWordIn_0 1 rfl rfl)
theorem dX3_isWordIn_2 : decode cX3_isWordIn 2 = .ok (.iload_n 1, 1) := dk_27 (dk_at dksX3_isWordIn_0 2 rfl rfl)
theorem dX3_isWordIn_3 : decode cX3_isWordIn 3 = .ok (.aload_n 0, 1) := dk_42 (dk_at dksX3_isWordIn_0 3 rfl rfl)
theorem dX3_isWordIn_4 : decode cX3_isWordIn 4 = .ok (.getfield 231, 3) := dk_180 0 231 (dk_at dksX3_isWordIn_0 4 rfl rfl)
theorem dX3_isWordIn_7 : decode cX3_isWordIn 7 = .ok (.if_icmp .ge 27, 3) := dk_162 0 27 (dk_at dksX3_isWordIn_0 7 rfl rfl)
theorem dX3_isWordIn_10 : decode cX3_isWordIn 10 = .ok (.aload_n 0, 1) := dk_42 (dk_at dksX3_isWordIn_0 10 rfl rfl)
theorem dX3_isWordIn_11 : decode cX3_isWordIn 11 = .ok (.getfield 31, 3) := dk_180 0 31 (dk_at dksX3_isWordIn_0 11 rfl rfl)
theorem dX3_isWordIn_14 : decode cX3_isWordIn 14 = .ok (.iload_n 1, 1) := dk_27 (dk_at dksX3_isWordIn_0 14 rfl rfl)
theorem dX3_isWordIn_15 : decode cX3_isWordIn 15 = .ok (.caload, 1) := dk_52 (dk_at dksX3_isWordIn_0 15 rfl rfl)
theorem dX3_isWordIn_16 : decode cX3_isWordIn 16 = .ok (.bipush 97, 2) := dk_16 97 (dk_at dksX3_isWordIn_0 16 rfl rfl)
theorem dX3_isWordIn_18 : decode cX3_isWordIn 18 = .ok (.bipush 122, 2) := dk_16 122 (dk_at dksX3_isWordIn_0 18 rfl rfl)
theorem dX3_isWordIn_20 : decode cX3_isWordIn 20 = .ok (.invokestatic 77, 3) := dk_184 0 77 (dk_at dksX3_isWordIn_0 20 rfl rfl)
theorem dX3_isWordIn_23 : decode cX3_isWordIn 23 = .ok (.ifCond .ne 5, 3) := dk_154 0 5 (dk_at dksX3_isWordIn_1 0 rfl rfl)
theorem dX3_isWordIn_26 : decode cX3_isWordIn 26 = .ok (.iconst 0, 1) := dk_3 (dk_at dksX3_isWordIn_1 3 rfl rfl)
theorem dX3_isWordIn_27 : decode cX3_isWordIn 27 = .ok (.ireturn, 1) := dk_172 (dk_at dksX3_isWordIn_1 4 rfl rfl)
theorem dX3_isWordIn_28 : decode cX3_isWordIn 28 = .ok (.iinc 1 1, 3) := dk_132 1 1 (dk_at dksX3_isWordIn_1 5 rfl rfl)
theorem dX3_isWordIn_31 : decode cX3_isWordIn 31 = .ok (.goto (-29), 3) := dk_167 255 227 (dk_at dksX3_isWordIn_1 8 rfl rfl)
theorem dX3_isWordIn_34 : decode cX3_isWordIn 34 = .ok (.aload_n 0, 1) := dk_42 (dk_at dksX3_isWordIn_1 11 rfl rfl)
theorem dX3_isWordIn_35 : decode cX3_isWordIn 35 = .ok (.getfield 231, 3) := dk_180 0 231 (dk_at dksX3_isWordIn_1 12 rfl rfl)
theorem dX3_isWordIn_38 : decode cX3_isWordIn 38 = .ok (.iconst 1, 1) := dk_4 (dk_at dksX3_isWordIn_1 15 rfl rfl)
theorem dX3_isWordIn_39 : decode cX3_isWordIn 39 = .ok (.bipush 24, 2) := dk_16 24 (dk_at dksX3_isWordIn_1 16 rfl rfl)
theorem dX3_isWordIn_41 : decode cX3_isWordIn 41 = .ok (.invokestatic 77, 3) := dk_184 0 77 (dk_at dksX3_isWordIn_1 18 rfl rfl)
theorem dX3_isWordIn_44 : decode cX3_isWordIn 44 = .ok (.ireturn, 1) := dk_172 (dk_at dksX3_isWordIn_1 21 rfl rfl)
abbrev cX3_goesSignal : ByteArray := prog_13_method_82_code
def yX3_goesSignal : MethodName := ⟨RX3, "goesSignal", "(II)V"⟩
def dkwX3_goesSignal_3 : List UInt8 := [21, 4, 158, 0, 7, 4, 167, 0, 4, 3, 100, 54, 4, 21, 5, 29, 96, 54, 5, 167, 255, 187, 177]
abbrev dktX3_goesSignal_3 : List UInt8 := dkwX3_goesSignal_3 ++ []
def dkwX3_goesSignal_2 : List UInt8 := [160, 0, 6, 167, 0, 34, 21, 4, 154, 0, 14, 42, 180, 0, 35, 21, 5, 4, 100, 16, 63, 85, 21, 4]
abbrev dktX3_goesSignal_2 : List UInt8 := dkwX3_goesSignal_2 ++ dktX3_goesSignal_3
def dkwX3_goesSignal_1 : List UInt8 := [180, 0, 234, 163, 0, 66, 29, 16, 12, 162, 0, 60, 42, 180, 0, 35, 21, 5, 4, 100, 52, 16, 63]
abbrev dktX3_goesSignal_1 : List UInt8 := dkwX3_goesSignal_1 ++ dktX3_goesSignal_2
def dkwX3_goesSignal_0 : List UInt8 := [42, 27, 28, 182, 0, 216, 5, 96, 62, 42, 28, 5, 182, 0, 81, 54, 4, 29, 54, 5, 21, 5, 42]
abbrev dktX3_goesSignal_0 : List UInt8 := dkwX3_goesSignal_0 ++ dktX3_goesSignal_1
theorem dksX3_goesSignal_0 : cX3_goesSignal.data.toList.drop 0 = dktX3_goesSignal_0 := by decide +kernel
theorem dksX3_goesSignal_1 : cX3_goesSignal.data.toList.drop 23 = dktX3_goesSignal_1 := dk_seg dksX3_goesSignal_0 23 rfl rfl
theorem dksX3_goesSignal_2 : cX3_goesSignal.data.toList.drop 46 = dktX3_goesSignal_2 := dk_seg dksX3_goesSignal_1 23 rfl rfl
theorem dksX3_goesSignal_3 : cX3_goesSignal.data.toList.drop 70 = dktX3_goesSignal_3 := dk_seg dksX3_goesSignal_2 24 rfl rfl
theorem dX3_goesSignal_0 : decode cX3_goesSignal 0 = .ok (.aload_n 0, 1) := dk_42 (dk_at dksX3_goesSignal_0 0 rfl rfl)
theorem dX3_goesSignal_1 : decode cX3_goesSignal 1 = .ok (.iload_n 1, 1) := dk_27 (dk_at dksX3_goesSignal_0 1 rfl rfl)
theorem dX3_goesSignal_2 : decode cX3_goesSignal 2 = .ok (.iload_n 2, 1) := dk_28 (dk_at dksX3_goesSignal_0 2 rfl rfl)
theorem dX3_goesSignal_3 : decode cX3_goesSignal 3 = .ok (.invokevirtual 216, 3) := dk_182 0 216 (dk_at dksX3_goesSignal_0 3 rfl rfl)
theorem dX3_goesSignal_6 : decode cX3_goesSignal 6 = .ok (.iconst 2, 1) := dk_5 (dk_at dksX3_goesSignal_0 6 rfl rfl)
theorem dX3_goesSignal_7 : decode cX3_goesSignal 7 = .ok (.iadd, 1) := dk_96 (dk_at dksX3_goesSignal_0 7 rfl rfl)
theorem dX3_goesSignal_8 : decode cX3_goesSignal 8 = .ok (.istore_n 3, 1) := dk_62 (dk_at dksX3_goesSignal_0 8 rfl rfl)
theorem dX3_goesSignal_9 : decode cX3_goesSignal 9 = .ok (.aload_n 0, 1) := dk_42 (dk_at dksX3_goesSignal_0 9 rfl rfl)
theorem dX3_goesSignal_10 : decode cX3_goesSignal 10 = .ok (.iload_n 2, 1) := dk_28 (dk_at dksX3_goesSignal_0 10 rfl rfl)
theorem dX3_goesSignal_11 : decode cX3_goesSignal 11 = .ok (.iconst 2, 1) := dk_5 (dk_at dksX3_goesSignal_0 11 rfl rfl)
theorem dX3_goesSignal_12 : decode cX3_goesSignal 12 = .ok (.invokevirtual 81, 3) := dk_182 0 81 (dk_at dksX3_goesSignal_0 12 rfl rfl)
theorem dX3_goesSignal_15 : decode cX3_goesSignal 15 = .ok (.istore 4, 2) := dk_54 4 (dk_at dksX3_goesSignal_0 15 rfl rfl)
theorem dX3_goesSignal_17 : decode cX3_goesSignal 17 = .ok (.iload_n 3, 1) := dk_29 (dk_at dksX3_goesSignal_0 17 rfl rfl)
theorem dX3_goesSignal_18 : decode cX3_goesSignal 18 = .ok (.istore 5, 2) := dk_54 5 (dk_at dksX3_goesSignal_0 18 rfl rfl)
theorem dX3_goesSignal_20 : decode cX3_goesSignal 20 = .ok (.iload 5, 2) := dk_21 5 (dk_at dksX3_goesSignal_0 20 rfl rfl)
theorem dX3_goesSignal_22 : decode cX3_goesSignal 22 = .ok (.aload_n 0, 1) := dk_42 (dk_at dksX3_goesSignal_0 22 rfl rfl)
theorem dX3_goesSignal_23 : decode cX3_goesSignal 23 = .ok (.getfield 234, 3) := dk_180 0 234 (dk_at dksX3_goesSignal_1 0 rfl rfl)
theorem dX3_goesSignal_26 : decode cX3_goesSignal 26 = .ok (.if_icmp .gt 66, 3) := dk_163 0 66 (dk_at dksX3_goesSignal_1 3 rfl rfl)
theorem dX3_goesSignal_29 : decode cX3_goesSignal 29 = .ok (.iload_n 3, 1) := dk_29 (dk_at dksX3_goesSignal_1 6 rfl rfl)
theorem dX3_goesSignal_30 : decode cX3_goesSignal 30 = .ok (.bipush 12, 2) := dk_16 12 (dk_at dksX3_goesSignal_1 7 rfl rfl)
theorem dX3_goesSignal_32 : decode cX3_goesSignal 32 = .ok (.if_icmp .ge 60, 3) := dk_162 0 60 (dk_at dksX3_goesSignal_1 9 rfl rfl)
theorem dX3_goesSignal_35 : decode cX3_goesSignal 35 = .ok (.aload_n 0, 1) := dk_42 (dk_at dksX3_goesSignal_1 12 rfl rfl)
theorem dX3_goesSignal_36 : decode cX3_goesSignal 36 = .ok (.getfield 35, 3) := dk_180 0 35 (dk_at dksX3_goesSignal_1 13 rfl rfl)
theorem dX3_goesSignal_39 : decode cX3_goesSignal 39 = .ok (.iload 5, 2) := dk_21 5 (dk_at dksX3_goesSignal_1 16 rfl rfl)
theorem dX3_goesSignal_41 : decode cX3_goesSignal 41 = .ok (.iconst 1, 1) := dk_4 (dk_at dksX3_goesSignal_1 18 rfl rfl)
theorem dX3_goesSignal_42 : decode cX3_goesSignal 42 = .ok (.isub, 1) := dk_100 (dk_at dksX3_goesSignal_1 19 rfl rfl)
theorem dX3_goesSignal_43 : decode cX3_goesSignal 43 = .ok (.caload, 1) := dk_52 (dk_at dksX3_goesSignal_1 20 rfl rfl)
theorem dX3_goesSignal_44 : decode cX3_goesSignal 44 = .ok (.bipush 63, 2) := dk_16 63 (dk_at dksX3_goesSignal_1 21 rfl rfl)
theorem dX3_goesSignal_46 : decode cX3_goesSignal 46 = .ok (.if_icmp .ne 6, 3) := dk_160 0 6 (dk_at dksX3_goesSignal_2 0 rfl rfl)
theorem dX3_goesSignal_49 : decode cX3_goesSignal 49 = .ok (.goto 34, 3) := dk_167 0 34 (dk_at dksX3_goesSignal_2 3 rfl rfl)
theorem dX3_goesSignal_52 : decode cX3_goesSignal 52 = .ok (.iload 4, 2) := dk_21 4 (dk_at dksX3_goesSignal_2 6 rfl rfl)
theorem dX3_goesSignal_54 : decode cX3_goesSignal 54 = .ok (.ifCond .ne 14, 3) := dk_154 0 14 (dk_at dksX3_goesSignal_2 8 rfl rfl)
theorem dX3_goesSignal_57 : decode cX3_goesSignal 57 = .ok (.aload_n 0, 1) := dk_42 (dk_at dksX3_goesSignal_2 11 rfl rfl)
theorem dX3_goesSignal_58 : decode cX3_goesSignal 58 = .ok (.getfield 35, 3) := dk_180 0 35 (dk_at dksX3_goesSignal_2 12 rfl rfl)
theorem dX3_goesSignal_61 : decode cX3_goesSignal 61 = .ok (.iload 5, 2) := dk_21 5 (dk_at dksX3_goesSignal_2 15 rfl rfl)
theorem dX3_goesSignal_63 : decode cX3_goesSignal 63 = .ok (.iconst 1, 1) := dk_4 (dk_at dksX3_goesSignal_2 17 rfl rfl)
theorem dX3_goesSignal_64 : decode cX3_goesSignal 64 = .ok (.isub, 1) := dk_100 (dk_at dksX3_goesSignal_2 18 rfl rfl)
theorem dX3_goesSignal_65 : decode cX3_goesSignal 65 = .ok (.bipush 63, 2) := dk_16 63 (dk_at dksX3_goesSignal_2 19 rfl rfl)
theorem dX3_goesSignal_67 : decode cX3_goesSignal 67 = .ok (.castore, 1) := dk_85 (dk_at dksX3_goesSignal_2 21 rfl rfl)
theorem dX3_goesSignal_68 : decode cX3_goesSignal 68 = .ok (.iload 4, 2) := dk_21 4 (dk_at dksX3_goesSignal_2 22 rfl rfl)
theorem dX3_goesSignal_70 : decode cX3_goesSignal 70 = .ok (.iload 4, 2) := dk_21 4 (dk_at dksX3_goesSignal_3 0 rfl rfl)
theorem dX3_goesSignal_72 : decode cX3_goesSignal 72 = .ok (.ifCond .le 7, 3) := dk_158 0 7 (dk_at dksX3_goesSignal_3 2 rfl rfl)
theorem dX3_goesSignal_75 : decode cX3_goesSignal 75 = .ok (.iconst 1, 1) := dk_4 (dk_at dksX3_goesSignal_3 5 rfl rfl)
theorem dX3_goesSignal_76 : decode cX3_goesSignal 76 = .ok (.goto 4, 3) := dk_167 0 4 (dk_at dksX3_goesSignal_3 6 rfl rfl)
theorem dX3_goesSignal_79 : decode cX3_goesSignal 79 = .ok (.iconst 0, 1) := dk_3 (dk_at dksX3_goesSignal_3 9 rfl rfl)
theorem dX3_goesSignal_80 : decode cX3_goesSignal 80 = .ok (.isub, 1) := dk_100 (dk_at dksX3_goesSignal_3 10 rfl rfl)
theorem dX3_goesSignal_81 : decode cX3_goesSignal 81 = .ok (.istore 4, 2) := dk_54 4 (dk_at dksX3_goesSignal_3 11 rfl rfl)
theorem dX3_goesSignal_83 : decode cX3_goesSignal 83 = .ok (.iload 5, 2) := dk_21 5 (dk_at dksX3_goesSignal_3 13 rfl rfl)
theorem dX3_goesSignal_85 : decode cX3_goesSignal 85 = .ok (.iload_n 3, 1) := dk_29 (dk_at dksX3_goesSignal_3 15 rfl rfl)
theorem dX3_goesSignal_86 : decode cX3_goesSignal 86 = .ok (.iadd, 1) := dk_96 (dk_at dksX3_goesSignal_3 16 rfl rfl)
theorem dX3_goesSignal_87 : decode cX3_goesSignal 87 = .ok (.istore 5, 2) := dk_54 5 (dk_at dksX3_goesSignal_3 17 rfl rfl)
theorem dX3_goesSignal_89 : decode cX3_goesSignal 89 = .ok (.goto (-69), 3) := dk_167 255 187 (dk_at dksX3_goesSignal_3 19 rfl rfl)
theorem dX3_goesSignal_92 : decode cX3_goesSignal 92 = .ok (.return_, 1) := dk_177 (dk_at dksX3_goesSignal_3 22 rfl rfl)
abbrev cX3_lostLetters : ByteArray := prog_13_method_83_code
def yX3_lostLetters : MethodName := ⟨RX3, "lostLetters", "()I"⟩
def dkwX3_lostLetters_1 : List UInt8 := [4, 167, 0, 4, 3, 96, 60, 132, 2, 1, 167, 255, 226, 27, 172]
abbrev dktX3_lostLetters_1 : List UInt8 := dkwX3_lostLetters_1 ++ []
def dkwX3_lostLetters_0 : List UInt8 := [3, 60, 3, 61, 28, 42, 180, 0, 234, 162, 0, 28, 27, 42, 180, 0, 35, 28, 52, 16, 63, 160, 0, 7]
abbrev dktX3_lostLetters_0 : List UInt8 := dkwX3_lostLetters_0 ++ dktX3_lostLetters_1
theorem dksX3_lostLetters_0 : cX3_lostLetters.data.toList.drop 0 = dktX3_lostLetters_0 := by decide +kernel
theorem dksX3_lostLetters_1 : cX3_lostLetters.data.toList.drop 24 = dktX3_lostLetters_1 := dk_seg dksX3_lostLetters_0 24 rfl rfl
theorem dX3_lostLetters_0 : decode cX3_lostLetters 0 = .ok (.iconst 0, 1) := dk_3 (dk_at dksX3_lostLetters_0 0 rfl rfl)
theorem dX3_lostLetters_1 : decode cX3_lostLetters 1 = .ok (.istore_n 1, 1) := dk_60 (dk_at dksX3_lostLetters_0 1 rfl rfl)
theorem dX3_lostLetters_2 : decode cX3_lostLetters 2 = .ok (.iconst 0, 1) := dk_3 (dk_at dksX3_lostLetters_0 2 rfl rfl)
theorem dX3_lostLetters_3 : decode cX3_lostLetters 3 = .ok (.istore_n 2, 1) := dk_61 (dk_at dksX3_lostLetters_0 3 rfl rfl)
theorem dX3_lostLetters_4 : decode cX3_lostLetters 4 = .ok (.iload_n 2, 1) := dk_28 (dk_at dksX3_lostLetters_0 4 rfl rfl)
theorem dX3_lostLetters_5 : decode cX3_lostLetters 5 = .ok (.aload_n 0, 1) := dk_42 (dk_at dksX3_lostLetters_0 5 rfl rfl)
theorem dX3_lostLetters_6 : decode cX3_lostLetters 6 = .ok (.getfield 234, 3) := dk_180 0 234 (dk_at dksX3_lostLetters_0 6 rfl rfl)
theorem dX3_lostLetters_9 : decode cX3_lostLetters 9 = .ok (.if_icmp .ge 28, 3) := dk_162 0 28 (dk_at dksX3_lostLetters_0 9 rfl rfl)
theorem dX3_lostLetters_12 : decode cX3_lostLetters 12 = .ok (.iload_n 1, 1) := dk_27 (dk_at dksX3_lostLetters_0 12 rfl rfl)
theorem dX3_lostLetters_13 : decode cX3_lostLetters 13 = .ok (.aload_n 0, 1) := dk_42 (dk_at dksX3_lostLetters_0 13 rfl rfl)
theorem dX3_lostLetters_14 : decode cX3_lostLetters 14 = .ok (.getfield 35, 3) := dk_180 0 35 (dk_at dksX3_lostLetters_0 14 rfl rfl)
theorem dX3_lostLetters_17 : decode cX3_lostLetters 17 = .ok (.iload_n 2, 1) := dk_28 (dk_at dksX3_lostLetters_0 17 rfl rfl)
theorem dX3_lostLetters_18 : decode cX3_lostLetters 18 = .ok (.caload, 1) := dk_52 (dk_at dksX3_lostLetters_0 18 rfl rfl)
theorem dX3_lostLetters_19 : decode cX3_lostLetters 19 = .ok (.bipush 63, 2) := dk_16 63 (dk_at dksX3_lostLetters_0 19 rfl rfl)
theorem dX3_lostLetters_21 : decode cX3_lostLetters 21 = .ok (.if_icmp .ne 7, 3) := dk_160 0 7 (dk_at dksX3_lostLetters_0 21 rfl rfl)
theorem dX3_lostLetters_24 : decode cX3_lostLetters 24 = .ok (.iconst 1, 1) := dk_4 (dk_at dksX3_lostLetters_1 0 rfl rfl)
theorem dX3_lostLetters_25 : decode cX3_lostLetters 25 = .ok (.goto 4, 3) := dk_167 0 4 (dk_at dksX3_lostLetters_1 1 rfl rfl)
theorem dX3_lostLetters_28 : decode cX3_lostLetters 28 = .ok (.iconst 0, 1) := dk_3 (dk_at dksX3_lostLetters_1 4 rfl rfl)
theorem dX3_lostLetters_29 : decode cX3_lostLetters 29 = .ok (.iadd, 1) := dk_96 (dk_at dksX3_lostLetters_1 5 rfl rfl)
theorem dX3_lostLetters_30 : decode cX3_lostLetters 30 = .ok (.istore_n 1, 1) := dk_60 (dk_at dksX3_lostLetters_1 6 rfl rfl)
theorem dX3_lostLetters_31 : decode cX3_lostLetters 31 = .ok (.iinc 2 1, 3) := dk_132 2 1 (dk_at dksX3_lostLetters_1 7 rfl rfl)
theorem dX3_lostLetters_34 : decode cX3_lostLetters 34 = .ok (.goto (-30), 3) := dk_167 255 226 (dk_at dksX3_lostLetters_1 10 rfl rfl)
theorem dX3_lostLetters_37 : decode cX3_lostLetters 37 = .ok (.iload_n 1, 1) := dk_27 (dk_at dksX3_lostLetters_1 13 rfl rfl)
theorem dX3_lostLetters_38 : decode cX3_lostLetters 38 = .ok (.ireturn, 1) := dk_172 (dk_at dksX3_lostLetters_1 14 rfl rfl)
abbrev cX3_letter : ByteArray := prog_13_method_85_code
def yX3_letter : MethodName := ⟨RX3, "letter", "(I)C"⟩
def dkwX3_letter_1 : List UInt8 := [146, 172, 42, 180, 0, 35, 27, 52, 172]
abbrev dktX3_letter_1 : List UInt8 := dkwX3_letter_1 ++ []
def dkwX3_letter_0 : List UInt8 := [42, 3, 181, 0, 51, 27, 3, 42, 180, 0, 234, 4, 100, 184, 0, 77, 154, 0, 10, 42, 4, 182, 0, 63]
abbrev dktX3_letter_0 : List UInt8 := dkwX3_letter_0 ++ dktX3_letter_1
theorem dksX3_letter_0 : cX3_letter.data.toList.drop 0 = dktX3_letter_0 := by decide +kernel
theorem dksX3_letter_1 : cX3_letter.data.toList.drop 24 = dktX3_letter_1 := dk_seg dksX3_letter_0 24 rfl rfl
theorem dX3_letter_0 : decode cX3_letter 0 = .ok (.aload_n 0, 1) := dk_42 (dk_at dksX3_letter_0 0 rfl rfl)
theorem dX3_letter_1 : decode cX3_letter 1 = .ok (.iconst 0, 1) := dk_3 (dk_at dksX3_letter_0 1 rfl rfl)
theorem dX3_letter_2 : decode cX3_letter 2 = .ok (.putfield 51, 3) := dk_181 0 51 (dk_at dksX3_letter_0 2 rfl rfl)
theorem dX3_letter_5 : decode cX3_letter 5 = .ok (.iload_n 1, 1) := dk_27 (dk_at dksX3_letter_0 5 rfl rfl)
theorem dX3_letter_6 : decode cX3_letter 6 = .ok (.iconst 0, 1) := dk_3 (dk_at dksX3_letter_0 6 rfl rfl)
theorem dX3_letter_7 : decode cX3_letter 7 = .ok (.aload_n 0, 1) := dk_42 (dk_at dksX3_letter_0 7 rfl rfl)
theorem dX3_letter_8 : decode cX3_letter 8 = .ok (.getfield 234, 3) := dk_180 0 234 (dk_at dksX3_letter_0 8 rfl rfl)
theorem dX3_letter_11 : decode cX3_letter 11 = .ok (.iconst 1, 1) := dk_4 (dk_at dksX3_letter_0 11 rfl rfl)
theorem dX3_letter_12 : decode cX3_letter 12 = .ok (.isub, 1) := dk_100 (dk_at dksX3_letter_0 12 rfl rfl)
theorem dX3_letter_13 : decode cX3_letter 13 = .ok (.invokestatic 77, 3) := dk_184 0 77 (dk_at dksX3_letter_0 13 rfl rfl)
theorem dX3_letter_16 : decode cX3_letter 16 = .ok (.ifCond .ne 10, 3) := dk_154 0 10 (dk_at dksX3_letter_0 16 rfl rfl)
theorem dX3_letter_19 : decode cX3_letter 19 = .ok (.aload_n 0, 1) := dk_42 (dk_at dksX3_letter_0 19 rfl rfl)
theorem dX3_letter_20 : decode cX3_letter 20 = .ok (.iconst 1, 1) := dk_4 (dk_at dksX3_letter_0 20 rfl rfl)
theorem dX3_letter_21 : decode cX3_letter 21 = .ok (.invokevirtual 63, 3) := dk_182 0 63 (dk_at dksX3_letter_0 21 rfl rfl)
theorem dX3_letter_24 : decode cX3_letter 24 = .ok (.i2c, 1) := dk_146 (dk_at dksX3_letter_1 0 rfl rfl)
theorem dX3_letter_25 : decode cX3_letter 25 = .ok (.ireturn, 1) := dk_172 (dk_at dksX3_letter_1 1 rfl rfl)
theorem dX3_letter_26 : decode cX3_letter 26 = .ok (.aload_n 0, 1) := dk_42 (dk_at dksX3_letter_1 2 rfl rfl)
theorem dX3_letter_27 : decode cX3_letter 27 = .ok (.getfield 35, 3) := dk_180 0 35 (dk_at dksX3_letter_1 3 rfl rfl)
theorem dX3_letter_30 : decode cX3_letter 30 = .ok (.iload_n 1, 1) := dk_27 (dk_at dksX3_letter_1 6 rfl rfl)
theorem dX3_letter_31 : decode cX3_letter 31 = .ok (.caload, 1) := dk_52 (dk_at dksX3_letter_1 7 rfl rfl)
theorem dX3_letter_32 : decode cX3_letter 32 = .ok (.ireturn, 1) := dk_172 (dk_at dksX3_letter_1 8 rfl rfl)
abbrev cX3_isWhole : ByteArray := prog_13_method_86_code
def yX3_isWhole : MethodName := ⟨RX3, "isWhole", "()Z"⟩
def dkwX3_isWhole_1 : List UInt8 := [3, 172, 42, 182, 0, 244, 154, 0, 7, 4, 167, 0, 4, 3, 172]
abbrev dktX3_isWhole_1 : List UInt8 := dkwX3_isWhole_1 ++ []
def dkwX3_isWhole_0 : List UInt8 := [42, 3, 181, 0, 51, 42, 180, 0, 234, 154, 0, 17, 42, 4, 182, 0, 63, 153, 0, 7, 4, 167, 0, 4]
abbrev dktX3_isWhole_0 : List UInt8 := dkwX3_isWhole_0 ++ dktX3_isWhole_1
theorem dksX3_isWhole_0 : cX3_isWhole.data.toList.drop 0 = dktX3_isWhole_0 := by decide +kernel
theorem dksX3_isWhole_1 : cX3_isWhole.data.toList.drop 24 = dktX3_isWhole_1 := dk_seg dksX3_isWhole_0 24 rfl rfl
theorem dX3_isWhole_0 : decode cX3_isWhole 0 = .ok (.aload_n 0, 1) := dk_42 (dk_at dksX3_isWhole_0 0 rfl rfl)
theorem dX3_isWhole_1 : decode cX3_isWhole 1 = .ok (.iconst 0, 1) := dk_3 (dk_at dksX3_isWhole_0 1 rfl rfl)
theorem dX3_isWhole_2 : decode cX3_isWhole 2 = .ok (.putfield 51, 3) := dk_181 0 51 (dk_at dksX3_isWhole_0 2 rfl rfl)
theorem dX3_isWhole_5 : decode cX3_isWhole 5 = .ok (.aload_n 0, 1) := dk_42 (dk_at dksX3_isWhole_0 5 rfl rfl)
theorem dX3_isWhole_6 : decode cX3_isWhole 6 = .ok (.getfield 234, 3) := dk_180 0 234 (dk_at dksX3_isWhole_0 6 rfl rfl)
theorem dX3_isWhole_9 : decode cX3_isWhole 9 = .ok (.ifCond .ne 17, 3) := dk_154 0 17 (dk_at dksX3_isWhole_0 9 rfl rfl)
theorem dX3_isWhole_12 : decode cX3_isWhole 12 = .ok (.aload_n 0, 1) := dk_42 (dk_at dksX3_isWhole_0 12 rfl rfl)
theorem dX3_isWhole_13 : decode cX3_isWhole 13 = .ok (.iconst 1, 1) := dk_4 (dk_at dksX3_isWhole_0 13 rfl rfl)
theorem dX3_isWhole_14 : decode cX3_isWhole 14 = .ok (.invokevirtual 63, 3) := dk_182 0 63 (dk_at dksX3_isWhole_0 14 rfl rfl)
theorem dX3_isWhole_17 : decode cX3_isWhole 17 = .ok (.ifCond .eq 7, 3) := dk_153 0 7 (dk_at dksX3_isWhole_0 17 rfl rfl)
theorem dX3_isWhole_20 : decode cX3_isWhole 20 = .ok (.iconst 1, 1) := dk_4 (dk_at dksX3_isWhole_0 20 rfl rfl)
theorem dX3_isWhole_21 : decode cX3_isWhole 21 = .ok (.goto 4, 3) := dk_167 0 4 (dk_at dksX3_isWhole_0 21 rfl rfl)
theorem dX3_isWhole_24 : decode cX3_isWhole 24 = .ok (.iconst 0, 1) := dk_3 (dk_at dksX3_isWhole_1 0 rfl rfl)
theorem dX3_isWhole_25 : decode cX3_isWhole 25 = .ok (.ireturn, 1) := dk_172 (dk_at dksX3_isWhole_1 1 rfl rfl)
theorem dX3_isWhole_26 : decode cX3_isWhole 26 = .ok (.aload_n 0, 1) := dk_42 (dk_at dksX3_isWhole_1 2 rfl rfl)
theorem dX3_isWhole_27 : decode cX3_isWhole 27 = .ok (.invokevirtual 244, 3) := dk_182 0 244 (dk_at dksX3_isWhole_1 3 rfl rfl)
theorem dX3_isWhole_30 : decode cX3_isWhole 30 = .ok (.ifCond .ne 7, 3) := dk_154 0 7 (dk_at dksX3_isWhole_1 6 rfl rfl)
theorem dX3_isWhole_33 : decode cX3_isWhole 33 = .ok (.iconst 1, 1) := dk_4 (dk_at dksX3_isWhole_1 9 rfl rfl)
theorem dX3_isWhole_34 : decode cX3_isWhole 34 = .ok (.goto 4, 3) := dk_167 0 4 (dk_at dksX3_isWhole_1 10 rfl rfl)
theorem dX3_isWhole_37 : decode cX3_isWhole 37 = .ok (.iconst 0, 1) := dk_3 (dk_at dksX3_isWhole_1 13 rfl rfl)
theorem dX3_isWhole_38 : decode cX3_isWhole 38 = .ok (.ireturn, 1) := dk_172 (dk_at dksX3_isWhole_1 14 rfl rfl)
abbrev cX3_read : ByteArray := prog_13_method_99_code
def yX3_read : MethodName := ⟨RX3, "read", "()I"⟩
def dkwX3_read_4 : List UInt8 := [42, 182, 0, 123, 42, 180, 0, 253, 172]
abbrev dktX3_read_4 : List UInt8 := dkwX3_read_4 ++ []
def dkwX3_read_3 : List UInt8 := [42, 5, 182, 0, 135, 61, 42, 5, 181, 0, 60, 28, 172, 42, 27, 182, 1, 33, 132, 1, 1, 167, 255, 187]
abbrev dktX3_read_3 : List UInt8 := dkwX3_read_3 ++ dktX3_read_4
def dkwX3_read_2 : List UInt8 := [5, 42, 180, 0, 54, 79, 42, 180, 0, 7, 6, 42, 180, 0, 57, 79, 42, 16, 10, 27, 182, 0, 132, 87]
abbrev dktX3_read_2 : List UInt8 := dkwX3_read_2 ++ dktX3_read_3
def dkwX3_read_1 : List UInt8 := [27, 42, 180, 0, 253, 162, 0, 67, 42, 27, 182, 1, 27, 153, 0, 48, 42, 182, 1, 30, 42, 180, 0, 7]
abbrev dktX3_read_1 : List UInt8 := dkwX3_read_1 ++ dktX3_read_2
def dkwX3_read_0 : List UInt8 := [42, 3, 181, 0, 51, 42, 182, 1, 24, 154, 0, 9, 42, 4, 182, 0, 63, 172, 42, 182, 0, 138, 3, 60]
abbrev dktX3_read_0 : List UInt8 := dkwX3_read_0 ++ dktX3_read_1
theorem dksX3_read_0 : cX3_read.data.toList.drop 0 = dktX3_read_0 := by decide +kernel
theorem dksX3_read_1 : cX3_read.data.toList.drop 24 = dktX3_read_1 := dk_seg dksX3_read_0 24 rfl rfl
theorem dksX3_read_2 : cX3_read.data.toList.drop 48 = dktX3_read_2 := dk_seg dksX3_read_1 24 rfl rfl
theorem dksX3_read_3 : cX3_read.data.toList.drop 72 = dktX3_read_3 := dk_seg dksX3_read_2 24 rfl rfl
theorem dksX3_read_4 : cX3_read.data.toList.drop 96 = dktX3_read_4 := dk_seg dksX3_read_3 24 rfl rfl
theorem dX3_read_0 : decode cX3_read 0 = .ok (.aload_n 0, 1) := dk_42 (dk_at dksX3_read_0 0 rfl rfl)
theorem dX3_read_1 : decode cX3_read 1 = .ok (.iconst 0, 1) := dk_3 (dk_at dksX3_read_0 1 rfl rfl)
theorem dX3_read_2 : decode cX3_read 2 = .ok (.putfield 51, 3) := dk_181 0 51 (dk_at dksX3_read_0 2 rfl rfl)
theorem dX3_read_5 : decode cX3_read 5 = .ok (.aload_n 0, 1) := dk_42 (dk_at dksX3_read_0 5 rfl rfl)
theorem dX3_read_6 : decode cX3_read 6 = .ok (.invokevirtual 280, 3) := dk_182 1 24 (dk_at dksX3_read_0 6 rfl rfl)
theorem dX3_read_9 : decode cX3_read 9 = .ok (.ifCond .ne 9, 3) := dk_154 0 9 (dk_at dksX3_read_0 9 rfl rfl)
theorem dX3_read_12 : decode cX3_read 12 = .ok (.aload_n 0, 1) := dk_42 (dk_at dksX3_read_0 12 rfl rfl)
theorem dX3_read_13 : decode cX3_read 13 = .ok (.iconst 1, 1) := dk_4 (dk_at dksX3_read_0 13 rfl rfl)
theorem dX3_read_14 : decode cX3_read 14 = .ok (.invokevirtual 63, 3) := dk_182 0 63 (dk_at dksX3_read_0 14 rfl rfl)
theorem dX3_read_17 : decode cX3_read 17 = .ok (.ireturn, 1) := dk_172 (dk_at dksX3_read_0 17 rfl rfl)
theorem dX3_read_18 : decode cX3_read 18 = .ok (.aload_n 0, 1) := dk_42 (dk_at dksX3_read_0 18 rfl rfl)
theorem dX3_read_19 : decode cX3_read 19 = .ok (.invokevirtual 138, 3) := dk_182 0 138 (dk_at dksX3_read_0 19 rfl rfl)
theorem dX3_read_22 : decode cX3_read 22 = .ok (.iconst 0, 1) := dk_3 (dk_at dksX3_read_0 22 rfl rfl)
theorem dX3_read_23 : decode cX3_read 23 = .ok (.istore_n 1, 1) := dk_60 (dk_at dksX3_read_0 23 rfl rfl)
theorem dX3_read_24 : decode cX3_read 24 = .ok (.iload_n 1, 1) := dk_27 (dk_at dksX3_read_1 0 rfl rfl)
theorem dX3_read_25 : decode cX3_read 25 = .ok (.aload_n 0, 1) := dk_42 (dk_at dksX3_read_1 1 rfl rfl)
theorem dX3_read_26 : decode cX3_read 26 = .ok (.getfield 253, 3) := dk_180 0 253 (dk_at dksX3_read_1 2 rfl rfl)
theorem dX3_read_29 : decode cX3_read 29 = .ok (.if_icmp .ge 67, 3) := dk_162 0 67 (dk_at dksX3_read_1 5 rfl rfl)
theorem dX3_read_32 : decode cX3_read 32 = .ok (.aload_n 0, 1) := dk_42 (dk_at dksX3_read_1 8 rfl rfl)
theorem dX3_read_33 : decode cX3_read 33 = .ok (.iload_n 1, 1) := dk_27 (dk_at dksX3_read_1 9 rfl rfl)
theorem dX3_read_34 : decode cX3_read 34 = .ok (.invokevirtual 283, 3) := dk_182 1 27 (dk_at dksX3_read_1 10 rfl rfl)
theorem dX3_read_37 : decode cX3_read 37 = .ok (.ifCond .eq 48, 3) := dk_153 0 48 (dk_at dksX3_read_1 13 rfl rfl)
theorem dX3_read_40 : decode cX3_read 40 = .ok (.aload_n 0, 1) := dk_42 (dk_at dksX3_read_1 16 rfl rfl)
theorem dX3_read_41 : decode cX3_read 41 = .ok (.invokevirtual 286, 3) := dk_182 1 30 (dk_at dksX3_read_1 17 rfl rfl)
theorem dX3_read_44 : decode cX3_read 44 = .ok (.aload_n 0, 1) := dk_42 (dk_at dksX3_read_1 20 rfl rfl)
theorem dX3_read_45 : decode cX3_read 45 = .ok (.getfield 7, 3) := dk_180 0 7 (dk_at dksX3_read_1 21 rfl rfl)
theorem dX3_read_48 : decode cX3_read 48 = .ok (.iconst 2, 1) := dk_5 (dk_at dksX3_read_2 0 rfl rfl)
theorem dX3_read_49 : decode cX3_read 49 = .ok (.aload_n 0, 1) := dk_42 (dk_at dksX3_read_2 1 rfl rfl)
theorem dX3_read_50 : decode cX3_read 50 = .ok (.getfield 54, 3) := dk_180 0 54 (dk_at dksX3_read_2 2 rfl rfl)
theorem dX3_read_53 : decode cX3_read 53 = .ok (.iastore, 1) := dk_79 (dk_at dksX3_read_2 5 rfl rfl)
theorem dX3_read_54 : decode cX3_read 54 = .ok (.aload_n 0, 1) := dk_42 (dk_at dksX3_read_2 6 rfl rfl)
theorem dX3_read_55 : decode cX3_read 55 = .ok (.getfield 7, 3) := dk_180 0 7 (dk_at dksX3_read_2 7 rfl rfl)
theorem dX3_read_58 : decode cX3_read 58 = .ok (.iconst 3, 1) := dk_6 (dk_at dksX3_read_2 10 rfl rfl)
theorem dX3_read_59 : decode cX3_read 59 = .ok (.aload_n 0, 1) := dk_42 (dk_at dksX3_read_2 11 rfl rfl)
theorem dX3_read_60 : decode cX3_read 60 = .ok (.getfield 57, 3) := dk_180 0 57 (dk_at dksX3_read_2 12 rfl rfl)
theorem dX3_read_63 : decode cX3_read 63 = .ok (.iastore, 1) := dk_79 (dk_at dksX3_read_2 15 rfl rfl)
theorem dX3_read_64 : decode cX3_read 64 = .ok (.aload_n 0, 1) := dk_42 (dk_at dksX3_read_2 16 rfl rfl)
theorem dX3_read_65 : decode cX3_read 65 = .ok (.bipush 10, 2) := dk_16 10 (dk_at dksX3_read_2 17 rfl rfl)
theorem dX3_read_67 : decode cX3_read 67 = .ok (.iload_n 1, 1) := dk_27 (dk_at dksX3_read_2 19 rfl rfl)
theorem dX3_read_68 : decode cX3_read 68 = .ok (.invokevirtual 132, 3) := dk_182 0 132 (dk_at dksX3_read_2 20 rfl rfl)
theorem dX3_read_71 : decode cX3_read 71 = .ok (.pop, 1) := dk_87 (dk_at dksX3_read_2 23 rfl rfl)
theorem dX3_read_72 : decode cX3_read 72 = .ok (.aload_n 0, 1) := dk_42 (dk_at dksX3_read_3 0 rfl rfl)
theorem dX3_read_73 : decode cX3_read 73 = .ok (.iconst 2, 1) := dk_5 (dk_at dksX3_read_3 1 rfl rfl)
theorem dX3_read_74 : decode cX3_read 74 = .ok (.invokevirtual 135, 3) := dk_182 0 135 (dk_at dksX3_read_3 2 rfl rfl)
theorem dX3_read_77 : decode cX3_read 77 = .ok (.istore_n 2, 1) := dk_61 (dk_at dksX3_read_3 5 rfl rfl)
theorem dX3_read_78 : decode cX3_read 78 = .ok (.aload_n 0, 1) := dk_42 (dk_at dksX3_read_3 6 rfl rfl)
theorem dX3_read_79 : decode cX3_read 79 = .ok (.iconst 2, 1) := dk_5 (dk_at dksX3_read_3 7 rfl rfl)
theorem dX3_read_80 : decode cX3_read 80 = .ok (.putfield 60, 3) := dk_181 0 60 (dk_at dksX3_read_3 8 rfl rfl)
theorem dX3_read_83 : decode cX3_read 83 = .ok (.iload_n 2, 1) := dk_28 (dk_at dksX3_read_3 11 rfl rfl)
theorem dX3_read_84 : decode cX3_read 84 = .ok (.ireturn, 1) := dk_172 (dk_at dksX3_read_3 12 rfl rfl)
theorem dX3_read_85 : decode cX3_read 85 = .ok (.aload_n 0, 1) := dk_42 (dk_at dksX3_read_3 13 rfl rfl)
theorem dX3_read_86 : decode cX3_read 86 = .ok (.iload_n 1, 1) := dk_27 (dk_at dksX3_read_3 14 rfl rfl)
theorem dX3_read_87 : decode cX3_read 87 = .ok (.invokevirtual 289, 3) := dk_182 1 33 (dk_at dksX3_read_3 15 rfl rfl)
theorem dX3_read_90 : decode cX3_read 90 = .ok (.iinc 1 1, 3) := dk_132 1 1 (dk_at dksX3_read_3 18 rfl rfl)
theorem dX3_read_93 : decode cX3_read 93 = .ok (.goto (-69), 3) := dk_167 255 187 (dk_at dksX3_read_3 21 rfl rfl)
theorem dX3_read_96 : decode cX3_read 96 = .ok (.aload_n 0, 1) := dk_42 (dk_at dksX3_read_4 0 rfl rfl)
theorem dX3_read_97 : decode cX3_read 97 = .ok (.invokevirtual 123, 3) := dk_182 0 123 (dk_at dksX3_read_4 1 rfl rfl)
theorem dX3_read_100 : decode cX3_read 100 = .ok (.aload_n 0, 1) := dk_42 (dk_at dksX3_read_4 4 rfl rfl)
theorem dX3_read_101 : decode cX3_read 101 = .ok (.getfield 253, 3) := dk_180 0 253 (dk_at dksX3_read_4 5 rfl rfl)
theorem dX3_read_104 : decode cX3_read 104 = .ok (.ireturn, 1) := dk_172 (dk_at dksX3_read_4 8 rfl rfl)
abbrev cX3_readsAll : ByteArray := prog_13_method_94_code
def yX3_readsAll : MethodName := ⟨RX3, "readsAll", "()Z"⟩
def dkwX3_readsAll_4 : List UInt8 := [42, 3, 181, 0, 231, 27, 154, 0, 11, 42, 42, 180, 0, 247, 181, 0, 47, 27, 172]
abbrev dktX3_readsAll_4 : List UInt8 := dkwX3_readsAll_4 ++ []
def dkwX3_readsAll_3 : List UInt8 := [167, 255, 220, 27, 153, 0, 18, 42, 180, 0, 247, 42, 180, 0, 231, 160, 0, 7, 4, 167, 0, 4, 3, 60]
abbrev dktX3_readsAll_3 : List UInt8 := dkwX3_readsAll_3 ++ dktX3_readsAll_4
def dkwX3_readsAll_2 : List UInt8 := [182, 1, 15, 60, 42, 89, 180, 0, 253, 27, 153, 0, 7, 4, 167, 0, 4, 3, 96, 181, 0, 253]
abbrev dktX3_readsAll_2 : List UInt8 := dkwX3_readsAll_2 ++ dktX3_readsAll_3
def dkwX3_readsAll_1 : List UInt8 := [4, 167, 0, 4, 3, 96, 181, 0, 253, 27, 153, 0, 38, 42, 16, 59, 182, 1, 3, 153, 0, 29, 42]
abbrev dktX3_readsAll_1 : List UInt8 := dkwX3_readsAll_1 ++ dktX3_readsAll_2
def dkwX3_readsAll_0 : List UInt8 := [42, 3, 181, 0, 247, 42, 3, 181, 0, 253, 42, 182, 1, 15, 60, 42, 89, 180, 0, 253, 27, 153, 0, 7]
abbrev dktX3_readsAll_0 : List UInt8 := dkwX3_readsAll_0 ++ dktX3_readsAll_1
theorem dksX3_readsAll_0 : cX3_readsAll.data.toList.drop 0 = dktX3_readsAll_0 := by decide +kernel
theorem dksX3_readsAll_1 : cX3_readsAll.data.toList.drop 24 = dktX3_readsAll_1 := dk_seg dksX3_readsAll_0 24 rfl rfl
theorem dksX3_readsAll_2 : cX3_readsAll.data.toList.drop 47 = dktX3_readsAll_2 := dk_seg dksX3_readsAll_1 23 rfl rfl
theorem dksX3_readsAll_3 : cX3_readsAll.data.toList.drop 69 = dktX3_readsAll_3 := dk_seg dksX3_readsAll_2 22 rfl rfl
theorem dksX3_readsAll_4 : cX3_readsAll.data.toList.drop 93 = dktX3_readsAll_4 := dk_seg dksX3_readsAll_3 24 rfl rfl
theorem dX3_readsAll_0 : decode cX3_readsAll 0 = .ok (.aload_n 0, 1) := dk_42 (dk_at dksX3_readsAll_0 0 rfl rfl)
theorem dX3_readsAll_1 : decode cX3_readsAll 1 = .ok (.iconst 0, 1) := dk_3 (dk_at dksX3_readsAll_0 1 rfl rfl)
theorem dX3_readsAll_2 : decode cX3_readsAll 2 = .ok (.putfield 247, 3) := dk_181 0 247 (dk_at dksX3_readsAll_0 2 rfl rfl)
theorem dX3_readsAll_5 : decode cX3_readsAll 5 = .ok (.aload_n 0, 1) := dk_42 (dk_at dksX3_readsAll_0 5 rfl rfl)
theorem dX3_readsAll_6 : decode cX3_readsAll 6 = .ok (.iconst 0, 1) := dk_3 (dk_at dksX3_readsAll_0 6 rfl rfl)
theorem dX3_readsAll_7 : decode cX3_readsAll 7 = .ok (.putfield 253, 3) := dk_181 0 253 (dk_at dksX3_readsAll_0 7 rfl rfl)
theorem dX3_readsAll_10 : decode cX3_readsAll 10 = .ok (.aload_n 0, 1) := dk_42 (dk_at dksX3_readsAll_0 10 rfl rfl)
theorem dX3_readsAll_11 : decode cX3_readsAll 11 = .ok (.invokevirtual 271, 3) := dk_182 1 15 (dk_at dksX3_readsAll_0 11 rfl rfl)
theorem dX3_readsAll_14 : decode cX3_readsAll 14 = .ok (.istore_n 1, 1) := dk_60 (dk_at dksX3_readsAll_0 14 rfl rfl)
theorem dX3_readsAll_15 : decode cX3_readsAll 15 = .ok (.aload_n 0, 1) := dk_42 (dk_at dksX3_readsAll_0 15 rfl rfl)
theorem dX3_readsAll_16 : decode cX3_readsAll 16 = .ok (.dup, 1) := dk_89 (dk_at dksX3_readsAll_0 16 rfl rfl)
theorem dX3_readsAll_17 : decode cX3_readsAll 17 = .ok (.getfield 253, 3) := dk_180 0 253 (dk_at dksX3_readsAll_0 17 rfl rfl)
theorem dX3_readsAll_20 : decode cX3_readsAll 20 = .ok (.iload_n 1, 1) := dk_27 (dk_at dksX3_readsAll_0 20 rfl rfl)
theorem dX3_readsAll_21 : decode cX3_readsAll 21 = .ok (.ifCond .eq 7, 3) := dk_153 0 7 (dk_at dksX3_readsAll_0 21 rfl rfl)
theorem dX3_readsAll_24 : decode cX3_readsAll 24 = .ok (.iconst 1, 1) := dk_4 (dk_at dksX3_readsAll_1 0 rfl rfl)
theorem dX3_readsAll_25 : decode cX3_readsAll 25 = .ok (.goto 4, 3) := dk_167 0 4 (dk_at dksX3_readsAll_1 1 rfl rfl)
theorem dX3_readsAll_28 : decode cX3_readsAll 28 = .ok (.iconst 0, 1) := dk_3 (dk_at dksX3_readsAll_1 4 rfl rfl)
theorem dX3_readsAll_29 : decode cX3_readsAll 29 = .ok (.iadd, 1) := dk_96 (dk_at dksX3_readsAll_1 5 rfl rfl)
theorem dX3_readsAll_30 : decode cX3_readsAll 30 = .ok (.putfield 253, 3) := dk_181 0 253 (dk_at dksX3_readsAll_1 6 rfl rfl)
theorem dX3_readsAll_33 : decode cX3_readsAll 33 = .ok (.iload_n 1, 1) := dk_27 (dk_at dksX3_readsAll_1 9 rfl rfl)
theorem dX3_readsAll_34 : decode cX3_readsAll 34 = .ok (.ifCond .eq 38, 3) := dk_153 0 38 (dk_at dksX3_readsAll_1 10 rfl rfl)
theorem dX3_readsAll_37 : decode cX3_readsAll 37 = .ok (.aload_n 0, 1) := dk_42 (dk_at dksX3_readsAll_1 13 rfl rfl)
theorem dX3_readsAll_38 : decode cX3_readsAll 38 = .ok (.bipush 59, 2) := dk_16 59 (dk_at dksX3_readsAll_1 14 rfl rfl)
theorem dX3_readsAll_40 : decode cX3_readsAll 40 = .ok (.invokevirtual 259, 3) := dk_182 1 3 (dk_at dksX3_readsAll_1 16 rfl rfl)
theorem dX3_readsAll_43 : decode cX3_readsAll 43 = .ok (.ifCond .eq 29, 3) := dk_153 0 29 (dk_at dksX3_readsAll_1 19 rfl rfl)
theorem dX3_readsAll_46 : decode cX3_readsAll 46 = .ok (.aload_n 0, 1) := dk_42 (dk_at dksX3_readsAll_1 22 rfl rfl)
theorem dX3_readsAll_47 : decode cX3_readsAll 47 = .ok (.invokevirtual 271, 3) := dk_182 1 15 (dk_at dksX3_readsAll_2 0 rfl rfl)
theorem dX3_readsAll_50 : decode cX3_readsAll 50 = .ok (.istore_n 1, 1) := dk_60 (dk_at dksX3_readsAll_2 3 rfl rfl)
theorem dX3_readsAll_51 : decode cX3_readsAll 51 = .ok (.aload_n 0, 1) := dk_42 (dk_at dksX3_readsAll_2 4 rfl rfl)
theorem dX3_readsAll_52 : decode cX3_readsAll 52 = .ok (.dup, 1) := dk_89 (dk_at dksX3_readsAll_2 5 rfl rfl)
theorem dX3_readsAll_53 : decode cX3_readsAll 53 = .ok (.getfield 253, 3) := dk_180 0 253 (dk_at dksX3_readsAll_2 6 rfl rfl)
theorem dX3_readsAll_56 : decode cX3_readsAll 56 = .ok (.iload_n 1, 1) := dk_27 (dk_at dksX3_readsAll_2 9 rfl rfl)
theorem dX3_readsAll_57 : decode cX3_readsAll 57 = .ok (.ifCond .eq 7, 3) := dk_153 0 7 (dk_at dksX3_readsAll_2 10 rfl rfl)
theorem dX3_readsAll_60 : decode cX3_readsAll 60 = .ok (.iconst 1, 1) := dk_4 (dk_at dksX3_readsAll_2 13 rfl rfl)
theorem dX3_readsAll_61 : decode cX3_readsAll 61 = .ok (.goto 4, 3) := dk_167 0 4 (dk_at dksX3_readsAll_2 14 rfl rfl)
theorem dX3_readsAll_64 : decode cX3_readsAll 64 = .ok (.iconst 0, 1) := dk_3 (dk_at dksX3_readsAll_2 17 rfl rfl)
theorem dX3_readsAll_65 : decode cX3_readsAll 65 = .ok (.iadd, 1) := dk_96 (dk_at dksX3_readsAll_2 18 rfl rfl)
theorem dX3_readsAll_66 : decode cX3_readsAll 66 = .ok (.putfield 253, 3) := dk_181 0 253 (dk_at dksX3_readsAll_2 19 rfl rfl)
theorem dX3_readsAll_69 : decode cX3_readsAll 69 = .ok (.goto (-36), 3) := dk_167 255 220 (dk_at dksX3_readsAll_3 0 rfl rfl)
theorem dX3_readsAll_72 : decode cX3_readsAll 72 = .ok (.iload_n 1, 1) := dk_27 (dk_at dksX3_readsAll_3 3 rfl rfl)
theorem dX3_readsAll_73 : decode cX3_readsAll 73 = .ok (.ifCond .eq 18, 3) := dk_153 0 18 (dk_at dksX3_readsAll_3 4 rfl rfl)
theorem dX3_readsAll_76 : decode cX3_readsAll 76 = .ok (.aload_n 0, 1) := dk_42 (dk_at dksX3_readsAll_3 7 rfl rfl)
theorem dX3_readsAll_77 : decode cX3_readsAll 77 = .ok (.getfield 247, 3) := dk_180 0 247 (dk_at dksX3_readsAll_3 8 rfl rfl)
theorem dX3_readsAll_80 : decode cX3_readsAll 80 = .ok (.aload_n 0, 1) := dk_42 (dk_at dksX3_readsAll_3 11 rfl rfl)
theorem dX3_readsAll_81 : decode cX3_readsAll 81 = .ok (.getfield 231, 3) := dk_180 0 231 (dk_at dksX3_readsAll_3 12 rfl rfl)
theorem dX3_readsAll_84 : decode cX3_readsAll 84 = .ok (.if_icmp .ne 7, 3) := dk_160 0 7 (dk_at dksX3_readsAll_3 15 rfl rfl)
theorem dX3_readsAll_87 : decode cX3_readsAll 87 = .ok (.iconst 1, 1) := dk_4 (dk_at dksX3_readsAll_3 18 rfl rfl)
theorem dX3_readsAll_88 : decode cX3_readsAll 88 = .ok (.goto 4, 3) := dk_167 0 4 (dk_at dksX3_readsAll_3 19 rfl rfl)
theorem dX3_readsAll_91 : decode cX3_readsAll 91 = .ok (.iconst 0, 1) := dk_3 (dk_at dksX3_readsAll_3 22 rfl rfl)
theorem dX3_readsAll_92 : decode cX3_readsAll 92 = .ok (.istore_n 1, 1) := dk_60 (dk_at dksX3_readsAll_3 23 rfl rfl)
theorem dX3_readsAll_93 : decode cX3_readsAll 93 = .ok (.aload_n 0, 1) := dk_42 (dk_at dksX3_readsAll_4 0 rfl rfl)
theorem dX3_readsAll_94 : decode cX3_readsAll 94 = .ok (.iconst 0, 1) := dk_3 (dk_at dksX3_readsAll_4 1 rfl rfl)
theorem dX3_readsAll_95 : decode cX3_readsAll 95 = .ok (.putfield 231, 3) := dk_181 0 231 (dk_at dksX3_readsAll_4 2 rfl rfl)
theorem dX3_readsAll_98 : decode cX3_readsAll 98 = .ok (.iload_n 1, 1) := dk_27 (dk_at dksX3_readsAll_4 5 rfl rfl)
theorem dX3_readsAll_99 : decode cX3_readsAll 99 = .ok (.ifCond .ne 11, 3) := dk_154 0 11 (dk_at dksX3_readsAll_4 6 rfl rfl)
theorem dX3_readsAll_102 : decode cX3_readsAll 102 = .ok (.aload_n 0, 1) := dk_42 (dk_at dksX3_readsAll_4 9 rfl rfl)
theorem dX3_readsAll_103 : decode cX3_readsAll 103 = .ok (.aload_n 0, 1) := dk_42 (dk_at dksX3_readsAll_4 10 rfl rfl)
theorem dX3_readsAll_104 : decode cX3_readsAll 104 = .ok (.getfield 247, 3) := dk_180 0 247 (dk_at dksX3_readsAll_4 11 rfl rfl)
theorem dX3_readsAll_107 : decode cX3_readsAll 107 = .ok (.putfield 47, 3) := dk_181 0 47 (dk_at dksX3_readsAll_4 14 rfl rfl)
theorem dX3_readsAll_110 : decode cX3_readsAll 110 = .ok (.iload_n 1, 1) := dk_27 (dk_at dksX3_readsAll_4 17 rfl rfl)
theorem dX3_readsAll_111 : decode cX3_readsAll 111 = .ok (.ireturn, 1) := dk_172 (dk_at dksX3_readsAll_4 18 rfl rfl)
abbrev cX3_readsCommand : ByteArray := prog_13_method_93_code
def yX3_readsCommand : MethodName := ⟨RX3, "readsCommand", "()Z"⟩
def dkwX3_readsCommand_5 : List UInt8 := [3, 172]
abbrev dktX3_readsCommand_5 : List UInt8 := dkwX3_readsCommand_5 ++ []
def dkwX3_readsCommand_4 : List UInt8 := [182, 1, 9, 172, 42, 16, 78, 182, 1, 3, 153, 0, 14, 42, 182, 1, 12, 153, 0, 7, 4, 167, 0, 4]
abbrev dktX3_readsCommand_4 : List UInt8 := dkwX3_readsCommand_4 ++ dktX3_readsCommand_5
def dkwX3_readsCommand_3 : List UInt8 := [16, 70, 182, 1, 3, 153, 0, 8, 42, 182, 1, 6, 172, 42, 16, 80, 182, 1, 3, 153, 0, 8, 42]
abbrev dktX3_readsCommand_3 : List UInt8 := dkwX3_readsCommand_3 ++ dktX3_readsCommand_4
def dkwX3_readsCommand_2 : List UInt8 := [182, 1, 3, 154, 0, 12, 42, 16, 83, 182, 1, 3, 153, 0, 10, 42, 16, 7, 182, 1, 0, 172, 42]
abbrev dktX3_readsCommand_2 : List UInt8 := dkwX3_readsCommand_2 ++ dktX3_readsCommand_3
def dkwX3_readsCommand_1 : List UInt8 := [154, 0, 39, 42, 16, 68, 182, 1, 3, 154, 0, 30, 42, 16, 66, 182, 1, 3, 154, 0, 21, 42, 16, 77]
abbrev dktX3_readsCommand_1 : List UInt8 := dkwX3_readsCommand_1 ++ dktX3_readsCommand_2
def dkwX3_readsCommand_0 : List UInt8 := [42, 180, 0, 38, 42, 180, 0, 253, 42, 42, 180, 0, 247, 182, 0, 250, 79, 42, 16, 76, 182, 1, 3]
abbrev dktX3_readsCommand_0 : List UInt8 := dkwX3_readsCommand_0 ++ dktX3_readsCommand_1
theorem dksX3_readsCommand_0 : cX3_readsCommand.data.toList.drop 0 = dktX3_readsCommand_0 := by decide +kernel
theorem dksX3_readsCommand_1 : cX3_readsCommand.data.toList.drop 23 = dktX3_readsCommand_1 := dk_seg dksX3_readsCommand_0 23 rfl rfl
theorem dksX3_readsCommand_2 : cX3_readsCommand.data.toList.drop 47 = dktX3_readsCommand_2 := dk_seg dksX3_readsCommand_1 24 rfl rfl
theorem dksX3_readsCommand_3 : cX3_readsCommand.data.toList.drop 70 = dktX3_readsCommand_3 := dk_seg dksX3_readsCommand_2 23 rfl rfl
theorem dksX3_readsCommand_4 : cX3_readsCommand.data.toList.drop 93 = dktX3_readsCommand_4 := dk_seg dksX3_readsCommand_3 23 rfl rfl
theorem dksX3_readsCommand_5 : cX3_readsCommand.data.toList.drop 117 = dktX3_readsCommand_5 := dk_seg dksX3_readsCommand_4 24 rfl rfl
theorem dX3_readsCommand_0 : decode cX3_readsCommand 0 = .ok (.aload_n 0, 1) := dk_42 (dk_at dksX3_readsCommand_0 0 rfl rfl)
theorem dX3_readsCommand_1 : decode cX3_readsCommand 1 = .ok (.getfield 38, 3) := dk_180 0 38 (dk_at dksX3_readsCommand_0 1 rfl rfl)
theorem dX3_readsCommand_4 : decode cX3_readsCommand 4 = .ok (.aload_n 0, 1) := dk_42 (dk_at dksX3_readsCommand_0 4 rfl rfl)
theorem dX3_readsCommand_5 : decode cX3_readsCommand 5 = .ok (.getfield 253, 3) := dk_180 0 253 (dk_at dksX3_readsCommand_0 5 rfl rfl)
theorem dX3_readsCommand_8 : decode cX3_readsCommand 8 = .ok (.aload_n 0, 1) := dk_42 (dk_at dksX3_readsCommand_0 8 rfl rfl)
theorem dX3_readsCommand_9 : decode cX3_readsCommand 9 = .ok (.aload_n 0, 1) := dk_42 (dk_at dksX3_readsCommand_0 9 rfl rfl)
theorem dX3_readsCommand_10 : decode cX3_readsCommand 10 = .ok (.getfield 247, 3) := dk_180 0 247 (dk_at dksX3_readsCommand_0 10 rfl rfl)
theorem dX3_readsCommand_13 : decode cX3_readsCommand 13 = .ok (.invokevirtual 250, 3) := dk_182 0 250 (dk_at dksX3_readsCommand_0 13 rfl rfl)
theorem dX3_readsCommand_16 : decode cX3_readsCommand 16 = .ok (.iastore, 1) := dk_79 (dk_at dksX3_readsCommand_0 16 rfl rfl)
theorem dX3_readsCommand_17 : decode cX3_readsCommand 17 = .ok (.aload_n 0, 1) := dk_42 (dk_at dksX3_readsCommand_0 17 rfl rfl)
theorem dX3_readsCommand_18 : decode cX3_readsCommand 18 = .ok (.bipush 76, 2) := dk_16 76 (dk_at dksX3_readsCommand_0 18 rfl rfl)
theorem dX3_readsCommand_20 : decode cX3_readsCommand 20 = .ok (.invokevirtual 259, 3) := dk_182 1 3 (dk_at dksX3_readsCommand_0 20 rfl rfl)
theorem dX3_readsCommand_23 : decode cX3_readsCommand 23 = .ok (.ifCond .ne 39, 3) := dk_154 0 39 (dk_at dksX3_readsCommand_1 0 rfl rfl)
theorem dX3_readsCommand_26 : decode cX3_readsCommand 26 = .ok (.aload_n 0, 1) := dk_42 (dk_at dksX3_readsCommand_1 3 rfl rfl)
theorem dX3_readsCommand_27 : decode cX3_readsCommand 27 = .ok (.bipush 68, 2) := dk_16 68 (dk_at dksX3_readsCommand_1 4 rfl rfl)
theorem dX3_readsCommand_29 : decode cX3_readsCommand 29 = .ok (.invokevirtual 259, 3) := dk_182 1 3 (dk_at dksX3_readsCommand_1 6 rfl rfl)
theorem dX3_readsCommand_32 : decode cX3_readsCommand 32 = .ok (.ifCond .ne 30, 3) := dk_154 0 30 (dk_at dksX3_readsCommand_1 9 rfl rfl)
theorem dX3_readsCommand_35 : decode cX3_readsCommand 35 = .ok (.aload_n 0, 1) := dk_42 (dk_at dksX3_readsCommand_1 12 rfl rfl)
theorem dX3_readsCommand_36 : decode cX3_readsCommand 36 = .ok (.bipush 66, 2) := dk_16 66 (dk_at dksX3_readsCommand_1 13 rfl rfl)
theorem dX3_readsCommand_38 : decode cX3_readsCommand 38 = .ok (.invokevirtual 259, 3) := dk_182 1 3 (dk_at dksX3_readsCommand_1 15 rfl rfl)
theorem dX3_readsCommand_41 : decode cX3_readsCommand 41 = .ok (.ifCond .ne 21, 3) := dk_154 0 21 (dk_at dksX3_readsCommand_1 18 rfl rfl)
theorem dX3_readsCommand_44 : decode cX3_readsCommand 44 = .ok (.aload_n 0, 1) := dk_42 (dk_at dksX3_readsCommand_1 21 rfl rfl)
theorem dX3_readsCommand_45 : decode cX3_readsCommand 45 = .ok (.bipush 77, 2) := dk_16 77 (dk_at dksX3_readsCommand_1 22 rfl rfl)
theorem dX3_readsCommand_47 : decode cX3_readsCommand 47 = .ok (.invokevirtual 259, 3) := dk_182 1 3 (dk_at dksX3_readsCommand_2 0 rfl rfl)
theorem dX3_readsCommand_50 : decode cX3_readsCommand 50 = .ok (.ifCond .ne 12, 3) := dk_154 0 12 (dk_at dksX3_readsCommand_2 3 rfl rfl)
theorem dX3_readsCommand_53 : decode cX3_readsCommand 53 = .ok (.aload_n 0, 1) := dk_42 (dk_at dksX3_readsCommand_2 6 rfl rfl)
theorem dX3_readsCommand_54 : decode cX3_readsCommand 54 = .ok (.bipush 83, 2) := dk_16 83 (dk_at dksX3_readsCommand_2 7 rfl rfl)
theorem dX3_readsCommand_56 : decode cX3_readsCommand 56 = .ok (.invokevirtual 259, 3) := dk_182 1 3 (dk_at dksX3_readsCommand_2 9 rfl rfl)
theorem dX3_readsCommand_59 : decode cX3_readsCommand 59 = .ok (.ifCond .eq 10, 3) := dk_153 0 10 (dk_at dksX3_readsCommand_2 12 rfl rfl)
theorem dX3_readsCommand_62 : decode cX3_readsCommand 62 = .ok (.aload_n 0, 1) := dk_42 (dk_at dksX3_readsCommand_2 15 rfl rfl)
theorem dX3_readsCommand_63 : decode cX3_readsCommand 63 = .ok (.bipush 7, 2) := dk_16 7 (dk_at dksX3_readsCommand_2 16 rfl rfl)
theorem dX3_readsCommand_65 : decode cX3_readsCommand 65 = .ok (.invokevirtual 256, 3) := dk_182 1 0 (dk_at dksX3_readsCommand_2 18 rfl rfl)
theorem dX3_readsCommand_68 : decode cX3_readsCommand 68 = .ok (.ireturn, 1) := dk_172 (dk_at dksX3_readsCommand_2 21 rfl rfl)
theorem dX3_readsCommand_69 : decode cX3_readsCommand 69 = .ok (.aload_n 0, 1) := dk_42 (dk_at dksX3_readsCommand_2 22 rfl rfl)
theorem dX3_readsCommand_70 : decode cX3_readsCommand 70 = .ok (.bipush 70, 2) := dk_16 70 (dk_at dksX3_readsCommand_3 0 rfl rfl)
theorem dX3_readsCommand_72 : decode cX3_readsCommand 72 = .ok (.invokevirtual 259, 3) := dk_182 1 3 (dk_at dksX3_readsCommand_3 2 rfl rfl)
theorem dX3_readsCommand_75 : decode cX3_readsCommand 75 = .ok (.ifCond .eq 8, 3) := dk_153 0 8 (dk_at dksX3_readsCommand_3 5 rfl rfl)
theorem dX3_readsCommand_78 : decode cX3_readsCommand 78 = .ok (.aload_n 0, 1) := dk_42 (dk_at dksX3_readsCommand_3 8 rfl rfl)
theorem dX3_readsCommand_79 : decode cX3_readsCommand 79 = .ok (.invokevirtual 262, 3) := dk_182 1 6 (dk_at dksX3_readsCommand_3 9 rfl rfl)
theorem dX3_readsCommand_82 : decode cX3_readsCommand 82 = .ok (.ireturn, 1) := dk_172 (dk_at dksX3_readsCommand_3 12 rfl rfl)
theorem dX3_readsCommand_83 : decode cX3_readsCommand 83 = .ok (.aload_n 0, 1) := dk_42 (dk_at dksX3_readsCommand_3 13 rfl rfl)
theorem dX3_readsCommand_84 : decode cX3_readsCommand 84 = .ok (.bipush 80, 2) := dk_16 80 (dk_at dksX3_readsCommand_3 14 rfl rfl)
theorem dX3_readsCommand_86 : decode cX3_readsCommand 86 = .ok (.invokevirtual 259, 3) := dk_182 1 3 (dk_at dksX3_readsCommand_3 16 rfl rfl)
theorem dX3_readsCommand_89 : decode cX3_readsCommand 89 = .ok (.ifCond .eq 8, 3) := dk_153 0 8 (dk_at dksX3_readsCommand_3 19 rfl rfl)
theorem dX3_readsCommand_92 : decode cX3_readsCommand 92 = .ok (.aload_n 0, 1) := dk_42 (dk_at dksX3_readsCommand_3 22 rfl rfl)
theorem dX3_readsCommand_93 : decode cX3_readsCommand 93 = .ok (.invokevirtual 265, 3) := dk_182 1 9 (dk_at dksX3_readsCommand_4 0 rfl rfl)
theorem dX3_readsCommand_96 : decode cX3_readsCommand 96 = .ok (.ireturn, 1) := dk_172 (dk_at dksX3_readsCommand_4 3 rfl rfl)
theorem dX3_readsCommand_97 : decode cX3_readsCommand 97 = .ok (.aload_n 0, 1) := dk_42 (dk_at dksX3_readsCommand_4 4 rfl rfl)
theorem dX3_readsCommand_98 : decode cX3_readsCommand 98 = .ok (.bipush 78, 2) := dk_16 78 (dk_at dksX3_readsCommand_4 5 rfl rfl)
theorem dX3_readsCommand_100 : decode cX3_readsCommand 100 = .ok (.invokevirtual 259, 3) := dk_182 1 3 (dk_at dksX3_readsCommand_4 7 rfl rfl)
theorem dX3_readsCommand_103 : decode cX3_readsCommand 103 = .ok (.ifCond .eq 14, 3) := dk_153 0 14 (dk_at dksX3_readsCommand_4 10 rfl rfl)
theorem dX3_readsCommand_106 : decode cX3_readsCommand 106 = .ok (.aload_n 0, 1) := dk_42 (dk_at dksX3_readsCommand_4 13 rfl rfl)
theorem dX3_readsCommand_107 : decode cX3_readsCommand 107 = .ok (.invokevirtual 268, 3) := dk_182 1 12 (dk_at dksX3_readsCommand_4 14 rfl rfl)
theorem dX3_readsCommand_110 : decode cX3_readsCommand 110 = .ok (.ifCond .eq 7, 3) := dk_153 0 7 (dk_at dksX3_readsCommand_4 17 rfl rfl)
theorem dX3_readsCommand_113 : decode cX3_readsCommand 113 = .ok (.iconst 1, 1) := dk_4 (dk_at dksX3_readsCommand_4 20 rfl rfl)
theorem dX3_readsCommand_114 : decode cX3_readsCommand 114 = .ok (.goto 4, 3) := dk_167 0 4 (dk_at dksX3_readsCommand_4 21 rfl rfl)
theorem dX3_readsCommand_117 : decode cX3_readsCommand 117 = .ok (.iconst 0, 1) := dk_3 (dk_at dksX3_readsCommand_5 0 rfl rfl)
theorem dX3_readsCommand_118 : decode cX3_readsCommand 118 = .ok (.ireturn, 1) := dk_172 (dk_at dksX3_readsCommand_5 1 rfl rfl)
abbrev cX3_signAt : ByteArray := prog_13_method_87_code
def yX3_signAt : MethodName := ⟨RX3, "signAt", "(I)I"⟩
def dkwX3_signAt_0 : List UInt8 := [27, 42, 180, 0, 231, 162, 0, 12, 42, 180, 0, 31, 27, 52, 167, 0, 4, 2, 172]
abbrev dktX3_signAt_0 : List UInt8 := dkwX3_signAt_0 ++ []
theorem dksX3_signAt_0 : cX3_signAt.data.toList.drop 0 = dktX3_signAt_0 := by decide +kernel
theorem dX3_signAt_0 : decode cX3_signAt 0 = .ok (.iload_n 1, 1) := dk_27 (dk_at dksX3_signAt_0 0 rfl rfl)
theorem dX3_signAt_1 : decode cX3_signAt 1 = .ok (.aload_n 0, 1) := dk_42 (dk_at dksX3_signAt_0 1 rfl rfl)
theorem dX3_signAt_2 : decode cX3_signAt 2 = .ok (.getfield 231, 3) := dk_180 0 231 (dk_at dksX3_signAt_0 2 rfl rfl)
theorem dX3_signAt_5 : decode cX3_signAt 5 = .ok (.if_icmp .ge 12, 3) := dk_162 0 12 (dk_at dksX3_signAt_0 5 rfl rfl)
theorem dX3_signAt_8 : decode cX3_signAt 8 = .ok (.aload_n 0, 1) := dk_42 (dk_at dksX3_signAt_0 8 rfl rfl)
theorem dX3_signAt_9 : decode cX3_signAt 9 = .ok (.getfield 31, 3) := dk_180 0 31 (dk_at dksX3_signAt_0 9 rfl rfl)
theorem dX3_signAt_12 : decode cX3_signAt 12 = .ok (.iload_n 1, 1) := dk_27 (dk_at dksX3_signAt_0 12 rfl rfl)
theorem dX3_signAt_13 : decode cX3_signAt 13 = .ok (.caload, 1) := dk_52 (dk_at dksX3_signAt_0 13 rfl rfl)
theorem dX3_signAt_14 : decode cX3_signAt 14 = .ok (.goto 4, 3) := dk_167 0 4 (dk_at dksX3_signAt_0 14 rfl rfl)
theorem dX3_signAt_17 : decode cX3_signAt 17 = .ok (.iconst (-1), 1) := dk_2 (dk_at dksX3_signAt_0 17 rfl rfl)
theorem dX3_signAt_18 : decode cX3_signAt 18 = .ok (.ireturn, 1) := dk_172 (dk_at dksX3_signAt_0 18 rfl rfl)
abbrev cX3_takes : ByteArray := prog_13_method_88_code
def yX3_takes : MethodName := ⟨RX3, "takes", "(I)Z"⟩
def dkwX3_takes_1 : List UInt8 := [4, 172]
abbrev dktX3_takes_1 : List UInt8 := dkwX3_takes_1 ++ []
def dkwX3_takes_0 : List UInt8 := [42, 42, 180, 0, 247, 182, 0, 250, 27, 159, 0, 5, 3, 172, 42, 89, 180, 0, 247, 4, 96, 181, 0, 247]
abbrev dktX3_takes_0 : List UInt8 := dkwX3_takes_0 ++ dktX3_takes_1
theorem dksX3_takes_0 : cX3_takes.data.toList.drop 0 = dktX3_takes_0 := by decide +kernel
theorem dksX3_takes_1 : cX3_takes.data.toList.drop 24 = dktX3_takes_1 := dk_seg dksX3_takes_0 24 rfl rfl
theorem dX3_takes_0 : decode cX3_takes 0 = .ok (.aload_n 0, 1) := dk_42 (dk_at dksX3_takes_0 0 rfl rfl)
theorem dX3_takes_1 : decode cX3_takes 1 = .ok (.aload_n 0, 1) := dk_42 (dk_at dksX3_takes_0 1 rfl rfl)
theorem dX3_takes_2 : decode cX3_takes 2 = .ok (.getfield 247, 3) := dk_180 0 247 (dk_at dksX3_takes_0 2 rfl rfl)
theorem dX3_takes_5 : decode cX3_takes 5 = .ok (.invokevirtual 250, 3) := dk_182 0 250 (dk_at dksX3_takes_0 5 rfl rfl)
theorem dX3_takes_8 : decode cX3_takes 8 = .ok (.iload_n 1, 1) := dk_27 (dk_at dksX3_takes_0 8 rfl rfl)
theorem dX3_takes_9 : decode cX3_takes 9 = .ok (.if_icmp .eq 5, 3) := dk_159 0 5 (dk_at dksX3_takes_0 9 rfl rfl)
theorem dX3_takes_12 : decode cX3_takes 12 = .ok (.iconst 0, 1) := dk_3 (dk_at dksX3_takes_0 12 rfl rfl)
theorem dX3_takes_13 : decode cX3_takes 13 = .ok (.ireturn, 1) := dk_172 (dk_at dksX3_takes_0 13 rfl rfl)
theorem dX3_takes_14 : decode cX3_takes 14 = .ok (.aload_n 0, 1) := dk_42 (dk_at dksX3_takes_0 14 rfl rfl)
theorem dX3_takes_15 : decode cX3_takes 15 = .ok (.dup, 1) := dk_89 (dk_at dksX3_takes_0 15 rfl rfl)
theorem dX3_takes_16 : decode cX3_takes 16 = .ok (.getfield 247, 3) := dk_180 0 247 (dk_at dksX3_takes_0 16 rfl rfl)
theorem dX3_takes_19 : decode cX3_takes 19 = .ok (.iconst 1, 1) := dk_4 (dk_at dksX3_takes_0 19 rfl rfl)
theorem dX3_takes_20 : decode cX3_takes 20 = .ok (.iadd, 1) := dk_96 (dk_at dksX3_takes_0 20 rfl rfl)
theorem dX3_takes_21 : decode cX3_takes 21 = .ok (.putfield 247, 3) := dk_181 0 247 (dk_at dksX3_takes_0 21 rfl rfl)
theorem dX3_takes_24 : decode cX3_takes 24 = .ok (.iconst 1, 1) := dk_4 (dk_at dksX3_takes_1 0 rfl rfl)
theorem dX3_takes_25 : decode cX3_takes 25 = .ok (.ireturn, 1) := dk_172 (dk_at dksX3_takes_1 1 rfl rfl)
abbrev cX3_readsDigit : ByteArray := prog_13_method_89_code
def yX3_readsDigit : MethodName := ⟨RX3, "readsDigit", "(I)Z"⟩
def dkwX3_readsDigit_2 : List UInt8 := [4, 96, 181, 0, 247, 4, 172]
abbrev dktX3_readsDigit_2 : List UInt8 := dkwX3_readsDigit_2 ++ []
def dkwX3_readsDigit_1 : List UInt8 := [180, 0, 41, 42, 180, 0, 253, 42, 42, 180, 0, 247, 182, 0, 250, 16, 48, 100, 79, 42, 89, 180, 0, 247]
abbrev dktX3_readsDigit_1 : List UInt8 := dkwX3_readsDigit_1 ++ dktX3_readsDigit_2
def dkwX3_readsDigit_0 : List UInt8 := [42, 42, 180, 0, 247, 182, 0, 250, 16, 48, 16, 48, 27, 96, 184, 0, 77, 154, 0, 5, 3, 172, 42]
abbrev dktX3_readsDigit_0 : List UInt8 := dkwX3_readsDigit_0 ++ dktX3_readsDigit_1
theorem dksX3_readsDigit_0 : cX3_readsDigit.data.toList.drop 0 = dktX3_readsDigit_0 := by decide +kernel
theorem dksX3_readsDigit_1 : cX3_readsDigit.data.toList.drop 23 = dktX3_readsDigit_1 := dk_seg dksX3_readsDigit_0 23 rfl rfl
theorem dksX3_readsDigit_2 : cX3_readsDigit.data.toList.drop 47 = dktX3_readsDigit_2 := dk_seg dksX3_readsDigit_1 24 rfl rfl
theorem dX3_readsDigit_0 : decode cX3_readsDigit 0 = .ok (.aload_n 0, 1) := dk_42 (dk_at dksX3_readsDigit_0 0 rfl rfl)
theorem dX3_readsDigit_1 : decode cX3_readsDigit 1 = .ok (.aload_n 0, 1) := dk_42 (dk_at dksX3_readsDigit_0 1 rfl rfl)
theorem dX3_readsDigit_2 : decode cX3_readsDigit 2 = .ok (.getfield 247, 3) := dk_180 0 247 (dk_at dksX3_readsDigit_0 2 rfl rfl)
theorem dX3_readsDigit_5 : decode cX3_readsDigit 5 = .ok (.invokevirtual 250, 3) := dk_182 0 250 (dk_at dksX3_readsDigit_0 5 rfl rfl)
theorem dX3_readsDigit_8 : decode cX3_readsDigit 8 = .ok (.bipush 48, 2) := dk_16 48 (dk_at dksX3_readsDigit_0 8 rfl rfl)
theorem dX3_readsDigit_10 : decode cX3_readsDigit 10 = .ok (.bipush 48, 2) := dk_16 48 (dk_at dksX3_readsDigit_0 10 rfl rfl)
theorem dX3_readsDigit_12 : decode cX3_readsDigit 12 = .ok (.iload_n 1, 1) := dk_27 (dk_at dksX3_readsDigit_0 12 rfl rfl)
theorem dX3_readsDigit_13 : decode cX3_readsDigit 13 = .ok (.iadd, 1) := dk_96 (dk_at dksX3_readsDigit_0 13 rfl rfl)
theorem dX3_readsDigit_14 : decode cX3_readsDigit 14 = .ok (.invokestatic 77, 3) := dk_184 0 77 (dk_at dksX3_readsDigit_0 14 rfl rfl)
theorem dX3_readsDigit_17 : decode cX3_readsDigit 17 = .ok (.ifCond .ne 5, 3) := dk_154 0 5 (dk_at dksX3_readsDigit_0 17 rfl rfl)
theorem dX3_readsDigit_20 : decode cX3_readsDigit 20 = .ok (.iconst 0, 1) := dk_3 (dk_at dksX3_readsDigit_0 20 rfl rfl)
theorem dX3_readsDigit_21 : decode cX3_readsDigit 21 = .ok (.ireturn, 1) := dk_172 (dk_at dksX3_readsDigit_0 21 rfl rfl)
theorem dX3_readsDigit_22 : decode cX3_readsDigit 22 = .ok (.aload_n 0, 1) := dk_42 (dk_at dksX3_readsDigit_0 22 rfl rfl)
theorem dX3_readsDigit_23 : decode cX3_readsDigit 23 = .ok (.getfield 41, 3) := dk_180 0 41 (dk_at dksX3_readsDigit_1 0 rfl rfl)
theorem dX3_readsDigit_26 : decode cX3_readsDigit 26 = .ok (.aload_n 0, 1) := dk_42 (dk_at dksX3_readsDigit_1 3 rfl rfl)
theorem dX3_readsDigit_27 : decode cX3_readsDigit 27 = .ok (.getfield 253, 3) := dk_180 0 253 (dk_at dksX3_readsDigit_1 4 rfl rfl)
theorem dX3_readsDigit_30 : decode cX3_readsDigit 30 = .ok (.aload_n 0, 1) := dk_42 (dk_at dksX3_readsDigit_1 7 rfl rfl)
theorem dX3_readsDigit_31 : decode cX3_readsDigit 31 = .ok (.aload_n 0, 1) := dk_42 (dk_at dksX3_readsDigit_1 8 rfl rfl)
theorem dX3_readsDigit_32 : decode cX3_readsDigit 32 = .ok (.getfield 247, 3) := dk_180 0 247 (dk_at dksX3_readsDigit_1 9 rfl rfl)
theorem dX3_readsDigit_35 : decode cX3_readsDigit 35 = .ok (.invokevirtual 250, 3) := dk_182 0 250 (dk_at dksX3_readsDigit_1 12 rfl rfl)
theorem dX3_readsDigit_38 : decode cX3_readsDigit 38 = .ok (.bipush 48, 2) := dk_16 48 (dk_at dksX3_readsDigit_1 15 rfl rfl)
theorem dX3_readsDigit_40 : decode cX3_readsDigit 40 = .ok (.isub, 1) := dk_100 (dk_at dksX3_readsDigit_1 17 rfl rfl)
theorem dX3_readsDigit_41 : decode cX3_readsDigit 41 = .ok (.iastore, 1) := dk_79 (dk_at dksX3_readsDigit_1 18 rfl rfl)
theorem dX3_readsDigit_42 : decode cX3_readsDigit 42 = .ok (.aload_n 0, 1) := dk_42 (dk_at dksX3_readsDigit_1 19 rfl rfl)
theorem dX3_readsDigit_43 : decode cX3_readsDigit 43 = .ok (.dup, 1) := dk_89 (dk_at dksX3_readsDigit_1 20 rfl rfl)
theorem dX3_readsDigit_44 : decode cX3_readsDigit 44 = .ok (.getfield 247, 3) := dk_180 0 247 (dk_at dksX3_readsDigit_1 21 rfl rfl)
theorem dX3_readsDigit_47 : decode cX3_readsDigit 47 = .ok (.iconst 1, 1) := dk_4 (dk_at dksX3_readsDigit_2 0 rfl rfl)
theorem dX3_readsDigit_48 : decode cX3_readsDigit 48 = .ok (.iadd, 1) := dk_96 (dk_at dksX3_readsDigit_2 1 rfl rfl)
theorem dX3_readsDigit_49 : decode cX3_readsDigit 49 = .ok (.putfield 247, 3) := dk_181 0 247 (dk_at dksX3_readsDigit_2 2 rfl rfl)
theorem dX3_readsDigit_52 : decode cX3_readsDigit 52 = .ok (.iconst 1, 1) := dk_4 (dk_at dksX3_readsDigit_2 5 rfl rfl)
theorem dX3_readsDigit_53 : decode cX3_readsDigit 53 = .ok (.ireturn, 1) := dk_172 (dk_at dksX3_readsDigit_2 6 rfl rfl)
abbrev cX3_readsFog : ByteArray := prog_13_method_90_code
def yX3_readsFog : MethodName := ⟨RX3, "readsFog", "()Z"⟩
def dkwX3_readsFog_2 : List UInt8 := [42, 180, 0, 247, 182, 0, 250, 16, 48, 100, 79, 42, 89, 180, 0, 247, 4, 96, 181, 0, 247, 4, 172]
abbrev dktX3_readsFog_2 : List UInt8 := dkwX3_readsFog_2 ++ []
def dkwX3_readsFog_1 : List UInt8 := [182, 0, 250, 16, 48, 16, 57, 184, 0, 77, 154, 0, 5, 3, 172, 42, 180, 0, 44, 42, 180, 0, 253, 42]
abbrev dktX3_readsFog_1 : List UInt8 := dkwX3_readsFog_1 ++ dktX3_readsFog_2
def dkwX3_readsFog_0 : List UInt8 := [42, 16, 6, 182, 1, 0, 153, 0, 30, 42, 16, 61, 182, 1, 3, 153, 0, 21, 42, 42, 180, 0, 247]
abbrev dktX3_readsFog_0 : List UInt8 := dkwX3_readsFog_0 ++ dktX3_readsFog_1
theorem dksX3_readsFog_0 : cX3_readsFog.data.toList.drop 0 = dktX3_readsFog_0 := by decide +kernel
theorem dksX3_readsFog_1 : cX3_readsFog.data.toList.drop 23 = dktX3_readsFog_1 := dk_seg dksX3_readsFog_0 23 rfl rfl
theorem dksX3_readsFog_2 : cX3_readsFog.data.toList.drop 47 = dktX3_readsFog_2 := dk_seg dksX3_readsFog_1 24 rfl rfl
theorem dX3_readsFog_0 : decode cX3_readsFog 0 = .ok (.aload_n 0, 1) := dk_42 (dk_at dksX3_readsFog_0 0 rfl rfl)
theorem dX3_readsFog_1 : decode cX3_readsFog 1 = .ok (.bipush 6, 2) := dk_16 6 (dk_at dksX3_readsFog_0 1 rfl rfl)
theorem dX3_readsFog_3 : decode cX3_readsFog 3 = .ok (.invokevirtual 256, 3) := dk_182 1 0 (dk_at dksX3_readsFog_0 3 rfl rfl)
theorem dX3_readsFog_6 : decode cX3_readsFog 6 = .ok (.ifCond .eq 30, 3) := dk_153 0 30 (dk_at dksX3_readsFog_0 6 rfl rfl)
theorem dX3_readsFog_9 : decode cX3_readsFog 9 = .ok (.aload_n 0, 1) := dk_42 (dk_at dksX3_readsFog_0 9 rfl rfl)
theorem dX3_readsFog_10 : decode cX3_readsFog 10 = .ok (.bipush 61, 2) := dk_16 61 (dk_at dksX3_readsFog_0 10 rfl rfl)
theorem dX3_readsFog_12 : decode cX3_readsFog 12 = .ok (.invokevirtual 259, 3) := dk_182 1 3 (dk_at dksX3_readsFog_0 12 rfl rfl)
theorem dX3_readsFog_15 : decode cX3_readsFog 15 = .ok (.ifCond .eq 21, 3) := dk_153 0 21 (dk_at dksX3_readsFog_0 15 rfl rfl)
theorem dX3_readsFog_18 : decode cX3_readsFog 18 = .ok (.aload_n 0, 1) := dk_42 (dk_at dksX3_readsFog_0 18 rfl rfl)
theorem dX3_readsFog_19 : decode cX3_readsFog 19 = .ok (.aload_n 0, 1) := dk_42 (dk_at dksX3_readsFog_0 19 rfl rfl)
theorem dX3_readsFog_20 : decode cX3_readsFog 20 = .ok (.getfield 247, 3) := dk_180 0 247 (dk_at dksX3_readsFog_0 20 rfl rfl)
theorem dX3_readsFog_23 : decode cX3_readsFog 23 = .ok (.invokevirtual 250, 3) := dk_182 0 250 (dk_at dksX3_readsFog_1 0 rfl rfl)
theorem dX3_readsFog_26 : decode cX3_readsFog 26 = .ok (.bipush 48, 2) := dk_16 48 (dk_at dksX3_readsFog_1 3 rfl rfl)
theorem dX3_readsFog_28 : decode cX3_readsFog 28 = .ok (.bipush 57, 2) := dk_16 57 (dk_at dksX3_readsFog_1 5 rfl rfl)
theorem dX3_readsFog_30 : decode cX3_readsFog 30 = .ok (.invokestatic 77, 3) := dk_184 0 77 (dk_at dksX3_readsFog_1 7 rfl rfl)
theorem dX3_readsFog_33 : decode cX3_readsFog 33 = .ok (.ifCond .ne 5, 3) := dk_154 0 5 (dk_at dksX3_readsFog_1 10 rfl rfl)
theorem dX3_readsFog_36 : decode cX3_readsFog 36 = .ok (.iconst 0, 1) := dk_3 (dk_at dksX3_readsFog_1 13 rfl rfl)
theorem dX3_readsFog_37 : decode cX3_readsFog 37 = .ok (.ireturn, 1) := dk_172 (dk_at dksX3_readsFog_1 14 rfl rfl)
theorem dX3_readsFog_38 : decode cX3_readsFog 38 = .ok (.aload_n 0, 1) := dk_42 (dk_at dksX3_readsFog_1 15 rfl rfl)
theorem dX3_readsFog_39 : decode cX3_readsFog 39 = .ok (.getfield 44, 3) := dk_180 0 44 (dk_at dksX3_readsFog_1 16 rfl rfl)
theorem dX3_readsFog_42 : decode cX3_readsFog 42 = .ok (.aload_n 0, 1) := dk_42 (dk_at dksX3_readsFog_1 19 rfl rfl)
theorem dX3_readsFog_43 : decode cX3_readsFog 43 = .ok (.getfield 253, 3) := dk_180 0 253 (dk_at dksX3_readsFog_1 20 rfl rfl)
theorem dX3_readsFog_46 : decode cX3_readsFog 46 = .ok (.aload_n 0, 1) := dk_42 (dk_at dksX3_readsFog_1 23 rfl rfl)
theorem dX3_readsFog_47 : decode cX3_readsFog 47 = .ok (.aload_n 0, 1) := dk_42 (dk_at dksX3_readsFog_2 0 rfl rfl)
theorem dX3_readsFog_48 : decode cX3_readsFog 48 = .ok (.getfield 247, 3) := dk_180 0 247 (dk_at dksX3_readsFog_2 1 rfl rfl)
theorem dX3_readsFog_51 : decode cX3_readsFog 51 = .ok (.invokevirtual 250, 3) := dk_182 0 250 (dk_at dksX3_readsFog_2 4 rfl rfl)
theorem dX3_readsFog_54 : decode cX3_readsFog 54 = .ok (.bipush 48, 2) := dk_16 48 (dk_at dksX3_readsFog_2 7 rfl rfl)
theorem dX3_readsFog_56 : decode cX3_readsFog 56 = .ok (.isub, 1) := dk_100 (dk_at dksX3_readsFog_2 9 rfl rfl)
theorem dX3_readsFog_57 : decode cX3_readsFog 57 = .ok (.iastore, 1) := dk_79 (dk_at dksX3_readsFog_2 10 rfl rfl)
theorem dX3_readsFog_58 : decode cX3_readsFog 58 = .ok (.aload_n 0, 1) := dk_42 (dk_at dksX3_readsFog_2 11 rfl rfl)
theorem dX3_readsFog_59 : decode cX3_readsFog 59 = .ok (.dup, 1) := dk_89 (dk_at dksX3_readsFog_2 12 rfl rfl)
theorem dX3_readsFog_60 : decode cX3_readsFog 60 = .ok (.getfield 247, 3) := dk_180 0 247 (dk_at dksX3_readsFog_2 13 rfl rfl)
theorem dX3_readsFog_63 : decode cX3_readsFog 63 = .ok (.iconst 1, 1) := dk_4 (dk_at dksX3_readsFog_2 16 rfl rfl)
theorem dX3_readsFog_64 : decode cX3_readsFog 64 = .ok (.iadd, 1) := dk_96 (dk_at dksX3_readsFog_2 17 rfl rfl)
theorem dX3_readsFog_65 : decode cX3_readsFog 65 = .ok (.putfield 247, 3) := dk_181 0 247 (dk_at dksX3_readsFog_2 18 rfl rfl)
theorem dX3_readsFog_68 : decode cX3_readsFog 68 = .ok (.iconst 1, 1) := dk_4 (dk_at dksX3_readsFog_2 21 rfl rfl)
theorem dX3_readsFog_69 : decode cX3_readsFog 69 = .ok (.ireturn, 1) := dk_172 (dk_at dksX3_readsFog_2 22 rfl rfl)
abbrev cX3_readsPattern : ByteArray := prog_13_method_91_code
def yX3_readsPattern : MethodName := ⟨RX3, "readsPattern", "()Z"⟩
def dkwX3_readsPattern_4 : List UInt8 := [42, 180, 0, 253, 27, 79, 27, 6, 164, 0, 7, 4, 167, 0, 4, 3, 172]
abbrev dktX3_readsPattern_4 : List UInt8 := dkwX3_readsPattern_4 ++ []
def dkwX3_readsPattern_3 : List UInt8 := [4, 167, 0, 4, 3, 96, 60, 42, 89, 180, 0, 247, 4, 96, 181, 0, 247, 167, 255, 190, 42, 180, 0, 44]
abbrev dktX3_readsPattern_3 : List UInt8 := dkwX3_readsPattern_3 ++ dktX3_readsPattern_4
def dkwX3_readsPattern_2 : List UInt8 := [182, 0, 250, 16, 46, 160, 0, 39, 5, 27, 104, 42, 42, 180, 0, 247, 182, 0, 250, 16, 42, 160, 0, 7]
abbrev dktX3_readsPattern_2 : List UInt8 := dkwX3_readsPattern_2 ++ dktX3_readsPattern_3
def dkwX3_readsPattern_1 : List UInt8 := [17, 1, 0, 162, 0, 65, 42, 42, 180, 0, 247, 182, 0, 250, 16, 42, 159, 0, 16, 42, 42, 180, 0, 247]
abbrev dktX3_readsPattern_1 : List UInt8 := dkwX3_readsPattern_1 ++ dktX3_readsPattern_2
def dkwX3_readsPattern_0 : List UInt8 := [42, 16, 7, 182, 1, 0, 153, 0, 12, 42, 16, 58, 182, 1, 3, 154, 0, 5, 3, 172, 4, 60, 27]
abbrev dktX3_readsPattern_0 : List UInt8 := dkwX3_readsPattern_0 ++ dktX3_readsPattern_1
theorem dksX3_readsPattern_0 : cX3_readsPattern.data.toList.drop 0 = dktX3_readsPattern_0 := by decide +kernel
theorem dksX3_readsPattern_1 : cX3_readsPattern.data.toList.drop 23 = dktX3_readsPattern_1 := dk_seg dksX3_readsPattern_0 23 rfl rfl
theorem dksX3_readsPattern_2 : cX3_readsPattern.data.toList.drop 47 = dktX3_readsPattern_2 := dk_seg dksX3_readsPattern_1 24 rfl rfl
theorem dksX3_readsPattern_3 : cX3_readsPattern.data.toList.drop 71 = dktX3_readsPattern_3 := dk_seg dksX3_readsPattern_2 24 rfl rfl
theorem dksX3_readsPattern_4 : cX3_readsPattern.data.toList.drop 95 = dktX3_readsPattern_4 := dk_seg dksX3_readsPattern_3 24 rfl rfl
theorem dX3_readsPattern_0 : decode cX3_readsPattern 0 = .ok (.aload_n 0, 1) := dk_42 (dk_at dksX3_readsPattern_0 0 rfl rfl)
theorem dX3_readsPattern_1 : decode cX3_readsPattern 1 = .ok (.bipush 7, 2) := dk_16 7 (dk_at dksX3_readsPattern_0 1 rfl rfl)
theorem dX3_readsPattern_3 : decode cX3_readsPattern 3 = .ok (.invokevirtual 256, 3) := dk_182 1 0 (dk_at dksX3_readsPattern_0 3 rfl rfl)
theorem dX3_readsPattern_6 : decode cX3_readsPattern 6 = .ok (.ifCond .eq 12, 3) := dk_153 0 12 (dk_at dksX3_readsPattern_0 6 rfl rfl)
theorem dX3_readsPattern_9 : decode cX3_readsPattern 9 = .ok (.aload_n 0, 1) := dk_42 (dk_at dksX3_readsPattern_0 9 rfl rfl)
theorem dX3_readsPattern_10 : decode cX3_readsPattern 10 = .ok (.bipush 58, 2) := dk_16 58 (dk_at dksX3_readsPattern_0 10 rfl rfl)
theorem dX3_readsPattern_12 : decode cX3_readsPattern 12 = .ok (.invokevirtual 259, 3) := dk_182 1 3 (dk_at dksX3_readsPattern_0 12 rfl rfl)
theorem dX3_readsPattern_15 : decode cX3_readsPattern 15 = .ok (.ifCond .ne 5, 3) := dk_154 0 5 (dk_at dksX3_readsPattern_0 15 rfl rfl)
theorem dX3_readsPattern_18 : decode cX3_readsPattern 18 = .ok (.iconst 0, 1) := dk_3 (dk_at dksX3_readsPattern_0 18 rfl rfl)
theorem dX3_readsPattern_19 : decode cX3_readsPattern 19 = .ok (.ireturn, 1) := dk_172 (dk_at dksX3_readsPattern_0 19 rfl rfl)
theorem dX3_readsPattern_20 : decode cX3_readsPattern 20 = .ok (.iconst 1, 1) := dk_4 (dk_at dksX3_readsPattern_0 20 rfl rfl)
theorem dX3_readsPattern_21 : decode cX3_readsPattern 21 = .ok (.istore_n 1, 1) := dk_60 (dk_at dksX3_readsPattern_0 21 rfl rfl)
theorem dX3_readsPattern_22 : decode cX3_readsPattern 22 = .ok (.iload_n 1, 1) := dk_27 (dk_at dksX3_readsPattern_0 22 rfl rfl)
theorem dX3_readsPattern_23 : decode cX3_readsPattern 23 = .ok (.sipush 256, 3) := dk_17 1 0 (dk_at dksX3_readsPattern_1 0 rfl rfl)
theorem dX3_readsPattern_26 : decode cX3_readsPattern 26 = .ok (.if_icmp .ge 65, 3) := dk_162 0 65 (dk_at dksX3_readsPattern_1 3 rfl rfl)
theorem dX3_readsPattern_29 : decode cX3_readsPattern 29 = .ok (.aload_n 0, 1) := dk_42 (dk_at dksX3_readsPattern_1 6 rfl rfl)
theorem dX3_readsPattern_30 : decode cX3_readsPattern 30 = .ok (.aload_n 0, 1) := dk_42 (dk_at dksX3_readsPattern_1 7 rfl rfl)
theorem dX3_readsPattern_31 : decode cX3_readsPattern 31 = .ok (.getfield 247, 3) := dk_180 0 247 (dk_at dksX3_readsPattern_1 8 rfl rfl)
theorem dX3_readsPattern_34 : decode cX3_readsPattern 34 = .ok (.invokevirtual 250, 3) := dk_182 0 250 (dk_at dksX3_readsPattern_1 11 rfl rfl)
theorem dX3_readsPattern_37 : decode cX3_readsPattern 37 = .ok (.bipush 42, 2) := dk_16 42 (dk_at dksX3_readsPattern_1 14 rfl rfl)
theorem dX3_readsPattern_39 : decode cX3_readsPattern 39 = .ok (.if_icmp .eq 16, 3) := dk_159 0 16 (dk_at dksX3_readsPattern_1 16 rfl rfl)
theorem dX3_readsPattern_42 : decode cX3_readsPattern 42 = .ok (.aload_n 0, 1) := dk_42 (dk_at dksX3_readsPattern_1 19 rfl rfl)
theorem dX3_readsPattern_43 : decode cX3_readsPattern 43 = .ok (.aload_n 0, 1) := dk_42 (dk_at dksX3_readsPattern_1 20 rfl rfl)
theorem dX3_readsPattern_44 : decode cX3_readsPattern 44 = .ok (.getfield 247, 3) := dk_180 0 247 (dk_at dksX3_readsPattern_1 21 rfl rfl)
theorem dX3_readsPattern_47 : decode cX3_readsPattern 47 = .ok (.invokevirtual 250, 3) := dk_182 0 250 (dk_at dksX3_readsPattern_2 0 rfl rfl)
theorem dX3_readsPattern_50 : decode cX3_readsPattern 50 = .ok (.bipush 46, 2) := dk_16 46 (dk_at dksX3_readsPattern_2 3 rfl rfl)
theorem dX3_readsPattern_52 : decode cX3_readsPattern 52 = .ok (.if_icmp .ne 39, 3) := dk_160 0 39 (dk_at dksX3_readsPattern_2 5 rfl rfl)
theorem dX3_readsPattern_55 : decode cX3_readsPattern 55 = .ok (.iconst 2, 1) := dk_5 (dk_at dksX3_readsPattern_2 8 rfl rfl)
theorem dX3_readsPattern_56 : decode cX3_readsPattern 56 = .ok (.iload_n 1, 1) := dk_27 (dk_at dksX3_readsPattern_2 9 rfl rfl)
theorem dX3_readsPattern_57 : decode cX3_readsPattern 57 = .ok (.imul, 1) := dk_104 (dk_at dksX3_readsPattern_2 10 rfl rfl)
theorem dX3_readsPattern_58 : decode cX3_readsPattern 58 = .ok (.aload_n 0, 1) := dk_42 (dk_at dksX3_readsPattern_2 11 rfl rfl)
theorem dX3_readsPattern_59 : decode cX3_readsPattern 59 = .ok (.aload_n 0, 1) := dk_42 (dk_at dksX3_readsPattern_2 12 rfl rfl)
theorem dX3_readsPattern_60 : decode cX3_readsPattern 60 = .ok (.getfield 247, 3) := dk_180 0 247 (dk_at dksX3_readsPattern_2 13 rfl rfl)
theorem dX3_readsPattern_63 : decode cX3_readsPattern 63 = .ok (.invokevirtual 250, 3) := dk_182 0 250 (dk_at dksX3_readsPattern_2 16 rfl rfl)
theorem dX3_readsPattern_66 : decode cX3_readsPattern 66 = .ok (.bipush 42, 2) := dk_16 42 (dk_at dksX3_readsPattern_2 19 rfl rfl)
theorem dX3_readsPattern_68 : decode cX3_readsPattern 68 = .ok (.if_icmp .ne 7, 3) := dk_160 0 7 (dk_at dksX3_readsPattern_2 21 rfl rfl)
theorem dX3_readsPattern_71 : decode cX3_readsPattern 71 = .ok (.iconst 1, 1) := dk_4 (dk_at dksX3_readsPattern_3 0 rfl rfl)
theorem dX3_readsPattern_72 : decode cX3_readsPattern 72 = .ok (.goto 4, 3) := dk_167 0 4 (dk_at dksX3_readsPattern_3 1 rfl rfl)
theorem dX3_readsPattern_75 : decode cX3_readsPattern 75 = .ok (.iconst 0, 1) := dk_3 (dk_at dksX3_readsPattern_3 4 rfl rfl)
theorem dX3_readsPattern_76 : decode cX3_readsPattern 76 = .ok (.iadd, 1) := dk_96 (dk_at dksX3_readsPattern_3 5 rfl rfl)
theorem dX3_readsPattern_77 : decode cX3_readsPattern 77 = .ok (.istore_n 1, 1) := dk_60 (dk_at dksX3_readsPattern_3 6 rfl rfl)
theorem dX3_readsPattern_78 : decode cX3_readsPattern 78 = .ok (.aload_n 0, 1) := dk_42 (dk_at dksX3_readsPattern_3 7 rfl rfl)
theorem dX3_readsPattern_79 : decode cX3_readsPattern 79 = .ok (.dup, 1) := dk_89 (dk_at dksX3_readsPattern_3 8 rfl rfl)
theorem dX3_readsPattern_80 : decode cX3_readsPattern 80 = .ok (.getfield 247, 3) := dk_180 0 247 (dk_at dksX3_readsPattern_3 9 rfl rfl)
theorem dX3_readsPattern_83 : decode cX3_readsPattern 83 = .ok (.iconst 1, 1) := dk_4 (dk_at dksX3_readsPattern_3 12 rfl rfl)
theorem dX3_readsPattern_84 : decode cX3_readsPattern 84 = .ok (.iadd, 1) := dk_96 (dk_at dksX3_readsPattern_3 13 rfl rfl)
theorem dX3_readsPattern_85 : decode cX3_readsPattern 85 = .ok (.putfield 247, 3) := dk_181 0 247 (dk_at dksX3_readsPattern_3 14 rfl rfl)
theorem dX3_readsPattern_88 : decode cX3_readsPattern 88 = .ok (.goto (-66), 3) := dk_167 255 190 (dk_at dksX3_readsPattern_3 17 rfl rfl)
theorem dX3_readsPattern_91 : decode cX3_readsPattern 91 = .ok (.aload_n 0, 1) := dk_42 (dk_at dksX3_readsPattern_3 20 rfl rfl)
theorem dX3_readsPattern_92 : decode cX3_readsPattern 92 = .ok (.getfield 44, 3) := dk_180 0 44 (dk_at dksX3_readsPattern_3 21 rfl rfl)
theorem dX3_readsPattern_95 : decode cX3_readsPattern 95 = .ok (.aload_n 0, 1) := dk_42 (dk_at dksX3_readsPattern_4 0 rfl rfl)
theorem dX3_readsPattern_96 : decode cX3_readsPattern 96 = .ok (.getfield 253, 3) := dk_180 0 253 (dk_at dksX3_readsPattern_4 1 rfl rfl)
theorem dX3_readsPattern_99 : decode cX3_readsPattern 99 = .ok (.iload_n 1, 1) := dk_27 (dk_at dksX3_readsPattern_4 4 rfl rfl)
theorem dX3_readsPattern_100 : decode cX3_readsPattern 100 = .ok (.iastore, 1) := dk_79 (dk_at dksX3_readsPattern_4 5 rfl rfl)
theorem dX3_readsPattern_101 : decode cX3_readsPattern 101 = .ok (.iload_n 1, 1) := dk_27 (dk_at dksX3_readsPattern_4 6 rfl rfl)
theorem dX3_readsPattern_102 : decode cX3_readsPattern 102 = .ok (.iconst 3, 1) := dk_6 (dk_at dksX3_readsPattern_4 7 rfl rfl)
theorem dX3_readsPattern_103 : decode cX3_readsPattern 103 = .ok (.if_icmp .le 7, 3) := dk_164 0 7 (dk_at dksX3_readsPattern_4 8 rfl rfl)
theorem dX3_readsPattern_106 : decode cX3_readsPattern 106 = .ok (.iconst 1, 1) := dk_4 (dk_at dksX3_readsPattern_4 11 rfl rfl)
theorem dX3_readsPattern_107 : decode cX3_readsPattern 107 = .ok (.goto 4, 3) := dk_167 0 4 (dk_at dksX3_readsPattern_4 12 rfl rfl)
theorem dX3_readsPattern_110 : decode cX3_readsPattern 110 = .ok (.iconst 0, 1) := dk_3 (dk_at dksX3_readsPattern_4 15 rfl rfl)
theorem dX3_readsPattern_111 : decode cX3_readsPattern 111 = .ok (.ireturn, 1) := dk_172 (dk_at dksX3_readsPattern_4 16 rfl rfl)
abbrev cX3_readsNumber : ByteArray := prog_13_method_92_code
def yX3_readsNumber : MethodName := ⟨RX3, "readsNumber", "()Z"⟩
def dkwX3_readsNumber_3 : List UInt8 := [181, 0, 247, 4, 172]
abbrev dktX3_readsNumber_3 : List UInt8 := dkwX3_readsNumber_3 ++ []
def dkwX3_readsNumber_2 : List UInt8 := [46, 104, 42, 42, 180, 0, 247, 182, 0, 250, 96, 16, 48, 100, 79, 42, 89, 180, 0, 247, 4, 96]
abbrev dktX3_readsNumber_2 : List UInt8 := dkwX3_readsNumber_2 ++ dktX3_readsNumber_3
def dkwX3_readsNumber_1 : List UInt8 := [184, 0, 77, 153, 0, 46, 42, 180, 0, 41, 42, 180, 0, 253, 16, 10, 42, 180, 0, 41, 42, 180, 0, 253]
abbrev dktX3_readsNumber_1 : List UInt8 := dkwX3_readsNumber_1 ++ dktX3_readsNumber_2
def dkwX3_readsNumber_0 : List UInt8 := [42, 16, 9, 182, 1, 0, 154, 0, 5, 3, 172, 42, 42, 180, 0, 247, 182, 0, 250, 16, 48, 16, 57]
abbrev dktX3_readsNumber_0 : List UInt8 := dkwX3_readsNumber_0 ++ dktX3_readsNumber_1
theorem dksX3_readsNumber_0 : cX3_readsNumber.data.toList.drop 0 = dktX3_readsNumber_0 := by decide +kernel
theorem dksX3_readsNumber_1 : cX3_readsNumber.data.toList.drop 23 = dktX3_readsNumber_1 := dk_seg dksX3_readsNumber_0 23 rfl rfl
theorem dksX3_readsNumber_2 : cX3_readsNumber.data.toList.drop 47 = dktX3_readsNumber_2 := dk_seg dksX3_readsNumber_1 24 rfl rfl
theorem dksX3_readsNumber_3 : cX3_readsNumber.data.toList.drop 69 = dktX3_readsNumber_3 := dk_seg dksX3_readsNumber_2 22 rfl rfl
theorem dX3_readsNumber_0 : decode cX3_readsNumber 0 = .ok (.aload_n 0, 1) := dk_42 (dk_at dksX3_readsNumber_0 0 rfl rfl)
theorem dX3_readsNumber_1 : decode cX3_readsNumber 1 = .ok (.bipush 9, 2) := dk_16 9 (dk_at dksX3_readsNumber_0 1 rfl rfl)
theorem dX3_readsNumber_3 : decode cX3_readsNumber 3 = .ok (.invokevirtual 256, 3) := dk_182 1 0 (dk_at dksX3_readsNumber_0 3 rfl rfl)
theorem dX3_readsNumber_6 : decode cX3_readsNumber 6 = .ok (.ifCond .ne 5, 3) := dk_154 0 5 (dk_at dksX3_readsNumber_0 6 rfl rfl)
theorem dX3_readsNumber_9 : decode cX3_readsNumber 9 = .ok (.iconst 0, 1) := dk_3 (dk_at dksX3_readsNumber_0 9 rfl rfl)
theorem dX3_readsNumber_10 : decode cX3_readsNumber 10 = .ok (.ireturn, 1) := dk_172 (dk_at dksX3_readsNumber_0 10 rfl rfl)
theorem dX3_readsNumber_11 : decode cX3_readsNumber 11 = .ok (.aload_n 0, 1) := dk_42 (dk_at dksX3_readsNumber_0 11 rfl rfl)
theorem dX3_readsNumber_12 : decode cX3_readsNumber 12 = .ok (.aload_n 0, 1) := dk_42 (dk_at dksX3_readsNumber_0 12 rfl rfl)
theorem dX3_readsNumber_13 : decode cX3_readsNumber 13 = .ok (.getfield 247, 3) := dk_180 0 247 (dk_at dksX3_readsNumber_0 13 rfl rfl)
theorem dX3_readsNumber_16 : decode cX3_readsNumber 16 = .ok (.invokevirtual 250, 3) := dk_182 0 250 (dk_at dksX3_readsNumber_0 16 rfl rfl)
theorem dX3_readsNumber_19 : decode cX3_readsNumber 19 = .ok (.bipush 48, 2) := dk_16 48 (dk_at dksX3_readsNumber_0 19 rfl rfl)
theorem dX3_readsNumber_21 : decode cX3_readsNumber 21 = .ok (.bipush 57, 2) := dk_16 57 (dk_at dksX3_readsNumber_0 21 rfl rfl)
theorem dX3_readsNumber_23 : decode cX3_readsNumber 23 = .ok (.invokestatic 77, 3) := dk_184 0 77 (dk_at dksX3_readsNumber_1 0 rfl rfl)
theorem dX3_readsNumber_26 : decode cX3_readsNumber 26 = .ok (.ifCond .eq 46, 3) := dk_153 0 46 (dk_at dksX3_readsNumber_1 3 rfl rfl)
theorem dX3_readsNumber_29 : decode cX3_readsNumber 29 = .ok (.aload_n 0, 1) := dk_42 (dk_at dksX3_readsNumber_1 6 rfl rfl)
theorem dX3_readsNumber_30 : decode cX3_readsNumber 30 = .ok (.getfield 41, 3) := dk_180 0 41 (dk_at dksX3_readsNumber_1 7 rfl rfl)
theorem dX3_readsNumber_33 : decode cX3_readsNumber 33 = .ok (.aload_n 0, 1) := dk_42 (dk_at dksX3_readsNumber_1 10 rfl rfl)
theorem dX3_readsNumber_34 : decode cX3_readsNumber 34 = .ok (.getfield 253, 3) := dk_180 0 253 (dk_at dksX3_readsNumber_1 11 rfl rfl)
theorem dX3_readsNumber_37 : decode cX3_readsNumber 37 = .ok (.bipush 10, 2) := dk_16 10 (dk_at dksX3_readsNumber_1 14 rfl rfl)
theorem dX3_readsNumber_39 : decode cX3_readsNumber 39 = .ok (.aload_n 0, 1) := dk_42 (dk_at dksX3_readsNumber_1 16 rfl rfl)
theorem dX3_readsNumber_40 : decode cX3_readsNumber 40 = .ok (.getfield 41, 3) := dk_180 0 41 (dk_at dksX3_readsNumber_1 17 rfl rfl)
theorem dX3_readsNumber_43 : decode cX3_readsNumber 43 = .ok (.aload_n 0, 1) := dk_42 (dk_at dksX3_readsNumber_1 20 rfl rfl)
theorem dX3_readsNumber_44 : decode cX3_readsNumber 44 = .ok (.getfield 253, 3) := dk_180 0 253 (dk_at dksX3_readsNumber_1 21 rfl rfl)
theorem dX3_readsNumber_47 : decode cX3_readsNumber 47 = .ok (.iaload, 1) := dk_46 (dk_at dksX3_readsNumber_2 0 rfl rfl)
theorem dX3_readsNumber_48 : decode cX3_readsNumber 48 = .ok (.imul, 1) := dk_104 (dk_at dksX3_readsNumber_2 1 rfl rfl)
theorem dX3_readsNumber_49 : decode cX3_readsNumber 49 = .ok (.aload_n 0, 1) := dk_42 (dk_at dksX3_readsNumber_2 2 rfl rfl)
theorem dX3_readsNumber_50 : decode cX3_readsNumber 50 = .ok (.aload_n 0, 1) := dk_42 (dk_at dksX3_readsNumber_2 3 rfl rfl)
theorem dX3_readsNumber_51 : decode cX3_readsNumber 51 = .ok (.getfield 247, 3) := dk_180 0 247 (dk_at dksX3_readsNumber_2 4 rfl rfl)
theorem dX3_readsNumber_54 : decode cX3_readsNumber 54 = .ok (.invokevirtual 250, 3) := dk_182 0 250 (dk_at dksX3_readsNumber_2 7 rfl rfl)
theorem dX3_readsNumber_57 : decode cX3_readsNumber 57 = .ok (.iadd, 1) := dk_96 (dk_at dksX3_readsNumber_2 10 rfl rfl)
theorem dX3_readsNumber_58 : decode cX3_readsNumber 58 = .ok (.bipush 48, 2) := dk_16 48 (dk_at dksX3_readsNumber_2 11 rfl rfl)
theorem dX3_readsNumber_60 : decode cX3_readsNumber 60 = .ok (.isub, 1) := dk_100 (dk_at dksX3_readsNumber_2 13 rfl rfl)
theorem dX3_readsNumber_61 : decode cX3_readsNumber 61 = .ok (.iastore, 1) := dk_79 (dk_at dksX3_readsNumber_2 14 rfl rfl)
theorem dX3_readsNumber_62 : decode cX3_readsNumber 62 = .ok (.aload_n 0, 1) := dk_42 (dk_at dksX3_readsNumber_2 15 rfl rfl)
theorem dX3_readsNumber_63 : decode cX3_readsNumber 63 = .ok (.dup, 1) := dk_89 (dk_at dksX3_readsNumber_2 16 rfl rfl)
theorem dX3_readsNumber_64 : decode cX3_readsNumber 64 = .ok (.getfield 247, 3) := dk_180 0 247 (dk_at dksX3_readsNumber_2 17 rfl rfl)
theorem dX3_readsNumber_67 : decode cX3_readsNumber 67 = .ok (.iconst 1, 1) := dk_4 (dk_at dksX3_readsNumber_2 20 rfl rfl)
theorem dX3_readsNumber_68 : decode cX3_readsNumber 68 = .ok (.iadd, 1) := dk_96 (dk_at dksX3_readsNumber_2 21 rfl rfl)
theorem dX3_readsNumber_69 : decode cX3_readsNumber 69 = .ok (.putfield 247, 3) := dk_181 0 247 (dk_at dksX3_readsNumber_3 0 rfl rfl)
theorem dX3_readsNumber_72 : decode cX3_readsNumber 72 = .ok (.iconst 1, 1) := dk_4 (dk_at dksX3_readsNumber_3 3 rfl rfl)
theorem dX3_readsNumber_73 : decode cX3_readsNumber 73 = .ok (.ireturn, 1) := dk_172 (dk_at dksX3_readsNumber_3 4 rfl rfl)
abbrev cX3_hindersAt : ByteArray := prog_13_method_97_code
def yX3_hindersAt : MethodName := ⟨RX3, "hindersAt", "(I)Z"⟩
def dkwX3_hindersAt_4 : List UInt8 := [42, 182, 0, 164, 172, 3, 172]
abbrev dktX3_hindersAt_4 : List UInt8 := dkwX3_hindersAt_4 ++ []
def dkwX3_hindersAt_3 : List UInt8 := [42, 28, 182, 0, 171, 172, 42, 28, 182, 0, 177, 172, 42, 28, 182, 0, 180, 172, 42, 28, 182, 0, 186, 172]
abbrev dktX3_hindersAt_3 : List UInt8 := dkwX3_hindersAt_3 ++ dktX3_hindersAt_4
def dkwX3_hindersAt_2 : List UInt8 := [171, 0, 0, 0, 0, 0, 80, 0, 0, 0, 5, 0, 0, 0, 66, 0, 0, 0, 63, 0, 0, 0, 68, 0, 0, 0, 57, 0, 0, 0, 76, 0, 0, 0, 51, 0, 0, 0, 77, 0, 0, 0, 69, 0, 0, 0, 83, 0, 0, 0, 75]
abbrev dktX3_hindersAt_2 : List UInt8 := dkwX3_hindersAt_2 ++ dktX3_hindersAt_3
def dkwX3_hindersAt_1 : List UInt8 := [180, 0, 38, 27, 46]
abbrev dktX3_hindersAt_1 : List UInt8 := dkwX3_hindersAt_1 ++ dktX3_hindersAt_2
def dkwX3_hindersAt_0 : List UInt8 := [42, 27, 182, 1, 21, 153, 0, 11, 42, 16, 11, 3, 182, 0, 132, 172, 42, 180, 0, 41, 27, 46, 61, 42]
abbrev dktX3_hindersAt_0 : List UInt8 := dkwX3_hindersAt_0 ++ dktX3_hindersAt_1
theorem dksX3_hindersAt_0 : cX3_hindersAt.data.toList.drop 0 = dktX3_hindersAt_0 := by decide +kernel
theorem dksX3_hindersAt_1 : cX3_hindersAt.data.toList.drop 24 = dktX3_hindersAt_1 := dk_seg dksX3_hindersAt_0 24 rfl rfl
theorem dksX3_hindersAt_2 : cX3_hindersAt.data.toList.drop 29 = dktX3_hindersAt_2 := dk_seg dksX3_hindersAt_1 5 rfl rfl
theorem dksX3_hindersAt_3 : cX3_hindersAt.data.toList.drop 80 = dktX3_hindersAt_3 := dk_seg dksX3_hindersAt_2 51 rfl rfl
theorem dksX3_hindersAt_4 : cX3_hindersAt.data.toList.drop 104 = dktX3_hindersAt_4 := dk_seg dksX3_hindersAt_3 24 rfl rfl
theorem dX3_hindersAt_0 : decode cX3_hindersAt 0 = .ok (.aload_n 0, 1) := dk_42 (dk_at dksX3_hindersAt_0 0 rfl rfl)
theorem dX3_hindersAt_1 : decode cX3_hindersAt 1 = .ok (.iload_n 1, 1) := dk_27 (dk_at dksX3_hindersAt_0 1 rfl rfl)
theorem dX3_hindersAt_2 : decode cX3_hindersAt 2 = .ok (.invokevirtual 277, 3) := dk_182 1 21 (dk_at dksX3_hindersAt_0 2 rfl rfl)
theorem dX3_hindersAt_5 : decode cX3_hindersAt 5 = .ok (.ifCond .eq 11, 3) := dk_153 0 11 (dk_at dksX3_hindersAt_0 5 rfl rfl)
theorem dX3_hindersAt_8 : decode cX3_hindersAt 8 = .ok (.aload_n 0, 1) := dk_42 (dk_at dksX3_hindersAt_0 8 rfl rfl)
theorem dX3_hindersAt_9 : decode cX3_hindersAt 9 = .ok (.bipush 11, 2) := dk_16 11 (dk_at dksX3_hindersAt_0 9 rfl rfl)
theorem dX3_hindersAt_11 : decode cX3_hindersAt 11 = .ok (.iconst 0, 1) := dk_3 (dk_at dksX3_hindersAt_0 11 rfl rfl)
theorem dX3_hindersAt_12 : decode cX3_hindersAt 12 = .ok (.invokevirtual 132, 3) := dk_182 0 132 (dk_at dksX3_hindersAt_0 12 rfl rfl)
theorem dX3_hindersAt_15 : decode cX3_hindersAt 15 = .ok (.ireturn, 1) := dk_172 (dk_at dksX3_hindersAt_0 15 rfl rfl)
theorem dX3_hindersAt_16 : decode cX3_hindersAt 16 = .ok (.aload_n 0, 1) := dk_42 (dk_at dksX3_hindersAt_0 16 rfl rfl)
theorem dX3_hindersAt_17 : decode cX3_hindersAt 17 = .ok (.getfield 41, 3) := dk_180 0 41 (dk_at dksX3_hindersAt_0 17 rfl rfl)
theorem dX3_hindersAt_20 : decode cX3_hindersAt 20 = .ok (.iload_n 1, 1) := dk_27 (dk_at dksX3_hindersAt_0 20 rfl rfl)
theorem dX3_hindersAt_21 : decode cX3_hindersAt 21 = .ok (.iaload, 1) := dk_46 (dk_at dksX3_hindersAt_0 21 rfl rfl)
theorem dX3_hindersAt_22 : decode cX3_hindersAt 22 = .ok (.istore_n 2, 1) := dk_61 (dk_at dksX3_hindersAt_0 22 rfl rfl)
theorem dX3_hindersAt_23 : decode cX3_hindersAt 23 = .ok (.aload_n 0, 1) := dk_42 (dk_at dksX3_hindersAt_0 23 rfl rfl)
theorem dX3_hindersAt_24 : decode cX3_hindersAt 24 = .ok (.getfield 38, 3) := dk_180 0 38 (dk_at dksX3_hindersAt_1 0 rfl rfl)
theorem dX3_hindersAt_27 : decode cX3_hindersAt 27 = .ok (.iload_n 1, 1) := dk_27 (dk_at dksX3_hindersAt_1 3 rfl rfl)
theorem dX3_hindersAt_28 : decode cX3_hindersAt 28 = .ok (.iaload, 1) := dk_46 (dk_at dksX3_hindersAt_1 4 rfl rfl)
theorem dX3_hindersAt_29 : decode cX3_hindersAt 29 = .ok (.lookupswitch 80 #[(66, 63), (68, 57), (76, 51), (77, 69), (83, 75)], 51) := by decide +kernel
theorem dX3_hindersAt_80 : decode cX3_hindersAt 80 = .ok (.aload_n 0, 1) := dk_42 (dk_at dksX3_hindersAt_3 0 rfl rfl)
theorem dX3_hindersAt_81 : decode cX3_hindersAt 81 = .ok (.iload_n 2, 1) := dk_28 (dk_at dksX3_hindersAt_3 1 rfl rfl)
theorem dX3_hindersAt_82 : decode cX3_hindersAt 82 = .ok (.invokevirtual 171, 3) := dk_182 0 171 (dk_at dksX3_hindersAt_3 2 rfl rfl)
theorem dX3_hindersAt_85 : decode cX3_hindersAt 85 = .ok (.ireturn, 1) := dk_172 (dk_at dksX3_hindersAt_3 5 rfl rfl)
theorem dX3_hindersAt_86 : decode cX3_hindersAt 86 = .ok (.aload_n 0, 1) := dk_42 (dk_at dksX3_hindersAt_3 6 rfl rfl)
theorem dX3_hindersAt_87 : decode cX3_hindersAt 87 = .ok (.iload_n 2, 1) := dk_28 (dk_at dksX3_hindersAt_3 7 rfl rfl)
theorem dX3_hindersAt_88 : decode cX3_hindersAt 88 = .ok (.invokevirtual 177, 3) := dk_182 0 177 (dk_at dksX3_hindersAt_3 8 rfl rfl)
theorem dX3_hindersAt_91 : decode cX3_hindersAt 91 = .ok (.ireturn, 1) := dk_172 (dk_at dksX3_hindersAt_3 11 rfl rfl)
theorem dX3_hindersAt_92 : decode cX3_hindersAt 92 = .ok (.aload_n 0, 1) := dk_42 (dk_at dksX3_hindersAt_3 12 rfl rfl)
theorem dX3_hindersAt_93 : decode cX3_hindersAt 93 = .ok (.iload_n 2, 1) := dk_28 (dk_at dksX3_hindersAt_3 13 rfl rfl)
theorem dX3_hindersAt_94 : decode cX3_hindersAt 94 = .ok (.invokevirtual 180, 3) := dk_182 0 180 (dk_at dksX3_hindersAt_3 14 rfl rfl)
theorem dX3_hindersAt_97 : decode cX3_hindersAt 97 = .ok (.ireturn, 1) := dk_172 (dk_at dksX3_hindersAt_3 17 rfl rfl)
theorem dX3_hindersAt_98 : decode cX3_hindersAt 98 = .ok (.aload_n 0, 1) := dk_42 (dk_at dksX3_hindersAt_3 18 rfl rfl)
theorem dX3_hindersAt_99 : decode cX3_hindersAt 99 = .ok (.iload_n 2, 1) := dk_28 (dk_at dksX3_hindersAt_3 19 rfl rfl)
theorem dX3_hindersAt_100 : decode cX3_hindersAt 100 = .ok (.invokevirtual 186, 3) := dk_182 0 186 (dk_at dksX3_hindersAt_3 20 rfl rfl)
theorem dX3_hindersAt_103 : decode cX3_hindersAt 103 = .ok (.ireturn, 1) := dk_172 (dk_at dksX3_hindersAt_3 23 rfl rfl)
theorem dX3_hindersAt_104 : decode cX3_hindersAt 104 = .ok (.aload_n 0, 1) := dk_42 (dk_at dksX3_hindersAt_4 0 rfl rfl)
theorem dX3_hindersAt_105 : decode cX3_hindersAt 105 = .ok (.invokevirtual 164, 3) := dk_182 0 164 (dk_at dksX3_hindersAt_4 1 rfl rfl)
theorem dX3_hindersAt_108 : decode cX3_hindersAt 108 = .ok (.ireturn, 1) := dk_172 (dk_at dksX3_hindersAt_4 4 rfl rfl)
theorem dX3_hindersAt_109 : decode cX3_hindersAt 109 = .ok (.iconst 0, 1) := dk_3 (dk_at dksX3_hindersAt_4 5 rfl rfl)
theorem dX3_hindersAt_110 : decode cX3_hindersAt 110 = .ok (.ireturn, 1) := dk_172 (dk_at dksX3_hindersAt_4 6 rfl rfl)
abbrev cX3_isNoneAt : ByteArray := prog_13_method_96_code
def yX3_isNoneAt : MethodName := ⟨RX3, "isNoneAt", "(I)Z"⟩
def dkwX3_isNoneAt_4 : List UInt8 := [154, 0, 7, 4, 167, 0, 4, 3, 172]
abbrev dktX3_isNoneAt_4 : List UInt8 := dkwX3_isNoneAt_4 ++ []
def dkwX3_isNoneAt_3 : List UInt8 := [180, 0, 38, 27, 46, 16, 80, 160, 0, 24, 42, 180, 0, 44, 27, 46, 4, 28, 120, 100, 28, 184, 0, 151]
abbrev dktX3_isNoneAt_3 : List UInt8 := dkwX3_isNoneAt_3 ++ dktX3_isNoneAt_4
def dkwX3_isNoneAt_2 : List UInt8 := [180, 0, 41, 27, 46, 182, 0, 148, 154, 0, 5, 4, 172, 42, 180, 0, 44, 27, 46, 184, 1, 18, 61, 42]
abbrev dktX3_isNoneAt_2 : List UInt8 := dkwX3_isNoneAt_2 ++ dktX3_isNoneAt_3
def dkwX3_isNoneAt_1 : List UInt8 := [42, 180, 0, 41, 27, 46, 4, 16, 30, 184, 0, 77, 154, 0, 7, 4, 167, 0, 4, 3, 172, 42, 42]
abbrev dktX3_isNoneAt_1 : List UInt8 := dkwX3_isNoneAt_1 ++ dktX3_isNoneAt_2
def dkwX3_isNoneAt_0 : List UInt8 := [42, 180, 0, 38, 27, 46, 16, 70, 160, 0, 5, 3, 172, 42, 180, 0, 38, 27, 46, 16, 78, 160, 0, 24]
abbrev dktX3_isNoneAt_0 : List UInt8 := dkwX3_isNoneAt_0 ++ dktX3_isNoneAt_1
theorem dksX3_isNoneAt_0 : cX3_isNoneAt.data.toList.drop 0 = dktX3_isNoneAt_0 := by decide +kernel
theorem dksX3_isNoneAt_1 : cX3_isNoneAt.data.toList.drop 24 = dktX3_isNoneAt_1 := dk_seg dksX3_isNoneAt_0 24 rfl rfl
theorem dksX3_isNoneAt_2 : cX3_isNoneAt.data.toList.drop 47 = dktX3_isNoneAt_2 := dk_seg dksX3_isNoneAt_1 23 rfl rfl
theorem dksX3_isNoneAt_3 : cX3_isNoneAt.data.toList.drop 71 = dktX3_isNoneAt_3 := dk_seg dksX3_isNoneAt_2 24 rfl rfl
theorem dksX3_isNoneAt_4 : cX3_isNoneAt.data.toList.drop 95 = dktX3_isNoneAt_4 := dk_seg dksX3_isNoneAt_3 24 rfl rfl
theorem dX3_isNoneAt_0 : decode cX3_isNoneAt 0 = .ok (.aload_n 0, 1) := dk_42 (dk_at dksX3_isNoneAt_0 0 rfl rfl)
theorem dX3_isNoneAt_1 : decode cX3_isNoneAt 1 = .ok (.getfield 38, 3) := dk_180 0 38 (dk_at dksX3_isNoneAt_0 1 rfl rfl)
theorem dX3_isNoneAt_4 : decode cX3_isNoneAt 4 = .ok (.iload_n 1, 1) := dk_27 (dk_at dksX3_isNoneAt_0 4 rfl rfl)
theorem dX3_isNoneAt_5 : decode cX3_isNoneAt 5 = .ok (.iaload, 1) := dk_46 (dk_at dksX3_isNoneAt_0 5 rfl rfl)
theorem dX3_isNoneAt_6 : decode cX3_isNoneAt 6 = .ok (.bipush 70, 2) := dk_16 70 (dk_at dksX3_isNoneAt_0 6 rfl rfl)
theorem dX3_isNoneAt_8 : decode cX3_isNoneAt 8 = .ok (.if_icmp .ne 5, 3) := dk_160 0 5 (dk_at dksX3_isNoneAt_0 8 rfl rfl)
theorem dX3_isNoneAt_11 : decode cX3_isNoneAt 11 = .ok (.iconst 0, 1) := dk_3 (dk_at dksX3_isNoneAt_0 11 rfl rfl)
theorem dX3_isNoneAt_12 : decode cX3_isNoneAt 12 = .ok (.ireturn, 1) := dk_172 (dk_at dksX3_isNoneAt_0 12 rfl rfl)
theorem dX3_isNoneAt_13 : decode cX3_isNoneAt 13 = .ok (.aload_n 0, 1) := dk_42 (dk_at dksX3_isNoneAt_0 13 rfl rfl)
theorem dX3_isNoneAt_14 : decode cX3_isNoneAt 14 = .ok (.getfield 38, 3) := dk_180 0 38 (dk_at dksX3_isNoneAt_0 14 rfl rfl)
theorem dX3_isNoneAt_17 : decode cX3_isNoneAt 17 = .ok (.iload_n 1, 1) := dk_27 (dk_at dksX3_isNoneAt_0 17 rfl rfl)
theorem dX3_isNoneAt_18 : decode cX3_isNoneAt 18 = .ok (.iaload, 1) := dk_46 (dk_at dksX3_isNoneAt_0 18 rfl rfl)
theorem dX3_isNoneAt_19 : decode cX3_isNoneAt 19 = .ok (.bipush 78, 2) := dk_16 78 (dk_at dksX3_isNoneAt_0 19 rfl rfl)
theorem dX3_isNoneAt_21 : decode cX3_isNoneAt 21 = .ok (.if_icmp .ne 24, 3) := dk_160 0 24 (dk_at dksX3_isNoneAt_0 21 rfl rfl)
theorem dX3_isNoneAt_24 : decode cX3_isNoneAt 24 = .ok (.aload_n 0, 1) := dk_42 (dk_at dksX3_isNoneAt_1 0 rfl rfl)
theorem dX3_isNoneAt_25 : decode cX3_isNoneAt 25 = .ok (.getfield 41, 3) := dk_180 0 41 (dk_at dksX3_isNoneAt_1 1 rfl rfl)
theorem dX3_isNoneAt_28 : decode cX3_isNoneAt 28 = .ok (.iload_n 1, 1) := dk_27 (dk_at dksX3_isNoneAt_1 4 rfl rfl)
theorem dX3_isNoneAt_29 : decode cX3_isNoneAt 29 = .ok (.iaload, 1) := dk_46 (dk_at dksX3_isNoneAt_1 5 rfl rfl)
theorem dX3_isNoneAt_30 : decode cX3_isNoneAt 30 = .ok (.iconst 1, 1) := dk_4 (dk_at dksX3_isNoneAt_1 6 rfl rfl)
theorem dX3_isNoneAt_31 : decode cX3_isNoneAt 31 = .ok (.bipush 30, 2) := dk_16 30 (dk_at dksX3_isNoneAt_1 7 rfl rfl)
theorem dX3_isNoneAt_33 : decode cX3_isNoneAt 33 = .ok (.invokestatic 77, 3) := dk_184 0 77 (dk_at dksX3_isNoneAt_1 9 rfl rfl)
theorem dX3_isNoneAt_36 : decode cX3_isNoneAt 36 = .ok (.ifCond .ne 7, 3) := dk_154 0 7 (dk_at dksX3_isNoneAt_1 12 rfl rfl)
theorem dX3_isNoneAt_39 : decode cX3_isNoneAt 39 = .ok (.iconst 1, 1) := dk_4 (dk_at dksX3_isNoneAt_1 15 rfl rfl)
theorem dX3_isNoneAt_40 : decode cX3_isNoneAt 40 = .ok (.goto 4, 3) := dk_167 0 4 (dk_at dksX3_isNoneAt_1 16 rfl rfl)
theorem dX3_isNoneAt_43 : decode cX3_isNoneAt 43 = .ok (.iconst 0, 1) := dk_3 (dk_at dksX3_isNoneAt_1 19 rfl rfl)
theorem dX3_isNoneAt_44 : decode cX3_isNoneAt 44 = .ok (.ireturn, 1) := dk_172 (dk_at dksX3_isNoneAt_1 20 rfl rfl)
theorem dX3_isNoneAt_45 : decode cX3_isNoneAt 45 = .ok (.aload_n 0, 1) := dk_42 (dk_at dksX3_isNoneAt_1 21 rfl rfl)
theorem dX3_isNoneAt_46 : decode cX3_isNoneAt 46 = .ok (.aload_n 0, 1) := dk_42 (dk_at dksX3_isNoneAt_1 22 rfl rfl)
theorem dX3_isNoneAt_47 : decode cX3_isNoneAt 47 = .ok (.getfield 41, 3) := dk_180 0 41 (dk_at dksX3_isNoneAt_2 0 rfl rfl)
theorem dX3_isNoneAt_50 : decode cX3_isNoneAt 50 = .ok (.iload_n 1, 1) := dk_27 (dk_at dksX3_isNoneAt_2 3 rfl rfl)
theorem dX3_isNoneAt_51 : decode cX3_isNoneAt 51 = .ok (.iaload, 1) := dk_46 (dk_at dksX3_isNoneAt_2 4 rfl rfl)
theorem dX3_isNoneAt_52 : decode cX3_isNoneAt 52 = .ok (.invokevirtual 148, 3) := dk_182 0 148 (dk_at dksX3_isNoneAt_2 5 rfl rfl)
theorem dX3_isNoneAt_55 : decode cX3_isNoneAt 55 = .ok (.ifCond .ne 5, 3) := dk_154 0 5 (dk_at dksX3_isNoneAt_2 8 rfl rfl)
theorem dX3_isNoneAt_58 : decode cX3_isNoneAt 58 = .ok (.iconst 1, 1) := dk_4 (dk_at dksX3_isNoneAt_2 11 rfl rfl)
theorem dX3_isNoneAt_59 : decode cX3_isNoneAt 59 = .ok (.ireturn, 1) := dk_172 (dk_at dksX3_isNoneAt_2 12 rfl rfl)
theorem dX3_isNoneAt_60 : decode cX3_isNoneAt 60 = .ok (.aload_n 0, 1) := dk_42 (dk_at dksX3_isNoneAt_2 13 rfl rfl)
theorem dX3_isNoneAt_61 : decode cX3_isNoneAt 61 = .ok (.getfield 44, 3) := dk_180 0 44 (dk_at dksX3_isNoneAt_2 14 rfl rfl)
theorem dX3_isNoneAt_64 : decode cX3_isNoneAt 64 = .ok (.iload_n 1, 1) := dk_27 (dk_at dksX3_isNoneAt_2 17 rfl rfl)
theorem dX3_isNoneAt_65 : decode cX3_isNoneAt 65 = .ok (.iaload, 1) := dk_46 (dk_at dksX3_isNoneAt_2 18 rfl rfl)
theorem dX3_isNoneAt_66 : decode cX3_isNoneAt 66 = .ok (.invokestatic 274, 3) := dk_184 1 18 (dk_at dksX3_isNoneAt_2 19 rfl rfl)
theorem dX3_isNoneAt_69 : decode cX3_isNoneAt 69 = .ok (.istore_n 2, 1) := dk_61 (dk_at dksX3_isNoneAt_2 22 rfl rfl)
theorem dX3_isNoneAt_70 : decode cX3_isNoneAt 70 = .ok (.aload_n 0, 1) := dk_42 (dk_at dksX3_isNoneAt_2 23 rfl rfl)
theorem dX3_isNoneAt_71 : decode cX3_isNoneAt 71 = .ok (.getfield 38, 3) := dk_180 0 38 (dk_at dksX3_isNoneAt_3 0 rfl rfl)
theorem dX3_isNoneAt_74 : decode cX3_isNoneAt 74 = .ok (.iload_n 1, 1) := dk_27 (dk_at dksX3_isNoneAt_3 3 rfl rfl)
theorem dX3_isNoneAt_75 : decode cX3_isNoneAt 75 = .ok (.iaload, 1) := dk_46 (dk_at dksX3_isNoneAt_3 4 rfl rfl)
theorem dX3_isNoneAt_76 : decode cX3_isNoneAt 76 = .ok (.bipush 80, 2) := dk_16 80 (dk_at dksX3_isNoneAt_3 5 rfl rfl)
theorem dX3_isNoneAt_78 : decode cX3_isNoneAt 78 = .ok (.if_icmp .ne 24, 3) := dk_160 0 24 (dk_at dksX3_isNoneAt_3 7 rfl rfl)
theorem dX3_isNoneAt_81 : decode cX3_isNoneAt 81 = .ok (.aload_n 0, 1) := dk_42 (dk_at dksX3_isNoneAt_3 10 rfl rfl)
theorem dX3_isNoneAt_82 : decode cX3_isNoneAt 82 = .ok (.getfield 44, 3) := dk_180 0 44 (dk_at dksX3_isNoneAt_3 11 rfl rfl)
theorem dX3_isNoneAt_85 : decode cX3_isNoneAt 85 = .ok (.iload_n 1, 1) := dk_27 (dk_at dksX3_isNoneAt_3 14 rfl rfl)
theorem dX3_isNoneAt_86 : decode cX3_isNoneAt 86 = .ok (.iaload, 1) := dk_46 (dk_at dksX3_isNoneAt_3 15 rfl rfl)
theorem dX3_isNoneAt_87 : decode cX3_isNoneAt 87 = .ok (.iconst 1, 1) := dk_4 (dk_at dksX3_isNoneAt_3 16 rfl rfl)
theorem dX3_isNoneAt_88 : decode cX3_isNoneAt 88 = .ok (.iload_n 2, 1) := dk_28 (dk_at dksX3_isNoneAt_3 17 rfl rfl)
theorem dX3_isNoneAt_89 : decode cX3_isNoneAt 89 = .ok (.ishl, 1) := dk_120 (dk_at dksX3_isNoneAt_3 18 rfl rfl)
theorem dX3_isNoneAt_90 : decode cX3_isNoneAt 90 = .ok (.isub, 1) := dk_100 (dk_at dksX3_isNoneAt_3 19 rfl rfl)
theorem dX3_isNoneAt_91 : decode cX3_isNoneAt 91 = .ok (.iload_n 2, 1) := dk_28 (dk_at dksX3_isNoneAt_3 20 rfl rfl)
theorem dX3_isNoneAt_92 : decode cX3_isNoneAt 92 = .ok (.invokestatic 151, 3) := dk_184 0 151 (dk_at dksX3_isNoneAt_3 21 rfl rfl)
theorem dX3_isNoneAt_95 : decode cX3_isNoneAt 95 = .ok (.ifCond .ne 7, 3) := dk_154 0 7 (dk_at dksX3_isNoneAt_4 0 rfl rfl)
theorem dX3_isNoneAt_98 : decode cX3_isNoneAt 98 = .ok (.iconst 1, 1) := dk_4 (dk_at dksX3_isNoneAt_4 3 rfl rfl)
theorem dX3_isNoneAt_99 : decode cX3_isNoneAt 99 = .ok (.goto 4, 3) := dk_167 0 4 (dk_at dksX3_isNoneAt_4 4 rfl rfl)
theorem dX3_isNoneAt_102 : decode cX3_isNoneAt 102 = .ok (.iconst 0, 1) := dk_3 (dk_at dksX3_isNoneAt_4 7 rfl rfl)
theorem dX3_isNoneAt_103 : decode cX3_isNoneAt 103 = .ok (.ireturn, 1) := dk_172 (dk_at dksX3_isNoneAt_4 8 rfl rfl)
abbrev cX3_manySigns : ByteArray := prog_13_method_95_code
def yX3_manySigns : MethodName := ⟨RX3, "manySigns", "(I)I"⟩
def dkwX3_manySigns_0 : List UInt8 := [3, 60, 26, 27, 4, 96, 122, 158, 0, 9, 132, 1, 1, 167, 255, 245, 27, 172]
abbrev dktX3_manySigns_0 : List UInt8 := dkwX3_manySigns_0 ++ []
theorem dksX3_manySigns_0 : cX3_manySigns.data.toList.drop 0 = dktX3_manySigns_0 := by decide +kernel
theorem dX3_manySigns_0 : decode cX3_manySigns 0 = .ok (.iconst 0, 1) := dk_3 (dk_at dksX3_manySigns_0 0 rfl rfl)
theorem dX3_manySigns_1 : decode cX3_manySigns 1 = .ok (.istore_n 1, 1) := dk_60 (dk_at dksX3_manySigns_0 1 rfl rfl)
theorem dX3_manySigns_2 : decode cX3_manySigns 2 = .ok (.iload_n 0, 1) := dk_26 (dk_at dksX3_manySigns_0 2 rfl rfl)
theorem dX3_manySigns_3 : decode cX3_manySigns 3 = .ok (.iload_n 1, 1) := dk_27 (dk_at dksX3_manySigns_0 3 rfl rfl)
theorem dX3_manySigns_4 : decode cX3_manySigns 4 = .ok (.iconst 1, 1) := dk_4 (dk_at dksX3_manySigns_0 4 rfl rfl)
theorem dX3_manySigns_5 : decode cX3_manySigns 5 = .ok (.iadd, 1) := dk_96 (dk_at dksX3_manySigns_0 5 rfl rfl)
theorem dX3_manySigns_6 : decode cX3_manySigns 6 = .ok (.ishr, 1) := dk_122 (dk_at dksX3_manySigns_0 6 rfl rfl)
theorem dX3_manySigns_7 : decode cX3_manySigns 7 = .ok (.ifCond .le 9, 3) := dk_158 0 9 (dk_at dksX3_manySigns_0 7 rfl rfl)
theorem dX3_manySigns_10 : decode cX3_manySigns 10 = .ok (.iinc 1 1, 3) := dk_132 1 1 (dk_at dksX3_manySigns_0 10 rfl rfl)
theorem dX3_manySigns_13 : decode cX3_manySigns 13 = .ok (.goto (-11), 3) := dk_167 255 245 (dk_at dksX3_manySigns_0 13 rfl rfl)
theorem dX3_manySigns_16 : decode cX3_manySigns 16 = .ok (.iload_n 1, 1) := dk_27 (dk_at dksX3_manySigns_0 16 rfl rfl)
theorem dX3_manySigns_17 : decode cX3_manySigns 17 = .ok (.ireturn, 1) := dk_172 (dk_at dksX3_manySigns_0 17 rfl rfl)
abbrev cX3_goesBack : ByteArray := prog_13_method_8_code
def yX3_goesBack : MethodName := ⟨RX3, "goesBack", "()V"⟩
def dkwX3_goesBack_1 : List UInt8 := [167, 255, 234, 177]
abbrev dktX3_goesBack_1 : List UInt8 := dkwX3_goesBack_1 ++ []
def dkwX3_goesBack_0 : List UInt8 := [3, 60, 27, 17, 0, 128, 162, 0, 21, 42, 180, 0, 13, 27, 42, 180, 0, 22, 27, 46, 79, 132, 1, 1]
abbrev dktX3_goesBack_0 : List UInt8 := dkwX3_goesBack_0 ++ dktX3_goesBack_1
theorem dksX3_goesBack_0 : cX3_goesBack.data.toList.drop 0 = dktX3_goesBack_0 := by decide +kernel
theorem dksX3_goesBack_1 : cX3_goesBack.data.toList.drop 24 = dktX3_goesBack_1 := dk_seg dksX3_goesBack_0 24 rfl rfl
theorem dX3_goesBack_0 : decode cX3_goesBack 0 = .ok (.iconst 0, 1) := dk_3 (dk_at dksX3_goesBack_0 0 rfl rfl)
theorem dX3_goesBack_1 : decode cX3_goesBack 1 = .ok (.istore_n 1, 1) := dk_60 (dk_at dksX3_goesBack_0 1 rfl rfl)
theorem dX3_goesBack_2 : decode cX3_goesBack 2 = .ok (.iload_n 1, 1) := dk_27 (dk_at dksX3_goesBack_0 2 rfl rfl)
theorem dX3_goesBack_3 : decode cX3_goesBack 3 = .ok (.sipush 128, 3) := dk_17 0 128 (dk_at dksX3_goesBack_0 3 rfl rfl)
theorem dX3_goesBack_6 : decode cX3_goesBack 6 = .ok (.if_icmp .ge 21, 3) := dk_162 0 21 (dk_at dksX3_goesBack_0 6 rfl rfl)
theorem dX3_goesBack_9 : decode cX3_goesBack 9 = .ok (.aload_n 0, 1) := dk_42 (dk_at dksX3_goesBack_0 9 rfl rfl)
theorem dX3_goesBack_10 : decode cX3_goesBack 10 = .ok (.getfield 13, 3) := dk_180 0 13 (dk_at dksX3_goesBack_0 10 rfl rfl)
theorem dX3_goesBack_13 : decode cX3_goesBack 13 = .ok (.iload_n 1, 1) := dk_27 (dk_at dksX3_goesBack_0 13 rfl rfl)
theorem dX3_goesBack_14 : decode cX3_goesBack 14 = .ok (.aload_n 0, 1) := dk_42 (dk_at dksX3_goesBack_0 14 rfl rfl)
theorem dX3_goesBack_15 : decode cX3_goesBack 15 = .ok (.getfield 22, 3) := dk_180 0 22 (dk_at dksX3_goesBack_0 15 rfl rfl)
theorem dX3_goesBack_18 : decode cX3_goesBack 18 = .ok (.iload_n 1, 1) := dk_27 (dk_at dksX3_goesBack_0 18 rfl rfl)
theorem dX3_goesBack_19 : decode cX3_goesBack 19 = .ok (.iaload, 1) := dk_46 (dk_at dksX3_goesBack_0 19 rfl rfl)
theorem dX3_goesBack_20 : decode cX3_goesBack 20 = .ok (.iastore, 1) := dk_79 (dk_at dksX3_goesBack_0 20 rfl rfl)
theorem dX3_goesBack_21 : decode cX3_goesBack 21 = .ok (.iinc 1 1, 3) := dk_132 1 1 (dk_at dksX3_goesBack_0 21 rfl rfl)
theorem dX3_goesBack_24 : decode cX3_goesBack 24 = .ok (.goto (-22), 3) := dk_167 255 234 (dk_at dksX3_goesBack_1 0 rfl rfl)
theorem dX3_goesBack_27 : decode cX3_goesBack 27 = .ok (.return_, 1) := dk_177 (dk_at dksX3_goesBack_1 3 rfl rfl)
abbrev cX3_does : ByteArray := prog_13_method_98_code
def yX3_does : MethodName := ⟨RX3, "does", "(I)V"⟩
def dkwX3_does_7 : List UInt8 := [182, 0, 120, 177]
abbrev dktX3_does_7 : List UInt8 := dkwX3_does_7 ++ []
def dkwX3_does_6 : List UInt8 := [100, 42, 180, 0, 44, 27, 46, 184, 1, 18, 182, 0, 157, 167, 0, 8, 42, 28, 182, 0, 198, 42]
abbrev dktX3_does_6 : List UInt8 := dkwX3_does_6 ++ dktX3_does_7
def dkwX3_does_5 : List UInt8 := [46, 79, 167, 0, 43, 42, 28, 42, 180, 0, 44, 27, 46, 4, 42, 180, 0, 44, 27, 46, 184, 1, 18, 120]
abbrev dktX3_does_5 : List UInt8 := dkwX3_does_5 ++ dktX3_does_6
def dkwX3_does_4 : List UInt8 := [167, 0, 69, 42, 28, 182, 0, 168, 87, 167, 0, 60, 42, 180, 0, 13, 6, 28, 96, 42, 180, 0, 44, 27]
abbrev dktX3_does_4 : List UInt8 := dkwX3_does_4 ++ dktX3_does_5
def dkwX3_does_3 : List UInt8 := [3, 79, 167, 0, 91, 42, 28, 182, 0, 183, 167, 0, 83, 42, 180, 0, 13, 28, 8, 184, 0, 73, 3, 79]
abbrev dktX3_does_3 : List UInt8 := dkwX3_does_3 ++ dktX3_does_4
def dkwX3_does_2 : List UInt8 := [42, 180, 0, 13, 28, 7, 184, 0, 73, 42, 180, 0, 38, 27, 46, 16, 76, 160, 0, 7, 4, 167, 0, 4]
abbrev dktX3_does_2 : List UInt8 := dkwX3_does_2 ++ dktX3_does_3
def dkwX3_does_1 : List UInt8 := [170, 0, 0, 0, 0, 0, 199, 0, 0, 0, 66, 0, 0, 0, 83, 0, 0, 0, 116, 0, 0, 0, 199, 0, 0, 0, 87, 0, 0, 0, 199, 0, 0, 0, 147, 0, 0, 0, 199, 0, 0, 0, 199, 0, 0, 0, 199, 0, 0, 0, 199, 0, 0, 0, 199, 0, 0, 0, 87, 0, 0, 0, 124, 0, 0, 0, 199, 0, 0, 0, 199, 0, 0, 0, 164, 0, 0, 0, 199, 0, 0, 0, 199, 0, 0, 0, 138]
abbrev dktX3_does_1 : List UInt8 := dkwX3_does_1 ++ dktX3_does_2
def dkwX3_does_0 : List UInt8 := [42, 180, 0, 41, 27, 46, 61, 42, 180, 0, 38, 27, 46]
abbrev dktX3_does_0 : List UInt8 := dkwX3_does_0 ++ dktX3_does_1
theorem dksX3_does_0 : cX3_does.data.toList.drop 0 = dktX3_does_0 := by decide +kernel
theorem dksX3_does_1 : cX3_does.data.toList.drop 13 = dktX3_does_1 := dk_seg dksX3_does_0 13 rfl rfl
theorem dksX3_does_2 : cX3_does.data.toList.drop 100 = dktX3_does_2 := dk_seg dksX3_does_1 87 rfl rfl
theorem dksX3_does_3 : cX3_does.data.toList.drop 124 = dktX3_does_3 := dk_seg dksX3_does_2 24 rfl rfl
theorem dksX3_does_4 : cX3_does.data.toList.drop 148 = dktX3_does_4 := dk_seg dksX3_does_3 24 rfl rfl
theorem dksX3_does_5 : cX3_does.data.toList.drop 172 = dktX3_does_5 := dk_seg dksX3_does_4 24 rfl rfl
theorem dksX3_does_6 : cX3_does.data.toList.drop 196 = dktX3_does_6 := dk_seg dksX3_does_5 24 rfl rfl
theorem dksX3_does_7 : cX3_does.data.toList.drop 218 = dktX3_does_7 := dk_seg dksX3_does_6 22 rfl rfl
theorem dX3_does_0 : decode cX3_does 0 = .ok (.aload_n 0, 1) := dk_42 (dk_at dksX3_does_0 0 rfl rfl)
theorem dX3_does_1 : decode cX3_does 1 = .ok (.getfield 41, 3) := dk_180 0 41 (dk_at dksX3_does_0 1 rfl rfl)
theorem dX3_does_4 : decode cX3_does 4 = .ok (.iload_n 1, 1) := dk_27 (dk_at dksX3_does_0 4 rfl rfl)
theorem dX3_does_5 : decode cX3_does 5 = .ok (.iaload, 1) := dk_46 (dk_at dksX3_does_0 5 rfl rfl)
theorem dX3_does_6 : decode cX3_does 6 = .ok (.istore_n 2, 1) := dk_61 (dk_at dksX3_does_0 6 rfl rfl)
theorem dX3_does_7 : decode cX3_does 7 = .ok (.aload_n 0, 1) := dk_42 (dk_at dksX3_does_0 7 rfl rfl)
theorem dX3_does_8 : decode cX3_does 8 = .ok (.getfield 38, 3) := dk_180 0 38 (dk_at dksX3_does_0 8 rfl rfl)
theorem dX3_does_11 : decode cX3_does 11 = .ok (.iload_n 1, 1) := dk_27 (dk_at dksX3_does_0 11 rfl rfl)
theorem dX3_does_12 : decode cX3_does 12 = .ok (.iaload, 1) := dk_46 (dk_at dksX3_does_0 12 rfl rfl)
theorem dX3_does_13 : decode cX3_does 13 = .ok (.tableswitch 199 66 83 #[116, 199, 87, 199, 147, 199, 199, 199, 199, 199, 87, 124, 199, 199, 164, 199, 199, 138], 87) := by decide +kernel
theorem dX3_does_100 : decode cX3_does 100 = .ok (.aload_n 0, 1) := dk_42 (dk_at dksX3_does_2 0 rfl rfl)
theorem dX3_does_101 : decode cX3_does 101 = .ok (.getfield 13, 3) := dk_180 0 13 (dk_at dksX3_does_2 1 rfl rfl)
theorem dX3_does_104 : decode cX3_does 104 = .ok (.iload_n 2, 1) := dk_28 (dk_at dksX3_does_2 4 rfl rfl)
theorem dX3_does_105 : decode cX3_does 105 = .ok (.iconst 4, 1) := dk_7 (dk_at dksX3_does_2 5 rfl rfl)
theorem dX3_does_106 : decode cX3_does 106 = .ok (.invokestatic 73, 3) := dk_184 0 73 (dk_at dksX3_does_2 6 rfl rfl)
theorem dX3_does_109 : decode cX3_does 109 = .ok (.aload_n 0, 1) := dk_42 (dk_at dksX3_does_2 9 rfl rfl)
theorem dX3_does_110 : decode cX3_does 110 = .ok (.getfield 38, 3) := dk_180 0 38 (dk_at dksX3_does_2 10 rfl rfl)
theorem dX3_does_113 : decode cX3_does 113 = .ok (.iload_n 1, 1) := dk_27 (dk_at dksX3_does_2 13 rfl rfl)
theorem dX3_does_114 : decode cX3_does 114 = .ok (.iaload, 1) := dk_46 (dk_at dksX3_does_2 14 rfl rfl)
theorem dX3_does_115 : decode cX3_does 115 = .ok (.bipush 76, 2) := dk_16 76 (dk_at dksX3_does_2 15 rfl rfl)
theorem dX3_does_117 : decode cX3_does 117 = .ok (.if_icmp .ne 7, 3) := dk_160 0 7 (dk_at dksX3_does_2 17 rfl rfl)
theorem dX3_does_120 : decode cX3_does 120 = .ok (.iconst 1, 1) := dk_4 (dk_at dksX3_does_2 20 rfl rfl)
theorem dX3_does_121 : decode cX3_does 121 = .ok (.goto 4, 3) := dk_167 0 4 (dk_at dksX3_does_2 21 rfl rfl)
theorem dX3_does_124 : decode cX3_does 124 = .ok (.iconst 0, 1) := dk_3 (dk_at dksX3_does_3 0 rfl rfl)
theorem dX3_does_125 : decode cX3_does 125 = .ok (.iastore, 1) := dk_79 (dk_at dksX3_does_3 1 rfl rfl)
theorem dX3_does_126 : decode cX3_does 126 = .ok (.goto 91, 3) := dk_167 0 91 (dk_at dksX3_does_3 2 rfl rfl)
theorem dX3_does_129 : decode cX3_does 129 = .ok (.aload_n 0, 1) := dk_42 (dk_at dksX3_does_3 5 rfl rfl)
theorem dX3_does_130 : decode cX3_does 130 = .ok (.iload_n 2, 1) := dk_28 (dk_at dksX3_does_3 6 rfl rfl)
theorem dX3_does_131 : decode cX3_does 131 = .ok (.invokevirtual 183, 3) := dk_182 0 183 (dk_at dksX3_does_3 7 rfl rfl)
theorem dX3_does_134 : decode cX3_does 134 = .ok (.goto 83, 3) := dk_167 0 83 (dk_at dksX3_does_3 10 rfl rfl)
theorem dX3_does_137 : decode cX3_does 137 = .ok (.aload_n 0, 1) := dk_42 (dk_at dksX3_does_3 13 rfl rfl)
theorem dX3_does_138 : decode cX3_does 138 = .ok (.getfield 13, 3) := dk_180 0 13 (dk_at dksX3_does_3 14 rfl rfl)
theorem dX3_does_141 : decode cX3_does 141 = .ok (.iload_n 2, 1) := dk_28 (dk_at dksX3_does_3 17 rfl rfl)
theorem dX3_does_142 : decode cX3_does 142 = .ok (.iconst 5, 1) := dk_8 (dk_at dksX3_does_3 18 rfl rfl)
theorem dX3_does_143 : decode cX3_does 143 = .ok (.invokestatic 73, 3) := dk_184 0 73 (dk_at dksX3_does_3 19 rfl rfl)
theorem dX3_does_146 : decode cX3_does 146 = .ok (.iconst 0, 1) := dk_3 (dk_at dksX3_does_3 22 rfl rfl)
theorem dX3_does_147 : decode cX3_does 147 = .ok (.iastore, 1) := dk_79 (dk_at dksX3_does_3 23 rfl rfl)
theorem dX3_does_148 : decode cX3_does 148 = .ok (.goto 69, 3) := dk_167 0 69 (dk_at dksX3_does_4 0 rfl rfl)
theorem dX3_does_151 : decode cX3_does 151 = .ok (.aload_n 0, 1) := dk_42 (dk_at dksX3_does_4 3 rfl rfl)
theorem dX3_does_152 : decode cX3_does 152 = .ok (.iload_n 2, 1) := dk_28 (dk_at dksX3_does_4 4 rfl rfl)
theorem dX3_does_153 : decode cX3_does 153 = .ok (.invokevirtual 168, 3) := dk_182 0 168 (dk_at dksX3_does_4 5 rfl rfl)
theorem dX3_does_156 : decode cX3_does 156 = .ok (.pop, 1) := dk_87 (dk_at dksX3_does_4 8 rfl rfl)
theorem dX3_does_157 : decode cX3_does 157 = .ok (.goto 60, 3) := dk_167 0 60 (dk_at dksX3_does_4 9 rfl rfl)
theorem dX3_does_160 : decode cX3_does 160 = .ok (.aload_n 0, 1) := dk_42 (dk_at dksX3_does_4 12 rfl rfl)
theorem dX3_does_161 : decode cX3_does 161 = .ok (.getfield 13, 3) := dk_180 0 13 (dk_at dksX3_does_4 13 rfl rfl)
theorem dX3_does_164 : decode cX3_does 164 = .ok (.iconst 3, 1) := dk_6 (dk_at dksX3_does_4 16 rfl rfl)
theorem dX3_does_165 : decode cX3_does 165 = .ok (.iload_n 2, 1) := dk_28 (dk_at dksX3_does_4 17 rfl rfl)
theorem dX3_does_166 : decode cX3_does 166 = .ok (.iadd, 1) := dk_96 (dk_at dksX3_does_4 18 rfl rfl)
theorem dX3_does_167 : decode cX3_does 167 = .ok (.aload_n 0, 1) := dk_42 (dk_at dksX3_does_4 19 rfl rfl)
theorem dX3_does_168 : decode cX3_does 168 = .ok (.getfield 44, 3) := dk_180 0 44 (dk_at dksX3_does_4 20 rfl rfl)
theorem dX3_does_171 : decode cX3_does 171 = .ok (.iload_n 1, 1) := dk_27 (dk_at dksX3_does_4 23 rfl rfl)
theorem dX3_does_172 : decode cX3_does 172 = .ok (.iaload, 1) := dk_46 (dk_at dksX3_does_5 0 rfl rfl)
theorem dX3_does_173 : decode cX3_does 173 = .ok (.iastore, 1) := dk_79 (dk_at dksX3_does_5 1 rfl rfl)
theorem dX3_does_174 : decode cX3_does 174 = .ok (.goto 43, 3) := dk_167 0 43 (dk_at dksX3_does_5 2 rfl rfl)
theorem dX3_does_177 : decode cX3_does 177 = .ok (.aload_n 0, 1) := dk_42 (dk_at dksX3_does_5 5 rfl rfl)
theorem dX3_does_178 : decode cX3_does 178 = .ok (.iload_n 2, 1) := dk_28 (dk_at dksX3_does_5 6 rfl rfl)
theorem dX3_does_179 : decode cX3_does 179 = .ok (.aload_n 0, 1) := dk_42 (dk_at dksX3_does_5 7 rfl rfl)
theorem dX3_does_180 : decode cX3_does 180 = .ok (.getfield 44, 3) := dk_180 0 44 (dk_at dksX3_does_5 8 rfl rfl)
theorem dX3_does_183 : decode cX3_does 183 = .ok (.iload_n 1, 1) := dk_27 (dk_at dksX3_does_5 11 rfl rfl)
theorem dX3_does_184 : decode cX3_does 184 = .ok (.iaload, 1) := dk_46 (dk_at dksX3_does_5 12 rfl rfl)
theorem dX3_does_185 : decode cX3_does 185 = .ok (.iconst 1, 1) := dk_4 (dk_at dksX3_does_5 13 rfl rfl)
theorem dX3_does_186 : decode cX3_does 186 = .ok (.aload_n 0, 1) := dk_42 (dk_at dksX3_does_5 14 rfl rfl)
theorem dX3_does_187 : decode cX3_does 187 = .ok (.getfield 44, 3) := dk_180 0 44 (dk_at dksX3_does_5 15 rfl rfl)
theorem dX3_does_190 : decode cX3_does 190 = .ok (.iload_n 1, 1) := dk_27 (dk_at dksX3_does_5 18 rfl rfl)
theorem dX3_does_191 : decode cX3_does 191 = .ok (.iaload, 1) := dk_46 (dk_at dksX3_does_5 19 rfl rfl)
theorem dX3_does_192 : decode cX3_does 192 = .ok (.invokestatic 274, 3) := dk_184 1 18 (dk_at dksX3_does_5 20 rfl rfl)
theorem dX3_does_195 : decode cX3_does 195 = .ok (.ishl, 1) := dk_120 (dk_at dksX3_does_5 23 rfl rfl)
theorem dX3_does_196 : decode cX3_does 196 = .ok (.isub, 1) := dk_100 (dk_at dksX3_does_6 0 rfl rfl)
theorem dX3_does_197 : decode cX3_does 197 = .ok (.aload_n 0, 1) := dk_42 (dk_at dksX3_does_6 1 rfl rfl)
theorem dX3_does_198 : decode cX3_does 198 = .ok (.getfield 44, 3) := dk_180 0 44 (dk_at dksX3_does_6 2 rfl rfl)
theorem dX3_does_201 : decode cX3_does 201 = .ok (.iload_n 1, 1) := dk_27 (dk_at dksX3_does_6 5 rfl rfl)
theorem dX3_does_202 : decode cX3_does 202 = .ok (.iaload, 1) := dk_46 (dk_at dksX3_does_6 6 rfl rfl)
theorem dX3_does_203 : decode cX3_does 203 = .ok (.invokestatic 274, 3) := dk_184 1 18 (dk_at dksX3_does_6 7 rfl rfl)
theorem dX3_does_206 : decode cX3_does 206 = .ok (.invokevirtual 157, 3) := dk_182 0 157 (dk_at dksX3_does_6 10 rfl rfl)
theorem dX3_does_209 : decode cX3_does 209 = .ok (.goto 8, 3) := dk_167 0 8 (dk_at dksX3_does_6 13 rfl rfl)
theorem dX3_does_212 : decode cX3_does 212 = .ok (.aload_n 0, 1) := dk_42 (dk_at dksX3_does_6 16 rfl rfl)
theorem dX3_does_213 : decode cX3_does 213 = .ok (.iload_n 2, 1) := dk_28 (dk_at dksX3_does_6 17 rfl rfl)
theorem dX3_does_214 : decode cX3_does 214 = .ok (.invokevirtual 198, 3) := dk_182 0 198 (dk_at dksX3_does_6 18 rfl rfl)
theorem dX3_does_217 : decode cX3_does 217 = .ok (.aload_n 0, 1) := dk_42 (dk_at dksX3_does_6 21 rfl rfl)
theorem dX3_does_218 : decode cX3_does 218 = .ok (.invokevirtual 120, 3) := dk_182 0 120 (dk_at dksX3_does_7 0 rfl rfl)
theorem dX3_does_221 : decode cX3_does 221 = .ok (.return_, 1) := dk_177 (dk_at dksX3_does_7 3 rfl rfl)
abbrev cX3_faultPosition : ByteArray := prog_13_method_100_code
def yX3_faultPosition : MethodName := ⟨RX3, "faultPosition", "()I"⟩
def dkwX3_faultPosition_1 : List UInt8 := [172]
abbrev dktX3_faultPosition_1 : List UInt8 := dkwX3_faultPosition_1 ++ []
def dkwX3_faultPosition_0 : List UInt8 := [42, 3, 181, 0, 51, 42, 180, 0, 47, 156, 0, 11, 42, 4, 182, 0, 63, 167, 0, 7, 42, 180, 0, 47]
abbrev dktX3_faultPosition_0 : List UInt8 := dkwX3_faultPosition_0 ++ dktX3_faultPosition_1
theorem dksX3_faultPosition_0 : cX3_faultPosition.data.toList.drop 0 = dktX3_faultPosition_0 := by decide +kernel
theorem dksX3_faultPosition_1 : cX3_faultPosition.data.toList.drop 24 = dktX3_faultPosition_1 := dk_seg dksX3_faultPosition_0 24 rfl rfl
theorem dX3_faultPosition_0 : decode cX3_faultPosition 0 = .ok (.aload_n 0, 1) := dk_42 (dk_at dksX3_faultPosition_0 0 rfl rfl)
theorem dX3_faultPosition_1 : decode cX3_faultPosition 1 = .ok (.iconst 0, 1) := dk_3 (dk_at dksX3_faultPosition_0 1 rfl rfl)
theorem dX3_faultPosition_2 : decode cX3_faultPosition 2 = .ok (.putfield 51, 3) := dk_181 0 51 (dk_at dksX3_faultPosition_0 2 rfl rfl)
theorem dX3_faultPosition_5 : decode cX3_faultPosition 5 = .ok (.aload_n 0, 1) := dk_42 (dk_at dksX3_faultPosition_0 5 rfl rfl)
theorem dX3_faultPosition_6 : decode cX3_faultPosition 6 = .ok (.getfield 47, 3) := dk_180 0 47 (dk_at dksX3_faultPosition_0 6 rfl rfl)
theorem dX3_faultPosition_9 : decode cX3_faultPosition 9 = .ok (.ifCond .ge 11, 3) := dk_156 0 11 (dk_at dksX3_faultPosition_0 9 rfl rfl)
theorem dX3_faultPosition_12 : decode cX3_faultPosition 12 = .ok (.aload_n 0, 1) := dk_42 (dk_at dksX3_faultPosition_0 12 rfl rfl)
theorem dX3_faultPosition_13 : decode cX3_faultPosition 13 = .ok (.iconst 1, 1) := dk_4 (dk_at dksX3_faultPosition_0 13 rfl rfl)
theorem dX3_faultPosition_14 : decode cX3_faultPosition 14 = .ok (.invokevirtual 63, 3) := dk_182 0 63 (dk_at dksX3_faultPosition_0 14 rfl rfl)
theorem dX3_faultPosition_17 : decode cX3_faultPosition 17 = .ok (.goto 7, 3) := dk_167 0 7 (dk_at dksX3_faultPosition_0 17 rfl rfl)
theorem dX3_faultPosition_20 : decode cX3_faultPosition 20 = .ok (.aload_n 0, 1) := dk_42 (dk_at dksX3_faultPosition_0 20 rfl rfl)
theorem dX3_faultPosition_21 : decode cX3_faultPosition 21 = .ok (.getfield 47, 3) := dk_180 0 47 (dk_at dksX3_faultPosition_0 21 rfl rfl)
theorem dX3_faultPosition_24 : decode cX3_faultPosition 24 = .ok (.ireturn, 1) := dk_172 (dk_at dksX3_faultPosition_1 0 rfl rfl)
abbrev cX3_reason : ByteArray := prog_13_method_101_code
def yX3_reason : MethodName := ⟨RX3, "reason", "(IZ)I"⟩
def dkwX3_reason_2 : List UInt8 := [182, 0, 63, 172]
abbrev dktX3_reason_2 : List UInt8 := dkwX3_reason_2 ++ []
def dkwX3_reason_1 : List UInt8 := [180, 0, 7, 5, 27, 104, 28, 153, 0, 7, 4, 167, 0, 4, 3, 96, 46, 167, 0, 8, 42, 5]
abbrev dktX3_reason_1 : List UInt8 := dkwX3_reason_1 ++ dktX3_reason_2
def dkwX3_reason_0 : List UInt8 := [42, 3, 181, 0, 51, 27, 156, 0, 9, 42, 4, 182, 0, 63, 172, 27, 42, 180, 0, 60, 162, 0, 24, 42]
abbrev dktX3_reason_0 : List UInt8 := dkwX3_reason_0 ++ dktX3_reason_1
theorem dksX3_reason_0 : cX3_reason.data.toList.drop 0 = dktX3_reason_0 := by decide +kernel
theorem dksX3_reason_1 : cX3_reason.data.toList.drop 24 = dktX3_reason_1 := dk_seg dksX3_reason_0 24 rfl rfl
theorem dksX3_reason_2 : cX3_reason.data.toList.drop 46 = dktX3_reason_2 := dk_seg dksX3_reason_1 22 rfl rfl
theorem dX3_reason_0 : decode cX3_reason 0 = .ok (.aload_n 0, 1) := dk_42 (dk_at dksX3_reason_0 0 rfl rfl)
theorem dX3_reason_1 : decode cX3_reason 1 = .ok (.iconst 0, 1) := dk_3 (dk_at dksX3_reason_0 1 rfl rfl)
theorem dX3_reason_2 : decode cX3_reason 2 = .ok (.putfield 51, 3) := dk_181 0 51 (dk_at dksX3_reason_0 2 rfl rfl)
theorem dX3_reason_5 : decode cX3_reason 5 = .ok (.iload_n 1, 1) := dk_27 (dk_at dksX3_reason_0 5 rfl rfl)
theorem dX3_reason_6 : decode cX3_reason 6 = .ok (.ifCond .ge 9, 3) := dk_156 0 9 (dk_at dksX3_reason_0 6 rfl rfl)
theorem dX3_reason_9 : decode cX3_reason 9 = .ok (.aload_n 0, 1) := dk_42 (dk_at dksX3_reason_0 9 rfl rfl)
theorem dX3_reason_10 : decode cX3_reason 10 = .ok (.iconst 1, 1) := dk_4 (dk_at dksX3_reason_0 10 rfl rfl)
theorem dX3_reason_11 : decode cX3_reason 11 = .ok (.invokevirtual 63, 3) := dk_182 0 63 (dk_at dksX3_reason_0 11 rfl rfl)
theorem dX3_reason_14 : decode cX3_reason 14 = .ok (.ireturn, 1) := dk_172 (dk_at dksX3_reason_0 14 rfl rfl)
theorem dX3_reason_15 : decode cX3_reason 15 = .ok (.iload_n 1, 1) := dk_27 (dk_at dksX3_reason_0 15 rfl rfl)
theorem dX3_reason_16 : decode cX3_reason 16 = .ok (.aload_n 0, 1) := dk_42 (dk_at dksX3_reason_0 16 rfl rfl)
theorem dX3_reason_17 : decode cX3_reason 17 = .ok (.getfield 60, 3) := dk_180 0 60 (dk_at dksX3_reason_0 17 rfl rfl)
theorem dX3_reason_20 : decode cX3_reason 20 = .ok (.if_icmp .ge 24, 3) := dk_162 0 24 (dk_at dksX3_reason_0 20 rfl rfl)
theorem dX3_reason_23 : decode cX3_reason 23 = .ok (.aload_n 0, 1) := dk_42 (dk_at dksX3_reason_0 23 rfl rfl)
theorem dX3_reason_24 : decode cX3_reason 24 = .ok (.getfield 7, 3) := dk_180 0 7 (dk_at dksX3_reason_1 0 rfl rfl)
theorem dX3_reason_27 : decode cX3_reason 27 = .ok (.iconst 2, 1) := dk_5 (dk_at dksX3_reason_1 3 rfl rfl)
theorem dX3_reason_28 : decode cX3_reason 28 = .ok (.iload_n 1, 1) := dk_27 (dk_at dksX3_reason_1 4 rfl rfl)
theorem dX3_reason_29 : decode cX3_reason 29 = .ok (.imul, 1) := dk_104 (dk_at dksX3_reason_1 5 rfl rfl)
theorem dX3_reason_30 : decode cX3_reason 30 = .ok (.iload_n 2, 1) := dk_28 (dk_at dksX3_reason_1 6 rfl rfl)
theorem dX3_reason_31 : decode cX3_reason 31 = .ok (.ifCond .eq 7, 3) := dk_153 0 7 (dk_at dksX3_reason_1 7 rfl rfl)
theorem dX3_reason_34 : decode cX3_reason 34 = .ok (.iconst 1, 1) := dk_4 (dk_at dksX3_reason_1 10 rfl rfl)
theorem dX3_reason_35 : decode cX3_reason 35 = .ok (.goto 4, 3) := dk_167 0 4 (dk_at dksX3_reason_1 11 rfl rfl)
theorem dX3_reason_38 : decode cX3_reason 38 = .ok (.iconst 0, 1) := dk_3 (dk_at dksX3_reason_1 14 rfl rfl)
theorem dX3_reason_39 : decode cX3_reason 39 = .ok (.iadd, 1) := dk_96 (dk_at dksX3_reason_1 15 rfl rfl)
theorem dX3_reason_40 : decode cX3_reason 40 = .ok (.iaload, 1) := dk_46 (dk_at dksX3_reason_1 16 rfl rfl)
theorem dX3_reason_41 : decode cX3_reason 41 = .ok (.goto 8, 3) := dk_167 0 8 (dk_at dksX3_reason_1 17 rfl rfl)
theorem dX3_reason_44 : decode cX3_reason 44 = .ok (.aload_n 0, 1) := dk_42 (dk_at dksX3_reason_1 20 rfl rfl)
theorem dX3_reason_45 : decode cX3_reason 45 = .ok (.iconst 2, 1) := dk_5 (dk_at dksX3_reason_1 21 rfl rfl)
theorem dX3_reason_46 : decode cX3_reason 46 = .ok (.invokevirtual 63, 3) := dk_182 0 63 (dk_at dksX3_reason_2 0 rfl rfl)
theorem dX3_reason_49 : decode cX3_reason 49 = .ok (.ireturn, 1) := dk_172 (dk_at dksX3_reason_2 3 rfl rfl)
abbrev cX3_towerOf : ByteArray := prog_13_method_102_code
def yX3_towerOf : MethodName := ⟨RX3, "towerOf", "(II)I"⟩
def dkwX3_towerOf_3 : List UInt8 := [184, 0, 154, 172, 42, 27, 182, 1, 36, 172, 42, 5, 182, 0, 63, 172]
abbrev dktX3_towerOf_3 : List UInt8 := dkwX3_towerOf_3 ++ []
def dkwX3_towerOf_2 : List UInt8 := [42, 27, 28, 182, 0, 81, 172, 42, 27, 16, 7, 182, 0, 81, 172, 42, 27, 16, 6, 182, 0, 81]
abbrev dktX3_towerOf_2 : List UInt8 := dkwX3_towerOf_2 ++ dktX3_towerOf_3
def dkwX3_towerOf_1 : List UInt8 := [170, 0, 0, 0, 0, 0, 0, 84, 0, 0, 0, 0, 0, 0, 0, 8, 0, 0, 0, 52, 0, 0, 0, 52, 0, 0, 0, 52, 0, 0, 0, 52, 0, 0, 0, 52, 0, 0, 0, 52, 0, 0, 0, 59, 0, 0, 0, 67, 0, 0, 0, 78]
abbrev dktX3_towerOf_1 : List UInt8 := dkwX3_towerOf_1 ++ dktX3_towerOf_2
def dkwX3_towerOf_0 : List UInt8 := [42, 3, 181, 0, 51, 42, 27, 182, 0, 148, 154, 0, 9, 42, 4, 182, 0, 63, 172, 28]
abbrev dktX3_towerOf_0 : List UInt8 := dkwX3_towerOf_0 ++ dktX3_towerOf_1
theorem dksX3_towerOf_0 : cX3_towerOf.data.toList.drop 0 = dktX3_towerOf_0 := by decide +kernel
theorem dksX3_towerOf_1 : cX3_towerOf.data.toList.drop 20 = dktX3_towerOf_1 := dk_seg dksX3_towerOf_0 20 rfl rfl
theorem dksX3_towerOf_2 : cX3_towerOf.data.toList.drop 72 = dktX3_towerOf_2 := dk_seg dksX3_towerOf_1 52 rfl rfl
theorem dksX3_towerOf_3 : cX3_towerOf.data.toList.drop 94 = dktX3_towerOf_3 := dk_seg dksX3_towerOf_2 22 rfl rfl
theorem dX3_towerOf_0 : decode cX3_towerOf 0 = .ok (.aload_n 0, 1) := dk_42 (dk_at dksX3_towerOf_0 0 rfl rfl)
theorem dX3_towerOf_1 : decode cX3_towerOf 1 = .ok (.iconst 0, 1) := dk_3 (dk_at dksX3_towerOf_0 1 rfl rfl)
theorem dX3_towerOf_2 : decode cX3_towerOf 2 = .ok (.putfield 51, 3) := dk_181 0 51 (dk_at dksX3_towerOf_0 2 rfl rfl)
theorem dX3_towerOf_5 : decode cX3_towerOf 5 = .ok (.aload_n 0, 1) := dk_42 (dk_at dksX3_towerOf_0 5 rfl rfl)
theorem dX3_towerOf_6 : decode cX3_towerOf 6 = .ok (.iload_n 1, 1) := dk_27 (dk_at dksX3_towerOf_0 6 rfl rfl)
theorem dX3_towerOf_7 : decode cX3_towerOf 7 = .ok (.invokevirtual 148, 3) := dk_182 0 148 (dk_at dksX3_towerOf_0 7 rfl rfl)
theorem dX3_towerOf_10 : decode cX3_towerOf 10 = .ok (.ifCond .ne 9, 3) := dk_154 0 9 (dk_at dksX3_towerOf_0 10 rfl rfl)
theorem dX3_towerOf_13 : decode cX3_towerOf 13 = .ok (.aload_n 0, 1) := dk_42 (dk_at dksX3_towerOf_0 13 rfl rfl)
theorem dX3_towerOf_14 : decode cX3_towerOf 14 = .ok (.iconst 1, 1) := dk_4 (dk_at dksX3_towerOf_0 14 rfl rfl)
theorem dX3_towerOf_15 : decode cX3_towerOf 15 = .ok (.invokevirtual 63, 3) := dk_182 0 63 (dk_at dksX3_towerOf_0 15 rfl rfl)
theorem dX3_towerOf_18 : decode cX3_towerOf 18 = .ok (.ireturn, 1) := dk_172 (dk_at dksX3_towerOf_0 18 rfl rfl)
theorem dX3_towerOf_19 : decode cX3_towerOf 19 = .ok (.iload_n 2, 1) := dk_28 (dk_at dksX3_towerOf_0 19 rfl rfl)
theorem dX3_towerOf_20 : decode cX3_towerOf 20 = .ok (.tableswitch 84 0 8 #[52, 52, 52, 52, 52, 52, 59, 67, 78], 52) := by decide +kernel
theorem dX3_towerOf_72 : decode cX3_towerOf 72 = .ok (.aload_n 0, 1) := dk_42 (dk_at dksX3_towerOf_2 0 rfl rfl)
theorem dX3_towerOf_73 : decode cX3_towerOf 73 = .ok (.iload_n 1, 1) := dk_27 (dk_at dksX3_towerOf_2 1 rfl rfl)
theorem dX3_towerOf_74 : decode cX3_towerOf 74 = .ok (.iload_n 2, 1) := dk_28 (dk_at dksX3_towerOf_2 2 rfl rfl)
theorem dX3_towerOf_75 : decode cX3_towerOf 75 = .ok (.invokevirtual 81, 3) := dk_182 0 81 (dk_at dksX3_towerOf_2 3 rfl rfl)
theorem dX3_towerOf_78 : decode cX3_towerOf 78 = .ok (.ireturn, 1) := dk_172 (dk_at dksX3_towerOf_2 6 rfl rfl)
theorem dX3_towerOf_79 : decode cX3_towerOf 79 = .ok (.aload_n 0, 1) := dk_42 (dk_at dksX3_towerOf_2 7 rfl rfl)
theorem dX3_towerOf_80 : decode cX3_towerOf 80 = .ok (.iload_n 1, 1) := dk_27 (dk_at dksX3_towerOf_2 8 rfl rfl)
theorem dX3_towerOf_81 : decode cX3_towerOf 81 = .ok (.bipush 7, 2) := dk_16 7 (dk_at dksX3_towerOf_2 9 rfl rfl)
theorem dX3_towerOf_83 : decode cX3_towerOf 83 = .ok (.invokevirtual 81, 3) := dk_182 0 81 (dk_at dksX3_towerOf_2 11 rfl rfl)
theorem dX3_towerOf_86 : decode cX3_towerOf 86 = .ok (.ireturn, 1) := dk_172 (dk_at dksX3_towerOf_2 14 rfl rfl)
theorem dX3_towerOf_87 : decode cX3_towerOf 87 = .ok (.aload_n 0, 1) := dk_42 (dk_at dksX3_towerOf_2 15 rfl rfl)
theorem dX3_towerOf_88 : decode cX3_towerOf 88 = .ok (.iload_n 1, 1) := dk_27 (dk_at dksX3_towerOf_2 16 rfl rfl)
theorem dX3_towerOf_89 : decode cX3_towerOf 89 = .ok (.bipush 6, 2) := dk_16 6 (dk_at dksX3_towerOf_2 17 rfl rfl)
theorem dX3_towerOf_91 : decode cX3_towerOf 91 = .ok (.invokevirtual 81, 3) := dk_182 0 81 (dk_at dksX3_towerOf_2 19 rfl rfl)
theorem dX3_towerOf_94 : decode cX3_towerOf 94 = .ok (.invokestatic 154, 3) := dk_184 0 154 (dk_at dksX3_towerOf_3 0 rfl rfl)
theorem dX3_towerOf_97 : decode cX3_towerOf 97 = .ok (.ireturn, 1) := dk_172 (dk_at dksX3_towerOf_3 3 rfl rfl)
theorem dX3_towerOf_98 : decode cX3_towerOf 98 = .ok (.aload_n 0, 1) := dk_42 (dk_at dksX3_towerOf_3 4 rfl rfl)
theorem dX3_towerOf_99 : decode cX3_towerOf 99 = .ok (.iload_n 1, 1) := dk_27 (dk_at dksX3_towerOf_3 5 rfl rfl)
theorem dX3_towerOf_100 : decode cX3_towerOf 100 = .ok (.invokevirtual 292, 3) := dk_182 1 36 (dk_at dksX3_towerOf_3 6 rfl rfl)
theorem dX3_towerOf_103 : decode cX3_towerOf 103 = .ok (.ireturn, 1) := dk_172 (dk_at dksX3_towerOf_3 9 rfl rfl)
theorem dX3_towerOf_104 : decode cX3_towerOf 104 = .ok (.aload_n 0, 1) := dk_42 (dk_at dksX3_towerOf_3 10 rfl rfl)
theorem dX3_towerOf_105 : decode cX3_towerOf 105 = .ok (.iconst 2, 1) := dk_5 (dk_at dksX3_towerOf_3 11 rfl rfl)
theorem dX3_towerOf_106 : decode cX3_towerOf 106 = .ok (.invokevirtual 63, 3) := dk_182 0 63 (dk_at dksX3_towerOf_3 12 rfl rfl)
theorem dX3_towerOf_109 : decode cX3_towerOf 109 = .ok (.ireturn, 1) := dk_172 (dk_at dksX3_towerOf_3 15 rfl rfl)
abbrev cX3_reachedBy : ByteArray := prog_13_method_21_code
def yX3_reachedBy : MethodName := ⟨RX3, "reachedBy", "(I)I"⟩
def dkwX3_reachedBy_1 : List UInt8 := [3, 96, 61, 132, 3, 1, 167, 255, 230, 28, 172]
abbrev dktX3_reachedBy_1 : List UInt8 := dkwX3_reachedBy_1 ++ []
def dkwX3_reachedBy_0 : List UInt8 := [3, 61, 3, 62, 29, 16, 61, 162, 0, 26, 28, 42, 27, 29, 182, 0, 93, 153, 0, 7, 4, 167, 0, 4]
abbrev dktX3_reachedBy_0 : List UInt8 := dkwX3_reachedBy_0 ++ dktX3_reachedBy_1
theorem dksX3_reachedBy_0 : cX3_reachedBy.data.toList.drop 0 = dktX3_reachedBy_0 := by decide +kernel
theorem dksX3_reachedBy_1 : cX3_reachedBy.data.toList.drop 24 = dktX3_reachedBy_1 := dk_seg dksX3_reachedBy_0 24 rfl rfl
theorem dX3_reachedBy_0 : decode cX3_reachedBy 0 = .ok (.iconst 0, 1) := dk_3 (dk_at dksX3_reachedBy_0 0 rfl rfl)
theorem dX3_reachedBy_1 : decode cX3_reachedBy 1 = .ok (.istore_n 2, 1) := dk_61 (dk_at dksX3_reachedBy_0 1 rfl rfl)
theorem dX3_reachedBy_2 : decode cX3_reachedBy 2 = .ok (.iconst 0, 1) := dk_3 (dk_at dksX3_reachedBy_0 2 rfl rfl)
theorem dX3_reachedBy_3 : decode cX3_reachedBy 3 = .ok (.istore_n 3, 1) := dk_62 (dk_at dksX3_reachedBy_0 3 rfl rfl)
theorem dX3_reachedBy_4 : decode cX3_reachedBy 4 = .ok (.iload_n 3, 1) := dk_29 (dk_at dksX3_reachedBy_0 4 rfl rfl)
theorem dX3_reachedBy_5 : decode cX3_reachedBy 5 = .ok (.bipush 61, 2) := dk_16 61 (dk_at dksX3_reachedBy_0 5 rfl rfl)
theorem dX3_reachedBy_7 : decode cX3_reachedBy 7 = .ok (.if_icmp .ge 26, 3) := dk_162 0 26 (dk_at dksX3_reachedBy_0 7 rfl rfl)
theorem dX3_reachedBy_10 : decode cX3_reachedBy 10 = .ok (.iload_n 2, 1) := dk_28 (dk_at dksX3_reachedBy_0 10 rfl rfl)
theorem dX3_reachedBy_11 : decode cX3_reachedBy 11 = .ok (.aload_n 0, 1) := dk_42 (dk_at dksX3_reachedBy_0 11 rfl rfl)
theorem dX3_reachedBy_12 : decode cX3_reachedBy 12 = .ok (.iload_n 1, 1) := dk_27 (dk_at dksX3_reachedBy_0 12 rfl rfl)
theorem dX3_reachedBy_13 : decode cX3_reachedBy 13 = .ok (.iload_n 3, 1) := dk_29 (dk_at dksX3_reachedBy_0 13 rfl rfl)
theorem dX3_reachedBy_14 : decode cX3_reachedBy 14 = .ok (.invokevirtual 93, 3) := dk_182 0 93 (dk_at dksX3_reachedBy_0 14 rfl rfl)
theorem dX3_reachedBy_17 : decode cX3_reachedBy 17 = .ok (.ifCond .eq 7, 3) := dk_153 0 7 (dk_at dksX3_reachedBy_0 17 rfl rfl)
theorem dX3_reachedBy_20 : decode cX3_reachedBy 20 = .ok (.iconst 1, 1) := dk_4 (dk_at dksX3_reachedBy_0 20 rfl rfl)
theorem dX3_reachedBy_21 : decode cX3_reachedBy 21 = .ok (.goto 4, 3) := dk_167 0 4 (dk_at dksX3_reachedBy_0 21 rfl rfl)
theorem dX3_reachedBy_24 : decode cX3_reachedBy 24 = .ok (.iconst 0, 1) := dk_3 (dk_at dksX3_reachedBy_1 0 rfl rfl)
theorem dX3_reachedBy_25 : decode cX3_reachedBy 25 = .ok (.iadd, 1) := dk_96 (dk_at dksX3_reachedBy_1 1 rfl rfl)
theorem dX3_reachedBy_26 : decode cX3_reachedBy 26 = .ok (.istore_n 2, 1) := dk_61 (dk_at dksX3_reachedBy_1 2 rfl rfl)
theorem dX3_reachedBy_27 : decode cX3_reachedBy 27 = .ok (.iinc 3 1, 3) := dk_132 3 1 (dk_at dksX3_reachedBy_1 3 rfl rfl)
theorem dX3_reachedBy_30 : decode cX3_reachedBy 30 = .ok (.goto (-26), 3) := dk_167 255 230 (dk_at dksX3_reachedBy_1 6 rfl rfl)
theorem dX3_reachedBy_33 : decode cX3_reachedBy 33 = .ok (.iload_n 2, 1) := dk_28 (dk_at dksX3_reachedBy_1 9 rfl rfl)
theorem dX3_reachedBy_34 : decode cX3_reachedBy 34 = .ok (.ireturn, 1) := dk_172 (dk_at dksX3_reachedBy_1 10 rfl rfl)
abbrev cX3_sign : ByteArray := prog_13_method_103_code
def yX3_sign : MethodName := ⟨RX3, "sign", "(II)C"⟩
def dkwX3_sign_2 : List UInt8 := [182, 0, 81, 4, 100, 28, 100, 122, 4, 126, 4, 160, 0, 8, 16, 42, 167, 0, 5, 16, 46, 172]
abbrev dktX3_sign_2 : List UInt8 := dkwX3_sign_2 ++ []
def dkwX3_sign_1 : List UInt8 := [184, 0, 77, 154, 0, 10, 42, 4, 182, 0, 63, 146, 172, 42, 27, 16, 6, 182, 0, 81, 42, 27, 16, 7]
abbrev dktX3_sign_1 : List UInt8 := dkwX3_sign_1 ++ dktX3_sign_2
def dkwX3_sign_0 : List UInt8 := [42, 3, 181, 0, 51, 42, 27, 182, 0, 148, 153, 0, 20, 28, 3, 42, 27, 16, 7, 182, 0, 81, 4, 100]
abbrev dktX3_sign_0 : List UInt8 := dkwX3_sign_0 ++ dktX3_sign_1
theorem dksX3_sign_0 : cX3_sign.data.toList.drop 0 = dktX3_sign_0 := by decide +kernel
theorem dksX3_sign_1 : cX3_sign.data.toList.drop 24 = dktX3_sign_1 := dk_seg dksX3_sign_0 24 rfl rfl
theorem dksX3_sign_2 : cX3_sign.data.toList.drop 48 = dktX3_sign_2 := dk_seg dksX3_sign_1 24 rfl rfl
theorem dX3_sign_0 : decode cX3_sign 0 = .ok (.aload_n 0, 1) := dk_42 (dk_at dksX3_sign_0 0 rfl rfl)
theorem dX3_sign_1 : decode cX3_sign 1 = .ok (.iconst 0, 1) := dk_3 (dk_at dksX3_sign_0 1 rfl rfl)
theorem dX3_sign_2 : decode cX3_sign 2 = .ok (.putfield 51, 3) := dk_181 0 51 (dk_at dksX3_sign_0 2 rfl rfl)
theorem dX3_sign_5 : decode cX3_sign 5 = .ok (.aload_n 0, 1) := dk_42 (dk_at dksX3_sign_0 5 rfl rfl)
theorem dX3_sign_6 : decode cX3_sign 6 = .ok (.iload_n 1, 1) := dk_27 (dk_at dksX3_sign_0 6 rfl rfl)
theorem dX3_sign_7 : decode cX3_sign 7 = .ok (.invokevirtual 148, 3) := dk_182 0 148 (dk_at dksX3_sign_0 7 rfl rfl)
theorem dX3_sign_10 : decode cX3_sign 10 = .ok (.ifCond .eq 20, 3) := dk_153 0 20 (dk_at dksX3_sign_0 10 rfl rfl)
theorem dX3_sign_13 : decode cX3_sign 13 = .ok (.iload_n 2, 1) := dk_28 (dk_at dksX3_sign_0 13 rfl rfl)
theorem dX3_sign_14 : decode cX3_sign 14 = .ok (.iconst 0, 1) := dk_3 (dk_at dksX3_sign_0 14 rfl rfl)
theorem dX3_sign_15 : decode cX3_sign 15 = .ok (.aload_n 0, 1) := dk_42 (dk_at dksX3_sign_0 15 rfl rfl)
theorem dX3_sign_16 : decode cX3_sign 16 = .ok (.iload_n 1, 1) := dk_27 (dk_at dksX3_sign_0 16 rfl rfl)
theorem dX3_sign_17 : decode cX3_sign 17 = .ok (.bipush 7, 2) := dk_16 7 (dk_at dksX3_sign_0 17 rfl rfl)
theorem dX3_sign_19 : decode cX3_sign 19 = .ok (.invokevirtual 81, 3) := dk_182 0 81 (dk_at dksX3_sign_0 19 rfl rfl)
theorem dX3_sign_22 : decode cX3_sign 22 = .ok (.iconst 1, 1) := dk_4 (dk_at dksX3_sign_0 22 rfl rfl)
theorem dX3_sign_23 : decode cX3_sign 23 = .ok (.isub, 1) := dk_100 (dk_at dksX3_sign_0 23 rfl rfl)
theorem dX3_sign_24 : decode cX3_sign 24 = .ok (.invokestatic 77, 3) := dk_184 0 77 (dk_at dksX3_sign_1 0 rfl rfl)
theorem dX3_sign_27 : decode cX3_sign 27 = .ok (.ifCond .ne 10, 3) := dk_154 0 10 (dk_at dksX3_sign_1 3 rfl rfl)
theorem dX3_sign_30 : decode cX3_sign 30 = .ok (.aload_n 0, 1) := dk_42 (dk_at dksX3_sign_1 6 rfl rfl)
theorem dX3_sign_31 : decode cX3_sign 31 = .ok (.iconst 1, 1) := dk_4 (dk_at dksX3_sign_1 7 rfl rfl)
theorem dX3_sign_32 : decode cX3_sign 32 = .ok (.invokevirtual 63, 3) := dk_182 0 63 (dk_at dksX3_sign_1 8 rfl rfl)
theorem dX3_sign_35 : decode cX3_sign 35 = .ok (.i2c, 1) := dk_146 (dk_at dksX3_sign_1 11 rfl rfl)
theorem dX3_sign_36 : decode cX3_sign 36 = .ok (.ireturn, 1) := dk_172 (dk_at dksX3_sign_1 12 rfl rfl)
theorem dX3_sign_37 : decode cX3_sign 37 = .ok (.aload_n 0, 1) := dk_42 (dk_at dksX3_sign_1 13 rfl rfl)
theorem dX3_sign_38 : decode cX3_sign 38 = .ok (.iload_n 1, 1) := dk_27 (dk_at dksX3_sign_1 14 rfl rfl)
theorem dX3_sign_39 : decode cX3_sign 39 = .ok (.bipush 6, 2) := dk_16 6 (dk_at dksX3_sign_1 15 rfl rfl)
theorem dX3_sign_41 : decode cX3_sign 41 = .ok (.invokevirtual 81, 3) := dk_182 0 81 (dk_at dksX3_sign_1 17 rfl rfl)
theorem dX3_sign_44 : decode cX3_sign 44 = .ok (.aload_n 0, 1) := dk_42 (dk_at dksX3_sign_1 20 rfl rfl)
theorem dX3_sign_45 : decode cX3_sign 45 = .ok (.iload_n 1, 1) := dk_27 (dk_at dksX3_sign_1 21 rfl rfl)
theorem dX3_sign_46 : decode cX3_sign 46 = .ok (.bipush 7, 2) := dk_16 7 (dk_at dksX3_sign_1 22 rfl rfl)
theorem dX3_sign_48 : decode cX3_sign 48 = .ok (.invokevirtual 81, 3) := dk_182 0 81 (dk_at dksX3_sign_2 0 rfl rfl)
theorem dX3_sign_51 : decode cX3_sign 51 = .ok (.iconst 1, 1) := dk_4 (dk_at dksX3_sign_2 3 rfl rfl)
theorem dX3_sign_52 : decode cX3_sign 52 = .ok (.isub, 1) := dk_100 (dk_at dksX3_sign_2 4 rfl rfl)
theorem dX3_sign_53 : decode cX3_sign 53 = .ok (.iload_n 2, 1) := dk_28 (dk_at dksX3_sign_2 5 rfl rfl)
theorem dX3_sign_54 : decode cX3_sign 54 = .ok (.isub, 1) := dk_100 (dk_at dksX3_sign_2 6 rfl rfl)
theorem dX3_sign_55 : decode cX3_sign 55 = .ok (.ishr, 1) := dk_122 (dk_at dksX3_sign_2 7 rfl rfl)
theorem dX3_sign_56 : decode cX3_sign 56 = .ok (.iconst 1, 1) := dk_4 (dk_at dksX3_sign_2 8 rfl rfl)
theorem dX3_sign_57 : decode cX3_sign 57 = .ok (.iand, 1) := dk_126 (dk_at dksX3_sign_2 9 rfl rfl)
theorem dX3_sign_58 : decode cX3_sign 58 = .ok (.iconst 1, 1) := dk_4 (dk_at dksX3_sign_2 10 rfl rfl)
theorem dX3_sign_59 : decode cX3_sign 59 = .ok (.if_icmp .ne 8, 3) := dk_160 0 8 (dk_at dksX3_sign_2 11 rfl rfl)
theorem dX3_sign_62 : decode cX3_sign 62 = .ok (.bipush 42, 2) := dk_16 42 (dk_at dksX3_sign_2 14 rfl rfl)
theorem dX3_sign_64 : decode cX3_sign 64 = .ok (.goto 5, 3) := dk_167 0 5 (dk_at dksX3_sign_2 16 rfl rfl)
theorem dX3_sign_67 : decode cX3_sign 67 = .ok (.bipush 46, 2) := dk_16 46 (dk_at dksX3_sign_2 19 rfl rfl)
theorem dX3_sign_69 : decode cX3_sign 69 = .ok (.ireturn, 1) := dk_172 (dk_at dksX3_sign_2 21 rfl rfl)
abbrev cX3_lensOf : ByteArray := prog_13_method_105_code
def yX3_lensOf : MethodName := ⟨RX3, "lensOf", "(II)I"⟩
def dkwX3_lensOf_2 : List UInt8 := [42, 27, 182, 1, 39, 167, 0, 13, 42, 180, 0, 13, 27, 28, 184, 0, 84, 46, 172]
abbrev dktX3_lensOf_2 : List UInt8 := dkwX3_lensOf_2 ++ []
def dkwX3_lensOf_1 : List UInt8 := [182, 0, 63, 172, 28, 3, 6, 184, 0, 77, 154, 0, 9, 42, 5, 182, 0, 63, 172, 28, 6, 160, 0, 11]
abbrev dktX3_lensOf_1 : List UInt8 := dkwX3_lensOf_1 ++ dktX3_lensOf_2
def dkwX3_lensOf_0 : List UInt8 := [42, 3, 181, 0, 51, 27, 3, 42, 180, 0, 13, 16, 11, 46, 4, 100, 184, 0, 77, 154, 0, 9, 42, 4]
abbrev dktX3_lensOf_0 : List UInt8 := dkwX3_lensOf_0 ++ dktX3_lensOf_1
theorem dksX3_lensOf_0 : cX3_lensOf.data.toList.drop 0 = dktX3_lensOf_0 := by decide +kernel
theorem dksX3_lensOf_1 : cX3_lensOf.data.toList.drop 24 = dktX3_lensOf_1 := dk_seg dksX3_lensOf_0 24 rfl rfl
theorem dksX3_lensOf_2 : cX3_lensOf.data.toList.drop 48 = dktX3_lensOf_2 := dk_seg dksX3_lensOf_1 24 rfl rfl
theorem dX3_lensOf_0 : decode cX3_lensOf 0 = .ok (.aload_n 0, 1) := dk_42 (dk_at dksX3_lensOf_0 0 rfl rfl)
theorem dX3_lensOf_1 : decode cX3_lensOf 1 = .ok (.iconst 0, 1) := dk_3 (dk_at dksX3_lensOf_0 1 rfl rfl)
theorem dX3_lensOf_2 : decode cX3_lensOf 2 = .ok (.putfield 51, 3) := dk_181 0 51 (dk_at dksX3_lensOf_0 2 rfl rfl)
theorem dX3_lensOf_5 : decode cX3_lensOf 5 = .ok (.iload_n 1, 1) := dk_27 (dk_at dksX3_lensOf_0 5 rfl rfl)
theorem dX3_lensOf_6 : decode cX3_lensOf 6 = .ok (.iconst 0, 1) := dk_3 (dk_at dksX3_lensOf_0 6 rfl rfl)
theorem dX3_lensOf_7 : decode cX3_lensOf 7 = .ok (.aload_n 0, 1) := dk_42 (dk_at dksX3_lensOf_0 7 rfl rfl)
theorem dX3_lensOf_8 : decode cX3_lensOf 8 = .ok (.getfield 13, 3) := dk_180 0 13 (dk_at dksX3_lensOf_0 8 rfl rfl)
theorem dX3_lensOf_11 : decode cX3_lensOf 11 = .ok (.bipush 11, 2) := dk_16 11 (dk_at dksX3_lensOf_0 11 rfl rfl)
theorem dX3_lensOf_13 : decode cX3_lensOf 13 = .ok (.iaload, 1) := dk_46 (dk_at dksX3_lensOf_0 13 rfl rfl)
theorem dX3_lensOf_14 : decode cX3_lensOf 14 = .ok (.iconst 1, 1) := dk_4 (dk_at dksX3_lensOf_0 14 rfl rfl)
theorem dX3_lensOf_15 : decode cX3_lensOf 15 = .ok (.isub, 1) := dk_100 (dk_at dksX3_lensOf_0 15 rfl rfl)
theorem dX3_lensOf_16 : decode cX3_lensOf 16 = .ok (.invokestatic 77, 3) := dk_184 0 77 (dk_at dksX3_lensOf_0 16 rfl rfl)
theorem dX3_lensOf_19 : decode cX3_lensOf 19 = .ok (.ifCond .ne 9, 3) := dk_154 0 9 (dk_at dksX3_lensOf_0 19 rfl rfl)
theorem dX3_lensOf_22 : decode cX3_lensOf 22 = .ok (.aload_n 0, 1) := dk_42 (dk_at dksX3_lensOf_0 22 rfl rfl)
theorem dX3_lensOf_23 : decode cX3_lensOf 23 = .ok (.iconst 1, 1) := dk_4 (dk_at dksX3_lensOf_0 23 rfl rfl)
theorem dX3_lensOf_24 : decode cX3_lensOf 24 = .ok (.invokevirtual 63, 3) := dk_182 0 63 (dk_at dksX3_lensOf_1 0 rfl rfl)
theorem dX3_lensOf_27 : decode cX3_lensOf 27 = .ok (.ireturn, 1) := dk_172 (dk_at dksX3_lensOf_1 3 rfl rfl)
theorem dX3_lensOf_28 : decode cX3_lensOf 28 = .ok (.iload_n 2, 1) := dk_28 (dk_at dksX3_lensOf_1 4 rfl rfl)
theorem dX3_lensOf_29 : decode cX3_lensOf 29 = .ok (.iconst 0, 1) := dk_3 (dk_at dksX3_lensOf_1 5 rfl rfl)
theorem dX3_lensOf_30 : decode cX3_lensOf 30 = .ok (.iconst 3, 1) := dk_6 (dk_at dksX3_lensOf_1 6 rfl rfl)
theorem dX3_lensOf_31 : decode cX3_lensOf 31 = .ok (.invokestatic 77, 3) := dk_184 0 77 (dk_at dksX3_lensOf_1 7 rfl rfl)
theorem dX3_lensOf_34 : decode cX3_lensOf 34 = .ok (.ifCond .ne 9, 3) := dk_154 0 9 (dk_at dksX3_lensOf_1 10 rfl rfl)
theorem dX3_lensOf_37 : decode cX3_lensOf 37 = .ok (.aload_n 0, 1) := dk_42 (dk_at dksX3_lensOf_1 13 rfl rfl)
theorem dX3_lensOf_38 : decode cX3_lensOf 38 = .ok (.iconst 2, 1) := dk_5 (dk_at dksX3_lensOf_1 14 rfl rfl)
theorem dX3_lensOf_39 : decode cX3_lensOf 39 = .ok (.invokevirtual 63, 3) := dk_182 0 63 (dk_at dksX3_lensOf_1 15 rfl rfl)
theorem dX3_lensOf_42 : decode cX3_lensOf 42 = .ok (.ireturn, 1) := dk_172 (dk_at dksX3_lensOf_1 18 rfl rfl)
theorem dX3_lensOf_43 : decode cX3_lensOf 43 = .ok (.iload_n 2, 1) := dk_28 (dk_at dksX3_lensOf_1 19 rfl rfl)
theorem dX3_lensOf_44 : decode cX3_lensOf 44 = .ok (.iconst 3, 1) := dk_6 (dk_at dksX3_lensOf_1 20 rfl rfl)
theorem dX3_lensOf_45 : decode cX3_lensOf 45 = .ok (.if_icmp .ne 11, 3) := dk_160 0 11 (dk_at dksX3_lensOf_1 21 rfl rfl)
theorem dX3_lensOf_48 : decode cX3_lensOf 48 = .ok (.aload_n 0, 1) := dk_42 (dk_at dksX3_lensOf_2 0 rfl rfl)
theorem dX3_lensOf_49 : decode cX3_lensOf 49 = .ok (.iload_n 1, 1) := dk_27 (dk_at dksX3_lensOf_2 1 rfl rfl)
theorem dX3_lensOf_50 : decode cX3_lensOf 50 = .ok (.invokevirtual 295, 3) := dk_182 1 39 (dk_at dksX3_lensOf_2 2 rfl rfl)
theorem dX3_lensOf_53 : decode cX3_lensOf 53 = .ok (.goto 13, 3) := dk_167 0 13 (dk_at dksX3_lensOf_2 5 rfl rfl)
theorem dX3_lensOf_56 : decode cX3_lensOf 56 = .ok (.aload_n 0, 1) := dk_42 (dk_at dksX3_lensOf_2 8 rfl rfl)
theorem dX3_lensOf_57 : decode cX3_lensOf 57 = .ok (.getfield 13, 3) := dk_180 0 13 (dk_at dksX3_lensOf_2 9 rfl rfl)
theorem dX3_lensOf_60 : decode cX3_lensOf 60 = .ok (.iload_n 1, 1) := dk_27 (dk_at dksX3_lensOf_2 12 rfl rfl)
theorem dX3_lensOf_61 : decode cX3_lensOf 61 = .ok (.iload_n 2, 1) := dk_28 (dk_at dksX3_lensOf_2 13 rfl rfl)
theorem dX3_lensOf_62 : decode cX3_lensOf 62 = .ok (.invokestatic 84, 3) := dk_184 0 84 (dk_at dksX3_lensOf_2 14 rfl rfl)
theorem dX3_lensOf_65 : decode cX3_lensOf 65 = .ok (.iaload, 1) := dk_46 (dk_at dksX3_lensOf_2 17 rfl rfl)
theorem dX3_lensOf_66 : decode cX3_lensOf 66 = .ok (.ireturn, 1) := dk_172 (dk_at dksX3_lensOf_2 18 rfl rfl)
abbrev cX3_placeInStore : ByteArray := prog_13_method_104_code
def yX3_placeInStore : MethodName := ⟨RX3, "placeInStore", "(I)I"⟩
def dkwX3_placeInStore_1 : List UInt8 := [160, 0, 5, 28, 172, 132, 2, 1, 167, 255, 227, 2, 172]
abbrev dktX3_placeInStore_1 : List UInt8 := dkwX3_placeInStore_1 ++ []
def dkwX3_placeInStore_0 : List UInt8 := [3, 61, 28, 42, 180, 0, 13, 16, 12, 46, 162, 0, 24, 42, 180, 0, 13, 16, 13, 28, 96, 46, 27]
abbrev dktX3_placeInStore_0 : List UInt8 := dkwX3_placeInStore_0 ++ dktX3_placeInStore_1
theorem dksX3_placeInStore_0 : cX3_placeInStore.data.toList.drop 0 = dktX3_placeInStore_0 := by decide +kernel
theorem dksX3_placeInStore_1 : cX3_placeInStore.data.toList.drop 23 = dktX3_placeInStore_1 := dk_seg dksX3_placeInStore_0 23 rfl rfl
theorem dX3_placeInStore_0 : decode cX3_placeInStore 0 = .ok (.iconst 0, 1) := dk_3 (dk_at dksX3_placeInStore_0 0 rfl rfl)
theorem dX3_placeInStore_1 : decode cX3_placeInStore 1 = .ok (.istore_n 2, 1) := dk_61 (dk_at dksX3_placeInStore_0 1 rfl rfl)
theorem dX3_placeInStore_2 : decode cX3_placeInStore 2 = .ok (.iload_n 2, 1) := dk_28 (dk_at dksX3_placeInStore_0 2 rfl rfl)
theorem dX3_placeInStore_3 : decode cX3_placeInStore 3 = .ok (.aload_n 0, 1) := dk_42 (dk_at dksX3_placeInStore_0 3 rfl rfl)
theorem dX3_placeInStore_4 : decode cX3_placeInStore 4 = .ok (.getfield 13, 3) := dk_180 0 13 (dk_at dksX3_placeInStore_0 4 rfl rfl)
theorem dX3_placeInStore_7 : decode cX3_placeInStore 7 = .ok (.bipush 12, 2) := dk_16 12 (dk_at dksX3_placeInStore_0 7 rfl rfl)
theorem dX3_placeInStore_9 : decode cX3_placeInStore 9 = .ok (.iaload, 1) := dk_46 (dk_at dksX3_placeInStore_0 9 rfl rfl)
theorem dX3_placeInStore_10 : decode cX3_placeInStore 10 = .ok (.if_icmp .ge 24, 3) := dk_162 0 24 (dk_at dksX3_placeInStore_0 10 rfl rfl)
theorem dX3_placeInStore_13 : decode cX3_placeInStore 13 = .ok (.aload_n 0, 1) := dk_42 (dk_at dksX3_placeInStore_0 13 rfl rfl)
theorem dX3_placeInStore_14 : decode cX3_placeInStore 14 = .ok (.getfield 13, 3) := dk_180 0 13 (dk_at dksX3_placeInStore_0 14 rfl rfl)
theorem dX3_placeInStore_17 : decode cX3_placeInStore 17 = .ok (.bipush 13, 2) := dk_16 13 (dk_at dksX3_placeInStore_0 17 rfl rfl)
theorem dX3_placeInStore_19 : decode cX3_placeInStore 19 = .ok (.iload_n 2, 1) := dk_28 (dk_at dksX3_placeInStore_0 19 rfl rfl)
theorem dX3_placeInStore_20 : decode cX3_placeInStore 20 = .ok (.iadd, 1) := dk_96 (dk_at dksX3_placeInStore_0 20 rfl rfl)
theorem dX3_placeInStore_21 : decode cX3_placeInStore 21 = .ok (.iaload, 1) := dk_46 (dk_at dksX3_placeInStore_0 21 rfl rfl)
theorem dX3_placeInStore_22 : decode cX3_placeInStore 22 = .ok (.iload_n 1, 1) := dk_27 (dk_at dksX3_placeInStore_0 22 rfl rfl)
theorem dX3_placeInStore_23 : decode cX3_placeInStore 23 = .ok (.if_icmp .ne 5, 3) := dk_160 0 5 (dk_at dksX3_placeInStore_1 0 rfl rfl)
theorem dX3_placeInStore_26 : decode cX3_placeInStore 26 = .ok (.iload_n 2, 1) := dk_28 (dk_at dksX3_placeInStore_1 3 rfl rfl)
theorem dX3_placeInStore_27 : decode cX3_placeInStore 27 = .ok (.ireturn, 1) := dk_172 (dk_at dksX3_placeInStore_1 4 rfl rfl)
theorem dX3_placeInStore_28 : decode cX3_placeInStore 28 = .ok (.iinc 2 1, 3) := dk_132 2 1 (dk_at dksX3_placeInStore_1 5 rfl rfl)
theorem dX3_placeInStore_31 : decode cX3_placeInStore 31 = .ok (.goto (-29), 3) := dk_167 255 227 (dk_at dksX3_placeInStore_1 8 rfl rfl)
theorem dX3_placeInStore_34 : decode cX3_placeInStore 34 = .ok (.iconst (-1), 1) := dk_2 (dk_at dksX3_placeInStore_1 11 rfl rfl)
theorem dX3_placeInStore_35 : decode cX3_placeInStore 35 = .ok (.ireturn, 1) := dk_172 (dk_at dksX3_placeInStore_1 12 rfl rfl)
abbrev cX3_account : ByteArray := prog_13_method_109_code
def yX3_account : MethodName := ⟨RX3, "account", "(I)I"⟩
def dkwX3_account_5 : List UInt8 := [42, 4, 182, 0, 63, 172]
abbrev dktX3_account_5 : List UInt8 := dkwX3_account_5 ++ []
def dkwX3_account_4 : List UInt8 := [100, 46, 172, 42, 2, 182, 1, 45, 172, 42, 182, 1, 48, 172, 42, 180, 0, 231, 172, 42, 180, 0, 67, 172]
abbrev dktX3_account_4 : List UInt8 := dkwX3_account_4 ++ dktX3_account_5
def dkwX3_account_3 : List UInt8 := [46, 172, 42, 180, 0, 13, 16, 12, 46, 172, 42, 182, 1, 42, 172, 42, 180, 0, 13, 3, 27, 96, 16, 6]
abbrev dktX3_account_3 : List UInt8 := dkwX3_account_3 ++ dktX3_account_4
def dkwX3_account_2 : List UInt8 := [42, 180, 0, 13, 16, 10, 46, 172, 42, 182, 0, 174, 172, 42, 182, 0, 189, 172, 42, 180, 0, 13, 16, 11]
abbrev dktX3_account_2 : List UInt8 := dkwX3_account_2 ++ dktX3_account_3
def dkwX3_account_1 : List UInt8 := [170, 0, 0, 0, 0, 138, 0, 0, 0, 0, 0, 0, 0, 12, 0, 0, 0, 66, 0, 0, 0, 74, 0, 0, 0, 79, 0, 0, 0, 84, 0, 0, 0, 92, 0, 0, 0, 100, 0, 0, 0, 105, 0, 0, 0, 105, 0, 0, 0, 105, 0, 0, 0, 117, 0, 0, 0, 123, 0, 0, 0, 128, 0, 0, 0, 133]
abbrev dktX3_account_1 : List UInt8 := dkwX3_account_1 ++ dktX3_account_2
def dkwX3_account_0 : List UInt8 := [42, 3, 181, 0, 51, 27]
abbrev dktX3_account_0 : List UInt8 := dkwX3_account_0 ++ dktX3_account_1
theorem dksX3_account_0 : cX3_account.data.toList.drop 0 = dktX3_account_0 := by decide +kernel
theorem dksX3_account_1 : cX3_account.data.toList.drop 6 = dktX3_account_1 := dk_seg dksX3_account_0 6 rfl rfl
theorem dksX3_account_2 : cX3_account.data.toList.drop 72 = dktX3_account_2 := dk_seg dksX3_account_1 66 rfl rfl
theorem dksX3_account_3 : cX3_account.data.toList.drop 96 = dktX3_account_3 := dk_seg dksX3_account_2 24 rfl rfl
theorem dksX3_account_4 : cX3_account.data.toList.drop 120 = dktX3_account_4 := dk_seg dksX3_account_3 24 rfl rfl
theorem dksX3_account_5 : cX3_account.data.toList.drop 144 = dktX3_account_5 := dk_seg dksX3_account_4 24 rfl rfl
theorem dX3_account_0 : decode cX3_account 0 = .ok (.aload_n 0, 1) := dk_42 (dk_at dksX3_account_0 0 rfl rfl)
theorem dX3_account_1 : decode cX3_account 1 = .ok (.iconst 0, 1) := dk_3 (dk_at dksX3_account_0 1 rfl rfl)
theorem dX3_account_2 : decode cX3_account 2 = .ok (.putfield 51, 3) := dk_181 0 51 (dk_at dksX3_account_0 2 rfl rfl)
theorem dX3_account_5 : decode cX3_account 5 = .ok (.iload_n 1, 1) := dk_27 (dk_at dksX3_account_0 5 rfl rfl)
theorem dX3_account_6 : decode cX3_account 6 = .ok (.tableswitch 138 0 12 #[66, 74, 79, 84, 92, 100, 105, 105, 105, 117, 123, 128, 133], 66) := by decide +kernel
theorem dX3_account_72 : decode cX3_account 72 = .ok (.aload_n 0, 1) := dk_42 (dk_at dksX3_account_2 0 rfl rfl)
theorem dX3_account_73 : decode cX3_account 73 = .ok (.getfield 13, 3) := dk_180 0 13 (dk_at dksX3_account_2 1 rfl rfl)
theorem dX3_account_76 : decode cX3_account 76 = .ok (.bipush 10, 2) := dk_16 10 (dk_at dksX3_account_2 4 rfl rfl)
theorem dX3_account_78 : decode cX3_account 78 = .ok (.iaload, 1) := dk_46 (dk_at dksX3_account_2 6 rfl rfl)
theorem dX3_account_79 : decode cX3_account 79 = .ok (.ireturn, 1) := dk_172 (dk_at dksX3_account_2 7 rfl rfl)
theorem dX3_account_80 : decode cX3_account 80 = .ok (.aload_n 0, 1) := dk_42 (dk_at dksX3_account_2 8 rfl rfl)
theorem dX3_account_81 : decode cX3_account 81 = .ok (.invokevirtual 174, 3) := dk_182 0 174 (dk_at dksX3_account_2 9 rfl rfl)
theorem dX3_account_84 : decode cX3_account 84 = .ok (.ireturn, 1) := dk_172 (dk_at dksX3_account_2 12 rfl rfl)
theorem dX3_account_85 : decode cX3_account 85 = .ok (.aload_n 0, 1) := dk_42 (dk_at dksX3_account_2 13 rfl rfl)
theorem dX3_account_86 : decode cX3_account 86 = .ok (.invokevirtual 189, 3) := dk_182 0 189 (dk_at dksX3_account_2 14 rfl rfl)
theorem dX3_account_89 : decode cX3_account 89 = .ok (.ireturn, 1) := dk_172 (dk_at dksX3_account_2 17 rfl rfl)
theorem dX3_account_90 : decode cX3_account 90 = .ok (.aload_n 0, 1) := dk_42 (dk_at dksX3_account_2 18 rfl rfl)
theorem dX3_account_91 : decode cX3_account 91 = .ok (.getfield 13, 3) := dk_180 0 13 (dk_at dksX3_account_2 19 rfl rfl)
theorem dX3_account_94 : decode cX3_account 94 = .ok (.bipush 11, 2) := dk_16 11 (dk_at dksX3_account_2 22 rfl rfl)
theorem dX3_account_96 : decode cX3_account 96 = .ok (.iaload, 1) := dk_46 (dk_at dksX3_account_3 0 rfl rfl)
theorem dX3_account_97 : decode cX3_account 97 = .ok (.ireturn, 1) := dk_172 (dk_at dksX3_account_3 1 rfl rfl)
theorem dX3_account_98 : decode cX3_account 98 = .ok (.aload_n 0, 1) := dk_42 (dk_at dksX3_account_3 2 rfl rfl)
theorem dX3_account_99 : decode cX3_account 99 = .ok (.getfield 13, 3) := dk_180 0 13 (dk_at dksX3_account_3 3 rfl rfl)
theorem dX3_account_102 : decode cX3_account 102 = .ok (.bipush 12, 2) := dk_16 12 (dk_at dksX3_account_3 6 rfl rfl)
theorem dX3_account_104 : decode cX3_account 104 = .ok (.iaload, 1) := dk_46 (dk_at dksX3_account_3 8 rfl rfl)
theorem dX3_account_105 : decode cX3_account 105 = .ok (.ireturn, 1) := dk_172 (dk_at dksX3_account_3 9 rfl rfl)
theorem dX3_account_106 : decode cX3_account 106 = .ok (.aload_n 0, 1) := dk_42 (dk_at dksX3_account_3 10 rfl rfl)
theorem dX3_account_107 : decode cX3_account 107 = .ok (.invokevirtual 298, 3) := dk_182 1 42 (dk_at dksX3_account_3 11 rfl rfl)
theorem dX3_account_110 : decode cX3_account 110 = .ok (.ireturn, 1) := dk_172 (dk_at dksX3_account_3 14 rfl rfl)
theorem dX3_account_111 : decode cX3_account 111 = .ok (.aload_n 0, 1) := dk_42 (dk_at dksX3_account_3 15 rfl rfl)
theorem dX3_account_112 : decode cX3_account 112 = .ok (.getfield 13, 3) := dk_180 0 13 (dk_at dksX3_account_3 16 rfl rfl)
theorem dX3_account_115 : decode cX3_account 115 = .ok (.iconst 0, 1) := dk_3 (dk_at dksX3_account_3 19 rfl rfl)
theorem dX3_account_116 : decode cX3_account 116 = .ok (.iload_n 1, 1) := dk_27 (dk_at dksX3_account_3 20 rfl rfl)
theorem dX3_account_117 : decode cX3_account 117 = .ok (.iadd, 1) := dk_96 (dk_at dksX3_account_3 21 rfl rfl)
theorem dX3_account_118 : decode cX3_account 118 = .ok (.bipush 6, 2) := dk_16 6 (dk_at dksX3_account_3 22 rfl rfl)
theorem dX3_account_120 : decode cX3_account 120 = .ok (.isub, 1) := dk_100 (dk_at dksX3_account_4 0 rfl rfl)
theorem dX3_account_121 : decode cX3_account 121 = .ok (.iaload, 1) := dk_46 (dk_at dksX3_account_4 1 rfl rfl)
theorem dX3_account_122 : decode cX3_account 122 = .ok (.ireturn, 1) := dk_172 (dk_at dksX3_account_4 2 rfl rfl)
theorem dX3_account_123 : decode cX3_account 123 = .ok (.aload_n 0, 1) := dk_42 (dk_at dksX3_account_4 3 rfl rfl)
theorem dX3_account_124 : decode cX3_account 124 = .ok (.iconst (-1), 1) := dk_2 (dk_at dksX3_account_4 4 rfl rfl)
theorem dX3_account_125 : decode cX3_account 125 = .ok (.invokevirtual 301, 3) := dk_182 1 45 (dk_at dksX3_account_4 5 rfl rfl)
theorem dX3_account_128 : decode cX3_account 128 = .ok (.ireturn, 1) := dk_172 (dk_at dksX3_account_4 8 rfl rfl)
theorem dX3_account_129 : decode cX3_account 129 = .ok (.aload_n 0, 1) := dk_42 (dk_at dksX3_account_4 9 rfl rfl)
theorem dX3_account_130 : decode cX3_account 130 = .ok (.invokevirtual 304, 3) := dk_182 1 48 (dk_at dksX3_account_4 10 rfl rfl)
theorem dX3_account_133 : decode cX3_account 133 = .ok (.ireturn, 1) := dk_172 (dk_at dksX3_account_4 13 rfl rfl)
theorem dX3_account_134 : decode cX3_account 134 = .ok (.aload_n 0, 1) := dk_42 (dk_at dksX3_account_4 14 rfl rfl)
theorem dX3_account_135 : decode cX3_account 135 = .ok (.getfield 231, 3) := dk_180 0 231 (dk_at dksX3_account_4 15 rfl rfl)
theorem dX3_account_138 : decode cX3_account 138 = .ok (.ireturn, 1) := dk_172 (dk_at dksX3_account_4 18 rfl rfl)
theorem dX3_account_139 : decode cX3_account 139 = .ok (.aload_n 0, 1) := dk_42 (dk_at dksX3_account_4 19 rfl rfl)
theorem dX3_account_140 : decode cX3_account 140 = .ok (.getfield 67, 3) := dk_180 0 67 (dk_at dksX3_account_4 20 rfl rfl)
theorem dX3_account_143 : decode cX3_account 143 = .ok (.ireturn, 1) := dk_172 (dk_at dksX3_account_4 23 rfl rfl)
theorem dX3_account_144 : decode cX3_account 144 = .ok (.aload_n 0, 1) := dk_42 (dk_at dksX3_account_5 0 rfl rfl)
theorem dX3_account_145 : decode cX3_account 145 = .ok (.iconst 1, 1) := dk_4 (dk_at dksX3_account_5 1 rfl rfl)
theorem dX3_account_146 : decode cX3_account 146 = .ok (.invokevirtual 63, 3) := dk_182 0 63 (dk_at dksX3_account_5 2 rfl rfl)
theorem dX3_account_149 : decode cX3_account 149 = .ok (.ireturn, 1) := dk_172 (dk_at dksX3_account_5 5 rfl rfl)
abbrev cX3_scrapped : ByteArray := prog_13_method_106_code
def yX3_scrapped : MethodName := ⟨RX3, "scrapped", "()I"⟩
def dkwX3_scrapped_1 : List UInt8 := [184, 0, 84, 46, 16, 254, 160, 0, 7, 4, 167, 0, 4, 3, 96, 60, 132, 2, 1, 167, 255, 219, 27, 172]
abbrev dktX3_scrapped_1 : List UInt8 := dkwX3_scrapped_1 ++ []
def dkwX3_scrapped_0 : List UInt8 := [3, 60, 3, 61, 28, 42, 180, 0, 13, 16, 11, 46, 162, 0, 32, 27, 42, 180, 0, 13, 28, 5]
abbrev dktX3_scrapped_0 : List UInt8 := dkwX3_scrapped_0 ++ dktX3_scrapped_1
theorem dksX3_scrapped_0 : cX3_scrapped.data.toList.drop 0 = dktX3_scrapped_0 := by decide +kernel
theorem dksX3_scrapped_1 : cX3_scrapped.data.toList.drop 22 = dktX3_scrapped_1 := dk_seg dksX3_scrapped_0 22 rfl rfl
theorem dX3_scrapped_0 : decode cX3_scrapped 0 = .ok (.iconst 0, 1) := dk_3 (dk_at dksX3_scrapped_0 0 rfl rfl)
theorem dX3_scrapped_1 : decode cX3_scrapped 1 = .ok (.istore_n 1, 1) := dk_60 (dk_at dksX3_scrapped_0 1 rfl rfl)
theorem dX3_scrapped_2 : decode cX3_scrapped 2 = .ok (.iconst 0, 1) := dk_3 (dk_at dksX3_scrapped_0 2 rfl rfl)
theorem dX3_scrapped_3 : decode cX3_scrapped 3 = .ok (.istore_n 2, 1) := dk_61 (dk_at dksX3_scrapped_0 3 rfl rfl)
theorem dX3_scrapped_4 : decode cX3_scrapped 4 = .ok (.iload_n 2, 1) := dk_28 (dk_at dksX3_scrapped_0 4 rfl rfl)
theorem dX3_scrapped_5 : decode cX3_scrapped 5 = .ok (.aload_n 0, 1) := dk_42 (dk_at dksX3_scrapped_0 5 rfl rfl)
theorem dX3_scrapped_6 : decode cX3_scrapped 6 = .ok (.getfield 13, 3) := dk_180 0 13 (dk_at dksX3_scrapped_0 6 rfl rfl)
theorem dX3_scrapped_9 : decode cX3_scrapped 9 = .ok (.bipush 11, 2) := dk_16 11 (dk_at dksX3_scrapped_0 9 rfl rfl)
theorem dX3_scrapped_11 : decode cX3_scrapped 11 = .ok (.iaload, 1) := dk_46 (dk_at dksX3_scrapped_0 11 rfl rfl)
theorem dX3_scrapped_12 : decode cX3_scrapped 12 = .ok (.if_icmp .ge 32, 3) := dk_162 0 32 (dk_at dksX3_scrapped_0 12 rfl rfl)
theorem dX3_scrapped_15 : decode cX3_scrapped 15 = .ok (.iload_n 1, 1) := dk_27 (dk_at dksX3_scrapped_0 15 rfl rfl)
theorem dX3_scrapped_16 : decode cX3_scrapped 16 = .ok (.aload_n 0, 1) := dk_42 (dk_at dksX3_scrapped_0 16 rfl rfl)
theorem dX3_scrapped_17 : decode cX3_scrapped 17 = .ok (.getfield 13, 3) := dk_180 0 13 (dk_at dksX3_scrapped_0 17 rfl rfl)
theorem dX3_scrapped_20 : decode cX3_scrapped 20 = .ok (.iload_n 2, 1) := dk_28 (dk_at dksX3_scrapped_0 20 rfl rfl)
theorem dX3_scrapped_21 : decode cX3_scrapped 21 = .ok (.iconst 2, 1) := dk_5 (dk_at dksX3_scrapped_0 21 rfl rfl)
theorem dX3_scrapped_22 : decode cX3_scrapped 22 = .ok (.invokestatic 84, 3) := dk_184 0 84 (dk_at dksX3_scrapped_1 0 rfl rfl)
theorem dX3_scrapped_25 : decode cX3_scrapped 25 = .ok (.iaload, 1) := dk_46 (dk_at dksX3_scrapped_1 3 rfl rfl)
theorem dX3_scrapped_26 : decode cX3_scrapped 26 = .ok (.bipush (-2), 2) := dk_16 254 (dk_at dksX3_scrapped_1 4 rfl rfl)
theorem dX3_scrapped_28 : decode cX3_scrapped 28 = .ok (.if_icmp .ne 7, 3) := dk_160 0 7 (dk_at dksX3_scrapped_1 6 rfl rfl)
theorem dX3_scrapped_31 : decode cX3_scrapped 31 = .ok (.iconst 1, 1) := dk_4 (dk_at dksX3_scrapped_1 9 rfl rfl)
theorem dX3_scrapped_32 : decode cX3_scrapped 32 = .ok (.goto 4, 3) := dk_167 0 4 (dk_at dksX3_scrapped_1 10 rfl rfl)
theorem dX3_scrapped_35 : decode cX3_scrapped 35 = .ok (.iconst 0, 1) := dk_3 (dk_at dksX3_scrapped_1 13 rfl rfl)
theorem dX3_scrapped_36 : decode cX3_scrapped 36 = .ok (.iadd, 1) := dk_96 (dk_at dksX3_scrapped_1 14 rfl rfl)
theorem dX3_scrapped_37 : decode cX3_scrapped 37 = .ok (.istore_n 1, 1) := dk_60 (dk_at dksX3_scrapped_1 15 rfl rfl)
theorem dX3_scrapped_38 : decode cX3_scrapped 38 = .ok (.iinc 2 1, 3) := dk_132 2 1 (dk_at dksX3_scrapped_1 16 rfl rfl)
theorem dX3_scrapped_41 : decode cX3_scrapped 41 = .ok (.goto (-37), 3) := dk_167 255 219 (dk_at dksX3_scrapped_1 19 rfl rfl)
theorem dX3_scrapped_44 : decode cX3_scrapped 44 = .ok (.iload_n 1, 1) := dk_27 (dk_at dksX3_scrapped_1 22 rfl rfl)
theorem dX3_scrapped_45 : decode cX3_scrapped 45 = .ok (.ireturn, 1) := dk_172 (dk_at dksX3_scrapped_1 23 rfl rfl)
abbrev cX3_allPower : ByteArray := prog_13_method_107_code
def yX3_allPower : MethodName := ⟨RX3, "allPower", "(I)I"⟩
def dkwX3_allPower_2 : List UInt8 := [132, 3, 1, 167, 255, 211, 28, 172]
abbrev dktX3_allPower_2 : List UInt8 := dkwX3_allPower_2 ++ []
def dkwX3_allPower_1 : List UInt8 := [184, 0, 84, 46, 27, 161, 0, 16, 42, 180, 0, 13, 29, 3, 184, 0, 84, 46, 167, 0, 4, 3, 96, 61]
abbrev dktX3_allPower_1 : List UInt8 := dkwX3_allPower_1 ++ dktX3_allPower_2
def dkwX3_allPower_0 : List UInt8 := [3, 61, 3, 62, 29, 42, 180, 0, 13, 16, 11, 46, 162, 0, 40, 28, 42, 180, 0, 13, 29, 5]
abbrev dktX3_allPower_0 : List UInt8 := dkwX3_allPower_0 ++ dktX3_allPower_1
theorem dksX3_allPower_0 : cX3_allPower.data.toList.drop 0 = dktX3_allPower_0 := by decide +kernel
theorem dksX3_allPower_1 : cX3_allPower.data.toList.drop 22 = dktX3_allPower_1 := dk_seg dksX3_allPower_0 22 rfl rfl
theorem dksX3_allPower_2 : cX3_allPower.data.toList.drop 46 = dktX3_allPower_2 := dk_seg dksX3_allPower_1 24 rfl rfl
theorem dX3_allPower_0 : decode cX3_allPower 0 = .ok (.iconst 0, 1) := dk_3 (dk_at dksX3_allPower_0 0 rfl rfl)
theorem dX3_allPower_1 : decode cX3_allPower 1 = .ok (.istore_n 2, 1) := dk_61 (dk_at dksX3_allPower_0 1 rfl rfl)
theorem dX3_allPower_2 : decode cX3_allPower 2 = .ok (.iconst 0, 1) := dk_3 (dk_at dksX3_allPower_0 2 rfl rfl)
theorem dX3_allPower_3 : decode cX3_allPower 3 = .ok (.istore_n 3, 1) := dk_62 (dk_at dksX3_allPower_0 3 rfl rfl)
theorem dX3_allPower_4 : decode cX3_allPower 4 = .ok (.iload_n 3, 1) := dk_29 (dk_at dksX3_allPower_0 4 rfl rfl)
theorem dX3_allPower_5 : decode cX3_allPower 5 = .ok (.aload_n 0, 1) := dk_42 (dk_at dksX3_allPower_0 5 rfl rfl)
theorem dX3_allPower_6 : decode cX3_allPower 6 = .ok (.getfield 13, 3) := dk_180 0 13 (dk_at dksX3_allPower_0 6 rfl rfl)
theorem dX3_allPower_9 : decode cX3_allPower 9 = .ok (.bipush 11, 2) := dk_16 11 (dk_at dksX3_allPower_0 9 rfl rfl)
theorem dX3_allPower_11 : decode cX3_allPower 11 = .ok (.iaload, 1) := dk_46 (dk_at dksX3_allPower_0 11 rfl rfl)
theorem dX3_allPower_12 : decode cX3_allPower 12 = .ok (.if_icmp .ge 40, 3) := dk_162 0 40 (dk_at dksX3_allPower_0 12 rfl rfl)
theorem dX3_allPower_15 : decode cX3_allPower 15 = .ok (.iload_n 2, 1) := dk_28 (dk_at dksX3_allPower_0 15 rfl rfl)
theorem dX3_allPower_16 : decode cX3_allPower 16 = .ok (.aload_n 0, 1) := dk_42 (dk_at dksX3_allPower_0 16 rfl rfl)
theorem dX3_allPower_17 : decode cX3_allPower 17 = .ok (.getfield 13, 3) := dk_180 0 13 (dk_at dksX3_allPower_0 17 rfl rfl)
theorem dX3_allPower_20 : decode cX3_allPower 20 = .ok (.iload_n 3, 1) := dk_29 (dk_at dksX3_allPower_0 20 rfl rfl)
theorem dX3_allPower_21 : decode cX3_allPower 21 = .ok (.iconst 2, 1) := dk_5 (dk_at dksX3_allPower_0 21 rfl rfl)
theorem dX3_allPower_22 : decode cX3_allPower 22 = .ok (.invokestatic 84, 3) := dk_184 0 84 (dk_at dksX3_allPower_1 0 rfl rfl)
theorem dX3_allPower_25 : decode cX3_allPower 25 = .ok (.iaload, 1) := dk_46 (dk_at dksX3_allPower_1 3 rfl rfl)
theorem dX3_allPower_26 : decode cX3_allPower 26 = .ok (.iload_n 1, 1) := dk_27 (dk_at dksX3_allPower_1 4 rfl rfl)
theorem dX3_allPower_27 : decode cX3_allPower 27 = .ok (.if_icmp .lt 16, 3) := dk_161 0 16 (dk_at dksX3_allPower_1 5 rfl rfl)
theorem dX3_allPower_30 : decode cX3_allPower 30 = .ok (.aload_n 0, 1) := dk_42 (dk_at dksX3_allPower_1 8 rfl rfl)
theorem dX3_allPower_31 : decode cX3_allPower 31 = .ok (.getfield 13, 3) := dk_180 0 13 (dk_at dksX3_allPower_1 9 rfl rfl)
theorem dX3_allPower_34 : decode cX3_allPower 34 = .ok (.iload_n 3, 1) := dk_29 (dk_at dksX3_allPower_1 12 rfl rfl)
theorem dX3_allPower_35 : decode cX3_allPower 35 = .ok (.iconst 0, 1) := dk_3 (dk_at dksX3_allPower_1 13 rfl rfl)
theorem dX3_allPower_36 : decode cX3_allPower 36 = .ok (.invokestatic 84, 3) := dk_184 0 84 (dk_at dksX3_allPower_1 14 rfl rfl)
theorem dX3_allPower_39 : decode cX3_allPower 39 = .ok (.iaload, 1) := dk_46 (dk_at dksX3_allPower_1 17 rfl rfl)
theorem dX3_allPower_40 : decode cX3_allPower 40 = .ok (.goto 4, 3) := dk_167 0 4 (dk_at dksX3_allPower_1 18 rfl rfl)
theorem dX3_allPower_43 : decode cX3_allPower 43 = .ok (.iconst 0, 1) := dk_3 (dk_at dksX3_allPower_1 21 rfl rfl)
theorem dX3_allPower_44 : decode cX3_allPower 44 = .ok (.iadd, 1) := dk_96 (dk_at dksX3_allPower_1 22 rfl rfl)
theorem dX3_allPower_45 : decode cX3_allPower 45 = .ok (.istore_n 2, 1) := dk_61 (dk_at dksX3_allPower_1 23 rfl rfl)
theorem dX3_allPower_46 : decode cX3_allPower 46 = .ok (.iinc 3 1, 3) := dk_132 3 1 (dk_at dksX3_allPower_2 0 rfl rfl)
theorem dX3_allPower_49 : decode cX3_allPower 49 = .ok (.goto (-45), 3) := dk_167 255 211 (dk_at dksX3_allPower_2 3 rfl rfl)
theorem dX3_allPower_52 : decode cX3_allPower 52 = .ok (.iload_n 2, 1) := dk_28 (dk_at dksX3_allPower_2 6 rfl rfl)
theorem dX3_allPower_53 : decode cX3_allPower 53 = .ok (.ireturn, 1) := dk_172 (dk_at dksX3_allPower_2 7 rfl rfl)
abbrev cX3_allFog : ByteArray := prog_13_method_108_code
def yX3_allFog : MethodName := ⟨RX3, "allFog", "()I"⟩
def dkwX3_allFog_1 : List UInt8 := [167, 255, 236, 27, 172]
abbrev dktX3_allFog_1 : List UInt8 := dkwX3_allFog_1 ++ []
def dkwX3_allFog_0 : List UInt8 := [3, 60, 3, 61, 28, 16, 7, 162, 0, 20, 27, 42, 180, 0, 13, 6, 28, 96, 46, 96, 60, 132, 2, 1]
abbrev dktX3_allFog_0 : List UInt8 := dkwX3_allFog_0 ++ dktX3_allFog_1
theorem dksX3_allFog_0 : cX3_allFog.data.toList.drop 0 = dktX3_allFog_0 := by decide +kernel
theorem dksX3_allFog_1 : cX3_allFog.data.toList.drop 24 = dktX3_allFog_1 := dk_seg dksX3_allFog_0 24 rfl rfl
theorem dX3_allFog_0 : decode cX3_allFog 0 = .ok (.iconst 0, 1) := dk_3 (dk_at dksX3_allFog_0 0 rfl rfl)
theorem dX3_allFog_1 : decode cX3_allFog 1 = .ok (.istore_n 1, 1) := dk_60 (dk_at dksX3_allFog_0 1 rfl rfl)
theorem dX3_allFog_2 : decode cX3_allFog 2 = .ok (.iconst 0, 1) := dk_3 (dk_at dksX3_allFog_0 2 rfl rfl)
theorem dX3_allFog_3 : decode cX3_allFog 3 = .ok (.istore_n 2, 1) := dk_61 (dk_at dksX3_allFog_0 3 rfl rfl)
theorem dX3_allFog_4 : decode cX3_allFog 4 = .ok (.iload_n 2, 1) := dk_28 (dk_at dksX3_allFog_0 4 rfl rfl)
theorem dX3_allFog_5 : decode cX3_allFog 5 = .ok (.bipush 7, 2) := dk_16 7 (dk_at dksX3_allFog_0 5 rfl rfl)
theorem dX3_allFog_7 : decode cX3_allFog 7 = .ok (.if_icmp .ge 20, 3) := dk_162 0 20 (dk_at dksX3_allFog_0 7 rfl rfl)
theorem dX3_allFog_10 : decode cX3_allFog 10 = .ok (.iload_n 1, 1) := dk_27 (dk_at dksX3_allFog_0 10 rfl rfl)
theorem dX3_allFog_11 : decode cX3_allFog 11 = .ok (.aload_n 0, 1) := dk_42 (dk_at dksX3_allFog_0 11 rfl rfl)
theorem dX3_allFog_12 : decode cX3_allFog 12 = .ok (.getfield 13, 3) := dk_180 0 13 (dk_at dksX3_allFog_0 12 rfl rfl)
theorem dX3_allFog_15 : decode cX3_allFog 15 = .ok (.iconst 3, 1) := dk_6 (dk_at dksX3_allFog_0 15 rfl rfl)
theorem dX3_allFog_16 : decode cX3_allFog 16 = .ok (.iload_n 2, 1) := dk_28 (dk_at dksX3_allFog_0 16 rfl rfl)
theorem dX3_allFog_17 : decode cX3_allFog 17 = .ok (.iadd, 1) := dk_96 (dk_at dksX3_allFog_0 17 rfl rfl)
theorem dX3_allFog_18 : decode cX3_allFog 18 = .ok (.iaload, 1) := dk_46 (dk_at dksX3_allFog_0 18 rfl rfl)
theorem dX3_allFog_19 : decode cX3_allFog 19 = .ok (.iadd, 1) := dk_96 (dk_at dksX3_allFog_0 19 rfl rfl)
theorem dX3_allFog_20 : decode cX3_allFog 20 = .ok (.istore_n 1, 1) := dk_60 (dk_at dksX3_allFog_0 20 rfl rfl)
theorem dX3_allFog_21 : decode cX3_allFog 21 = .ok (.iinc 2 1, 3) := dk_132 2 1 (dk_at dksX3_allFog_0 21 rfl rfl)
theorem dX3_allFog_24 : decode cX3_allFog 24 = .ok (.goto (-20), 3) := dk_167 255 236 (dk_at dksX3_allFog_1 0 rfl rfl)
theorem dX3_allFog_27 : decode cX3_allFog 27 = .ok (.iload_n 1, 1) := dk_27 (dk_at dksX3_allFog_1 3 rfl rfl)
theorem dX3_allFog_28 : decode cX3_allFog 28 = .ok (.ireturn, 1) := dk_172 (dk_at dksX3_allFog_1 4 rfl rfl)
abbrev cX3_meanPower : ByteArray := prog_13_method_110_code
def yX3_meanPower : MethodName := ⟨RX3, "meanPower", "()D"⟩
def dkwX3_meanPower_2 : List UInt8 := [167, 255, 221, 27, 154, 0, 10, 42, 4, 182, 0, 63, 135, 175, 42, 3, 182, 1, 45, 135, 27, 135, 111, 175]
abbrev dktX3_meanPower_2 : List UInt8 := dkwX3_meanPower_2 ++ []
def dkwX3_meanPower_1 : List UInt8 := [180, 0, 13, 28, 5, 184, 0, 84, 46, 155, 0, 7, 4, 167, 0, 4, 3, 96, 60, 132, 2, 1]
abbrev dktX3_meanPower_1 : List UInt8 := dkwX3_meanPower_1 ++ dktX3_meanPower_2
def dkwX3_meanPower_0 : List UInt8 := [42, 3, 181, 0, 51, 3, 60, 3, 61, 28, 42, 180, 0, 13, 16, 11, 46, 162, 0, 30, 27, 42]
abbrev dktX3_meanPower_0 : List UInt8 := dkwX3_meanPower_0 ++ dktX3_meanPower_1
theorem dksX3_meanPower_0 : cX3_meanPower.data.toList.drop 0 = dktX3_meanPower_0 := by decide +kernel
theorem dksX3_meanPower_1 : cX3_meanPower.data.toList.drop 22 = dktX3_meanPower_1 := dk_seg dksX3_meanPower_0 22 rfl rfl
theorem dksX3_meanPower_2 : cX3_meanPower.data.toList.drop 44 = dktX3_meanPower_2 := dk_seg dksX3_meanPower_1 22 rfl rfl
theorem dX3_meanPower_0 : decode cX3_meanPower 0 = .ok (.aload_n 0, 1) := dk_42 (dk_at dksX3_meanPower_0 0 rfl rfl)
theorem dX3_meanPower_1 : decode cX3_meanPower 1 = .ok (.iconst 0, 1) := dk_3 (dk_at dksX3_meanPower_0 1 rfl rfl)
theorem dX3_meanPower_2 : decode cX3_meanPower 2 = .ok (.putfield 51, 3) := dk_181 0 51 (dk_at dksX3_meanPower_0 2 rfl rfl)
theorem dX3_meanPower_5 : decode cX3_meanPower 5 = .ok (.iconst 0, 1) := dk_3 (dk_at dksX3_meanPower_0 5 rfl rfl)
theorem dX3_meanPower_6 : decode cX3_meanPower 6 = .ok (.istore_n 1, 1) := dk_60 (dk_at dksX3_meanPower_0 6 rfl rfl)
theorem dX3_meanPower_7 : decode cX3_meanPower 7 = .ok (.iconst 0, 1) := dk_3 (dk_at dksX3_meanPower_0 7 rfl rfl)
theorem dX3_meanPower_8 : decode cX3_meanPower 8 = .ok (.istore_n 2, 1) := dk_61 (dk_at dksX3_meanPower_0 8 rfl rfl)
theorem dX3_meanPower_9 : decode cX3_meanPower 9 = .ok (.iload_n 2, 1) := dk_28 (dk_at dksX3_meanPower_0 9 rfl rfl)
theorem dX3_meanPower_10 : decode cX3_meanPower 10 = .ok (.aload_n 0, 1) := dk_42 (dk_at dksX3_meanPower_0 10 rfl rfl)
theorem dX3_meanPower_11 : decode cX3_meanPower 11 = .ok (.getfield 13, 3) := dk_180 0 13 (dk_at dksX3_meanPower_0 11 rfl rfl)
theorem dX3_meanPower_14 : decode cX3_meanPower 14 = .ok (.bipush 11, 2) := dk_16 11 (dk_at dksX3_meanPower_0 14 rfl rfl)
theorem dX3_meanPower_16 : decode cX3_meanPower 16 = .ok (.iaload, 1) := dk_46 (dk_at dksX3_meanPower_0 16 rfl rfl)
theorem dX3_meanPower_17 : decode cX3_meanPower 17 = .ok (.if_icmp .ge 30, 3) := dk_162 0 30 (dk_at dksX3_meanPower_0 17 rfl rfl)
theorem dX3_meanPower_20 : decode cX3_meanPower 20 = .ok (.iload_n 1, 1) := dk_27 (dk_at dksX3_meanPower_0 20 rfl rfl)
theorem dX3_meanPower_21 : decode cX3_meanPower 21 = .ok (.aload_n 0, 1) := dk_42 (dk_at dksX3_meanPower_0 21 rfl rfl)
theorem dX3_meanPower_22 : decode cX3_meanPower 22 = .ok (.getfield 13, 3) := dk_180 0 13 (dk_at dksX3_meanPower_1 0 rfl rfl)
theorem dX3_meanPower_25 : decode cX3_meanPower 25 = .ok (.iload_n 2, 1) := dk_28 (dk_at dksX3_meanPower_1 3 rfl rfl)
theorem dX3_meanPower_26 : decode cX3_meanPower 26 = .ok (.iconst 2, 1) := dk_5 (dk_at dksX3_meanPower_1 4 rfl rfl)
theorem dX3_meanPower_27 : decode cX3_meanPower 27 = .ok (.invokestatic 84, 3) := dk_184 0 84 (dk_at dksX3_meanPower_1 5 rfl rfl)
theorem dX3_meanPower_30 : decode cX3_meanPower 30 = .ok (.iaload, 1) := dk_46 (dk_at dksX3_meanPower_1 8 rfl rfl)
theorem dX3_meanPower_31 : decode cX3_meanPower 31 = .ok (.ifCond .lt 7, 3) := dk_155 0 7 (dk_at dksX3_meanPower_1 9 rfl rfl)
theorem dX3_meanPower_34 : decode cX3_meanPower 34 = .ok (.iconst 1, 1) := dk_4 (dk_at dksX3_meanPower_1 12 rfl rfl)
theorem dX3_meanPower_35 : decode cX3_meanPower 35 = .ok (.goto 4, 3) := dk_167 0 4 (dk_at dksX3_meanPower_1 13 rfl rfl)
theorem dX3_meanPower_38 : decode cX3_meanPower 38 = .ok (.iconst 0, 1) := dk_3 (dk_at dksX3_meanPower_1 16 rfl rfl)
theorem dX3_meanPower_39 : decode cX3_meanPower 39 = .ok (.iadd, 1) := dk_96 (dk_at dksX3_meanPower_1 17 rfl rfl)
theorem dX3_meanPower_40 : decode cX3_meanPower 40 = .ok (.istore_n 1, 1) := dk_60 (dk_at dksX3_meanPower_1 18 rfl rfl)
theorem dX3_meanPower_41 : decode cX3_meanPower 41 = .ok (.iinc 2 1, 3) := dk_132 2 1 (dk_at dksX3_meanPower_1 19 rfl rfl)
theorem dX3_meanPower_44 : decode cX3_meanPower 44 = .ok (.goto (-35), 3) := dk_167 255 221 (dk_at dksX3_meanPower_2 0 rfl rfl)
theorem dX3_meanPower_47 : decode cX3_meanPower 47 = .ok (.iload_n 1, 1) := dk_27 (dk_at dksX3_meanPower_2 3 rfl rfl)
theorem dX3_meanPower_48 : decode cX3_meanPower 48 = .ok (.ifCond .ne 10, 3) := dk_154 0 10 (dk_at dksX3_meanPower_2 4 rfl rfl)
theorem dX3_meanPower_51 : decode cX3_meanPower 51 = .ok (.aload_n 0, 1) := dk_42 (dk_at dksX3_meanPower_2 7 rfl rfl)
theorem dX3_meanPower_52 : decode cX3_meanPower 52 = .ok (.iconst 1, 1) := dk_4 (dk_at dksX3_meanPower_2 8 rfl rfl)
theorem dX3_meanPower_53 : decode cX3_meanPower 53 = .ok (.invokevirtual 63, 3) := dk_182 0 63 (dk_at dksX3_meanPower_2 9 rfl rfl)
theorem dX3_meanPower_56 : decode cX3_meanPower 56 = .ok (.i2d, 1) := dk_135 (dk_at dksX3_meanPower_2 12 rfl rfl)
theorem dX3_meanPower_57 : decode cX3_meanPower 57 = .ok (.dreturn, 1) := dk_175 (dk_at dksX3_meanPower_2 13 rfl rfl)
theorem dX3_meanPower_58 : decode cX3_meanPower 58 = .ok (.aload_n 0, 1) := dk_42 (dk_at dksX3_meanPower_2 14 rfl rfl)
theorem dX3_meanPower_59 : decode cX3_meanPower 59 = .ok (.iconst 0, 1) := dk_3 (dk_at dksX3_meanPower_2 15 rfl rfl)
theorem dX3_meanPower_60 : decode cX3_meanPower 60 = .ok (.invokevirtual 301, 3) := dk_182 1 45 (dk_at dksX3_meanPower_2 16 rfl rfl)
theorem dX3_meanPower_63 : decode cX3_meanPower 63 = .ok (.i2d, 1) := dk_135 (dk_at dksX3_meanPower_2 19 rfl rfl)
theorem dX3_meanPower_64 : decode cX3_meanPower 64 = .ok (.iload_n 1, 1) := dk_27 (dk_at dksX3_meanPower_2 20 rfl rfl)
theorem dX3_meanPower_65 : decode cX3_meanPower 65 = .ok (.i2d, 1) := dk_135 (dk_at dksX3_meanPower_2 21 rfl rfl)
theorem dX3_meanPower_66 : decode cX3_meanPower 66 = .ok (.ddiv, 1) := dk_111 (dk_at dksX3_meanPower_2 22 rfl rfl)
theorem dX3_meanPower_67 : decode cX3_meanPower 67 = .ok (.dreturn, 1) := dk_175 (dk_at dksX3_meanPower_2 23 rfl rfl)
abbrev cX3_watchedShare : ByteArray := prog_13_method_111_code
def yX3_watchedShare : MethodName := ⟨RX3, "watchedShare", "()F"⟩
def dkwX3_watchedShare_0 : List UInt8 := [42, 3, 181, 0, 51, 16, 61, 42, 2, 182, 0, 207, 100, 134, 19, 1, 51, 110, 174]
abbrev dktX3_watchedShare_0 : List UInt8 := dkwX3_watchedShare_0 ++ []
theorem dksX3_watchedShare_0 : cX3_watchedShare.data.toList.drop 0 = dktX3_watchedShare_0 := by decide +kernel
theorem dX3_watchedShare_0 : decode cX3_watchedShare 0 = .ok (.aload_n 0, 1) := dk_42 (dk_at dksX3_watchedShare_0 0 rfl rfl)
theorem dX3_watchedShare_1 : decode cX3_watchedShare 1 = .ok (.iconst 0, 1) := dk_3 (dk_at dksX3_watchedShare_0 1 rfl rfl)
theorem dX3_watchedShare_2 : decode cX3_watchedShare 2 = .ok (.putfield 51, 3) := dk_181 0 51 (dk_at dksX3_watchedShare_0 2 rfl rfl)
theorem dX3_watchedShare_5 : decode cX3_watchedShare 5 = .ok (.bipush 61, 2) := dk_16 61 (dk_at dksX3_watchedShare_0 5 rfl rfl)
theorem dX3_watchedShare_7 : decode cX3_watchedShare 7 = .ok (.aload_n 0, 1) := dk_42 (dk_at dksX3_watchedShare_0 7 rfl rfl)
theorem dX3_watchedShare_8 : decode cX3_watchedShare 8 = .ok (.iconst (-1), 1) := dk_2 (dk_at dksX3_watchedShare_0 8 rfl rfl)
theorem dX3_watchedShare_9 : decode cX3_watchedShare 9 = .ok (.invokevirtual 207, 3) := dk_182 0 207 (dk_at dksX3_watchedShare_0 9 rfl rfl)
theorem dX3_watchedShare_12 : decode cX3_watchedShare 12 = .ok (.isub, 1) := dk_100 (dk_at dksX3_watchedShare_0 12 rfl rfl)
theorem dX3_watchedShare_13 : decode cX3_watchedShare 13 = .ok (.i2f, 1) := dk_134 (dk_at dksX3_watchedShare_0 13 rfl rfl)
theorem dX3_watchedShare_14 : decode cX3_watchedShare 14 = .ok (.ldc_w 307, 3) := dk_19 1 51 (dk_at dksX3_watchedShare_0 14 rfl rfl)
theorem dX3_watchedShare_17 : decode cX3_watchedShare 17 = .ok (.fdiv, 1) := dk_110 (dk_at dksX3_watchedShare_0 17 rfl rfl)
theorem dX3_watchedShare_18 : decode cX3_watchedShare 18 = .ok (.freturn, 1) := dk_174 (dk_at dksX3_watchedShare_0 18 rfl rfl)
abbrev cX3_undo : ByteArray := prog_13_method_112_code
def yX3_undo : MethodName := ⟨RX3, "undo", "()I"⟩
def dkwX3_undo_3 : List UInt8 := [167, 255, 232, 42, 180, 0, 67, 172]
abbrev dktX3_undo_3 : List UInt8 := dkwX3_undo_3 ++ []
def dkwX3_undo_2 : List UInt8 := [17, 0, 128, 162, 0, 23, 42, 180, 0, 13, 28, 42, 180, 0, 16, 27, 28, 96, 46, 79, 132, 2, 1]
abbrev dktX3_undo_2 : List UInt8 := dkwX3_undo_2 ++ dktX3_undo_3
def dkwX3_undo_1 : List UInt8 := [100, 181, 0, 67, 17, 0, 128, 42, 180, 0, 70, 42, 180, 0, 67, 96, 16, 8, 112, 104, 60, 3, 61, 28]
abbrev dktX3_undo_1 : List UInt8 := dkwX3_undo_1 ++ dktX3_undo_2
def dkwX3_undo_0 : List UInt8 := [42, 3, 181, 0, 51, 42, 180, 0, 67, 154, 0, 9, 42, 4, 182, 0, 63, 172, 42, 89, 180, 0, 67, 4]
abbrev dktX3_undo_0 : List UInt8 := dkwX3_undo_0 ++ dktX3_undo_1
theorem dksX3_undo_0 : cX3_undo.data.toList.drop 0 = dktX3_undo_0 := by decide +kernel
theorem dksX3_undo_1 : cX3_undo.data.toList.drop 24 = dktX3_undo_1 := dk_seg dksX3_undo_0 24 rfl rfl
theorem dksX3_undo_2 : cX3_undo.data.toList.drop 48 = dktX3_undo_2 := dk_seg dksX3_undo_1 24 rfl rfl
theorem dksX3_undo_3 : cX3_undo.data.toList.drop 71 = dktX3_undo_3 := dk_seg dksX3_undo_2 23 rfl rfl
theorem dX3_undo_0 : decode cX3_undo 0 = .ok (.aload_n 0, 1) := dk_42 (dk_at dksX3_undo_0 0 rfl rfl)
theorem dX3_undo_1 : decode cX3_undo 1 = .ok (.iconst 0, 1) := dk_3 (dk_at dksX3_undo_0 1 rfl rfl)
theorem dX3_undo_2 : decode cX3_undo 2 = .ok (.putfield 51, 3) := dk_181 0 51 (dk_at dksX3_undo_0 2 rfl rfl)
theorem dX3_undo_5 : decode cX3_undo 5 = .ok (.aload_n 0, 1) := dk_42 (dk_at dksX3_undo_0 5 rfl rfl)
theorem dX3_undo_6 : decode cX3_undo 6 = .ok (.getfield 67, 3) := dk_180 0 67 (dk_at dksX3_undo_0 6 rfl rfl)
theorem dX3_undo_9 : decode cX3_undo 9 = .ok (.ifCond .ne 9, 3) := dk_154 0 9 (dk_at dksX3_undo_0 9 rfl rfl)
theorem dX3_undo_12 : decode cX3_undo 12 = .ok (.aload_n 0, 1) := dk_42 (dk_at dksX3_undo_0 12 rfl rfl)
theorem dX3_undo_13 : decode cX3_undo 13 = .ok (.iconst 1, 1) := dk_4 (dk_at dksX3_undo_0 13 rfl rfl)
theorem dX3_undo_14 : decode cX3_undo 14 = .ok (.invokevirtual 63, 3) := dk_182 0 63 (dk_at dksX3_undo_0 14 rfl rfl)
theorem dX3_undo_17 : decode cX3_undo 17 = .ok (.ireturn, 1) := dk_172 (dk_at dksX3_undo_0 17 rfl rfl)
theorem dX3_undo_18 : decode cX3_undo 18 = .ok (.aload_n 0, 1) := dk_42 (dk_at dksX3_undo_0 18 rfl rfl)
theorem dX3_undo_19 : decode cX3_undo 19 = .ok (.dup, 1) := dk_89 (dk_at dksX3_undo_0 19 rfl rfl)
theorem dX3_undo_20 : decode cX3_undo 20 = .ok (.getfield 67, 3) := dk_180 0 67 (dk_at dksX3_undo_0 20 rfl rfl)
theorem dX3_undo_23 : decode cX3_undo 23 = .ok (.iconst 1, 1) := dk_4 (dk_at dksX3_undo_0 23 rfl rfl)
theorem dX3_undo_24 : decode cX3_undo 24 = .ok (.isub, 1) := dk_100 (dk_at dksX3_undo_1 0 rfl rfl)
theorem dX3_undo_25 : decode cX3_undo 25 = .ok (.putfield 67, 3) := dk_181 0 67 (dk_at dksX3_undo_1 1 rfl rfl)
theorem dX3_undo_28 : decode cX3_undo 28 = .ok (.sipush 128, 3) := dk_17 0 128 (dk_at dksX3_undo_1 4 rfl rfl)
theorem dX3_undo_31 : decode cX3_undo 31 = .ok (.aload_n 0, 1) := dk_42 (dk_at dksX3_undo_1 7 rfl rfl)
theorem dX3_undo_32 : decode cX3_undo 32 = .ok (.getfield 70, 3) := dk_180 0 70 (dk_at dksX3_undo_1 8 rfl rfl)
theorem dX3_undo_35 : decode cX3_undo 35 = .ok (.aload_n 0, 1) := dk_42 (dk_at dksX3_undo_1 11 rfl rfl)
theorem dX3_undo_36 : decode cX3_undo 36 = .ok (.getfield 67, 3) := dk_180 0 67 (dk_at dksX3_undo_1 12 rfl rfl)
theorem dX3_undo_39 : decode cX3_undo 39 = .ok (.iadd, 1) := dk_96 (dk_at dksX3_undo_1 15 rfl rfl)
theorem dX3_undo_40 : decode cX3_undo 40 = .ok (.bipush 8, 2) := dk_16 8 (dk_at dksX3_undo_1 16 rfl rfl)
theorem dX3_undo_42 : decode cX3_undo 42 = .ok (.irem, 1) := dk_112 (dk_at dksX3_undo_1 18 rfl rfl)
theorem dX3_undo_43 : decode cX3_undo 43 = .ok (.imul, 1) := dk_104 (dk_at dksX3_undo_1 19 rfl rfl)
theorem dX3_undo_44 : decode cX3_undo 44 = .ok (.istore_n 1, 1) := dk_60 (dk_at dksX3_undo_1 20 rfl rfl)
theorem dX3_undo_45 : decode cX3_undo 45 = .ok (.iconst 0, 1) := dk_3 (dk_at dksX3_undo_1 21 rfl rfl)
theorem dX3_undo_46 : decode cX3_undo 46 = .ok (.istore_n 2, 1) := dk_61 (dk_at dksX3_undo_1 22 rfl rfl)
theorem dX3_undo_47 : decode cX3_undo 47 = .ok (.iload_n 2, 1) := dk_28 (dk_at dksX3_undo_1 23 rfl rfl)
theorem dX3_undo_48 : decode cX3_undo 48 = .ok (.sipush 128, 3) := dk_17 0 128 (dk_at dksX3_undo_2 0 rfl rfl)
theorem dX3_undo_51 : decode cX3_undo 51 = .ok (.if_icmp .ge 23, 3) := dk_162 0 23 (dk_at dksX3_undo_2 3 rfl rfl)
theorem dX3_undo_54 : decode cX3_undo 54 = .ok (.aload_n 0, 1) := dk_42 (dk_at dksX3_undo_2 6 rfl rfl)
theorem dX3_undo_55 : decode cX3_undo 55 = .ok (.getfield 13, 3) := dk_180 0 13 (dk_at dksX3_undo_2 7 rfl rfl)
theorem dX3_undo_58 : decode cX3_undo 58 = .ok (.iload_n 2, 1) := dk_28 (dk_at dksX3_undo_2 10 rfl rfl)
theorem dX3_undo_59 : decode cX3_undo 59 = .ok (.aload_n 0, 1) := dk_42 (dk_at dksX3_undo_2 11 rfl rfl)
theorem dX3_undo_60 : decode cX3_undo 60 = .ok (.getfield 16, 3) := dk_180 0 16 (dk_at dksX3_undo_2 12 rfl rfl)
theorem dX3_undo_63 : decode cX3_undo 63 = .ok (.iload_n 1, 1) := dk_27 (dk_at dksX3_undo_2 15 rfl rfl)
theorem dX3_undo_64 : decode cX3_undo 64 = .ok (.iload_n 2, 1) := dk_28 (dk_at dksX3_undo_2 16 rfl rfl)
theorem dX3_undo_65 : decode cX3_undo 65 = .ok (.iadd, 1) := dk_96 (dk_at dksX3_undo_2 17 rfl rfl)
theorem dX3_undo_66 : decode cX3_undo 66 = .ok (.iaload, 1) := dk_46 (dk_at dksX3_undo_2 18 rfl rfl)
theorem dX3_undo_67 : decode cX3_undo 67 = .ok (.iastore, 1) := dk_79 (dk_at dksX3_undo_2 19 rfl rfl)
theorem dX3_undo_68 : decode cX3_undo 68 = .ok (.iinc 2 1, 3) := dk_132 2 1 (dk_at dksX3_undo_2 20 rfl rfl)
theorem dX3_undo_71 : decode cX3_undo 71 = .ok (.goto (-24), 3) := dk_167 255 232 (dk_at dksX3_undo_3 0 rfl rfl)
theorem dX3_undo_74 : decode cX3_undo 74 = .ok (.aload_n 0, 1) := dk_42 (dk_at dksX3_undo_3 3 rfl rfl)
theorem dX3_undo_75 : decode cX3_undo 75 = .ok (.getfield 67, 3) := dk_180 0 67 (dk_at dksX3_undo_3 4 rfl rfl)
theorem dX3_undo_78 : decode cX3_undo 78 = .ok (.ireturn, 1) := dk_172 (dk_at dksX3_undo_3 7 rfl rfl)
abbrev cX3_save : ByteArray := prog_13_method_113_code
def yX3_save : MethodName := ⟨RX3, "save", "()I"⟩
def dkwX3_save_1 : List UInt8 := [46, 79, 132, 1, 1, 167, 255, 234, 42, 4, 181, 1, 52, 42, 182, 0, 174, 172]
abbrev dktX3_save_1 : List UInt8 := dkwX3_save_1 ++ []
def dkwX3_save_0 : List UInt8 := [42, 3, 181, 0, 51, 3, 60, 27, 17, 0, 128, 162, 0, 21, 42, 180, 0, 19, 27, 42, 180, 0, 13, 27]
abbrev dktX3_save_0 : List UInt8 := dkwX3_save_0 ++ dktX3_save_1
theorem dksX3_save_0 : cX3_save.data.toList.drop 0 = dktX3_save_0 := by decide +kernel
theorem dksX3_save_1 : cX3_save.data.toList.drop 24 = dktX3_save_1 := dk_seg dksX3_save_0 24 rfl rfl
theorem dX3_save_0 : decode cX3_save 0 = .ok (.aload_n 0, 1) := dk_42 (dk_at dksX3_save_0 0 rfl rfl)
theorem dX3_save_1 : decode cX3_save 1 = .ok (.iconst 0, 1) := dk_3 (dk_at dksX3_save_0 1 rfl rfl)
theorem dX3_save_2 : decode cX3_save 2 = .ok (.putfield 51, 3) := dk_181 0 51 (dk_at dksX3_save_0 2 rfl rfl)
theorem dX3_save_5 : decode cX3_save 5 = .ok (.iconst 0, 1) := dk_3 (dk_at dksX3_save_0 5 rfl rfl)
theorem dX3_save_6 : decode cX3_save 6 = .ok (.istore_n 1, 1) := dk_60 (dk_at dksX3_save_0 6 rfl rfl)
theorem dX3_save_7 : decode cX3_save 7 = .ok (.iload_n 1, 1) := dk_27 (dk_at dksX3_save_0 7 rfl rfl)
theorem dX3_save_8 : decode cX3_save 8 = .ok (.sipush 128, 3) := dk_17 0 128 (dk_at dksX3_save_0 8 rfl rfl)
theorem dX3_save_11 : decode cX3_save 11 = .ok (.if_icmp .ge 21, 3) := dk_162 0 21 (dk_at dksX3_save_0 11 rfl rfl)
theorem dX3_save_14 : decode cX3_save 14 = .ok (.aload_n 0, 1) := dk_42 (dk_at dksX3_save_0 14 rfl rfl)
theorem dX3_save_15 : decode cX3_save 15 = .ok (.getfield 19, 3) := dk_180 0 19 (dk_at dksX3_save_0 15 rfl rfl)
theorem dX3_save_18 : decode cX3_save 18 = .ok (.iload_n 1, 1) := dk_27 (dk_at dksX3_save_0 18 rfl rfl)
theorem dX3_save_19 : decode cX3_save 19 = .ok (.aload_n 0, 1) := dk_42 (dk_at dksX3_save_0 19 rfl rfl)
theorem dX3_save_20 : decode cX3_save 20 = .ok (.getfield 13, 3) := dk_180 0 13 (dk_at dksX3_save_0 20 rfl rfl)
theorem dX3_save_23 : decode cX3_save 23 = .ok (.iload_n 1, 1) := dk_27 (dk_at dksX3_save_0 23 rfl rfl)
theorem dX3_save_24 : decode cX3_save 24 = .ok (.iaload, 1) := dk_46 (dk_at dksX3_save_1 0 rfl rfl)
theorem dX3_save_25 : decode cX3_save 25 = .ok (.iastore, 1) := dk_79 (dk_at dksX3_save_1 1 rfl rfl)
theorem dX3_save_26 : decode cX3_save 26 = .ok (.iinc 1 1, 3) := dk_132 1 1 (dk_at dksX3_save_1 2 rfl rfl)
theorem dX3_save_29 : decode cX3_save 29 = .ok (.goto (-22), 3) := dk_167 255 234 (dk_at dksX3_save_1 5 rfl rfl)
theorem dX3_save_32 : decode cX3_save 32 = .ok (.aload_n 0, 1) := dk_42 (dk_at dksX3_save_1 8 rfl rfl)
theorem dX3_save_33 : decode cX3_save 33 = .ok (.iconst 1, 1) := dk_4 (dk_at dksX3_save_1 9 rfl rfl)
theorem dX3_save_34 : decode cX3_save 34 = .ok (.putfield 308, 3) := dk_181 1 52 (dk_at dksX3_save_1 10 rfl rfl)
theorem dX3_save_37 : decode cX3_save 37 = .ok (.aload_n 0, 1) := dk_42 (dk_at dksX3_save_1 13 rfl rfl)
theorem dX3_save_38 : decode cX3_save 38 = .ok (.invokevirtual 174, 3) := dk_182 0 174 (dk_at dksX3_save_1 14 rfl rfl)
theorem dX3_save_41 : decode cX3_save 41 = .ok (.ireturn, 1) := dk_172 (dk_at dksX3_save_1 17 rfl rfl)
abbrev cX3_restore : ByteArray := prog_13_method_114_code
def yX3_restore : MethodName := ⟨RX3, "restore", "()I"⟩
def dkwX3_restore_2 : List UInt8 := [181, 0, 67, 42, 3, 181, 0, 70, 42, 182, 0, 174, 172]
abbrev dktX3_restore_2 : List UInt8 := dkwX3_restore_2 ++ []
def dkwX3_restore_1 : List UInt8 := [162, 0, 21, 42, 180, 0, 13, 27, 42, 180, 0, 19, 27, 46, 79, 132, 1, 1, 167, 255, 234, 42, 3]
abbrev dktX3_restore_1 : List UInt8 := dkwX3_restore_1 ++ dktX3_restore_2
def dkwX3_restore_0 : List UInt8 := [42, 3, 181, 0, 51, 42, 180, 1, 52, 154, 0, 9, 42, 4, 182, 0, 63, 172, 3, 60, 27, 17, 0, 128]
abbrev dktX3_restore_0 : List UInt8 := dkwX3_restore_0 ++ dktX3_restore_1
theorem dksX3_restore_0 : cX3_restore.data.toList.drop 0 = dktX3_restore_0 := by decide +kernel
theorem dksX3_restore_1 : cX3_restore.data.toList.drop 24 = dktX3_restore_1 := dk_seg dksX3_restore_0 24 rfl rfl
theorem dksX3_restore_2 : cX3_restore.data.toList.drop 47 = dktX3_restore_2 := dk_seg dksX3_restore_1 23 rfl rfl
theorem dX3_restore_0 : decode cX3_restore 0 = .ok (.aload_n 0, 1) := dk_42 (dk_at dksX3_restore_0 0 rfl rfl)
theorem dX3_restore_1 : decode cX3_restore 1 = .ok (.iconst 0, 1) := dk_3 (dk_at dksX3_restore_0 1 rfl rfl)
theorem dX3_restore_2 : decode cX3_restore 2 = .ok (.putfield 51, 3) := dk_181 0 51 (dk_at dksX3_restore_0 2 rfl rfl)
theorem dX3_restore_5 : decode cX3_restore 5 = .ok (.aload_n 0, 1) := dk_42 (dk_at dksX3_restore_0 5 rfl rfl)
theorem dX3_restore_6 : decode cX3_restore 6 = .ok (.getfield 308, 3) := dk_180 1 52 (dk_at dksX3_restore_0 6 rfl rfl)
theorem dX3_restore_9 : decode cX3_restore 9 = .ok (.ifCond .ne 9, 3) := dk_154 0 9 (dk_at dksX3_restore_0 9 rfl rfl)
theorem dX3_restore_12 : decode cX3_restore 12 = .ok (.aload_n 0, 1) := dk_42 (dk_at dksX3_restore_0 12 rfl rfl)
theorem dX3_restore_13 : decode cX3_restore 13 = .ok (.iconst 1, 1) := dk_4 (dk_at dksX3_restore_0 13 rfl rfl)
theorem dX3_restore_14 : decode cX3_restore 14 = .ok (.invokevirtual 63, 3) := dk_182 0 63 (dk_at dksX3_restore_0 14 rfl rfl)
theorem dX3_restore_17 : decode cX3_restore 17 = .ok (.ireturn, 1) := dk_172 (dk_at dksX3_restore_0 17 rfl rfl)
theorem dX3_restore_18 : decode cX3_restore 18 = .ok (.iconst 0, 1) := dk_3 (dk_at dksX3_restore_0 18 rfl rfl)
theorem dX3_restore_19 : decode cX3_restore 19 = .ok (.istore_n 1, 1) := dk_60 (dk_at dksX3_restore_0 19 rfl rfl)
theorem dX3_restore_20 : decode cX3_restore 20 = .ok (.iload_n 1, 1) := dk_27 (dk_at dksX3_restore_0 20 rfl rfl)
theorem dX3_restore_21 : decode cX3_restore 21 = .ok (.sipush 128, 3) := dk_17 0 128 (dk_at dksX3_restore_0 21 rfl rfl)
theorem dX3_restore_24 : decode cX3_restore 24 = .ok (.if_icmp .ge 21, 3) := dk_162 0 21 (dk_at dksX3_restore_1 0 rfl rfl)
theorem dX3_restore_27 : decode cX3_restore 27 = .ok (.aload_n 0, 1) := dk_42 (dk_at dksX3_restore_1 3 rfl rfl)
theorem dX3_restore_28 : decode cX3_restore 28 = .ok (.getfield 13, 3) := dk_180 0 13 (dk_at dksX3_restore_1 4 rfl rfl)
theorem dX3_restore_31 : decode cX3_restore 31 = .ok (.iload_n 1, 1) := dk_27 (dk_at dksX3_restore_1 7 rfl rfl)
theorem dX3_restore_32 : decode cX3_restore 32 = .ok (.aload_n 0, 1) := dk_42 (dk_at dksX3_restore_1 8 rfl rfl)
theorem dX3_restore_33 : decode cX3_restore 33 = .ok (.getfield 19, 3) := dk_180 0 19 (dk_at dksX3_restore_1 9 rfl rfl)
theorem dX3_restore_36 : decode cX3_restore 36 = .ok (.iload_n 1, 1) := dk_27 (dk_at dksX3_restore_1 12 rfl rfl)
theorem dX3_restore_37 : decode cX3_restore 37 = .ok (.iaload, 1) := dk_46 (dk_at dksX3_restore_1 13 rfl rfl)
theorem dX3_restore_38 : decode cX3_restore 38 = .ok (.iastore, 1) := dk_79 (dk_at dksX3_restore_1 14 rfl rfl)
theorem dX3_restore_39 : decode cX3_restore 39 = .ok (.iinc 1 1, 3) := dk_132 1 1 (dk_at dksX3_restore_1 15 rfl rfl)
theorem dX3_restore_42 : decode cX3_restore 42 = .ok (.goto (-22), 3) := dk_167 255 234 (dk_at dksX3_restore_1 18 rfl rfl)
theorem dX3_restore_45 : decode cX3_restore 45 = .ok (.aload_n 0, 1) := dk_42 (dk_at dksX3_restore_1 21 rfl rfl)
theorem dX3_restore_46 : decode cX3_restore 46 = .ok (.iconst 0, 1) := dk_3 (dk_at dksX3_restore_1 22 rfl rfl)
theorem dX3_restore_47 : decode cX3_restore 47 = .ok (.putfield 67, 3) := dk_181 0 67 (dk_at dksX3_restore_2 0 rfl rfl)
theorem dX3_restore_50 : decode cX3_restore 50 = .ok (.aload_n 0, 1) := dk_42 (dk_at dksX3_restore_2 3 rfl rfl)
theorem dX3_restore_51 : decode cX3_restore 51 = .ok (.iconst 0, 1) := dk_3 (dk_at dksX3_restore_2 4 rfl rfl)
theorem dX3_restore_52 : decode cX3_restore 52 = .ok (.putfield 70, 3) := dk_181 0 70 (dk_at dksX3_restore_2 5 rfl rfl)
theorem dX3_restore_55 : decode cX3_restore 55 = .ok (.aload_n 0, 1) := dk_42 (dk_at dksX3_restore_2 8 rfl rfl)
theorem dX3_restore_56 : decode cX3_restore 56 = .ok (.invokevirtual 174, 3) := dk_182 0 174 (dk_at dksX3_restore_2 9 rfl rfl)
theorem dX3_restore_59 : decode cX3_restore 59 = .ok (.ireturn, 1) := dk_172 (dk_at dksX3_restore_2 12 rfl rfl)
theorem q125 : (Jvm.Cond.initialized "SkerryLightsModel") ∈ lw_all := lw_g (lw_at lw_m1 21 rfl) rfl
theorem q325 : (Jvm.Cond.selects "SkerryLightsModel" ({ cls := "java/lang/Object", name := "getClass", desc := "()Ljava/lang/Class;" } : Jvm.MethodName) ({ cls := "java/lang/Object", name := "getClass", desc := "()Ljava/lang/Class;" } : Jvm.MethodName)) ∈ lw_all := lw_g (lw_at lw_m1 221 rfl) rfl
theorem q2396 : (Jvm.Cond.selects "SkerryLightsModel" ({ cls := "java/lang/Object", name := "equals", desc := "(Ljava/lang/Object;)Z" } : Jvm.MethodName) ({ cls := "java/lang/Object", name := "equals", desc := "(Ljava/lang/Object;)Z" } : Jvm.MethodName)) ∈ lw_all := lw_g (lw_at lw_m10 132 rfl) rfl
theorem q2526 : (Jvm.Cond.instantiable "SkerryLightsModel" (25 : Nat)) ∈ lw_all := lw_g (lw_at lw_m11 22 rfl) rfl
theorem q2528 : (Jvm.Cond.instanceMethod ({ cls := "SkerryLightsModel", name := "<init>", desc := "()V" } : Jvm.MethodName)) ∈ lw_all := lw_g (lw_at lw_m11 24 rfl) rfl
theorem q2529 : (Jvm.Cond.code ({ cls := "SkerryLightsModel", name := "<init>", desc := "()V" } : Jvm.MethodName) prog_13_method_1_code (1 : Nat) (Option.none : Option Jvm.ClassFile.FieldType)) ∈ lw_all := lw_g (lw_at lw_m11 25 rfl) rfl
theorem q2530 : (Jvm.Cond.methodLink "SkerryLightsModel" (1 : Nat) ({ cls := "java/lang/Object", name := "<init>", desc := "()V" } : Jvm.MethodName)) ∈ lw_all := lw_g (lw_at lw_m11 26 rfl) rfl
theorem q2531 : (Jvm.Cond.fieldLink "SkerryLightsModel" (51 : Nat) "SkerryLightsModel" "thrown" "I") ∈ lw_all := lw_g (lw_at lw_m11 27 rfl) rfl
theorem q2532 : (Jvm.Cond.fieldLink "SkerryLightsModel" (54 : Nat) "SkerryLightsModel" "why" "I") ∈ lw_all := lw_g (lw_at lw_m11 28 rfl) rfl
theorem q2533 : (Jvm.Cond.fieldLink "SkerryLightsModel" (57 : Nat) "SkerryLightsModel" "whyDetail" "I") ∈ lw_all := lw_g (lw_at lw_m11 29 rfl) rfl
theorem q2534 : (Jvm.Cond.fieldLink "SkerryLightsModel" (60 : Nat) "SkerryLightsModel" "causes" "I") ∈ lw_all := lw_g (lw_at lw_m11 30 rfl) rfl
theorem q2535 : (Jvm.Cond.fieldLink "SkerryLightsModel" (7 : Nat) "SkerryLightsModel" "cause" "[I") ∈ lw_all := lw_g (lw_at lw_m11 31 rfl) rfl
theorem q2536 : (Jvm.Cond.fieldLink "SkerryLightsModel" (13 : Nat) "SkerryLightsModel" "w" "[I") ∈ lw_all := lw_g (lw_at lw_m11 32 rfl) rfl
theorem q2537 : (Jvm.Cond.fieldLink "SkerryLightsModel" (16 : Nat) "SkerryLightsModel" "undos" "[I") ∈ lw_all := lw_g (lw_at lw_m11 33 rfl) rfl
theorem q2538 : (Jvm.Cond.fieldLink "SkerryLightsModel" (19 : Nat) "SkerryLightsModel" "savedRow" "[I") ∈ lw_all := lw_g (lw_at lw_m11 34 rfl) rfl
theorem q2539 : (Jvm.Cond.fieldLink "SkerryLightsModel" (22 : Nat) "SkerryLightsModel" "before" "[I") ∈ lw_all := lw_g (lw_at lw_m11 35 rfl) rfl
theorem q2540 : (Jvm.Cond.fieldLink "SkerryLightsModel" (67 : Nat) "SkerryLightsModel" "changes" "I") ∈ lw_all := lw_g (lw_at lw_m11 36 rfl) rfl
theorem q2541 : (Jvm.Cond.fieldLink "SkerryLightsModel" (70 : Nat) "SkerryLightsModel" "firstChange" "I") ∈ lw_all := lw_g (lw_at lw_m11 37 rfl) rfl
theorem q2542 : (Jvm.Cond.fieldLink "SkerryLightsModel" (308 : Nat) "SkerryLightsModel" "isSaved" "Z") ∈ lw_all := lw_g (lw_at lw_m11 38 rfl) rfl
theorem q2543 : (Jvm.Cond.fieldLink "SkerryLightsModel" (25 : Nat) "SkerryLightsModel" "far" "[I") ∈ lw_all := lw_g (lw_at lw_m11 39 rfl) rfl
theorem q2544 : (Jvm.Cond.fieldLink "SkerryLightsModel" (28 : Nat) "SkerryLightsModel" "route" "[I") ∈ lw_all := lw_g (lw_at lw_m11 40 rfl) rfl
theorem q2545 : (Jvm.Cond.fieldLink "SkerryLightsModel" (222 : Nat) "SkerryLightsModel" "routeLong" "I") ∈ lw_all := lw_g (lw_at lw_m11 41 rfl) rfl
theorem q2546 : (Jvm.Cond.fieldLink "SkerryLightsModel" (31 : Nat) "SkerryLightsModel" "input" "[C") ∈ lw_all := lw_g (lw_at lw_m11 42 rfl) rfl
theorem q2547 : (Jvm.Cond.fieldLink "SkerryLightsModel" (35 : Nat) "SkerryLightsModel" "word" "[C") ∈ lw_all := lw_g (lw_at lw_m11 43 rfl) rfl
theorem q2548 : (Jvm.Cond.fieldLink "SkerryLightsModel" (231 : Nat) "SkerryLightsModel" "length" "I") ∈ lw_all := lw_g (lw_at lw_m11 44 rfl) rfl
theorem q2549 : (Jvm.Cond.fieldLink "SkerryLightsModel" (234 : Nat) "SkerryLightsModel" "wordLong" "I") ∈ lw_all := lw_g (lw_at lw_m11 45 rfl) rfl
theorem q2550 : (Jvm.Cond.fieldLink "SkerryLightsModel" (38 : Nat) "SkerryLightsModel" "sign" "[I") ∈ lw_all := lw_g (lw_at lw_m11 46 rfl) rfl
theorem q2551 : (Jvm.Cond.fieldLink "SkerryLightsModel" (41 : Nat) "SkerryLightsModel" "one" "[I") ∈ lw_all := lw_g (lw_at lw_m11 47 rfl) rfl
theorem q2552 : (Jvm.Cond.fieldLink "SkerryLightsModel" (44 : Nat) "SkerryLightsModel" "two" "[I") ∈ lw_all := lw_g (lw_at lw_m11 48 rfl) rfl
theorem q2553 : (Jvm.Cond.fieldLink "SkerryLightsModel" (247 : Nat) "SkerryLightsModel" "at" "I") ∈ lw_all := lw_g (lw_at lw_m11 49 rfl) rfl
theorem q2554 : (Jvm.Cond.fieldLink "SkerryLightsModel" (253 : Nat) "SkerryLightsModel" "commands" "I") ∈ lw_all := lw_g (lw_at lw_m11 50 rfl) rfl
theorem q2555 : (Jvm.Cond.fieldLink "SkerryLightsModel" (47 : Nat) "SkerryLightsModel" "faultAt" "I") ∈ lw_all := lw_g (lw_at lw_m11 51 rfl) rfl
theorem q2556 : (Jvm.Cond.lays "SkerryLightsModel" "SkerryLightsModel" "thrown" "I") ∈ lw_all := lw_g (lw_at lw_m11 52 rfl) rfl
theorem q2557 : (Jvm.Cond.soleField "SkerryLightsModel" "thrown") ∈ lw_all := lw_g (lw_at lw_m11 53 rfl) rfl
theorem q2558 : (Jvm.Cond.lays "SkerryLightsModel" "SkerryLightsModel" "why" "I") ∈ lw_all := lw_g (lw_at lw_m11 54 rfl) rfl
theorem q2559 : (Jvm.Cond.soleField "SkerryLightsModel" "why") ∈ lw_all := lw_g (lw_at lw_m11 55 rfl) rfl
theorem q2560 : (Jvm.Cond.lays "SkerryLightsModel" "SkerryLightsModel" "whyDetail" "I") ∈ lw_all := lw_g (lw_at lw_m11 56 rfl) rfl
theorem q2561 : (Jvm.Cond.soleField "SkerryLightsModel" "whyDetail") ∈ lw_all := lw_g (lw_at lw_m11 57 rfl) rfl
theorem q2562 : (Jvm.Cond.lays "SkerryLightsModel" "SkerryLightsModel" "causes" "I") ∈ lw_all := lw_g (lw_at lw_m11 58 rfl) rfl
theorem q2563 : (Jvm.Cond.soleField "SkerryLightsModel" "causes") ∈ lw_all := lw_g (lw_at lw_m11 59 rfl) rfl
theorem q2564 : (Jvm.Cond.laysFinal "SkerryLightsModel" "SkerryLightsModel" "cause" "[I") ∈ lw_all := lw_g (lw_at lw_m11 60 rfl) rfl
theorem q2565 : (Jvm.Cond.soleField "SkerryLightsModel" "cause") ∈ lw_all := lw_g (lw_at lw_m11 61 rfl) rfl
theorem q2566 : (Jvm.Cond.laysFinal "SkerryLightsModel" "SkerryLightsModel" "w" "[I") ∈ lw_all := lw_g (lw_at lw_m11 62 rfl) rfl
theorem q2567 : (Jvm.Cond.soleField "SkerryLightsModel" "w") ∈ lw_all := lw_g (lw_at lw_m11 63 rfl) rfl
theorem q2568 : (Jvm.Cond.laysFinal "SkerryLightsModel" "SkerryLightsModel" "undos" "[I") ∈ lw_all := lw_g (lw_at lw_m11 64 rfl) rfl
theorem q2569 : (Jvm.Cond.soleField "SkerryLightsModel" "undos") ∈ lw_all := lw_g (lw_at lw_m11 65 rfl) rfl
theorem q2570 : (Jvm.Cond.laysFinal "SkerryLightsModel" "SkerryLightsModel" "savedRow" "[I") ∈ lw_all := lw_g (lw_at lw_m11 66 rfl) rfl
theorem q2571 : (Jvm.Cond.soleField "SkerryLightsModel" "savedRow") ∈ lw_all := lw_g (lw_at lw_m11 67 rfl) rfl
theorem q2572 : (Jvm.Cond.laysFinal "SkerryLightsModel" "SkerryLightsModel" "before" "[I") ∈ lw_all := lw_g (lw_at lw_m11 68 rfl) rfl
theorem q2573 : (Jvm.Cond.soleField "SkerryLightsModel" "before") ∈ lw_all := lw_g (lw_at lw_m11 69 rfl) rfl
theorem q2574 : (Jvm.Cond.lays "SkerryLightsModel" "SkerryLightsModel" "changes" "I") ∈ lw_all := lw_g (lw_at lw_m11 70 rfl) rfl
theorem q2575 : (Jvm.Cond.soleField "SkerryLightsModel" "changes") ∈ lw_all := lw_g (lw_at lw_m11 71 rfl) rfl
theorem q2576 : (Jvm.Cond.lays "SkerryLightsModel" "SkerryLightsModel" "firstChange" "I") ∈ lw_all := lw_g (lw_at lw_m11 72 rfl) rfl
theorem q2577 : (Jvm.Cond.soleField "SkerryLightsModel" "firstChange") ∈ lw_all := lw_g (lw_at lw_m11 73 rfl) rfl
theorem q2578 : (Jvm.Cond.lays "SkerryLightsModel" "SkerryLightsModel" "isSaved" "Z") ∈ lw_all := lw_g (lw_at lw_m11 74 rfl) rfl
theorem q2579 : (Jvm.Cond.soleField "SkerryLightsModel" "isSaved") ∈ lw_all := lw_g (lw_at lw_m11 75 rfl) rfl
theorem q2580 : (Jvm.Cond.laysFinal "SkerryLightsModel" "SkerryLightsModel" "far" "[I") ∈ lw_all := lw_g (lw_at lw_m11 76 rfl) rfl
theorem q2581 : (Jvm.Cond.soleField "SkerryLightsModel" "far") ∈ lw_all := lw_g (lw_at lw_m11 77 rfl) rfl
theorem q2582 : (Jvm.Cond.laysFinal "SkerryLightsModel" "SkerryLightsModel" "route" "[I") ∈ lw_all := lw_g (lw_at lw_m11 78 rfl) rfl
theorem q2583 : (Jvm.Cond.soleField "SkerryLightsModel" "route") ∈ lw_all := lw_g (lw_at lw_m11 79 rfl) rfl
theorem q2584 : (Jvm.Cond.lays "SkerryLightsModel" "SkerryLightsModel" "routeLong" "I") ∈ lw_all := lw_g (lw_at lw_m11 80 rfl) rfl
theorem q2585 : (Jvm.Cond.soleField "SkerryLightsModel" "routeLong") ∈ lw_all := lw_g (lw_at lw_m11 81 rfl) rfl
theorem q2586 : (Jvm.Cond.laysFinal "SkerryLightsModel" "SkerryLightsModel" "input" "[C") ∈ lw_all := lw_g (lw_at lw_m11 82 rfl) rfl
theorem q2587 : (Jvm.Cond.soleField "SkerryLightsModel" "input") ∈ lw_all := lw_g (lw_at lw_m11 83 rfl) rfl
theorem q2588 : (Jvm.Cond.laysFinal "SkerryLightsModel" "SkerryLightsModel" "word" "[C") ∈ lw_all := lw_g (lw_at lw_m11 84 rfl) rfl
theorem q2589 : (Jvm.Cond.soleField "SkerryLightsModel" "word") ∈ lw_all := lw_g (lw_at lw_m11 85 rfl) rfl
theorem q2590 : (Jvm.Cond.lays "SkerryLightsModel" "SkerryLightsModel" "length" "I") ∈ lw_all := lw_g (lw_at lw_m11 86 rfl) rfl
theorem q2591 : (Jvm.Cond.soleField "SkerryLightsModel" "length") ∈ lw_all := lw_g (lw_at lw_m11 87 rfl) rfl
theorem q2592 : (Jvm.Cond.lays "SkerryLightsModel" "SkerryLightsModel" "wordLong" "I") ∈ lw_all := lw_g (lw_at lw_m11 88 rfl) rfl
theorem q2593 : (Jvm.Cond.soleField "SkerryLightsModel" "wordLong") ∈ lw_all := lw_g (lw_at lw_m11 89 rfl) rfl
theorem q2594 : (Jvm.Cond.laysFinal "SkerryLightsModel" "SkerryLightsModel" "sign" "[I") ∈ lw_all := lw_g (lw_at lw_m11 90 rfl) rfl
theorem q2595 : (Jvm.Cond.soleField "SkerryLightsModel" "sign") ∈ lw_all := lw_g (lw_at lw_m11 91 rfl) rfl
theorem q2596 : (Jvm.Cond.laysFinal "SkerryLightsModel" "SkerryLightsModel" "one" "[I") ∈ lw_all := lw_g (lw_at lw_m11 92 rfl) rfl
theorem q2597 : (Jvm.Cond.soleField "SkerryLightsModel" "one") ∈ lw_all := lw_g (lw_at lw_m11 93 rfl) rfl
theorem q2598 : (Jvm.Cond.laysFinal "SkerryLightsModel" "SkerryLightsModel" "two" "[I") ∈ lw_all := lw_g (lw_at lw_m11 94 rfl) rfl
theorem q2599 : (Jvm.Cond.soleField "SkerryLightsModel" "two") ∈ lw_all := lw_g (lw_at lw_m11 95 rfl) rfl
theorem q2600 : (Jvm.Cond.lays "SkerryLightsModel" "SkerryLightsModel" "at" "I") ∈ lw_all := lw_g (lw_at lw_m11 96 rfl) rfl
theorem q2601 : (Jvm.Cond.soleField "SkerryLightsModel" "at") ∈ lw_all := lw_g (lw_at lw_m11 97 rfl) rfl
theorem q2602 : (Jvm.Cond.lays "SkerryLightsModel" "SkerryLightsModel" "commands" "I") ∈ lw_all := lw_g (lw_at lw_m11 98 rfl) rfl
theorem q2603 : (Jvm.Cond.soleField "SkerryLightsModel" "commands") ∈ lw_all := lw_g (lw_at lw_m11 99 rfl) rfl
theorem q2604 : (Jvm.Cond.lays "SkerryLightsModel" "SkerryLightsModel" "faultAt" "I") ∈ lw_all := lw_g (lw_at lw_m11 100 rfl) rfl
theorem q2605 : (Jvm.Cond.soleField "SkerryLightsModel" "faultAt") ∈ lw_all := lw_g (lw_at lw_m11 101 rfl) rfl
theorem q2606 : (Jvm.Cond.superclass "SkerryLightsModel" "java/lang/Object") ∈ lw_all := lw_g (lw_at lw_m11 102 rfl) rfl
theorem q2609 : (Jvm.Cond.instanceMethod ({ cls := "SkerryLightsModel", name := "thrown", desc := "()I" } : Jvm.MethodName)) ∈ lw_all := lw_g (lw_at lw_m11 105 rfl) rfl
theorem q2610 : (Jvm.Cond.selects "SkerryLightsModel" ({ cls := "SkerryLightsModel", name := "thrown", desc := "()I" } : Jvm.MethodName) ({ cls := "SkerryLightsModel", name := "thrown", desc := "()I" } : Jvm.MethodName)) ∈ lw_all := lw_g (lw_at lw_m11 106 rfl) rfl
theorem q2611 : (Jvm.Cond.code ({ cls := "SkerryLightsModel", name := "thrown", desc := "()I" } : Jvm.MethodName) prog_13_method_2_code (1 : Nat) (Option.some Jvm.ClassFile.FieldType.int)) ∈ lw_all := lw_g (lw_at lw_m11 107 rfl) rfl
theorem q2613 : (Jvm.Cond.instanceMethod ({ cls := "SkerryLightsModel", name := "tower", desc := "(III)I" } : Jvm.MethodName)) ∈ lw_all := lw_g (lw_at lw_m11 109 rfl) rfl
theorem q2614 : (Jvm.Cond.selects "SkerryLightsModel" ({ cls := "SkerryLightsModel", name := "tower", desc := "(III)I" } : Jvm.MethodName) ({ cls := "SkerryLightsModel", name := "tower", desc := "(III)I" } : Jvm.MethodName)) ∈ lw_all := lw_g (lw_at lw_m11 110 rfl) rfl
theorem q2615 : (Jvm.Cond.code ({ cls := "SkerryLightsModel", name := "tower", desc := "(III)I" } : Jvm.MethodName) prog_13_method_31_code (5 : Nat) (Option.some Jvm.ClassFile.FieldType.int)) ∈ lw_all := lw_g (lw_at lw_m11 111 rfl) rfl
theorem q2616 : (Jvm.Cond.methodLink "SkerryLightsModel" (126 : Nat) ({ cls := "SkerryLightsModel", name := "isPlace", desc := "(I)Z" } : Jvm.MethodName)) ∈ lw_all := lw_g (lw_at lw_m11 112 rfl) rfl
theorem q2617 : (Jvm.Cond.static ({ cls := "SkerryLightsModel", name := "isPlace", desc := "(I)Z" } : Jvm.MethodName)) ∈ lw_all := lw_g (lw_at lw_m11 113 rfl) rfl
theorem q2618 : (Jvm.Cond.code ({ cls := "SkerryLightsModel", name := "isPlace", desc := "(I)Z" } : Jvm.MethodName) prog_13_method_14_code (1 : Nat) (Option.some Jvm.ClassFile.FieldType.boolean)) ∈ lw_all := lw_g (lw_at lw_m11 114 rfl) rfl
theorem q2619 : (Jvm.Cond.methodLink "SkerryLightsModel" (77 : Nat) ({ cls := "SkerryLightsModel", name := "isBetween", desc := "(III)Z" } : Jvm.MethodName)) ∈ lw_all := lw_g (lw_at lw_m11 115 rfl) rfl
theorem q2620 : (Jvm.Cond.static ({ cls := "SkerryLightsModel", name := "isBetween", desc := "(III)Z" } : Jvm.MethodName)) ∈ lw_all := lw_g (lw_at lw_m11 116 rfl) rfl
theorem q2621 : (Jvm.Cond.code ({ cls := "SkerryLightsModel", name := "isBetween", desc := "(III)Z" } : Jvm.MethodName) prog_13_method_6_code (3 : Nat) (Option.some Jvm.ClassFile.FieldType.boolean)) ∈ lw_all := lw_g (lw_at lw_m11 117 rfl) rfl
theorem q2622 : (Jvm.Cond.methodLink "SkerryLightsModel" (63 : Nat) ({ cls := "SkerryLightsModel", name := "fails", desc := "(I)I" } : Jvm.MethodName)) ∈ lw_all := lw_g (lw_at lw_m11 118 rfl) rfl
theorem q2623 : (Jvm.Cond.privateMethod ({ cls := "SkerryLightsModel", name := "fails", desc := "(I)I" } : Jvm.MethodName)) ∈ lw_tbl := lw_at lw_m11 119 rfl
theorem q2624 : (Jvm.Cond.instanceMethod ({ cls := "SkerryLightsModel", name := "fails", desc := "(I)I" } : Jvm.MethodName)) ∈ lw_all := lw_g (lw_at lw_m11 120 rfl) rfl
theorem q2625 : (Jvm.Cond.code ({ cls := "SkerryLightsModel", name := "fails", desc := "(I)I" } : Jvm.MethodName) prog_13_method_3_code (2 : Nat) (Option.some Jvm.ClassFile.FieldType.int)) ∈ lw_all := lw_g (lw_at lw_m11 121 rfl) rfl
theorem q2626 : (Jvm.Cond.methodLink "SkerryLightsModel" (129 : Nat) ({ cls := "SkerryLightsModel", name := "towerAtPlace", desc := "(I)I" } : Jvm.MethodName)) ∈ lw_all := lw_g (lw_at lw_m11 122 rfl) rfl
theorem q2627 : (Jvm.Cond.privateMethod ({ cls := "SkerryLightsModel", name := "towerAtPlace", desc := "(I)I" } : Jvm.MethodName)) ∈ lw_tbl := lw_at lw_m11 123 rfl
theorem q2628 : (Jvm.Cond.instanceMethod ({ cls := "SkerryLightsModel", name := "towerAtPlace", desc := "(I)I" } : Jvm.MethodName)) ∈ lw_all := lw_g (lw_at lw_m11 124 rfl) rfl
theorem q2629 : (Jvm.Cond.code ({ cls := "SkerryLightsModel", name := "towerAtPlace", desc := "(I)I" } : Jvm.MethodName) prog_13_method_30_code (3 : Nat) (Option.some Jvm.ClassFile.FieldType.int)) ∈ lw_all := lw_g (lw_at lw_m11 125 rfl) rfl
theorem q2630 : (Jvm.Cond.methodLink "SkerryLightsModel" (81 : Nat) ({ cls := "SkerryLightsModel", name := "ofTower", desc := "(II)I" } : Jvm.MethodName)) ∈ lw_all := lw_g (lw_at lw_m11 126 rfl) rfl
theorem q2631 : (Jvm.Cond.privateMethod ({ cls := "SkerryLightsModel", name := "ofTower", desc := "(II)I" } : Jvm.MethodName)) ∈ lw_tbl := lw_at lw_m11 127 rfl
theorem q2632 : (Jvm.Cond.instanceMethod ({ cls := "SkerryLightsModel", name := "ofTower", desc := "(II)I" } : Jvm.MethodName)) ∈ lw_all := lw_g (lw_at lw_m11 128 rfl) rfl
theorem q2633 : (Jvm.Cond.code ({ cls := "SkerryLightsModel", name := "ofTower", desc := "(II)I" } : Jvm.MethodName) prog_13_method_12_code (3 : Nat) (Option.some Jvm.ClassFile.FieldType.int)) ∈ lw_all := lw_g (lw_at lw_m11 129 rfl) rfl
theorem q2634 : (Jvm.Cond.methodLink "SkerryLightsModel" (73 : Nat) ({ cls := "SkerryLightsModel", name := "towerAt", desc := "(II)I" } : Jvm.MethodName)) ∈ lw_all := lw_g (lw_at lw_m11 130 rfl) rfl
theorem q2635 : (Jvm.Cond.static ({ cls := "SkerryLightsModel", name := "towerAt", desc := "(II)I" } : Jvm.MethodName)) ∈ lw_all := lw_g (lw_at lw_m11 131 rfl) rfl
theorem q2636 : (Jvm.Cond.code ({ cls := "SkerryLightsModel", name := "towerAt", desc := "(II)I" } : Jvm.MethodName) prog_13_method_10_code (2 : Nat) (Option.some Jvm.ClassFile.FieldType.int)) ∈ lw_all := lw_g (lw_at lw_m11 132 rfl) rfl
theorem q2637 : (Jvm.Cond.methodLink "SkerryLightsModel" (132 : Nat) ({ cls := "SkerryLightsModel", name := "hinders", desc := "(II)Z" } : Jvm.MethodName)) ∈ lw_all := lw_g (lw_at lw_m11 133 rfl) rfl
theorem q2638 : (Jvm.Cond.privateMethod ({ cls := "SkerryLightsModel", name := "hinders", desc := "(II)Z" } : Jvm.MethodName)) ∈ lw_tbl := lw_at lw_m11 134 rfl
theorem q2639 : (Jvm.Cond.instanceMethod ({ cls := "SkerryLightsModel", name := "hinders", desc := "(II)Z" } : Jvm.MethodName)) ∈ lw_all := lw_g (lw_at lw_m11 135 rfl) rfl
theorem q2640 : (Jvm.Cond.code ({ cls := "SkerryLightsModel", name := "hinders", desc := "(II)Z" } : Jvm.MethodName) prog_13_method_4_code (3 : Nat) (Option.some Jvm.ClassFile.FieldType.boolean)) ∈ lw_all := lw_g (lw_at lw_m11 136 rfl) rfl
theorem q2641 : (Jvm.Cond.methodLink "SkerryLightsModel" (135 : Nat) ({ cls := "SkerryLightsModel", name := "refuses", desc := "(I)I" } : Jvm.MethodName)) ∈ lw_all := lw_g (lw_at lw_m11 137 rfl) rfl
theorem q2642 : (Jvm.Cond.privateMethod ({ cls := "SkerryLightsModel", name := "refuses", desc := "(I)I" } : Jvm.MethodName)) ∈ lw_tbl := lw_at lw_m11 138 rfl
theorem q2643 : (Jvm.Cond.instanceMethod ({ cls := "SkerryLightsModel", name := "refuses", desc := "(I)I" } : Jvm.MethodName)) ∈ lw_all := lw_g (lw_at lw_m11 139 rfl) rfl
theorem q2644 : (Jvm.Cond.code ({ cls := "SkerryLightsModel", name := "refuses", desc := "(I)I" } : Jvm.MethodName) prog_13_method_5_code (2 : Nat) (Option.some Jvm.ClassFile.FieldType.int)) ∈ lw_all := lw_g (lw_at lw_m11 140 rfl) rfl
theorem q2645 : (Jvm.Cond.methodLink "SkerryLightsModel" (138 : Nat) ({ cls := "SkerryLightsModel", name := "notes", desc := "()V" } : Jvm.MethodName)) ∈ lw_all := lw_g (lw_at lw_m11 141 rfl) rfl
theorem q2646 : (Jvm.Cond.privateMethod ({ cls := "SkerryLightsModel", name := "notes", desc := "()V" } : Jvm.MethodName)) ∈ lw_tbl := lw_at lw_m11 142 rfl
theorem q2647 : (Jvm.Cond.instanceMethod ({ cls := "SkerryLightsModel", name := "notes", desc := "()V" } : Jvm.MethodName)) ∈ lw_all := lw_g (lw_at lw_m11 143 rfl) rfl
theorem q2648 : (Jvm.Cond.code ({ cls := "SkerryLightsModel", name := "notes", desc := "()V" } : Jvm.MethodName) prog_13_method_7_code (2 : Nat) (Option.none : Option Jvm.ClassFile.FieldType)) ∈ lw_all := lw_g (lw_at lw_m11 144 rfl) rfl
theorem q2649 : (Jvm.Cond.methodLink "SkerryLightsModel" (141 : Nat) ({ cls := "SkerryLightsModel", name := "isDone", desc := "()V" } : Jvm.MethodName)) ∈ lw_all := lw_g (lw_at lw_m11 145 rfl) rfl
theorem q2650 : (Jvm.Cond.privateMethod ({ cls := "SkerryLightsModel", name := "isDone", desc := "()V" } : Jvm.MethodName)) ∈ lw_tbl := lw_at lw_m11 146 rfl
theorem q2651 : (Jvm.Cond.instanceMethod ({ cls := "SkerryLightsModel", name := "isDone", desc := "()V" } : Jvm.MethodName)) ∈ lw_all := lw_g (lw_at lw_m11 147 rfl) rfl
theorem q2652 : (Jvm.Cond.code ({ cls := "SkerryLightsModel", name := "isDone", desc := "()V" } : Jvm.MethodName) prog_13_method_29_code (1 : Nat) (Option.none : Option Jvm.ClassFile.FieldType)) ∈ lw_all := lw_g (lw_at lw_m11 148 rfl) rfl
theorem q2653 : (Jvm.Cond.methodLink "SkerryLightsModel" (120 : Nat) ({ cls := "SkerryLightsModel", name := "settles", desc := "()V" } : Jvm.MethodName)) ∈ lw_all := lw_g (lw_at lw_m11 149 rfl) rfl
theorem q2654 : (Jvm.Cond.privateMethod ({ cls := "SkerryLightsModel", name := "settles", desc := "()V" } : Jvm.MethodName)) ∈ lw_tbl := lw_at lw_m11 150 rfl
theorem q2655 : (Jvm.Cond.instanceMethod ({ cls := "SkerryLightsModel", name := "settles", desc := "()V" } : Jvm.MethodName)) ∈ lw_all := lw_g (lw_at lw_m11 151 rfl) rfl
theorem q2656 : (Jvm.Cond.code ({ cls := "SkerryLightsModel", name := "settles", desc := "()V" } : Jvm.MethodName) prog_13_method_28_code (2 : Nat) (Option.none : Option Jvm.ClassFile.FieldType)) ∈ lw_all := lw_g (lw_at lw_m11 152 rfl) rfl
theorem q2657 : (Jvm.Cond.methodLink "SkerryLightsModel" (109 : Nat) ({ cls := "SkerryLightsModel", name := "isLit", desc := "(I)Z" } : Jvm.MethodName)) ∈ lw_all := lw_g (lw_at lw_m11 153 rfl) rfl
theorem q2658 : (Jvm.Cond.privateMethod ({ cls := "SkerryLightsModel", name := "isLit", desc := "(I)Z" } : Jvm.MethodName)) ∈ lw_tbl := lw_at lw_m11 154 rfl
theorem q2659 : (Jvm.Cond.instanceMethod ({ cls := "SkerryLightsModel", name := "isLit", desc := "(I)Z" } : Jvm.MethodName)) ∈ lw_all := lw_g (lw_at lw_m11 155 rfl) rfl
theorem q2660 : (Jvm.Cond.code ({ cls := "SkerryLightsModel", name := "isLit", desc := "(I)Z" } : Jvm.MethodName) prog_13_method_16_code (2 : Nat) (Option.some Jvm.ClassFile.FieldType.boolean)) ∈ lw_all := lw_g (lw_at lw_m11 156 rfl) rfl
theorem q2661 : (Jvm.Cond.methodLink "SkerryLightsModel" (90 : Nat) ({ cls := "SkerryLightsModel", name := "powerOf", desc := "(I)I" } : Jvm.MethodName)) ∈ lw_all := lw_g (lw_at lw_m11 157 rfl) rfl
theorem q2662 : (Jvm.Cond.privateMethod ({ cls := "SkerryLightsModel", name := "powerOf", desc := "(I)I" } : Jvm.MethodName)) ∈ lw_tbl := lw_at lw_m11 158 rfl
theorem q2663 : (Jvm.Cond.instanceMethod ({ cls := "SkerryLightsModel", name := "powerOf", desc := "(I)I" } : Jvm.MethodName)) ∈ lw_all := lw_g (lw_at lw_m11 159 rfl) rfl
theorem q2664 : (Jvm.Cond.code ({ cls := "SkerryLightsModel", name := "powerOf", desc := "(I)I" } : Jvm.MethodName) prog_13_method_15_code (2 : Nat) (Option.some Jvm.ClassFile.FieldType.int)) ∈ lw_all := lw_g (lw_at lw_m11 160 rfl) rfl
theorem q2665 : (Jvm.Cond.methodLink "SkerryLightsModel" (84 : Nat) ({ cls := "SkerryLightsModel", name := "lensAt", desc := "(II)I" } : Jvm.MethodName)) ∈ lw_all := lw_g (lw_at lw_m11 161 rfl) rfl
theorem q2666 : (Jvm.Cond.static ({ cls := "SkerryLightsModel", name := "lensAt", desc := "(II)I" } : Jvm.MethodName)) ∈ lw_all := lw_g (lw_at lw_m11 162 rfl) rfl
theorem q2667 : (Jvm.Cond.code ({ cls := "SkerryLightsModel", name := "lensAt", desc := "(II)I" } : Jvm.MethodName) prog_13_method_11_code (2 : Nat) (Option.some Jvm.ClassFile.FieldType.int)) ∈ lw_all := lw_g (lw_at lw_m11 163 rfl) rfl
theorem q2668 : (Jvm.Cond.methodLink "SkerryLightsModel" (116 : Nat) ({ cls := "SkerryLightsModel", name := "mistakenOne", desc := "()I" } : Jvm.MethodName)) ∈ lw_all := lw_g (lw_at lw_m11 164 rfl) rfl
theorem q2669 : (Jvm.Cond.privateMethod ({ cls := "SkerryLightsModel", name := "mistakenOne", desc := "()I" } : Jvm.MethodName)) ∈ lw_tbl := lw_at lw_m11 165 rfl
theorem q2670 : (Jvm.Cond.instanceMethod ({ cls := "SkerryLightsModel", name := "mistakenOne", desc := "()I" } : Jvm.MethodName)) ∈ lw_all := lw_g (lw_at lw_m11 166 rfl) rfl
theorem q2671 : (Jvm.Cond.code ({ cls := "SkerryLightsModel", name := "mistakenOne", desc := "()I" } : Jvm.MethodName) prog_13_method_27_code (3 : Nat) (Option.some Jvm.ClassFile.FieldType.int)) ∈ lw_all := lw_g (lw_at lw_m11 167 rfl) rfl
theorem q2672 : (Jvm.Cond.methodLink "SkerryLightsModel" (113 : Nat) ({ cls := "SkerryLightsModel", name := "canBeMistaken", desc := "(II)Z" } : Jvm.MethodName)) ∈ lw_all := lw_g (lw_at lw_m11 168 rfl) rfl
theorem q2673 : (Jvm.Cond.privateMethod ({ cls := "SkerryLightsModel", name := "canBeMistaken", desc := "(II)Z" } : Jvm.MethodName)) ∈ lw_tbl := lw_at lw_m11 169 rfl
theorem q2674 : (Jvm.Cond.instanceMethod ({ cls := "SkerryLightsModel", name := "canBeMistaken", desc := "(II)Z" } : Jvm.MethodName)) ∈ lw_all := lw_g (lw_at lw_m11 170 rfl) rfl
theorem q2675 : (Jvm.Cond.code ({ cls := "SkerryLightsModel", name := "canBeMistaken", desc := "(II)Z" } : Jvm.MethodName) prog_13_method_26_code (4 : Nat) (Option.some Jvm.ClassFile.FieldType.boolean)) ∈ lw_all := lw_g (lw_at lw_m11 171 rfl) rfl
theorem q2676 : (Jvm.Cond.methodLink "SkerryLightsModel" (106 : Nat) ({ cls := "SkerryLightsModel", name := "lookAlike", desc := "(II)Z" } : Jvm.MethodName)) ∈ lw_all := lw_g (lw_at lw_m11 172 rfl) rfl
theorem q2677 : (Jvm.Cond.privateMethod ({ cls := "SkerryLightsModel", name := "lookAlike", desc := "(II)Z" } : Jvm.MethodName)) ∈ lw_tbl := lw_at lw_m11 173 rfl
theorem q2678 : (Jvm.Cond.instanceMethod ({ cls := "SkerryLightsModel", name := "lookAlike", desc := "(II)Z" } : Jvm.MethodName)) ∈ lw_all := lw_g (lw_at lw_m11 174 rfl) rfl
theorem q2679 : (Jvm.Cond.code ({ cls := "SkerryLightsModel", name := "lookAlike", desc := "(II)Z" } : Jvm.MethodName) prog_13_method_25_code (4 : Nat) (Option.some Jvm.ClassFile.FieldType.boolean)) ∈ lw_all := lw_g (lw_at lw_m11 175 rfl) rfl
theorem q2680 : (Jvm.Cond.methodLink "SkerryLightsModel" (100 : Nat) ({ cls := "SkerryLightsModel", name := "doesTurnInto", desc := "(III)Z" } : Jvm.MethodName)) ∈ lw_all := lw_g (lw_at lw_m11 176 rfl) rfl
theorem q2681 : (Jvm.Cond.static ({ cls := "SkerryLightsModel", name := "doesTurnInto", desc := "(III)Z" } : Jvm.MethodName)) ∈ lw_all := lw_g (lw_at lw_m11 177 rfl) rfl
theorem q2682 : (Jvm.Cond.code ({ cls := "SkerryLightsModel", name := "doesTurnInto", desc := "(III)Z" } : Jvm.MethodName) prog_13_method_24_code (5 : Nat) (Option.some Jvm.ClassFile.FieldType.boolean)) ∈ lw_all := lw_g (lw_at lw_m11 178 rfl) rfl
theorem q2683 : (Jvm.Cond.methodLink "SkerryLightsModel" (97 : Nat) ({ cls := "SkerryLightsModel", name := "turned", desc := "(II)I" } : Jvm.MethodName)) ∈ lw_all := lw_g (lw_at lw_m11 179 rfl) rfl
theorem q2684 : (Jvm.Cond.static ({ cls := "SkerryLightsModel", name := "turned", desc := "(II)I" } : Jvm.MethodName)) ∈ lw_all := lw_g (lw_at lw_m11 180 rfl) rfl
theorem q2685 : (Jvm.Cond.code ({ cls := "SkerryLightsModel", name := "turned", desc := "(II)I" } : Jvm.MethodName) prog_13_method_22_code (2 : Nat) (Option.some Jvm.ClassFile.FieldType.int)) ∈ lw_all := lw_g (lw_at lw_m11 181 rfl) rfl
theorem q2686 : (Jvm.Cond.methodLink "SkerryLightsModel" (103 : Nat) ({ cls := "SkerryLightsModel", name := "backward", desc := "(II)I" } : Jvm.MethodName)) ∈ lw_all := lw_g (lw_at lw_m11 182 rfl) rfl
theorem q2687 : (Jvm.Cond.static ({ cls := "SkerryLightsModel", name := "backward", desc := "(II)I" } : Jvm.MethodName)) ∈ lw_all := lw_g (lw_at lw_m11 183 rfl) rfl
theorem q2688 : (Jvm.Cond.code ({ cls := "SkerryLightsModel", name := "backward", desc := "(II)I" } : Jvm.MethodName) prog_13_method_23_code (4 : Nat) (Option.some Jvm.ClassFile.FieldType.int)) ∈ lw_all := lw_g (lw_at lw_m11 184 rfl) rfl
theorem q2689 : (Jvm.Cond.methodLink "SkerryLightsModel" (93 : Nat) ({ cls := "SkerryLightsModel", name := "doesReach", desc := "(II)Z" } : Jvm.MethodName)) ∈ lw_all := lw_g (lw_at lw_m11 185 rfl) rfl
theorem q2690 : (Jvm.Cond.privateMethod ({ cls := "SkerryLightsModel", name := "doesReach", desc := "(II)Z" } : Jvm.MethodName)) ∈ lw_tbl := lw_at lw_m11 186 rfl
theorem q2691 : (Jvm.Cond.instanceMethod ({ cls := "SkerryLightsModel", name := "doesReach", desc := "(II)Z" } : Jvm.MethodName)) ∈ lw_all := lw_g (lw_at lw_m11 187 rfl) rfl
theorem q2692 : (Jvm.Cond.code ({ cls := "SkerryLightsModel", name := "doesReach", desc := "(II)Z" } : Jvm.MethodName) prog_13_method_20_code (5 : Nat) (Option.some Jvm.ClassFile.FieldType.boolean)) ∈ lw_all := lw_g (lw_at lw_m11 188 rfl) rfl
theorem q2693 : (Jvm.Cond.methodLink "SkerryLightsModel" (87 : Nat) ({ cls := "SkerryLightsModel", name := "costOf", desc := "(II)I" } : Jvm.MethodName)) ∈ lw_all := lw_g (lw_at lw_m11 189 rfl) rfl
theorem q2694 : (Jvm.Cond.privateMethod ({ cls := "SkerryLightsModel", name := "costOf", desc := "(II)I" } : Jvm.MethodName)) ∈ lw_tbl := lw_at lw_m11 190 rfl
theorem q2695 : (Jvm.Cond.instanceMethod ({ cls := "SkerryLightsModel", name := "costOf", desc := "(II)I" } : Jvm.MethodName)) ∈ lw_all := lw_g (lw_at lw_m11 191 rfl) rfl
theorem q2696 : (Jvm.Cond.code ({ cls := "SkerryLightsModel", name := "costOf", desc := "(II)I" } : Jvm.MethodName) prog_13_method_19_code (5 : Nat) (Option.some Jvm.ClassFile.FieldType.int)) ∈ lw_all := lw_g (lw_at lw_m11 192 rfl) rfl
theorem q2697 : (Jvm.Cond.methodLink "SkerryLightsModel" (123 : Nat) ({ cls := "SkerryLightsModel", name := "remembers", desc := "()V" } : Jvm.MethodName)) ∈ lw_all := lw_g (lw_at lw_m11 193 rfl) rfl
theorem q2698 : (Jvm.Cond.privateMethod ({ cls := "SkerryLightsModel", name := "remembers", desc := "()V" } : Jvm.MethodName)) ∈ lw_tbl := lw_at lw_m11 194 rfl
theorem q2699 : (Jvm.Cond.instanceMethod ({ cls := "SkerryLightsModel", name := "remembers", desc := "()V" } : Jvm.MethodName)) ∈ lw_all := lw_g (lw_at lw_m11 195 rfl) rfl
theorem q2700 : (Jvm.Cond.code ({ cls := "SkerryLightsModel", name := "remembers", desc := "()V" } : Jvm.MethodName) prog_13_method_9_code (3 : Nat) (Option.none : Option Jvm.ClassFile.FieldType)) ∈ lw_all := lw_g (lw_at lw_m11 196 rfl) rfl
theorem q2702 : (Jvm.Cond.instanceMethod ({ cls := "SkerryLightsModel", name := "lens", desc := "(I)I" } : Jvm.MethodName)) ∈ lw_all := lw_g (lw_at lw_m11 198 rfl) rfl
theorem q2703 : (Jvm.Cond.selects "SkerryLightsModel" ({ cls := "SkerryLightsModel", name := "lens", desc := "(I)I" } : Jvm.MethodName) ({ cls := "SkerryLightsModel", name := "lens", desc := "(I)I" } : Jvm.MethodName)) ∈ lw_all := lw_g (lw_at lw_m11 199 rfl) rfl
theorem q2704 : (Jvm.Cond.code ({ cls := "SkerryLightsModel", name := "lens", desc := "(I)I" } : Jvm.MethodName) prog_13_method_34_code (3 : Nat) (Option.some Jvm.ClassFile.FieldType.int)) ∈ lw_all := lw_g (lw_at lw_m11 200 rfl) rfl
theorem q2705 : (Jvm.Cond.methodLink "SkerryLightsModel" (144 : Nat) ({ cls := "SkerryLightsModel", name := "stores", desc := "(I)V" } : Jvm.MethodName)) ∈ lw_all := lw_g (lw_at lw_m11 201 rfl) rfl
theorem q2706 : (Jvm.Cond.privateMethod ({ cls := "SkerryLightsModel", name := "stores", desc := "(I)V" } : Jvm.MethodName)) ∈ lw_tbl := lw_at lw_m11 202 rfl
theorem q2707 : (Jvm.Cond.instanceMethod ({ cls := "SkerryLightsModel", name := "stores", desc := "(I)V" } : Jvm.MethodName)) ∈ lw_all := lw_g (lw_at lw_m11 203 rfl) rfl
theorem q2708 : (Jvm.Cond.code ({ cls := "SkerryLightsModel", name := "stores", desc := "(I)V" } : Jvm.MethodName) prog_13_method_32_code (2 : Nat) (Option.none : Option Jvm.ClassFile.FieldType)) ∈ lw_all := lw_g (lw_at lw_m11 204 rfl) rfl
theorem q2710 : (Jvm.Cond.instanceMethod ({ cls := "SkerryLightsModel", name := "pattern", desc := "(III)I" } : Jvm.MethodName)) ∈ lw_all := lw_g (lw_at lw_m11 206 rfl) rfl
theorem q2711 : (Jvm.Cond.selects "SkerryLightsModel" ({ cls := "SkerryLightsModel", name := "pattern", desc := "(III)I" } : Jvm.MethodName) ({ cls := "SkerryLightsModel", name := "pattern", desc := "(III)I" } : Jvm.MethodName)) ∈ lw_all := lw_g (lw_at lw_m11 207 rfl) rfl
theorem q2712 : (Jvm.Cond.code ({ cls := "SkerryLightsModel", name := "pattern", desc := "(III)I" } : Jvm.MethodName) prog_13_method_38_code (5 : Nat) (Option.some Jvm.ClassFile.FieldType.int)) ∈ lw_all := lw_g (lw_at lw_m11 208 rfl) rfl
theorem q2713 : (Jvm.Cond.methodLink "SkerryLightsModel" (148 : Nat) ({ cls := "SkerryLightsModel", name := "isTower", desc := "(I)Z" } : Jvm.MethodName)) ∈ lw_all := lw_g (lw_at lw_m11 209 rfl) rfl
theorem q2714 : (Jvm.Cond.privateMethod ({ cls := "SkerryLightsModel", name := "isTower", desc := "(I)Z" } : Jvm.MethodName)) ∈ lw_tbl := lw_at lw_m11 210 rfl
theorem q2715 : (Jvm.Cond.instanceMethod ({ cls := "SkerryLightsModel", name := "isTower", desc := "(I)Z" } : Jvm.MethodName)) ∈ lw_all := lw_g (lw_at lw_m11 211 rfl) rfl
theorem q2716 : (Jvm.Cond.code ({ cls := "SkerryLightsModel", name := "isTower", desc := "(I)Z" } : Jvm.MethodName) prog_13_method_13_code (2 : Nat) (Option.some Jvm.ClassFile.FieldType.boolean)) ∈ lw_all := lw_g (lw_at lw_m11 212 rfl) rfl
theorem q2717 : (Jvm.Cond.methodLink "SkerryLightsModel" (151 : Nat) ({ cls := "SkerryLightsModel", name := "isPattern", desc := "(II)Z" } : Jvm.MethodName)) ∈ lw_all := lw_g (lw_at lw_m11 213 rfl) rfl
theorem q2718 : (Jvm.Cond.static ({ cls := "SkerryLightsModel", name := "isPattern", desc := "(II)Z" } : Jvm.MethodName)) ∈ lw_all := lw_g (lw_at lw_m11 214 rfl) rfl
theorem q2719 : (Jvm.Cond.code ({ cls := "SkerryLightsModel", name := "isPattern", desc := "(II)Z" } : Jvm.MethodName) prog_13_method_35_code (2 : Nat) (Option.some Jvm.ClassFile.FieldType.boolean)) ∈ lw_all := lw_g (lw_at lw_m11 215 rfl) rfl
theorem q2720 : (Jvm.Cond.methodLink "SkerryLightsModel" (154 : Nat) ({ cls := "SkerryLightsModel", name := "bits", desc := "(I)I" } : Jvm.MethodName)) ∈ lw_all := lw_g (lw_at lw_m11 216 rfl) rfl
theorem q2721 : (Jvm.Cond.static ({ cls := "SkerryLightsModel", name := "bits", desc := "(I)I" } : Jvm.MethodName)) ∈ lw_all := lw_g (lw_at lw_m11 217 rfl) rfl
theorem q2722 : (Jvm.Cond.code ({ cls := "SkerryLightsModel", name := "bits", desc := "(I)I" } : Jvm.MethodName) prog_13_method_36_code (3 : Nat) (Option.some Jvm.ClassFile.FieldType.int)) ∈ lw_all := lw_g (lw_at lw_m11 218 rfl) rfl
theorem q2723 : (Jvm.Cond.methodLink "SkerryLightsModel" (157 : Nat) ({ cls := "SkerryLightsModel", name := "setsPattern", desc := "(III)V" } : Jvm.MethodName)) ∈ lw_all := lw_g (lw_at lw_m11 219 rfl) rfl
theorem q2724 : (Jvm.Cond.privateMethod ({ cls := "SkerryLightsModel", name := "setsPattern", desc := "(III)V" } : Jvm.MethodName)) ∈ lw_tbl := lw_at lw_m11 220 rfl
theorem q2725 : (Jvm.Cond.instanceMethod ({ cls := "SkerryLightsModel", name := "setsPattern", desc := "(III)V" } : Jvm.MethodName)) ∈ lw_all := lw_g (lw_at lw_m11 221 rfl) rfl
theorem q2726 : (Jvm.Cond.code ({ cls := "SkerryLightsModel", name := "setsPattern", desc := "(III)V" } : Jvm.MethodName) prog_13_method_37_code (4 : Nat) (Option.none : Option Jvm.ClassFile.FieldType)) ∈ lw_all := lw_g (lw_at lw_m11 222 rfl) rfl
theorem q2728 : (Jvm.Cond.instanceMethod ({ cls := "SkerryLightsModel", name := "fit", desc := "(I)I" } : Jvm.MethodName)) ∈ lw_all := lw_g (lw_at lw_m11 224 rfl) rfl
theorem q2729 : (Jvm.Cond.selects "SkerryLightsModel" ({ cls := "SkerryLightsModel", name := "fit", desc := "(I)I" } : Jvm.MethodName) ({ cls := "SkerryLightsModel", name := "fit", desc := "(I)I" } : Jvm.MethodName)) ∈ lw_all := lw_g (lw_at lw_m11 225 rfl) rfl
theorem q2730 : (Jvm.Cond.code ({ cls := "SkerryLightsModel", name := "fit", desc := "(I)I" } : Jvm.MethodName) prog_13_method_41_code (3 : Nat) (Option.some Jvm.ClassFile.FieldType.int)) ∈ lw_all := lw_g (lw_at lw_m11 226 rfl) rfl
theorem q2731 : (Jvm.Cond.methodLink "SkerryLightsModel" (164 : Nat) ({ cls := "SkerryLightsModel", name := "mayNotFit", desc := "()Z" } : Jvm.MethodName)) ∈ lw_all := lw_g (lw_at lw_m11 227 rfl) rfl
theorem q2732 : (Jvm.Cond.privateMethod ({ cls := "SkerryLightsModel", name := "mayNotFit", desc := "()Z" } : Jvm.MethodName)) ∈ lw_tbl := lw_at lw_m11 228 rfl
theorem q2733 : (Jvm.Cond.instanceMethod ({ cls := "SkerryLightsModel", name := "mayNotFit", desc := "()Z" } : Jvm.MethodName)) ∈ lw_all := lw_g (lw_at lw_m11 229 rfl) rfl
theorem q2734 : (Jvm.Cond.code ({ cls := "SkerryLightsModel", name := "mayNotFit", desc := "()Z" } : Jvm.MethodName) prog_13_method_39_code (1 : Nat) (Option.some Jvm.ClassFile.FieldType.boolean)) ∈ lw_all := lw_g (lw_at lw_m11 230 rfl) rfl
theorem q2735 : (Jvm.Cond.methodLink "SkerryLightsModel" (168 : Nat) ({ cls := "SkerryLightsModel", name := "fits", desc := "(I)I" } : Jvm.MethodName)) ∈ lw_all := lw_g (lw_at lw_m11 231 rfl) rfl
theorem q2736 : (Jvm.Cond.privateMethod ({ cls := "SkerryLightsModel", name := "fits", desc := "(I)I" } : Jvm.MethodName)) ∈ lw_tbl := lw_at lw_m11 232 rfl
theorem q2737 : (Jvm.Cond.instanceMethod ({ cls := "SkerryLightsModel", name := "fits", desc := "(I)I" } : Jvm.MethodName)) ∈ lw_all := lw_g (lw_at lw_m11 233 rfl) rfl
theorem q2738 : (Jvm.Cond.code ({ cls := "SkerryLightsModel", name := "fits", desc := "(I)I" } : Jvm.MethodName) prog_13_method_40_code (3 : Nat) (Option.some Jvm.ClassFile.FieldType.int)) ∈ lw_all := lw_g (lw_at lw_m11 234 rfl) rfl
theorem q2739 : (Jvm.Cond.methodLink "SkerryLightsModel" (161 : Nat) ({ cls := "SkerryLightsModel", name := "leavesStore", desc := "(I)V" } : Jvm.MethodName)) ∈ lw_all := lw_g (lw_at lw_m11 235 rfl) rfl
theorem q2740 : (Jvm.Cond.privateMethod ({ cls := "SkerryLightsModel", name := "leavesStore", desc := "(I)V" } : Jvm.MethodName)) ∈ lw_tbl := lw_at lw_m11 236 rfl
theorem q2741 : (Jvm.Cond.instanceMethod ({ cls := "SkerryLightsModel", name := "leavesStore", desc := "(I)V" } : Jvm.MethodName)) ∈ lw_all := lw_g (lw_at lw_m11 237 rfl) rfl
theorem q2742 : (Jvm.Cond.code ({ cls := "SkerryLightsModel", name := "leavesStore", desc := "(I)V" } : Jvm.MethodName) prog_13_method_33_code (3 : Nat) (Option.none : Option Jvm.ClassFile.FieldType)) ∈ lw_all := lw_g (lw_at lw_m11 238 rfl) rfl
theorem q2744 : (Jvm.Cond.instanceMethod ({ cls := "SkerryLightsModel", name := "light", desc := "(I)I" } : Jvm.MethodName)) ∈ lw_all := lw_g (lw_at lw_m12 0 rfl) rfl
theorem q2745 : (Jvm.Cond.selects "SkerryLightsModel" ({ cls := "SkerryLightsModel", name := "light", desc := "(I)I" } : Jvm.MethodName) ({ cls := "SkerryLightsModel", name := "light", desc := "(I)I" } : Jvm.MethodName)) ∈ lw_all := lw_g (lw_at lw_m12 1 rfl) rfl
theorem q2746 : (Jvm.Cond.code ({ cls := "SkerryLightsModel", name := "light", desc := "(I)I" } : Jvm.MethodName) prog_13_method_47_code (2 : Nat) (Option.some Jvm.ClassFile.FieldType.int)) ∈ lw_all := lw_g (lw_at lw_m12 2 rfl) rfl
theorem q2747 : (Jvm.Cond.methodLink "SkerryLightsModel" (171 : Nat) ({ cls := "SkerryLightsModel", name := "mayNotLight", desc := "(I)Z" } : Jvm.MethodName)) ∈ lw_all := lw_g (lw_at lw_m12 3 rfl) rfl
theorem q2748 : (Jvm.Cond.privateMethod ({ cls := "SkerryLightsModel", name := "mayNotLight", desc := "(I)Z" } : Jvm.MethodName)) ∈ lw_tbl := lw_at lw_m12 4 rfl
theorem q2749 : (Jvm.Cond.instanceMethod ({ cls := "SkerryLightsModel", name := "mayNotLight", desc := "(I)Z" } : Jvm.MethodName)) ∈ lw_all := lw_g (lw_at lw_m12 5 rfl) rfl
theorem q2750 : (Jvm.Cond.code ({ cls := "SkerryLightsModel", name := "mayNotLight", desc := "(I)Z" } : Jvm.MethodName) prog_13_method_42_code (3 : Nat) (Option.some Jvm.ClassFile.FieldType.boolean)) ∈ lw_all := lw_g (lw_at lw_m12 6 rfl) rfl
theorem q2751 : (Jvm.Cond.methodLink "SkerryLightsModel" (174 : Nat) ({ cls := "SkerryLightsModel", name := "litOnes", desc := "()I" } : Jvm.MethodName)) ∈ lw_all := lw_g (lw_at lw_m12 7 rfl) rfl
theorem q2752 : (Jvm.Cond.privateMethod ({ cls := "SkerryLightsModel", name := "litOnes", desc := "()I" } : Jvm.MethodName)) ∈ lw_tbl := lw_at lw_m12 8 rfl
theorem q2753 : (Jvm.Cond.instanceMethod ({ cls := "SkerryLightsModel", name := "litOnes", desc := "()I" } : Jvm.MethodName)) ∈ lw_all := lw_g (lw_at lw_m12 9 rfl) rfl
theorem q2754 : (Jvm.Cond.code ({ cls := "SkerryLightsModel", name := "litOnes", desc := "()I" } : Jvm.MethodName) prog_13_method_17_code (3 : Nat) (Option.some Jvm.ClassFile.FieldType.int)) ∈ lw_all := lw_g (lw_at lw_m12 10 rfl) rfl
theorem q2756 : (Jvm.Cond.instanceMethod ({ cls := "SkerryLightsModel", name := "darken", desc := "(I)I" } : Jvm.MethodName)) ∈ lw_all := lw_g (lw_at lw_m12 12 rfl) rfl
theorem q2757 : (Jvm.Cond.selects "SkerryLightsModel" ({ cls := "SkerryLightsModel", name := "darken", desc := "(I)I" } : Jvm.MethodName) ({ cls := "SkerryLightsModel", name := "darken", desc := "(I)I" } : Jvm.MethodName)) ∈ lw_all := lw_g (lw_at lw_m12 13 rfl) rfl
theorem q2758 : (Jvm.Cond.code ({ cls := "SkerryLightsModel", name := "darken", desc := "(I)I" } : Jvm.MethodName) prog_13_method_48_code (2 : Nat) (Option.some Jvm.ClassFile.FieldType.int)) ∈ lw_all := lw_g (lw_at lw_m12 14 rfl) rfl
theorem q2759 : (Jvm.Cond.methodLink "SkerryLightsModel" (177 : Nat) ({ cls := "SkerryLightsModel", name := "mayNotDarken", desc := "(I)Z" } : Jvm.MethodName)) ∈ lw_all := lw_g (lw_at lw_m12 15 rfl) rfl
theorem q2760 : (Jvm.Cond.privateMethod ({ cls := "SkerryLightsModel", name := "mayNotDarken", desc := "(I)Z" } : Jvm.MethodName)) ∈ lw_tbl := lw_at lw_m12 16 rfl
theorem q2761 : (Jvm.Cond.instanceMethod ({ cls := "SkerryLightsModel", name := "mayNotDarken", desc := "(I)Z" } : Jvm.MethodName)) ∈ lw_all := lw_g (lw_at lw_m12 17 rfl) rfl
theorem q2762 : (Jvm.Cond.code ({ cls := "SkerryLightsModel", name := "mayNotDarken", desc := "(I)Z" } : Jvm.MethodName) prog_13_method_43_code (2 : Nat) (Option.some Jvm.ClassFile.FieldType.boolean)) ∈ lw_all := lw_g (lw_at lw_m12 18 rfl) rfl
theorem q2764 : (Jvm.Cond.instanceMethod ({ cls := "SkerryLightsModel", name := "breakDown", desc := "(I)I" } : Jvm.MethodName)) ∈ lw_all := lw_g (lw_at lw_m12 20 rfl) rfl
theorem q2765 : (Jvm.Cond.selects "SkerryLightsModel" ({ cls := "SkerryLightsModel", name := "breakDown", desc := "(I)I" } : Jvm.MethodName) ({ cls := "SkerryLightsModel", name := "breakDown", desc := "(I)I" } : Jvm.MethodName)) ∈ lw_all := lw_g (lw_at lw_m12 21 rfl) rfl
theorem q2766 : (Jvm.Cond.code ({ cls := "SkerryLightsModel", name := "breakDown", desc := "(I)I" } : Jvm.MethodName) prog_13_method_49_code (2 : Nat) (Option.some Jvm.ClassFile.FieldType.int)) ∈ lw_all := lw_g (lw_at lw_m12 22 rfl) rfl
theorem q2767 : (Jvm.Cond.methodLink "SkerryLightsModel" (180 : Nat) ({ cls := "SkerryLightsModel", name := "mayNotBreak", desc := "(I)Z" } : Jvm.MethodName)) ∈ lw_all := lw_g (lw_at lw_m12 23 rfl) rfl
theorem q2768 : (Jvm.Cond.privateMethod ({ cls := "SkerryLightsModel", name := "mayNotBreak", desc := "(I)Z" } : Jvm.MethodName)) ∈ lw_tbl := lw_at lw_m12 24 rfl
theorem q2769 : (Jvm.Cond.instanceMethod ({ cls := "SkerryLightsModel", name := "mayNotBreak", desc := "(I)Z" } : Jvm.MethodName)) ∈ lw_all := lw_g (lw_at lw_m12 25 rfl) rfl
theorem q2770 : (Jvm.Cond.code ({ cls := "SkerryLightsModel", name := "mayNotBreak", desc := "(I)Z" } : Jvm.MethodName) prog_13_method_44_code (2 : Nat) (Option.some Jvm.ClassFile.FieldType.boolean)) ∈ lw_all := lw_g (lw_at lw_m12 26 rfl) rfl
theorem q2771 : (Jvm.Cond.methodLink "SkerryLightsModel" (183 : Nat) ({ cls := "SkerryLightsModel", name := "breaks", desc := "(I)V" } : Jvm.MethodName)) ∈ lw_all := lw_g (lw_at lw_m12 27 rfl) rfl
theorem q2772 : (Jvm.Cond.privateMethod ({ cls := "SkerryLightsModel", name := "breaks", desc := "(I)V" } : Jvm.MethodName)) ∈ lw_tbl := lw_at lw_m12 28 rfl
theorem q2773 : (Jvm.Cond.instanceMethod ({ cls := "SkerryLightsModel", name := "breaks", desc := "(I)V" } : Jvm.MethodName)) ∈ lw_all := lw_g (lw_at lw_m12 29 rfl) rfl
theorem q2774 : (Jvm.Cond.code ({ cls := "SkerryLightsModel", name := "breaks", desc := "(I)V" } : Jvm.MethodName) prog_13_method_46_code (2 : Nat) (Option.none : Option Jvm.ClassFile.FieldType)) ∈ lw_all := lw_g (lw_at lw_m12 30 rfl) rfl
theorem q2776 : (Jvm.Cond.instanceMethod ({ cls := "SkerryLightsModel", name := "mend", desc := "(I)I" } : Jvm.MethodName)) ∈ lw_all := lw_g (lw_at lw_m12 32 rfl) rfl
theorem q2777 : (Jvm.Cond.selects "SkerryLightsModel" ({ cls := "SkerryLightsModel", name := "mend", desc := "(I)I" } : Jvm.MethodName) ({ cls := "SkerryLightsModel", name := "mend", desc := "(I)I" } : Jvm.MethodName)) ∈ lw_all := lw_g (lw_at lw_m12 33 rfl) rfl
theorem q2778 : (Jvm.Cond.code ({ cls := "SkerryLightsModel", name := "mend", desc := "(I)I" } : Jvm.MethodName) prog_13_method_50_code (2 : Nat) (Option.some Jvm.ClassFile.FieldType.int)) ∈ lw_all := lw_g (lw_at lw_m12 34 rfl) rfl
theorem q2779 : (Jvm.Cond.methodLink "SkerryLightsModel" (186 : Nat) ({ cls := "SkerryLightsModel", name := "mayNotMend", desc := "(I)Z" } : Jvm.MethodName)) ∈ lw_all := lw_g (lw_at lw_m12 35 rfl) rfl
theorem q2780 : (Jvm.Cond.privateMethod ({ cls := "SkerryLightsModel", name := "mayNotMend", desc := "(I)Z" } : Jvm.MethodName)) ∈ lw_tbl := lw_at lw_m12 36 rfl
theorem q2781 : (Jvm.Cond.instanceMethod ({ cls := "SkerryLightsModel", name := "mayNotMend", desc := "(I)Z" } : Jvm.MethodName)) ∈ lw_all := lw_g (lw_at lw_m12 37 rfl) rfl
theorem q2782 : (Jvm.Cond.code ({ cls := "SkerryLightsModel", name := "mayNotMend", desc := "(I)Z" } : Jvm.MethodName) prog_13_method_45_code (2 : Nat) (Option.some Jvm.ClassFile.FieldType.boolean)) ∈ lw_all := lw_g (lw_at lw_m12 38 rfl) rfl
theorem q2783 : (Jvm.Cond.methodLink "SkerryLightsModel" (189 : Nat) ({ cls := "SkerryLightsModel", name := "brokenOnes", desc := "()I" } : Jvm.MethodName)) ∈ lw_all := lw_g (lw_at lw_m12 39 rfl) rfl
theorem q2784 : (Jvm.Cond.privateMethod ({ cls := "SkerryLightsModel", name := "brokenOnes", desc := "()I" } : Jvm.MethodName)) ∈ lw_tbl := lw_at lw_m12 40 rfl
theorem q2785 : (Jvm.Cond.instanceMethod ({ cls := "SkerryLightsModel", name := "brokenOnes", desc := "()I" } : Jvm.MethodName)) ∈ lw_all := lw_g (lw_at lw_m12 41 rfl) rfl
theorem q2786 : (Jvm.Cond.code ({ cls := "SkerryLightsModel", name := "brokenOnes", desc := "()I" } : Jvm.MethodName) prog_13_method_18_code (3 : Nat) (Option.some Jvm.ClassFile.FieldType.int)) ∈ lw_all := lw_g (lw_at lw_m12 42 rfl) rfl
theorem q2788 : (Jvm.Cond.instanceMethod ({ cls := "SkerryLightsModel", name := "fog", desc := "(II)I" } : Jvm.MethodName)) ∈ lw_all := lw_g (lw_at lw_m12 44 rfl) rfl
theorem q2789 : (Jvm.Cond.selects "SkerryLightsModel" ({ cls := "SkerryLightsModel", name := "fog", desc := "(II)I" } : Jvm.MethodName) ({ cls := "SkerryLightsModel", name := "fog", desc := "(II)I" } : Jvm.MethodName)) ∈ lw_all := lw_g (lw_at lw_m12 45 rfl) rfl
theorem q2790 : (Jvm.Cond.code ({ cls := "SkerryLightsModel", name := "fog", desc := "(II)I" } : Jvm.MethodName) prog_13_method_51_code (4 : Nat) (Option.some Jvm.ClassFile.FieldType.int)) ∈ lw_all := lw_g (lw_at lw_m12 46 rfl) rfl
theorem q2792 : (Jvm.Cond.instanceMethod ({ cls := "SkerryLightsModel", name := "handOn", desc := "()I" } : Jvm.MethodName)) ∈ lw_all := lw_g (lw_at lw_m12 48 rfl) rfl
theorem q2793 : (Jvm.Cond.selects "SkerryLightsModel" ({ cls := "SkerryLightsModel", name := "handOn", desc := "()I" } : Jvm.MethodName) ({ cls := "SkerryLightsModel", name := "handOn", desc := "()I" } : Jvm.MethodName)) ∈ lw_all := lw_g (lw_at lw_m12 49 rfl) rfl
theorem q2794 : (Jvm.Cond.code ({ cls := "SkerryLightsModel", name := "handOn", desc := "()I" } : Jvm.MethodName) prog_13_method_53_code (6 : Nat) (Option.some Jvm.ClassFile.FieldType.int)) ∈ lw_all := lw_g (lw_at lw_m12 50 rfl) rfl
theorem q2795 : (Jvm.Cond.methodLink "SkerryLightsModel" (192 : Nat) ({ cls := "SkerryLightsModel", name := "nextWithLens", desc := "(I)I" } : Jvm.MethodName)) ∈ lw_all := lw_g (lw_at lw_m12 51 rfl) rfl
theorem q2796 : (Jvm.Cond.privateMethod ({ cls := "SkerryLightsModel", name := "nextWithLens", desc := "(I)I" } : Jvm.MethodName)) ∈ lw_tbl := lw_at lw_m12 52 rfl
theorem q2797 : (Jvm.Cond.instanceMethod ({ cls := "SkerryLightsModel", name := "nextWithLens", desc := "(I)I" } : Jvm.MethodName)) ∈ lw_all := lw_g (lw_at lw_m12 53 rfl) rfl
theorem q2798 : (Jvm.Cond.code ({ cls := "SkerryLightsModel", name := "nextWithLens", desc := "(I)I" } : Jvm.MethodName) prog_13_method_52_code (4 : Nat) (Option.some Jvm.ClassFile.FieldType.int)) ∈ lw_all := lw_g (lw_at lw_m12 54 rfl) rfl
theorem q2800 : (Jvm.Cond.instanceMethod ({ cls := "SkerryLightsModel", name := "scrap", desc := "()I" } : Jvm.MethodName)) ∈ lw_all := lw_g (lw_at lw_m12 56 rfl) rfl
theorem q2801 : (Jvm.Cond.selects "SkerryLightsModel" ({ cls := "SkerryLightsModel", name := "scrap", desc := "()I" } : Jvm.MethodName) ({ cls := "SkerryLightsModel", name := "scrap", desc := "()I" } : Jvm.MethodName)) ∈ lw_all := lw_g (lw_at lw_m12 57 rfl) rfl
theorem q2802 : (Jvm.Cond.code ({ cls := "SkerryLightsModel", name := "scrap", desc := "()I" } : Jvm.MethodName) prog_13_method_54_code (4 : Nat) (Option.some Jvm.ClassFile.FieldType.int)) ∈ lw_all := lw_g (lw_at lw_m12 58 rfl) rfl
theorem q2804 : (Jvm.Cond.instanceMethod ({ cls := "SkerryLightsModel", name := "nights", desc := "(I)I" } : Jvm.MethodName)) ∈ lw_all := lw_g (lw_at lw_m12 60 rfl) rfl
theorem q2805 : (Jvm.Cond.selects "SkerryLightsModel" ({ cls := "SkerryLightsModel", name := "nights", desc := "(I)I" } : Jvm.MethodName) ({ cls := "SkerryLightsModel", name := "nights", desc := "(I)I" } : Jvm.MethodName)) ∈ lw_all := lw_g (lw_at lw_m12 61 rfl) rfl
theorem q2806 : (Jvm.Cond.code ({ cls := "SkerryLightsModel", name := "nights", desc := "(I)I" } : Jvm.MethodName) prog_13_method_57_code (2 : Nat) (Option.some Jvm.ClassFile.FieldType.int)) ∈ lw_all := lw_g (lw_at lw_m12 62 rfl) rfl
theorem q2807 : (Jvm.Cond.methodLink "SkerryLightsModel" (198 : Nat) ({ cls := "SkerryLightsModel", name := "goesNights", desc := "(I)V" } : Jvm.MethodName)) ∈ lw_all := lw_g (lw_at lw_m12 63 rfl) rfl
theorem q2808 : (Jvm.Cond.privateMethod ({ cls := "SkerryLightsModel", name := "goesNights", desc := "(I)V" } : Jvm.MethodName)) ∈ lw_tbl := lw_at lw_m12 64 rfl
theorem q2809 : (Jvm.Cond.instanceMethod ({ cls := "SkerryLightsModel", name := "goesNights", desc := "(I)V" } : Jvm.MethodName)) ∈ lw_all := lw_g (lw_at lw_m12 65 rfl) rfl
theorem q2810 : (Jvm.Cond.code ({ cls := "SkerryLightsModel", name := "goesNights", desc := "(I)V" } : Jvm.MethodName) prog_13_method_56_code (3 : Nat) (Option.none : Option Jvm.ClassFile.FieldType)) ∈ lw_all := lw_g (lw_at lw_m12 66 rfl) rfl
theorem q2811 : (Jvm.Cond.methodLink "SkerryLightsModel" (195 : Nat) ({ cls := "SkerryLightsModel", name := "goesNight", desc := "()V" } : Jvm.MethodName)) ∈ lw_all := lw_g (lw_at lw_m12 67 rfl) rfl
theorem q2812 : (Jvm.Cond.privateMethod ({ cls := "SkerryLightsModel", name := "goesNight", desc := "()V" } : Jvm.MethodName)) ∈ lw_tbl := lw_at lw_m12 68 rfl
theorem q2813 : (Jvm.Cond.instanceMethod ({ cls := "SkerryLightsModel", name := "goesNight", desc := "()V" } : Jvm.MethodName)) ∈ lw_all := lw_g (lw_at lw_m12 69 rfl) rfl
theorem q2814 : (Jvm.Cond.code ({ cls := "SkerryLightsModel", name := "goesNight", desc := "()V" } : Jvm.MethodName) prog_13_method_55_code (4 : Nat) (Option.none : Option Jvm.ClassFile.FieldType)) ∈ lw_all := lw_g (lw_at lw_m12 70 rfl) rfl
theorem q2816 : (Jvm.Cond.instanceMethod ({ cls := "SkerryLightsModel", name := "cost", desc := "(II)I" } : Jvm.MethodName)) ∈ lw_all := lw_g (lw_at lw_m12 72 rfl) rfl
theorem q2817 : (Jvm.Cond.selects "SkerryLightsModel" ({ cls := "SkerryLightsModel", name := "cost", desc := "(II)I" } : Jvm.MethodName) ({ cls := "SkerryLightsModel", name := "cost", desc := "(II)I" } : Jvm.MethodName)) ∈ lw_all := lw_g (lw_at lw_m12 73 rfl) rfl
theorem q2818 : (Jvm.Cond.code ({ cls := "SkerryLightsModel", name := "cost", desc := "(II)I" } : Jvm.MethodName) prog_13_method_58_code (3 : Nat) (Option.some Jvm.ClassFile.FieldType.int)) ∈ lw_all := lw_g (lw_at lw_m12 74 rfl) rfl
theorem q2820 : (Jvm.Cond.instanceMethod ({ cls := "SkerryLightsModel", name := "reaches", desc := "(II)Z" } : Jvm.MethodName)) ∈ lw_all := lw_g (lw_at lw_m12 76 rfl) rfl
theorem q2821 : (Jvm.Cond.selects "SkerryLightsModel" ({ cls := "SkerryLightsModel", name := "reaches", desc := "(II)Z" } : Jvm.MethodName) ({ cls := "SkerryLightsModel", name := "reaches", desc := "(II)Z" } : Jvm.MethodName)) ∈ lw_all := lw_g (lw_at lw_m12 77 rfl) rfl
theorem q2822 : (Jvm.Cond.code ({ cls := "SkerryLightsModel", name := "reaches", desc := "(II)Z" } : Jvm.MethodName) prog_13_method_59_code (3 : Nat) (Option.some Jvm.ClassFile.FieldType.boolean)) ∈ lw_all := lw_g (lw_at lw_m12 78 rfl) rfl
theorem q2824 : (Jvm.Cond.instanceMethod ({ cls := "SkerryLightsModel", name := "farthest", desc := "(IZ)I" } : Jvm.MethodName)) ∈ lw_all := lw_g (lw_at lw_m12 80 rfl) rfl
theorem q2825 : (Jvm.Cond.selects "SkerryLightsModel" ({ cls := "SkerryLightsModel", name := "farthest", desc := "(IZ)I" } : Jvm.MethodName) ({ cls := "SkerryLightsModel", name := "farthest", desc := "(IZ)I" } : Jvm.MethodName)) ∈ lw_all := lw_g (lw_at lw_m12 81 rfl) rfl
theorem q2826 : (Jvm.Cond.code ({ cls := "SkerryLightsModel", name := "farthest", desc := "(IZ)I" } : Jvm.MethodName) prog_13_method_61_code (3 : Nat) (Option.some Jvm.ClassFile.FieldType.int)) ∈ lw_all := lw_g (lw_at lw_m12 82 rfl) rfl
theorem q2827 : (Jvm.Cond.methodLink "SkerryLightsModel" (201 : Nat) ({ cls := "SkerryLightsModel", name := "farPlace", desc := "(II)I" } : Jvm.MethodName)) ∈ lw_all := lw_g (lw_at lw_m12 83 rfl) rfl
theorem q2828 : (Jvm.Cond.privateMethod ({ cls := "SkerryLightsModel", name := "farPlace", desc := "(II)I" } : Jvm.MethodName)) ∈ lw_tbl := lw_at lw_m12 84 rfl
theorem q2829 : (Jvm.Cond.instanceMethod ({ cls := "SkerryLightsModel", name := "farPlace", desc := "(II)I" } : Jvm.MethodName)) ∈ lw_all := lw_g (lw_at lw_m12 85 rfl) rfl
theorem q2830 : (Jvm.Cond.code ({ cls := "SkerryLightsModel", name := "farPlace", desc := "(II)I" } : Jvm.MethodName) prog_13_method_60_code (4 : Nat) (Option.some Jvm.ClassFile.FieldType.int)) ∈ lw_all := lw_g (lw_at lw_m12 86 rfl) rfl
theorem q2832 : (Jvm.Cond.instanceMethod ({ cls := "SkerryLightsModel", name := "areAlike", desc := "(II)Z" } : Jvm.MethodName)) ∈ lw_all := lw_g (lw_at lw_m12 88 rfl) rfl
theorem q2833 : (Jvm.Cond.selects "SkerryLightsModel" ({ cls := "SkerryLightsModel", name := "areAlike", desc := "(II)Z" } : Jvm.MethodName) ({ cls := "SkerryLightsModel", name := "areAlike", desc := "(II)Z" } : Jvm.MethodName)) ∈ lw_all := lw_g (lw_at lw_m12 89 rfl) rfl
theorem q2834 : (Jvm.Cond.code ({ cls := "SkerryLightsModel", name := "areAlike", desc := "(II)Z" } : Jvm.MethodName) prog_13_method_62_code (3 : Nat) (Option.some Jvm.ClassFile.FieldType.boolean)) ∈ lw_all := lw_g (lw_at lw_m12 90 rfl) rfl
theorem q2836 : (Jvm.Cond.instanceMethod ({ cls := "SkerryLightsModel", name := "mistakes", desc := "()I" } : Jvm.MethodName)) ∈ lw_all := lw_g (lw_at lw_m12 92 rfl) rfl
theorem q2837 : (Jvm.Cond.selects "SkerryLightsModel" ({ cls := "SkerryLightsModel", name := "mistakes", desc := "()I" } : Jvm.MethodName) ({ cls := "SkerryLightsModel", name := "mistakes", desc := "()I" } : Jvm.MethodName)) ∈ lw_all := lw_g (lw_at lw_m12 93 rfl) rfl
theorem q2838 : (Jvm.Cond.code ({ cls := "SkerryLightsModel", name := "mistakes", desc := "()I" } : Jvm.MethodName) prog_13_method_63_code (4 : Nat) (Option.some Jvm.ClassFile.FieldType.int)) ∈ lw_all := lw_g (lw_at lw_m12 94 rfl) rfl
theorem q2840 : (Jvm.Cond.instanceMethod ({ cls := "SkerryLightsModel", name := "watcher", desc := "(I)I" } : Jvm.MethodName)) ∈ lw_all := lw_g (lw_at lw_m12 96 rfl) rfl
theorem q2841 : (Jvm.Cond.selects "SkerryLightsModel" ({ cls := "SkerryLightsModel", name := "watcher", desc := "(I)I" } : Jvm.MethodName) ({ cls := "SkerryLightsModel", name := "watcher", desc := "(I)I" } : Jvm.MethodName)) ∈ lw_all := lw_g (lw_at lw_m12 97 rfl) rfl
theorem q2842 : (Jvm.Cond.code ({ cls := "SkerryLightsModel", name := "watcher", desc := "(I)I" } : Jvm.MethodName) prog_13_method_65_code (3 : Nat) (Option.some Jvm.ClassFile.FieldType.int)) ∈ lw_all := lw_g (lw_at lw_m12 98 rfl) rfl
theorem q2843 : (Jvm.Cond.methodLink "SkerryLightsModel" (204 : Nat) ({ cls := "SkerryLightsModel", name := "watcherOf", desc := "(I)I" } : Jvm.MethodName)) ∈ lw_all := lw_g (lw_at lw_m12 99 rfl) rfl
theorem q2844 : (Jvm.Cond.privateMethod ({ cls := "SkerryLightsModel", name := "watcherOf", desc := "(I)I" } : Jvm.MethodName)) ∈ lw_tbl := lw_at lw_m12 100 rfl
theorem q2845 : (Jvm.Cond.instanceMethod ({ cls := "SkerryLightsModel", name := "watcherOf", desc := "(I)I" } : Jvm.MethodName)) ∈ lw_all := lw_g (lw_at lw_m12 101 rfl) rfl
theorem q2846 : (Jvm.Cond.code ({ cls := "SkerryLightsModel", name := "watcherOf", desc := "(I)I" } : Jvm.MethodName) prog_13_method_64_code (5 : Nat) (Option.some Jvm.ClassFile.FieldType.int)) ∈ lw_all := lw_g (lw_at lw_m12 102 rfl) rfl
theorem q2848 : (Jvm.Cond.instanceMethod ({ cls := "SkerryLightsModel", name := "watched", desc := "(I)I" } : Jvm.MethodName)) ∈ lw_all := lw_g (lw_at lw_m12 104 rfl) rfl
theorem q2849 : (Jvm.Cond.selects "SkerryLightsModel" ({ cls := "SkerryLightsModel", name := "watched", desc := "(I)I" } : Jvm.MethodName) ({ cls := "SkerryLightsModel", name := "watched", desc := "(I)I" } : Jvm.MethodName)) ∈ lw_all := lw_g (lw_at lw_m12 105 rfl) rfl
theorem q2850 : (Jvm.Cond.code ({ cls := "SkerryLightsModel", name := "watched", desc := "(I)I" } : Jvm.MethodName) prog_13_method_67_code (2 : Nat) (Option.some Jvm.ClassFile.FieldType.int)) ∈ lw_all := lw_g (lw_at lw_m12 106 rfl) rfl
theorem q2851 : (Jvm.Cond.methodLink "SkerryLightsModel" (207 : Nat) ({ cls := "SkerryLightsModel", name := "watchedBy", desc := "(I)I" } : Jvm.MethodName)) ∈ lw_all := lw_g (lw_at lw_m12 107 rfl) rfl
theorem q2852 : (Jvm.Cond.privateMethod ({ cls := "SkerryLightsModel", name := "watchedBy", desc := "(I)I" } : Jvm.MethodName)) ∈ lw_tbl := lw_at lw_m12 108 rfl
theorem q2853 : (Jvm.Cond.instanceMethod ({ cls := "SkerryLightsModel", name := "watchedBy", desc := "(I)I" } : Jvm.MethodName)) ∈ lw_all := lw_g (lw_at lw_m12 109 rfl) rfl
theorem q2854 : (Jvm.Cond.code ({ cls := "SkerryLightsModel", name := "watchedBy", desc := "(I)I" } : Jvm.MethodName) prog_13_method_66_code (4 : Nat) (Option.some Jvm.ClassFile.FieldType.int)) ∈ lw_all := lw_g (lw_at lw_m12 110 rfl) rfl
theorem q2856 : (Jvm.Cond.instanceMethod ({ cls := "SkerryLightsModel", name := "unwatched", desc := "()I" } : Jvm.MethodName)) ∈ lw_all := lw_g (lw_at lw_m12 112 rfl) rfl
theorem q2857 : (Jvm.Cond.selects "SkerryLightsModel" ({ cls := "SkerryLightsModel", name := "unwatched", desc := "()I" } : Jvm.MethodName) ({ cls := "SkerryLightsModel", name := "unwatched", desc := "()I" } : Jvm.MethodName)) ∈ lw_all := lw_g (lw_at lw_m12 113 rfl) rfl
theorem q2858 : (Jvm.Cond.code ({ cls := "SkerryLightsModel", name := "unwatched", desc := "()I" } : Jvm.MethodName) prog_13_method_68_code (1 : Nat) (Option.some Jvm.ClassFile.FieldType.int)) ∈ lw_all := lw_g (lw_at lw_m12 114 rfl) rfl
theorem q2860 : (Jvm.Cond.instanceMethod ({ cls := "SkerryLightsModel", name := "unwatchedAgain", desc := "()I" } : Jvm.MethodName)) ∈ lw_all := lw_g (lw_at lw_m12 116 rfl) rfl
theorem q2861 : (Jvm.Cond.selects "SkerryLightsModel" ({ cls := "SkerryLightsModel", name := "unwatchedAgain", desc := "()I" } : Jvm.MethodName) ({ cls := "SkerryLightsModel", name := "unwatchedAgain", desc := "()I" } : Jvm.MethodName)) ∈ lw_all := lw_g (lw_at lw_m12 117 rfl) rfl
theorem q2862 : (Jvm.Cond.code ({ cls := "SkerryLightsModel", name := "unwatchedAgain", desc := "()I" } : Jvm.MethodName) prog_13_method_70_code (3 : Nat) (Option.some Jvm.ClassFile.FieldType.int)) ∈ lw_all := lw_g (lw_at lw_m12 118 rfl) rfl
theorem q2863 : (Jvm.Cond.methodLink "SkerryLightsModel" (210 : Nat) ({ cls := "SkerryLightsModel", name := "isInStretch", desc := "(I)Z" } : Jvm.MethodName)) ∈ lw_all := lw_g (lw_at lw_m12 119 rfl) rfl
theorem q2864 : (Jvm.Cond.privateMethod ({ cls := "SkerryLightsModel", name := "isInStretch", desc := "(I)Z" } : Jvm.MethodName)) ∈ lw_tbl := lw_at lw_m12 120 rfl
theorem q2865 : (Jvm.Cond.instanceMethod ({ cls := "SkerryLightsModel", name := "isInStretch", desc := "(I)Z" } : Jvm.MethodName)) ∈ lw_all := lw_g (lw_at lw_m12 121 rfl) rfl
theorem q2866 : (Jvm.Cond.code ({ cls := "SkerryLightsModel", name := "isInStretch", desc := "(I)Z" } : Jvm.MethodName) prog_13_method_69_code (3 : Nat) (Option.some Jvm.ClassFile.FieldType.boolean)) ∈ lw_all := lw_g (lw_at lw_m12 122 rfl) rfl
theorem q2868 : (Jvm.Cond.instanceMethod ({ cls := "SkerryLightsModel", name := "margin", desc := "(II)I" } : Jvm.MethodName)) ∈ lw_all := lw_g (lw_at lw_m12 124 rfl) rfl
theorem q2869 : (Jvm.Cond.selects "SkerryLightsModel" ({ cls := "SkerryLightsModel", name := "margin", desc := "(II)I" } : Jvm.MethodName) ({ cls := "SkerryLightsModel", name := "margin", desc := "(II)I" } : Jvm.MethodName)) ∈ lw_all := lw_g (lw_at lw_m12 125 rfl) rfl
theorem q2870 : (Jvm.Cond.code ({ cls := "SkerryLightsModel", name := "margin", desc := "(II)I" } : Jvm.MethodName) prog_13_method_73_code (3 : Nat) (Option.some Jvm.ClassFile.FieldType.int)) ∈ lw_all := lw_g (lw_at lw_m12 126 rfl) rfl
theorem q2871 : (Jvm.Cond.methodLink "SkerryLightsModel" (213 : Nat) ({ cls := "SkerryLightsModel", name := "canSignal", desc := "(II)Z" } : Jvm.MethodName)) ∈ lw_all := lw_g (lw_at lw_m12 127 rfl) rfl
theorem q2872 : (Jvm.Cond.privateMethod ({ cls := "SkerryLightsModel", name := "canSignal", desc := "(II)Z" } : Jvm.MethodName)) ∈ lw_tbl := lw_at lw_m12 128 rfl
theorem q2873 : (Jvm.Cond.instanceMethod ({ cls := "SkerryLightsModel", name := "canSignal", desc := "(II)Z" } : Jvm.MethodName)) ∈ lw_all := lw_g (lw_at lw_m12 129 rfl) rfl
theorem q2874 : (Jvm.Cond.code ({ cls := "SkerryLightsModel", name := "canSignal", desc := "(II)Z" } : Jvm.MethodName) prog_13_method_71_code (3 : Nat) (Option.some Jvm.ClassFile.FieldType.boolean)) ∈ lw_all := lw_g (lw_at lw_m12 130 rfl) rfl
theorem q2875 : (Jvm.Cond.methodLink "SkerryLightsModel" (216 : Nat) ({ cls := "SkerryLightsModel", name := "marginOf", desc := "(II)I" } : Jvm.MethodName)) ∈ lw_all := lw_g (lw_at lw_m12 131 rfl) rfl
theorem q2876 : (Jvm.Cond.privateMethod ({ cls := "SkerryLightsModel", name := "marginOf", desc := "(II)I" } : Jvm.MethodName)) ∈ lw_tbl := lw_at lw_m12 132 rfl
theorem q2877 : (Jvm.Cond.instanceMethod ({ cls := "SkerryLightsModel", name := "marginOf", desc := "(II)I" } : Jvm.MethodName)) ∈ lw_all := lw_g (lw_at lw_m12 133 rfl) rfl
theorem q2878 : (Jvm.Cond.code ({ cls := "SkerryLightsModel", name := "marginOf", desc := "(II)I" } : Jvm.MethodName) prog_13_method_72_code (3 : Nat) (Option.some Jvm.ClassFile.FieldType.int)) ∈ lw_all := lw_g (lw_at lw_m12 134 rfl) rfl
theorem q2880 : (Jvm.Cond.instanceMethod ({ cls := "SkerryLightsModel", name := "signals", desc := "(II)I" } : Jvm.MethodName)) ∈ lw_all := lw_g (lw_at lw_m12 136 rfl) rfl
theorem q2881 : (Jvm.Cond.selects "SkerryLightsModel" ({ cls := "SkerryLightsModel", name := "signals", desc := "(II)I" } : Jvm.MethodName) ({ cls := "SkerryLightsModel", name := "signals", desc := "(II)I" } : Jvm.MethodName)) ∈ lw_all := lw_g (lw_at lw_m12 137 rfl) rfl
theorem q2882 : (Jvm.Cond.code ({ cls := "SkerryLightsModel", name := "signals", desc := "(II)I" } : Jvm.MethodName) prog_13_method_77_code (3 : Nat) (Option.some Jvm.ClassFile.FieldType.int)) ∈ lw_all := lw_g (lw_at lw_m12 138 rfl) rfl
theorem q2883 : (Jvm.Cond.methodLink "SkerryLightsModel" (228 : Nat) ({ cls := "SkerryLightsModel", name := "findRoute", desc := "(II)Z" } : Jvm.MethodName)) ∈ lw_all := lw_g (lw_at lw_m12 139 rfl) rfl
theorem q2884 : (Jvm.Cond.privateMethod ({ cls := "SkerryLightsModel", name := "findRoute", desc := "(II)Z" } : Jvm.MethodName)) ∈ lw_tbl := lw_at lw_m12 140 rfl
theorem q2885 : (Jvm.Cond.instanceMethod ({ cls := "SkerryLightsModel", name := "findRoute", desc := "(II)Z" } : Jvm.MethodName)) ∈ lw_all := lw_g (lw_at lw_m12 141 rfl) rfl
theorem q2886 : (Jvm.Cond.code ({ cls := "SkerryLightsModel", name := "findRoute", desc := "(II)Z" } : Jvm.MethodName) prog_13_method_76_code (4 : Nat) (Option.some Jvm.ClassFile.FieldType.boolean)) ∈ lw_all := lw_g (lw_at lw_m12 142 rfl) rfl
theorem q2887 : (Jvm.Cond.methodLink "SkerryLightsModel" (219 : Nat) ({ cls := "SkerryLightsModel", name := "findFar", desc := "(I)V" } : Jvm.MethodName)) ∈ lw_all := lw_g (lw_at lw_m12 143 rfl) rfl
theorem q2888 : (Jvm.Cond.privateMethod ({ cls := "SkerryLightsModel", name := "findFar", desc := "(I)V" } : Jvm.MethodName)) ∈ lw_tbl := lw_at lw_m12 144 rfl
theorem q2889 : (Jvm.Cond.instanceMethod ({ cls := "SkerryLightsModel", name := "findFar", desc := "(I)V" } : Jvm.MethodName)) ∈ lw_all := lw_g (lw_at lw_m12 145 rfl) rfl
theorem q2890 : (Jvm.Cond.code ({ cls := "SkerryLightsModel", name := "findFar", desc := "(I)V" } : Jvm.MethodName) prog_13_method_74_code (5 : Nat) (Option.none : Option Jvm.ClassFile.FieldType)) ∈ lw_all := lw_g (lw_at lw_m12 146 rfl) rfl
theorem q2891 : (Jvm.Cond.methodLink "SkerryLightsModel" (225 : Nat) ({ cls := "SkerryLightsModel", name := "nextOf", desc := "(I)I" } : Jvm.MethodName)) ∈ lw_all := lw_g (lw_at lw_m12 147 rfl) rfl
theorem q2892 : (Jvm.Cond.privateMethod ({ cls := "SkerryLightsModel", name := "nextOf", desc := "(I)I" } : Jvm.MethodName)) ∈ lw_tbl := lw_at lw_m12 148 rfl
theorem q2893 : (Jvm.Cond.instanceMethod ({ cls := "SkerryLightsModel", name := "nextOf", desc := "(I)I" } : Jvm.MethodName)) ∈ lw_all := lw_g (lw_at lw_m12 149 rfl) rfl
theorem q2894 : (Jvm.Cond.code ({ cls := "SkerryLightsModel", name := "nextOf", desc := "(I)I" } : Jvm.MethodName) prog_13_method_75_code (3 : Nat) (Option.some Jvm.ClassFile.FieldType.int)) ∈ lw_all := lw_g (lw_at lw_m12 150 rfl) rfl
theorem q2896 : (Jvm.Cond.instanceMethod ({ cls := "SkerryLightsModel", name := "signalsAgain", desc := "(II)I" } : Jvm.MethodName)) ∈ lw_all := lw_g (lw_at lw_m12 152 rfl) rfl
theorem q2897 : (Jvm.Cond.selects "SkerryLightsModel" ({ cls := "SkerryLightsModel", name := "signalsAgain", desc := "(II)I" } : Jvm.MethodName) ({ cls := "SkerryLightsModel", name := "signalsAgain", desc := "(II)I" } : Jvm.MethodName)) ∈ lw_all := lw_g (lw_at lw_m12 153 rfl) rfl
theorem q2898 : (Jvm.Cond.code ({ cls := "SkerryLightsModel", name := "signalsAgain", desc := "(II)I" } : Jvm.MethodName) prog_13_method_78_code (8 : Nat) (Option.some Jvm.ClassFile.FieldType.int)) ∈ lw_all := lw_g (lw_at lw_m12 154 rfl) rfl
theorem q2900 : (Jvm.Cond.instanceMethod ({ cls := "SkerryLightsModel", name := "route", desc := "(III)I" } : Jvm.MethodName)) ∈ lw_all := lw_g (lw_at lw_m12 156 rfl) rfl
theorem q2901 : (Jvm.Cond.selects "SkerryLightsModel" ({ cls := "SkerryLightsModel", name := "route", desc := "(III)I" } : Jvm.MethodName) ({ cls := "SkerryLightsModel", name := "route", desc := "(III)I" } : Jvm.MethodName)) ∈ lw_all := lw_g (lw_at lw_m12 157 rfl) rfl
theorem q2902 : (Jvm.Cond.code ({ cls := "SkerryLightsModel", name := "route", desc := "(III)I" } : Jvm.MethodName) prog_13_method_79_code (4 : Nat) (Option.some Jvm.ClassFile.FieldType.int)) ∈ lw_all := lw_g (lw_at lw_m12 158 rfl) rfl
theorem q2904 : (Jvm.Cond.instanceMethod ({ cls := "SkerryLightsModel", name := "append", desc := "(C)I" } : Jvm.MethodName)) ∈ lw_all := lw_g (lw_at lw_m12 160 rfl) rfl
theorem q2905 : (Jvm.Cond.selects "SkerryLightsModel" ({ cls := "SkerryLightsModel", name := "append", desc := "(C)I" } : Jvm.MethodName) ({ cls := "SkerryLightsModel", name := "append", desc := "(C)I" } : Jvm.MethodName)) ∈ lw_all := lw_g (lw_at lw_m12 161 rfl) rfl
theorem q2906 : (Jvm.Cond.code ({ cls := "SkerryLightsModel", name := "append", desc := "(C)I" } : Jvm.MethodName) prog_13_method_80_code (2 : Nat) (Option.some Jvm.ClassFile.FieldType.int)) ∈ lw_all := lw_g (lw_at lw_m12 162 rfl) rfl
theorem q2908 : (Jvm.Cond.instanceMethod ({ cls := "SkerryLightsModel", name := "send", desc := "(II)I" } : Jvm.MethodName)) ∈ lw_all := lw_g (lw_at lw_m12 164 rfl) rfl
theorem q2909 : (Jvm.Cond.selects "SkerryLightsModel" ({ cls := "SkerryLightsModel", name := "send", desc := "(II)I" } : Jvm.MethodName) ({ cls := "SkerryLightsModel", name := "send", desc := "(II)I" } : Jvm.MethodName)) ∈ lw_all := lw_g (lw_at lw_m12 165 rfl) rfl
theorem q2910 : (Jvm.Cond.code ({ cls := "SkerryLightsModel", name := "send", desc := "(II)I" } : Jvm.MethodName) prog_13_method_84_code (6 : Nat) (Option.some Jvm.ClassFile.FieldType.int)) ∈ lw_all := lw_g (lw_at lw_m12 166 rfl) rfl
theorem q2911 : (Jvm.Cond.methodLink "SkerryLightsModel" (237 : Nat) ({ cls := "SkerryLightsModel", name := "isWordIn", desc := "()Z" } : Jvm.MethodName)) ∈ lw_all := lw_g (lw_at lw_m12 167 rfl) rfl
theorem q2912 : (Jvm.Cond.privateMethod ({ cls := "SkerryLightsModel", name := "isWordIn", desc := "()Z" } : Jvm.MethodName)) ∈ lw_tbl := lw_at lw_m12 168 rfl
theorem q2913 : (Jvm.Cond.instanceMethod ({ cls := "SkerryLightsModel", name := "isWordIn", desc := "()Z" } : Jvm.MethodName)) ∈ lw_all := lw_g (lw_at lw_m12 169 rfl) rfl
theorem q2914 : (Jvm.Cond.code ({ cls := "SkerryLightsModel", name := "isWordIn", desc := "()Z" } : Jvm.MethodName) prog_13_method_81_code (2 : Nat) (Option.some Jvm.ClassFile.FieldType.boolean)) ∈ lw_all := lw_g (lw_at lw_m12 170 rfl) rfl
theorem q2915 : (Jvm.Cond.methodLink "SkerryLightsModel" (240 : Nat) ({ cls := "SkerryLightsModel", name := "goesSignal", desc := "(II)V" } : Jvm.MethodName)) ∈ lw_all := lw_g (lw_at lw_m12 171 rfl) rfl
theorem q2916 : (Jvm.Cond.privateMethod ({ cls := "SkerryLightsModel", name := "goesSignal", desc := "(II)V" } : Jvm.MethodName)) ∈ lw_tbl := lw_at lw_m12 172 rfl
theorem q2917 : (Jvm.Cond.instanceMethod ({ cls := "SkerryLightsModel", name := "goesSignal", desc := "(II)V" } : Jvm.MethodName)) ∈ lw_all := lw_g (lw_at lw_m12 173 rfl) rfl
theorem q2918 : (Jvm.Cond.code ({ cls := "SkerryLightsModel", name := "goesSignal", desc := "(II)V" } : Jvm.MethodName) prog_13_method_82_code (6 : Nat) (Option.none : Option Jvm.ClassFile.FieldType)) ∈ lw_all := lw_g (lw_at lw_m12 174 rfl) rfl
theorem q2919 : (Jvm.Cond.methodLink "SkerryLightsModel" (244 : Nat) ({ cls := "SkerryLightsModel", name := "lostLetters", desc := "()I" } : Jvm.MethodName)) ∈ lw_all := lw_g (lw_at lw_m12 175 rfl) rfl
theorem q2920 : (Jvm.Cond.privateMethod ({ cls := "SkerryLightsModel", name := "lostLetters", desc := "()I" } : Jvm.MethodName)) ∈ lw_tbl := lw_at lw_m12 176 rfl
theorem q2921 : (Jvm.Cond.instanceMethod ({ cls := "SkerryLightsModel", name := "lostLetters", desc := "()I" } : Jvm.MethodName)) ∈ lw_all := lw_g (lw_at lw_m12 177 rfl) rfl
theorem q2922 : (Jvm.Cond.code ({ cls := "SkerryLightsModel", name := "lostLetters", desc := "()I" } : Jvm.MethodName) prog_13_method_83_code (3 : Nat) (Option.some Jvm.ClassFile.FieldType.int)) ∈ lw_all := lw_g (lw_at lw_m12 178 rfl) rfl
theorem q2924 : (Jvm.Cond.instanceMethod ({ cls := "SkerryLightsModel", name := "letter", desc := "(I)C" } : Jvm.MethodName)) ∈ lw_all := lw_g (lw_at lw_m12 180 rfl) rfl
theorem q2925 : (Jvm.Cond.selects "SkerryLightsModel" ({ cls := "SkerryLightsModel", name := "letter", desc := "(I)C" } : Jvm.MethodName) ({ cls := "SkerryLightsModel", name := "letter", desc := "(I)C" } : Jvm.MethodName)) ∈ lw_all := lw_g (lw_at lw_m12 181 rfl) rfl
theorem q2926 : (Jvm.Cond.code ({ cls := "SkerryLightsModel", name := "letter", desc := "(I)C" } : Jvm.MethodName) prog_13_method_85_code (2 : Nat) (Option.some Jvm.ClassFile.FieldType.char)) ∈ lw_all := lw_g (lw_at lw_m12 182 rfl) rfl
theorem q2928 : (Jvm.Cond.instanceMethod ({ cls := "SkerryLightsModel", name := "isWhole", desc := "()Z" } : Jvm.MethodName)) ∈ lw_all := lw_g (lw_at lw_m12 184 rfl) rfl
theorem q2929 : (Jvm.Cond.selects "SkerryLightsModel" ({ cls := "SkerryLightsModel", name := "isWhole", desc := "()Z" } : Jvm.MethodName) ({ cls := "SkerryLightsModel", name := "isWhole", desc := "()Z" } : Jvm.MethodName)) ∈ lw_all := lw_g (lw_at lw_m12 185 rfl) rfl
theorem q2930 : (Jvm.Cond.code ({ cls := "SkerryLightsModel", name := "isWhole", desc := "()Z" } : Jvm.MethodName) prog_13_method_86_code (1 : Nat) (Option.some Jvm.ClassFile.FieldType.boolean)) ∈ lw_all := lw_g (lw_at lw_m12 186 rfl) rfl
theorem q2932 : (Jvm.Cond.instanceMethod ({ cls := "SkerryLightsModel", name := "read", desc := "()I" } : Jvm.MethodName)) ∈ lw_all := lw_g (lw_at lw_m12 188 rfl) rfl
theorem q2933 : (Jvm.Cond.selects "SkerryLightsModel" ({ cls := "SkerryLightsModel", name := "read", desc := "()I" } : Jvm.MethodName) ({ cls := "SkerryLightsModel", name := "read", desc := "()I" } : Jvm.MethodName)) ∈ lw_all := lw_g (lw_at lw_m12 189 rfl) rfl
theorem q2934 : (Jvm.Cond.code ({ cls := "SkerryLightsModel", name := "read", desc := "()I" } : Jvm.MethodName) prog_13_method_99_code (3 : Nat) (Option.some Jvm.ClassFile.FieldType.int)) ∈ lw_all := lw_g (lw_at lw_m12 190 rfl) rfl
theorem q2935 : (Jvm.Cond.methodLink "SkerryLightsModel" (280 : Nat) ({ cls := "SkerryLightsModel", name := "readsAll", desc := "()Z" } : Jvm.MethodName)) ∈ lw_all := lw_g (lw_at lw_m12 191 rfl) rfl
theorem q2936 : (Jvm.Cond.privateMethod ({ cls := "SkerryLightsModel", name := "readsAll", desc := "()Z" } : Jvm.MethodName)) ∈ lw_tbl := lw_at lw_m12 192 rfl
theorem q2937 : (Jvm.Cond.instanceMethod ({ cls := "SkerryLightsModel", name := "readsAll", desc := "()Z" } : Jvm.MethodName)) ∈ lw_all := lw_g (lw_at lw_m12 193 rfl) rfl
theorem q2938 : (Jvm.Cond.code ({ cls := "SkerryLightsModel", name := "readsAll", desc := "()Z" } : Jvm.MethodName) prog_13_method_94_code (2 : Nat) (Option.some Jvm.ClassFile.FieldType.boolean)) ∈ lw_all := lw_g (lw_at lw_m12 194 rfl) rfl
theorem q2939 : (Jvm.Cond.methodLink "SkerryLightsModel" (271 : Nat) ({ cls := "SkerryLightsModel", name := "readsCommand", desc := "()Z" } : Jvm.MethodName)) ∈ lw_all := lw_g (lw_at lw_m12 195 rfl) rfl
theorem q2940 : (Jvm.Cond.privateMethod ({ cls := "SkerryLightsModel", name := "readsCommand", desc := "()Z" } : Jvm.MethodName)) ∈ lw_tbl := lw_at lw_m12 196 rfl
theorem q2941 : (Jvm.Cond.instanceMethod ({ cls := "SkerryLightsModel", name := "readsCommand", desc := "()Z" } : Jvm.MethodName)) ∈ lw_all := lw_g (lw_at lw_m12 197 rfl) rfl
theorem q2942 : (Jvm.Cond.code ({ cls := "SkerryLightsModel", name := "readsCommand", desc := "()Z" } : Jvm.MethodName) prog_13_method_93_code (1 : Nat) (Option.some Jvm.ClassFile.FieldType.boolean)) ∈ lw_all := lw_g (lw_at lw_m12 198 rfl) rfl
theorem q2943 : (Jvm.Cond.methodLink "SkerryLightsModel" (250 : Nat) ({ cls := "SkerryLightsModel", name := "signAt", desc := "(I)I" } : Jvm.MethodName)) ∈ lw_all := lw_g (lw_at lw_m12 199 rfl) rfl
theorem q2944 : (Jvm.Cond.privateMethod ({ cls := "SkerryLightsModel", name := "signAt", desc := "(I)I" } : Jvm.MethodName)) ∈ lw_tbl := lw_at lw_m12 200 rfl
theorem q2945 : (Jvm.Cond.instanceMethod ({ cls := "SkerryLightsModel", name := "signAt", desc := "(I)I" } : Jvm.MethodName)) ∈ lw_all := lw_g (lw_at lw_m12 201 rfl) rfl
theorem q2946 : (Jvm.Cond.code ({ cls := "SkerryLightsModel", name := "signAt", desc := "(I)I" } : Jvm.MethodName) prog_13_method_87_code (2 : Nat) (Option.some Jvm.ClassFile.FieldType.int)) ∈ lw_all := lw_g (lw_at lw_m12 202 rfl) rfl
theorem q2947 : (Jvm.Cond.methodLink "SkerryLightsModel" (259 : Nat) ({ cls := "SkerryLightsModel", name := "takes", desc := "(I)Z" } : Jvm.MethodName)) ∈ lw_all := lw_g (lw_at lw_m12 203 rfl) rfl
theorem q2948 : (Jvm.Cond.privateMethod ({ cls := "SkerryLightsModel", name := "takes", desc := "(I)Z" } : Jvm.MethodName)) ∈ lw_tbl := lw_at lw_m12 204 rfl
theorem q2949 : (Jvm.Cond.instanceMethod ({ cls := "SkerryLightsModel", name := "takes", desc := "(I)Z" } : Jvm.MethodName)) ∈ lw_all := lw_g (lw_at lw_m12 205 rfl) rfl
theorem q2950 : (Jvm.Cond.code ({ cls := "SkerryLightsModel", name := "takes", desc := "(I)Z" } : Jvm.MethodName) prog_13_method_88_code (2 : Nat) (Option.some Jvm.ClassFile.FieldType.boolean)) ∈ lw_all := lw_g (lw_at lw_m12 206 rfl) rfl
theorem q2951 : (Jvm.Cond.methodLink "SkerryLightsModel" (256 : Nat) ({ cls := "SkerryLightsModel", name := "readsDigit", desc := "(I)Z" } : Jvm.MethodName)) ∈ lw_all := lw_g (lw_at lw_m12 207 rfl) rfl
theorem q2952 : (Jvm.Cond.privateMethod ({ cls := "SkerryLightsModel", name := "readsDigit", desc := "(I)Z" } : Jvm.MethodName)) ∈ lw_tbl := lw_at lw_m12 208 rfl
theorem q2953 : (Jvm.Cond.instanceMethod ({ cls := "SkerryLightsModel", name := "readsDigit", desc := "(I)Z" } : Jvm.MethodName)) ∈ lw_all := lw_g (lw_at lw_m12 209 rfl) rfl
theorem q2954 : (Jvm.Cond.code ({ cls := "SkerryLightsModel", name := "readsDigit", desc := "(I)Z" } : Jvm.MethodName) prog_13_method_89_code (2 : Nat) (Option.some Jvm.ClassFile.FieldType.boolean)) ∈ lw_all := lw_g (lw_at lw_m12 210 rfl) rfl
theorem q2955 : (Jvm.Cond.methodLink "SkerryLightsModel" (262 : Nat) ({ cls := "SkerryLightsModel", name := "readsFog", desc := "()Z" } : Jvm.MethodName)) ∈ lw_all := lw_g (lw_at lw_m12 211 rfl) rfl
theorem q2956 : (Jvm.Cond.privateMethod ({ cls := "SkerryLightsModel", name := "readsFog", desc := "()Z" } : Jvm.MethodName)) ∈ lw_tbl := lw_at lw_m12 212 rfl
theorem q2957 : (Jvm.Cond.instanceMethod ({ cls := "SkerryLightsModel", name := "readsFog", desc := "()Z" } : Jvm.MethodName)) ∈ lw_all := lw_g (lw_at lw_m12 213 rfl) rfl
theorem q2958 : (Jvm.Cond.code ({ cls := "SkerryLightsModel", name := "readsFog", desc := "()Z" } : Jvm.MethodName) prog_13_method_90_code (1 : Nat) (Option.some Jvm.ClassFile.FieldType.boolean)) ∈ lw_all := lw_g (lw_at lw_m12 214 rfl) rfl
theorem q2959 : (Jvm.Cond.methodLink "SkerryLightsModel" (265 : Nat) ({ cls := "SkerryLightsModel", name := "readsPattern", desc := "()Z" } : Jvm.MethodName)) ∈ lw_all := lw_g (lw_at lw_m12 215 rfl) rfl
theorem q2960 : (Jvm.Cond.privateMethod ({ cls := "SkerryLightsModel", name := "readsPattern", desc := "()Z" } : Jvm.MethodName)) ∈ lw_tbl := lw_at lw_m12 216 rfl
theorem q2961 : (Jvm.Cond.instanceMethod ({ cls := "SkerryLightsModel", name := "readsPattern", desc := "()Z" } : Jvm.MethodName)) ∈ lw_all := lw_g (lw_at lw_m12 217 rfl) rfl
theorem q2962 : (Jvm.Cond.code ({ cls := "SkerryLightsModel", name := "readsPattern", desc := "()Z" } : Jvm.MethodName) prog_13_method_91_code (2 : Nat) (Option.some Jvm.ClassFile.FieldType.boolean)) ∈ lw_all := lw_g (lw_at lw_m12 218 rfl) rfl
theorem q2963 : (Jvm.Cond.methodLink "SkerryLightsModel" (268 : Nat) ({ cls := "SkerryLightsModel", name := "readsNumber", desc := "()Z" } : Jvm.MethodName)) ∈ lw_all := lw_g (lw_at lw_m12 219 rfl) rfl
theorem q2964 : (Jvm.Cond.privateMethod ({ cls := "SkerryLightsModel", name := "readsNumber", desc := "()Z" } : Jvm.MethodName)) ∈ lw_tbl := lw_at lw_m12 220 rfl
theorem q2965 : (Jvm.Cond.instanceMethod ({ cls := "SkerryLightsModel", name := "readsNumber", desc := "()Z" } : Jvm.MethodName)) ∈ lw_all := lw_g (lw_at lw_m12 221 rfl) rfl
theorem q2966 : (Jvm.Cond.code ({ cls := "SkerryLightsModel", name := "readsNumber", desc := "()Z" } : Jvm.MethodName) prog_13_method_92_code (1 : Nat) (Option.some Jvm.ClassFile.FieldType.boolean)) ∈ lw_all := lw_g (lw_at lw_m12 222 rfl) rfl
theorem q2967 : (Jvm.Cond.methodLink "SkerryLightsModel" (283 : Nat) ({ cls := "SkerryLightsModel", name := "hindersAt", desc := "(I)Z" } : Jvm.MethodName)) ∈ lw_all := lw_g (lw_at lw_m12 223 rfl) rfl
theorem q2968 : (Jvm.Cond.privateMethod ({ cls := "SkerryLightsModel", name := "hindersAt", desc := "(I)Z" } : Jvm.MethodName)) ∈ lw_tbl := lw_at lw_m12 224 rfl
theorem q2969 : (Jvm.Cond.instanceMethod ({ cls := "SkerryLightsModel", name := "hindersAt", desc := "(I)Z" } : Jvm.MethodName)) ∈ lw_all := lw_g (lw_at lw_m12 225 rfl) rfl
theorem q2970 : (Jvm.Cond.code ({ cls := "SkerryLightsModel", name := "hindersAt", desc := "(I)Z" } : Jvm.MethodName) prog_13_method_97_code (3 : Nat) (Option.some Jvm.ClassFile.FieldType.boolean)) ∈ lw_all := lw_g (lw_at lw_m12 226 rfl) rfl
theorem q2971 : (Jvm.Cond.methodLink "SkerryLightsModel" (277 : Nat) ({ cls := "SkerryLightsModel", name := "isNoneAt", desc := "(I)Z" } : Jvm.MethodName)) ∈ lw_all := lw_g (lw_at lw_m12 227 rfl) rfl
theorem q2972 : (Jvm.Cond.privateMethod ({ cls := "SkerryLightsModel", name := "isNoneAt", desc := "(I)Z" } : Jvm.MethodName)) ∈ lw_tbl := lw_at lw_m12 228 rfl
theorem q2973 : (Jvm.Cond.instanceMethod ({ cls := "SkerryLightsModel", name := "isNoneAt", desc := "(I)Z" } : Jvm.MethodName)) ∈ lw_all := lw_g (lw_at lw_m12 229 rfl) rfl
theorem q2974 : (Jvm.Cond.code ({ cls := "SkerryLightsModel", name := "isNoneAt", desc := "(I)Z" } : Jvm.MethodName) prog_13_method_96_code (3 : Nat) (Option.some Jvm.ClassFile.FieldType.boolean)) ∈ lw_all := lw_g (lw_at lw_m12 230 rfl) rfl
theorem q2975 : (Jvm.Cond.methodLink "SkerryLightsModel" (274 : Nat) ({ cls := "SkerryLightsModel", name := "manySigns", desc := "(I)I" } : Jvm.MethodName)) ∈ lw_all := lw_g (lw_at lw_m12 231 rfl) rfl
theorem q2976 : (Jvm.Cond.static ({ cls := "SkerryLightsModel", name := "manySigns", desc := "(I)I" } : Jvm.MethodName)) ∈ lw_all := lw_g (lw_at lw_m12 232 rfl) rfl
theorem q2977 : (Jvm.Cond.code ({ cls := "SkerryLightsModel", name := "manySigns", desc := "(I)I" } : Jvm.MethodName) prog_13_method_95_code (2 : Nat) (Option.some Jvm.ClassFile.FieldType.int)) ∈ lw_all := lw_g (lw_at lw_m12 233 rfl) rfl
theorem q2978 : (Jvm.Cond.methodLink "SkerryLightsModel" (286 : Nat) ({ cls := "SkerryLightsModel", name := "goesBack", desc := "()V" } : Jvm.MethodName)) ∈ lw_all := lw_g (lw_at lw_m12 234 rfl) rfl
theorem q2979 : (Jvm.Cond.privateMethod ({ cls := "SkerryLightsModel", name := "goesBack", desc := "()V" } : Jvm.MethodName)) ∈ lw_tbl := lw_at lw_m12 235 rfl
theorem q2980 : (Jvm.Cond.instanceMethod ({ cls := "SkerryLightsModel", name := "goesBack", desc := "()V" } : Jvm.MethodName)) ∈ lw_all := lw_g (lw_at lw_m12 236 rfl) rfl
theorem q2981 : (Jvm.Cond.code ({ cls := "SkerryLightsModel", name := "goesBack", desc := "()V" } : Jvm.MethodName) prog_13_method_8_code (2 : Nat) (Option.none : Option Jvm.ClassFile.FieldType)) ∈ lw_all := lw_g (lw_at lw_m12 237 rfl) rfl
theorem q2982 : (Jvm.Cond.methodLink "SkerryLightsModel" (289 : Nat) ({ cls := "SkerryLightsModel", name := "does", desc := "(I)V" } : Jvm.MethodName)) ∈ lw_all := lw_g (lw_at lw_m12 238 rfl) rfl
theorem q2983 : (Jvm.Cond.privateMethod ({ cls := "SkerryLightsModel", name := "does", desc := "(I)V" } : Jvm.MethodName)) ∈ lw_tbl := lw_at lw_m12 239 rfl
theorem q2984 : (Jvm.Cond.instanceMethod ({ cls := "SkerryLightsModel", name := "does", desc := "(I)V" } : Jvm.MethodName)) ∈ lw_all := lw_g (lw_at lw_m13 0 rfl) rfl
theorem q2985 : (Jvm.Cond.code ({ cls := "SkerryLightsModel", name := "does", desc := "(I)V" } : Jvm.MethodName) prog_13_method_98_code (3 : Nat) (Option.none : Option Jvm.ClassFile.FieldType)) ∈ lw_all := lw_g (lw_at lw_m13 1 rfl) rfl
theorem q2987 : (Jvm.Cond.instanceMethod ({ cls := "SkerryLightsModel", name := "faultPosition", desc := "()I" } : Jvm.MethodName)) ∈ lw_all := lw_g (lw_at lw_m13 3 rfl) rfl
theorem q2988 : (Jvm.Cond.selects "SkerryLightsModel" ({ cls := "SkerryLightsModel", name := "faultPosition", desc := "()I" } : Jvm.MethodName) ({ cls := "SkerryLightsModel", name := "faultPosition", desc := "()I" } : Jvm.MethodName)) ∈ lw_all := lw_g (lw_at lw_m13 4 rfl) rfl
theorem q2989 : (Jvm.Cond.code ({ cls := "SkerryLightsModel", name := "faultPosition", desc := "()I" } : Jvm.MethodName) prog_13_method_100_code (1 : Nat) (Option.some Jvm.ClassFile.FieldType.int)) ∈ lw_all := lw_g (lw_at lw_m13 5 rfl) rfl
theorem q2991 : (Jvm.Cond.instanceMethod ({ cls := "SkerryLightsModel", name := "reason", desc := "(IZ)I" } : Jvm.MethodName)) ∈ lw_all := lw_g (lw_at lw_m13 7 rfl) rfl
theorem q2992 : (Jvm.Cond.selects "SkerryLightsModel" ({ cls := "SkerryLightsModel", name := "reason", desc := "(IZ)I" } : Jvm.MethodName) ({ cls := "SkerryLightsModel", name := "reason", desc := "(IZ)I" } : Jvm.MethodName)) ∈ lw_all := lw_g (lw_at lw_m13 8 rfl) rfl
theorem q2993 : (Jvm.Cond.code ({ cls := "SkerryLightsModel", name := "reason", desc := "(IZ)I" } : Jvm.MethodName) prog_13_method_101_code (3 : Nat) (Option.some Jvm.ClassFile.FieldType.int)) ∈ lw_all := lw_g (lw_at lw_m13 9 rfl) rfl
theorem q2995 : (Jvm.Cond.instanceMethod ({ cls := "SkerryLightsModel", name := "towerOf", desc := "(II)I" } : Jvm.MethodName)) ∈ lw_all := lw_g (lw_at lw_m13 11 rfl) rfl
theorem q2996 : (Jvm.Cond.selects "SkerryLightsModel" ({ cls := "SkerryLightsModel", name := "towerOf", desc := "(II)I" } : Jvm.MethodName) ({ cls := "SkerryLightsModel", name := "towerOf", desc := "(II)I" } : Jvm.MethodName)) ∈ lw_all := lw_g (lw_at lw_m13 12 rfl) rfl
theorem q2997 : (Jvm.Cond.code ({ cls := "SkerryLightsModel", name := "towerOf", desc := "(II)I" } : Jvm.MethodName) prog_13_method_102_code (3 : Nat) (Option.some Jvm.ClassFile.FieldType.int)) ∈ lw_all := lw_g (lw_at lw_m13 13 rfl) rfl
theorem q2998 : (Jvm.Cond.methodLink "SkerryLightsModel" (292 : Nat) ({ cls := "SkerryLightsModel", name := "reachedBy", desc := "(I)I" } : Jvm.MethodName)) ∈ lw_all := lw_g (lw_at lw_m13 14 rfl) rfl
theorem q2999 : (Jvm.Cond.privateMethod ({ cls := "SkerryLightsModel", name := "reachedBy", desc := "(I)I" } : Jvm.MethodName)) ∈ lw_tbl := lw_at lw_m13 15 rfl
theorem q3000 : (Jvm.Cond.instanceMethod ({ cls := "SkerryLightsModel", name := "reachedBy", desc := "(I)I" } : Jvm.MethodName)) ∈ lw_all := lw_g (lw_at lw_m13 16 rfl) rfl
theorem q3001 : (Jvm.Cond.code ({ cls := "SkerryLightsModel", name := "reachedBy", desc := "(I)I" } : Jvm.MethodName) prog_13_method_21_code (4 : Nat) (Option.some Jvm.ClassFile.FieldType.int)) ∈ lw_all := lw_g (lw_at lw_m13 17 rfl) rfl
theorem q3003 : (Jvm.Cond.instanceMethod ({ cls := "SkerryLightsModel", name := "sign", desc := "(II)C" } : Jvm.MethodName)) ∈ lw_all := lw_g (lw_at lw_m13 19 rfl) rfl
theorem q3004 : (Jvm.Cond.selects "SkerryLightsModel" ({ cls := "SkerryLightsModel", name := "sign", desc := "(II)C" } : Jvm.MethodName) ({ cls := "SkerryLightsModel", name := "sign", desc := "(II)C" } : Jvm.MethodName)) ∈ lw_all := lw_g (lw_at lw_m13 20 rfl) rfl
theorem q3005 : (Jvm.Cond.code ({ cls := "SkerryLightsModel", name := "sign", desc := "(II)C" } : Jvm.MethodName) prog_13_method_103_code (3 : Nat) (Option.some Jvm.ClassFile.FieldType.char)) ∈ lw_all := lw_g (lw_at lw_m13 21 rfl) rfl
theorem q3007 : (Jvm.Cond.instanceMethod ({ cls := "SkerryLightsModel", name := "lensOf", desc := "(II)I" } : Jvm.MethodName)) ∈ lw_all := lw_g (lw_at lw_m13 23 rfl) rfl
theorem q3008 : (Jvm.Cond.selects "SkerryLightsModel" ({ cls := "SkerryLightsModel", name := "lensOf", desc := "(II)I" } : Jvm.MethodName) ({ cls := "SkerryLightsModel", name := "lensOf", desc := "(II)I" } : Jvm.MethodName)) ∈ lw_all := lw_g (lw_at lw_m13 24 rfl) rfl
theorem q3009 : (Jvm.Cond.code ({ cls := "SkerryLightsModel", name := "lensOf", desc := "(II)I" } : Jvm.MethodName) prog_13_method_105_code (3 : Nat) (Option.some Jvm.ClassFile.FieldType.int)) ∈ lw_all := lw_g (lw_at lw_m13 25 rfl) rfl
theorem q3010 : (Jvm.Cond.methodLink "SkerryLightsModel" (295 : Nat) ({ cls := "SkerryLightsModel", name := "placeInStore", desc := "(I)I" } : Jvm.MethodName)) ∈ lw_all := lw_g (lw_at lw_m13 26 rfl) rfl
theorem q3011 : (Jvm.Cond.privateMethod ({ cls := "SkerryLightsModel", name := "placeInStore", desc := "(I)I" } : Jvm.MethodName)) ∈ lw_tbl := lw_at lw_m13 27 rfl
theorem q3012 : (Jvm.Cond.instanceMethod ({ cls := "SkerryLightsModel", name := "placeInStore", desc := "(I)I" } : Jvm.MethodName)) ∈ lw_all := lw_g (lw_at lw_m13 28 rfl) rfl
theorem q3013 : (Jvm.Cond.code ({ cls := "SkerryLightsModel", name := "placeInStore", desc := "(I)I" } : Jvm.MethodName) prog_13_method_104_code (3 : Nat) (Option.some Jvm.ClassFile.FieldType.int)) ∈ lw_all := lw_g (lw_at lw_m13 29 rfl) rfl
theorem q3015 : (Jvm.Cond.instanceMethod ({ cls := "SkerryLightsModel", name := "account", desc := "(I)I" } : Jvm.MethodName)) ∈ lw_all := lw_g (lw_at lw_m13 31 rfl) rfl
theorem q3016 : (Jvm.Cond.selects "SkerryLightsModel" ({ cls := "SkerryLightsModel", name := "account", desc := "(I)I" } : Jvm.MethodName) ({ cls := "SkerryLightsModel", name := "account", desc := "(I)I" } : Jvm.MethodName)) ∈ lw_all := lw_g (lw_at lw_m13 32 rfl) rfl
theorem q3017 : (Jvm.Cond.code ({ cls := "SkerryLightsModel", name := "account", desc := "(I)I" } : Jvm.MethodName) prog_13_method_109_code (2 : Nat) (Option.some Jvm.ClassFile.FieldType.int)) ∈ lw_all := lw_g (lw_at lw_m13 33 rfl) rfl
theorem q3018 : (Jvm.Cond.methodLink "SkerryLightsModel" (298 : Nat) ({ cls := "SkerryLightsModel", name := "scrapped", desc := "()I" } : Jvm.MethodName)) ∈ lw_all := lw_g (lw_at lw_m13 34 rfl) rfl
theorem q3019 : (Jvm.Cond.privateMethod ({ cls := "SkerryLightsModel", name := "scrapped", desc := "()I" } : Jvm.MethodName)) ∈ lw_tbl := lw_at lw_m13 35 rfl
theorem q3020 : (Jvm.Cond.instanceMethod ({ cls := "SkerryLightsModel", name := "scrapped", desc := "()I" } : Jvm.MethodName)) ∈ lw_all := lw_g (lw_at lw_m13 36 rfl) rfl
theorem q3021 : (Jvm.Cond.code ({ cls := "SkerryLightsModel", name := "scrapped", desc := "()I" } : Jvm.MethodName) prog_13_method_106_code (3 : Nat) (Option.some Jvm.ClassFile.FieldType.int)) ∈ lw_all := lw_g (lw_at lw_m13 37 rfl) rfl
theorem q3022 : (Jvm.Cond.methodLink "SkerryLightsModel" (301 : Nat) ({ cls := "SkerryLightsModel", name := "allPower", desc := "(I)I" } : Jvm.MethodName)) ∈ lw_all := lw_g (lw_at lw_m13 38 rfl) rfl
theorem q3023 : (Jvm.Cond.privateMethod ({ cls := "SkerryLightsModel", name := "allPower", desc := "(I)I" } : Jvm.MethodName)) ∈ lw_tbl := lw_at lw_m13 39 rfl
theorem q3024 : (Jvm.Cond.instanceMethod ({ cls := "SkerryLightsModel", name := "allPower", desc := "(I)I" } : Jvm.MethodName)) ∈ lw_all := lw_g (lw_at lw_m13 40 rfl) rfl
theorem q3025 : (Jvm.Cond.code ({ cls := "SkerryLightsModel", name := "allPower", desc := "(I)I" } : Jvm.MethodName) prog_13_method_107_code (4 : Nat) (Option.some Jvm.ClassFile.FieldType.int)) ∈ lw_all := lw_g (lw_at lw_m13 41 rfl) rfl
theorem q3026 : (Jvm.Cond.methodLink "SkerryLightsModel" (304 : Nat) ({ cls := "SkerryLightsModel", name := "allFog", desc := "()I" } : Jvm.MethodName)) ∈ lw_all := lw_g (lw_at lw_m13 42 rfl) rfl
theorem q3027 : (Jvm.Cond.privateMethod ({ cls := "SkerryLightsModel", name := "allFog", desc := "()I" } : Jvm.MethodName)) ∈ lw_tbl := lw_at lw_m13 43 rfl
theorem q3028 : (Jvm.Cond.instanceMethod ({ cls := "SkerryLightsModel", name := "allFog", desc := "()I" } : Jvm.MethodName)) ∈ lw_all := lw_g (lw_at lw_m13 44 rfl) rfl
theorem q3029 : (Jvm.Cond.code ({ cls := "SkerryLightsModel", name := "allFog", desc := "()I" } : Jvm.MethodName) prog_13_method_108_code (3 : Nat) (Option.some Jvm.ClassFile.FieldType.int)) ∈ lw_all := lw_g (lw_at lw_m13 45 rfl) rfl
theorem q3031 : (Jvm.Cond.instanceMethod ({ cls := "SkerryLightsModel", name := "meanPower", desc := "()D" } : Jvm.MethodName)) ∈ lw_all := lw_g (lw_at lw_m13 47 rfl) rfl
theorem q3032 : (Jvm.Cond.selects "SkerryLightsModel" ({ cls := "SkerryLightsModel", name := "meanPower", desc := "()D" } : Jvm.MethodName) ({ cls := "SkerryLightsModel", name := "meanPower", desc := "()D" } : Jvm.MethodName)) ∈ lw_all := lw_g (lw_at lw_m13 48 rfl) rfl
theorem q3033 : (Jvm.Cond.code ({ cls := "SkerryLightsModel", name := "meanPower", desc := "()D" } : Jvm.MethodName) prog_13_method_110_code (3 : Nat) (Option.some Jvm.ClassFile.FieldType.double)) ∈ lw_all := lw_g (lw_at lw_m13 49 rfl) rfl
theorem q3035 : (Jvm.Cond.instanceMethod ({ cls := "SkerryLightsModel", name := "watchedShare", desc := "()F" } : Jvm.MethodName)) ∈ lw_all := lw_g (lw_at lw_m13 51 rfl) rfl
theorem q3036 : (Jvm.Cond.selects "SkerryLightsModel" ({ cls := "SkerryLightsModel", name := "watchedShare", desc := "()F" } : Jvm.MethodName) ({ cls := "SkerryLightsModel", name := "watchedShare", desc := "()F" } : Jvm.MethodName)) ∈ lw_all := lw_g (lw_at lw_m13 52 rfl) rfl
theorem q3037 : (Jvm.Cond.code ({ cls := "SkerryLightsModel", name := "watchedShare", desc := "()F" } : Jvm.MethodName) prog_13_method_111_code (1 : Nat) (Option.some Jvm.ClassFile.FieldType.float)) ∈ lw_all := lw_g (lw_at lw_m13 53 rfl) rfl
theorem q3038 : (Jvm.Cond.constantFloat "SkerryLightsModel" (307 : Nat) (1114898432 : UInt32)) ∈ lw_all := lw_g (lw_at lw_m13 54 rfl) rfl
theorem q3040 : (Jvm.Cond.instanceMethod ({ cls := "SkerryLightsModel", name := "undo", desc := "()I" } : Jvm.MethodName)) ∈ lw_all := lw_g (lw_at lw_m13 56 rfl) rfl
theorem q3041 : (Jvm.Cond.selects "SkerryLightsModel" ({ cls := "SkerryLightsModel", name := "undo", desc := "()I" } : Jvm.MethodName) ({ cls := "SkerryLightsModel", name := "undo", desc := "()I" } : Jvm.MethodName)) ∈ lw_all := lw_g (lw_at lw_m13 57 rfl) rfl
theorem q3042 : (Jvm.Cond.code ({ cls := "SkerryLightsModel", name := "undo", desc := "()I" } : Jvm.MethodName) prog_13_method_112_code (3 : Nat) (Option.some Jvm.ClassFile.FieldType.int)) ∈ lw_all := lw_g (lw_at lw_m13 58 rfl) rfl
theorem q3044 : (Jvm.Cond.instanceMethod ({ cls := "SkerryLightsModel", name := "save", desc := "()I" } : Jvm.MethodName)) ∈ lw_all := lw_g (lw_at lw_m13 60 rfl) rfl
theorem q3045 : (Jvm.Cond.selects "SkerryLightsModel" ({ cls := "SkerryLightsModel", name := "save", desc := "()I" } : Jvm.MethodName) ({ cls := "SkerryLightsModel", name := "save", desc := "()I" } : Jvm.MethodName)) ∈ lw_all := lw_g (lw_at lw_m13 61 rfl) rfl
theorem q3046 : (Jvm.Cond.code ({ cls := "SkerryLightsModel", name := "save", desc := "()I" } : Jvm.MethodName) prog_13_method_113_code (2 : Nat) (Option.some Jvm.ClassFile.FieldType.int)) ∈ lw_all := lw_g (lw_at lw_m13 62 rfl) rfl
theorem q3048 : (Jvm.Cond.instanceMethod ({ cls := "SkerryLightsModel", name := "restore", desc := "()I" } : Jvm.MethodName)) ∈ lw_all := lw_g (lw_at lw_m13 64 rfl) rfl
theorem q3049 : (Jvm.Cond.selects "SkerryLightsModel" ({ cls := "SkerryLightsModel", name := "restore", desc := "()I" } : Jvm.MethodName) ({ cls := "SkerryLightsModel", name := "restore", desc := "()I" } : Jvm.MethodName)) ∈ lw_all := lw_g (lw_at lw_m13 65 rfl) rfl
theorem q3050 : (Jvm.Cond.code ({ cls := "SkerryLightsModel", name := "restore", desc := "()I" } : Jvm.MethodName) prog_13_method_114_code (2 : Nat) (Option.some Jvm.ClassFile.FieldType.int)) ∈ lw_all := lw_g (lw_at lw_m13 66 rfl) rfl
theorem q3103 : (Jvm.Cond.castable "SkerryLightsModel" "java/lang/Object") ∈ lw_tbl := lw_at lw_m13 119 rfl
theorem in_X3 : ∀ w ∈ wsX30, w ∈ lw_all := lw_in wsX30 [2556, 2558, 2560, 2562, 2564, 2566, 2568, 2570, 2572, 2574, 2576, 2578, 2580, 2582, 2584, 2586, 2588, 2590, 2592, 2594, 2596, 2598, 2600, 2602, 2604] (by decide +kernel) (by decide +kernel)
