/-! SkerryLights$State -/
set_option maxRecDepth 100000
def RX2 : String := "SkerryLights$State"
def TX2 : u_T := fun k => match k with
  | 0 => ("SkerryLights$State", "towers", "Ljava/util/ArrayList;", true)
  | 1 => ("SkerryLights$State", "lenses", "Ljava/util/ArrayList;", true)
  | 2 => ("SkerryLights$State", "store", "Ljava/util/LinkedList;", true)
  | 3 => ("SkerryLights$State", "fog", "[I", true)
  | 4 => ("SkerryLights$State", "nights", "I", false)
  | 5 => ("SkerryLights$State", "mistaken", "I", false)
  | _ => ("SkerryLights$State", "worn", "I", false)
def tyX2 : Nat → FieldType := fun k => match k with
  | 0 => .object "java/util/ArrayList"
  | 1 => .object "java/util/ArrayList"
  | 2 => .object "java/util/LinkedList"
  | 3 => .array .int
  | 4 => .int
  | 5 => .int
  | _ => .int
abbrev wsX20 : List Cond := u_ws RX2 TX2 7
theorem nmX2 : ∀ a, a < 7 → ∀ b, b < 7 → a ≠ b → (TX2 a).2.1 ≠ (TX2 b).2.1 := by decide +kernel
theorem tyX2_ok : ∀ k, k < 7 → parseFieldDescriptor (TX2 k).2.2.1 = some (tyX2 k) := by decide +kernel
abbrev cX2_init : ByteArray := prog_10_method_1_code
def yX2_init : MethodName := ⟨RX2, "<init>", "()V"⟩
def dkwX2_init_1 : List UInt8 := [181, 0, 18, 42, 187, 0, 21, 89, 183, 0, 23, 181, 0, 24, 42, 16, 7, 188, 10, 181, 0, 28, 177]
abbrev dktX2_init_1 : List UInt8 := dkwX2_init_1 ++ []
def dkwX2_init_0 : List UInt8 := [42, 183, 0, 3, 42, 187, 0, 9, 89, 183, 0, 11, 181, 0, 12, 42, 187, 0, 9, 89, 183, 0, 11]
abbrev dktX2_init_0 : List UInt8 := dkwX2_init_0 ++ dktX2_init_1
theorem dksX2_init_0 : cX2_init.data.toList.drop 0 = dktX2_init_0 := by decide +kernel
theorem dksX2_init_1 : cX2_init.data.toList.drop 23 = dktX2_init_1 := dk_seg dksX2_init_0 23 rfl rfl
theorem dX2_init_0 : decode cX2_init 0 = .ok (.aload_n 0, 1) := dk_42 (dk_at dksX2_init_0 0 rfl rfl)
theorem dX2_init_1 : decode cX2_init 1 = .ok (.invokespecial 3, 3) := dk_183 0 3 (dk_at dksX2_init_0 1 rfl rfl)
theorem dX2_init_4 : decode cX2_init 4 = .ok (.aload_n 0, 1) := dk_42 (dk_at dksX2_init_0 4 rfl rfl)
theorem dX2_init_5 : decode cX2_init 5 = .ok (.new 9, 3) := dk_187 0 9 (dk_at dksX2_init_0 5 rfl rfl)
theorem dX2_init_8 : decode cX2_init 8 = .ok (.dup, 1) := dk_89 (dk_at dksX2_init_0 8 rfl rfl)
theorem dX2_init_9 : decode cX2_init 9 = .ok (.invokespecial 11, 3) := dk_183 0 11 (dk_at dksX2_init_0 9 rfl rfl)
theorem dX2_init_12 : decode cX2_init 12 = .ok (.putfield 12, 3) := dk_181 0 12 (dk_at dksX2_init_0 12 rfl rfl)
theorem dX2_init_15 : decode cX2_init 15 = .ok (.aload_n 0, 1) := dk_42 (dk_at dksX2_init_0 15 rfl rfl)
theorem dX2_init_16 : decode cX2_init 16 = .ok (.new 9, 3) := dk_187 0 9 (dk_at dksX2_init_0 16 rfl rfl)
theorem dX2_init_19 : decode cX2_init 19 = .ok (.dup, 1) := dk_89 (dk_at dksX2_init_0 19 rfl rfl)
theorem dX2_init_20 : decode cX2_init 20 = .ok (.invokespecial 11, 3) := dk_183 0 11 (dk_at dksX2_init_0 20 rfl rfl)
theorem dX2_init_23 : decode cX2_init 23 = .ok (.putfield 18, 3) := dk_181 0 18 (dk_at dksX2_init_1 0 rfl rfl)
theorem dX2_init_26 : decode cX2_init 26 = .ok (.aload_n 0, 1) := dk_42 (dk_at dksX2_init_1 3 rfl rfl)
theorem dX2_init_27 : decode cX2_init 27 = .ok (.new 21, 3) := dk_187 0 21 (dk_at dksX2_init_1 4 rfl rfl)
theorem dX2_init_30 : decode cX2_init 30 = .ok (.dup, 1) := dk_89 (dk_at dksX2_init_1 7 rfl rfl)
theorem dX2_init_31 : decode cX2_init 31 = .ok (.invokespecial 23, 3) := dk_183 0 23 (dk_at dksX2_init_1 8 rfl rfl)
theorem dX2_init_34 : decode cX2_init 34 = .ok (.putfield 24, 3) := dk_181 0 24 (dk_at dksX2_init_1 11 rfl rfl)
theorem dX2_init_37 : decode cX2_init 37 = .ok (.aload_n 0, 1) := dk_42 (dk_at dksX2_init_1 14 rfl rfl)
theorem dX2_init_38 : decode cX2_init 38 = .ok (.bipush 7, 2) := dk_16 7 (dk_at dksX2_init_1 15 rfl rfl)
theorem dX2_init_40 : decode cX2_init 40 = .ok (.newarray .int, 2) := dk_188_10 (dk_at dksX2_init_1 17 rfl rfl)
theorem dX2_init_42 : decode cX2_init 42 = .ok (.putfield 28, 3) := dk_181 0 28 (dk_at dksX2_init_1 19 rfl rfl)
theorem dX2_init_45 : decode cX2_init 45 = .ok (.return_, 1) := dk_177 (dk_at dksX2_init_1 22 rfl rfl)
abbrev cX2_copy : ByteArray := prog_10_method_2_code
def yX2_copy : MethodName := ⟨RX2, "copy", "()LSkerryLights$State;"⟩
def dkwX2_copy_10 : List UInt8 := [176]
abbrev dktX2_copy_10 : List UInt8 := dkwX2_copy_10 ++ []
def dkwX2_copy_9 : List UInt8 := [42, 180, 0, 76, 181, 0, 76, 43, 42, 180, 0, 79, 181, 0, 79, 43, 42, 180, 0, 82, 181, 0, 82, 43]
abbrev dktX2_copy_9 : List UInt8 := dkwX2_copy_9 ++ dktX2_copy_10
def dkwX2_copy_8 : List UInt8 := [16, 7, 162, 0, 21, 43, 180, 0, 28, 28, 42, 180, 0, 28, 28, 46, 79, 132, 2, 1, 167, 255, 235, 43]
abbrev dktX2_copy_8 : List UInt8 := dkwX2_copy_8 ++ dktX2_copy_9
def dkwX2_copy_7 : List UInt8 := [180, 0, 18, 45, 180, 0, 66, 182, 0, 70, 192, 0, 47, 182, 0, 75, 87, 167, 255, 215, 3, 61, 28]
abbrev dktX2_copy_7 : List UInt8 := dkwX2_copy_7 ++ dktX2_copy_8
def dkwX2_copy_6 : List UInt8 := [185, 0, 37, 1, 0, 153, 0, 38, 44, 185, 0, 43, 1, 0, 192, 0, 47, 78, 43, 180, 0, 24, 43]
abbrev dktX2_copy_6 : List UInt8 := dkwX2_copy_6 ++ dktX2_copy_7
def dkwX2_copy_5 : List UInt8 := [43, 180, 0, 12, 25, 4, 182, 0, 53, 87, 167, 255, 188, 42, 180, 0, 24, 182, 0, 74, 77, 44]
abbrev dktX2_copy_5 : List UInt8 := dkwX2_copy_5 ++ dktX2_copy_6
def dkwX2_copy_4 : List UInt8 := [1, 167, 0, 20, 43, 180, 0, 18, 45, 180, 0, 62, 180, 0, 66, 182, 0, 70, 192, 0, 47, 181, 0, 62]
abbrev dktX2_copy_4 : List UInt8 := dkwX2_copy_4 ++ dktX2_copy_5
def dkwX2_copy_3 : List UInt8 := [185, 0, 43, 1, 0, 192, 0, 57, 78, 45, 182, 0, 59, 58, 4, 25, 4, 45, 180, 0, 62, 199, 0, 7]
abbrev dktX2_copy_3 : List UInt8 := dkwX2_copy_3 ++ dktX2_copy_4
def dkwX2_copy_2 : List UInt8 := [87, 167, 255, 225, 42, 180, 0, 12, 182, 0, 33, 77, 44, 185, 0, 37, 1, 0, 153, 0, 65, 44]
abbrev dktX2_copy_2 : List UInt8 := dkwX2_copy_2 ++ dktX2_copy_3
def dkwX2_copy_1 : List UInt8 := [153, 0, 28, 44, 185, 0, 43, 1, 0, 192, 0, 47, 78, 43, 180, 0, 18, 45, 182, 0, 49, 182, 0, 53]
abbrev dktX2_copy_1 : List UInt8 := dkwX2_copy_1 ++ dktX2_copy_2
def dkwX2_copy_0 : List UInt8 := [187, 0, 13, 89, 183, 0, 32, 76, 42, 180, 0, 18, 182, 0, 33, 77, 44, 185, 0, 37, 1, 0]
abbrev dktX2_copy_0 : List UInt8 := dkwX2_copy_0 ++ dktX2_copy_1
theorem dksX2_copy_0 : cX2_copy.data.toList.drop 0 = dktX2_copy_0 := by decide +kernel
theorem dksX2_copy_1 : cX2_copy.data.toList.drop 22 = dktX2_copy_1 := dk_seg dksX2_copy_0 22 rfl rfl
theorem dksX2_copy_2 : cX2_copy.data.toList.drop 46 = dktX2_copy_2 := dk_seg dksX2_copy_1 24 rfl rfl
theorem dksX2_copy_3 : cX2_copy.data.toList.drop 68 = dktX2_copy_3 := dk_seg dksX2_copy_2 22 rfl rfl
theorem dksX2_copy_4 : cX2_copy.data.toList.drop 92 = dktX2_copy_4 := dk_seg dksX2_copy_3 24 rfl rfl
theorem dksX2_copy_5 : cX2_copy.data.toList.drop 116 = dktX2_copy_5 := dk_seg dksX2_copy_4 24 rfl rfl
theorem dksX2_copy_6 : cX2_copy.data.toList.drop 138 = dktX2_copy_6 := dk_seg dksX2_copy_5 22 rfl rfl
theorem dksX2_copy_7 : cX2_copy.data.toList.drop 161 = dktX2_copy_7 := dk_seg dksX2_copy_6 23 rfl rfl
theorem dksX2_copy_8 : cX2_copy.data.toList.drop 184 = dktX2_copy_8 := dk_seg dksX2_copy_7 23 rfl rfl
theorem dksX2_copy_9 : cX2_copy.data.toList.drop 208 = dktX2_copy_9 := dk_seg dksX2_copy_8 24 rfl rfl
theorem dksX2_copy_10 : cX2_copy.data.toList.drop 232 = dktX2_copy_10 := dk_seg dksX2_copy_9 24 rfl rfl
theorem dX2_copy_0 : decode cX2_copy 0 = .ok (.new 13, 3) := dk_187 0 13 (dk_at dksX2_copy_0 0 rfl rfl)
theorem dX2_copy_3 : decode cX2_copy 3 = .ok (.dup, 1) := dk_89 (dk_at dksX2_copy_0 3 rfl rfl)
theorem dX2_copy_4 : decode cX2_copy 4 = .ok (.invokespecial 32, 3) := dk_183 0 32 (dk_at dksX2_copy_0 4 rfl rfl)
theorem dX2_copy_7 : decode cX2_copy 7 = .ok (.astore_n 1, 1) := dk_76 (dk_at dksX2_copy_0 7 rfl rfl)
theorem dX2_copy_8 : decode cX2_copy 8 = .ok (.aload_n 0, 1) := dk_42 (dk_at dksX2_copy_0 8 rfl rfl)
theorem dX2_copy_9 : decode cX2_copy 9 = .ok (.getfield 18, 3) := dk_180 0 18 (dk_at dksX2_copy_0 9 rfl rfl)
theorem dX2_copy_12 : decode cX2_copy 12 = .ok (.invokevirtual 33, 3) := dk_182 0 33 (dk_at dksX2_copy_0 12 rfl rfl)
theorem dX2_copy_15 : decode cX2_copy 15 = .ok (.astore_n 2, 1) := dk_77 (dk_at dksX2_copy_0 15 rfl rfl)
theorem dX2_copy_16 : decode cX2_copy 16 = .ok (.aload_n 2, 1) := dk_44 (dk_at dksX2_copy_0 16 rfl rfl)
theorem dX2_copy_17 : decode cX2_copy 17 = .ok (.invokeinterface 37 1, 5) := by decide +kernel
theorem dX2_copy_22 : decode cX2_copy 22 = .ok (.ifCond .eq 28, 3) := dk_153 0 28 (dk_at dksX2_copy_1 0 rfl rfl)
theorem dX2_copy_25 : decode cX2_copy 25 = .ok (.aload_n 2, 1) := dk_44 (dk_at dksX2_copy_1 3 rfl rfl)
theorem dX2_copy_26 : decode cX2_copy 26 = .ok (.invokeinterface 43 1, 5) := by decide +kernel
theorem dX2_copy_31 : decode cX2_copy 31 = .ok (.checkcast 47, 3) := dk_192 0 47 (dk_at dksX2_copy_1 9 rfl rfl)
theorem dX2_copy_34 : decode cX2_copy 34 = .ok (.astore_n 3, 1) := dk_78 (dk_at dksX2_copy_1 12 rfl rfl)
theorem dX2_copy_35 : decode cX2_copy 35 = .ok (.aload_n 1, 1) := dk_43 (dk_at dksX2_copy_1 13 rfl rfl)
theorem dX2_copy_36 : decode cX2_copy 36 = .ok (.getfield 18, 3) := dk_180 0 18 (dk_at dksX2_copy_1 14 rfl rfl)
theorem dX2_copy_39 : decode cX2_copy 39 = .ok (.aload_n 3, 1) := dk_45 (dk_at dksX2_copy_1 17 rfl rfl)
theorem dX2_copy_40 : decode cX2_copy 40 = .ok (.invokevirtual 49, 3) := dk_182 0 49 (dk_at dksX2_copy_1 18 rfl rfl)
theorem dX2_copy_43 : decode cX2_copy 43 = .ok (.invokevirtual 53, 3) := dk_182 0 53 (dk_at dksX2_copy_1 21 rfl rfl)
theorem dX2_copy_46 : decode cX2_copy 46 = .ok (.pop, 1) := dk_87 (dk_at dksX2_copy_2 0 rfl rfl)
theorem dX2_copy_47 : decode cX2_copy 47 = .ok (.goto (-31), 3) := dk_167 255 225 (dk_at dksX2_copy_2 1 rfl rfl)
theorem dX2_copy_50 : decode cX2_copy 50 = .ok (.aload_n 0, 1) := dk_42 (dk_at dksX2_copy_2 4 rfl rfl)
theorem dX2_copy_51 : decode cX2_copy 51 = .ok (.getfield 12, 3) := dk_180 0 12 (dk_at dksX2_copy_2 5 rfl rfl)
theorem dX2_copy_54 : decode cX2_copy 54 = .ok (.invokevirtual 33, 3) := dk_182 0 33 (dk_at dksX2_copy_2 8 rfl rfl)
theorem dX2_copy_57 : decode cX2_copy 57 = .ok (.astore_n 2, 1) := dk_77 (dk_at dksX2_copy_2 11 rfl rfl)
theorem dX2_copy_58 : decode cX2_copy 58 = .ok (.aload_n 2, 1) := dk_44 (dk_at dksX2_copy_2 12 rfl rfl)
theorem dX2_copy_59 : decode cX2_copy 59 = .ok (.invokeinterface 37 1, 5) := by decide +kernel
theorem dX2_copy_64 : decode cX2_copy 64 = .ok (.ifCond .eq 65, 3) := dk_153 0 65 (dk_at dksX2_copy_2 18 rfl rfl)
theorem dX2_copy_67 : decode cX2_copy 67 = .ok (.aload_n 2, 1) := dk_44 (dk_at dksX2_copy_2 21 rfl rfl)
theorem dX2_copy_68 : decode cX2_copy 68 = .ok (.invokeinterface 43 1, 5) := by decide +kernel
theorem dX2_copy_73 : decode cX2_copy 73 = .ok (.checkcast 57, 3) := dk_192 0 57 (dk_at dksX2_copy_3 5 rfl rfl)
theorem dX2_copy_76 : decode cX2_copy 76 = .ok (.astore_n 3, 1) := dk_78 (dk_at dksX2_copy_3 8 rfl rfl)
theorem dX2_copy_77 : decode cX2_copy 77 = .ok (.aload_n 3, 1) := dk_45 (dk_at dksX2_copy_3 9 rfl rfl)
theorem dX2_copy_78 : decode cX2_copy 78 = .ok (.invokevirtual 59, 3) := dk_182 0 59 (dk_at dksX2_copy_3 10 rfl rfl)
theorem dX2_copy_81 : decode cX2_copy 81 = .ok (.astore 4, 2) := dk_58 4 (dk_at dksX2_copy_3 13 rfl rfl)
theorem dX2_copy_83 : decode cX2_copy 83 = .ok (.aload 4, 2) := dk_25 4 (dk_at dksX2_copy_3 15 rfl rfl)
theorem dX2_copy_85 : decode cX2_copy 85 = .ok (.aload_n 3, 1) := dk_45 (dk_at dksX2_copy_3 17 rfl rfl)
theorem dX2_copy_86 : decode cX2_copy 86 = .ok (.getfield 62, 3) := dk_180 0 62 (dk_at dksX2_copy_3 18 rfl rfl)
theorem dX2_copy_89 : decode cX2_copy 89 = .ok (.ifnonnull 7, 3) := dk_199 0 7 (dk_at dksX2_copy_3 21 rfl rfl)
theorem dX2_copy_92 : decode cX2_copy 92 = .ok (.aconst_null, 1) := dk_1 (dk_at dksX2_copy_4 0 rfl rfl)
theorem dX2_copy_93 : decode cX2_copy 93 = .ok (.goto 20, 3) := dk_167 0 20 (dk_at dksX2_copy_4 1 rfl rfl)
theorem dX2_copy_96 : decode cX2_copy 96 = .ok (.aload_n 1, 1) := dk_43 (dk_at dksX2_copy_4 4 rfl rfl)
theorem dX2_copy_97 : decode cX2_copy 97 = .ok (.getfield 18, 3) := dk_180 0 18 (dk_at dksX2_copy_4 5 rfl rfl)
theorem dX2_copy_100 : decode cX2_copy 100 = .ok (.aload_n 3, 1) := dk_45 (dk_at dksX2_copy_4 8 rfl rfl)
theorem dX2_copy_101 : decode cX2_copy 101 = .ok (.getfield 62, 3) := dk_180 0 62 (dk_at dksX2_copy_4 9 rfl rfl)
theorem dX2_copy_104 : decode cX2_copy 104 = .ok (.getfield 66, 3) := dk_180 0 66 (dk_at dksX2_copy_4 12 rfl rfl)
theorem dX2_copy_107 : decode cX2_copy 107 = .ok (.invokevirtual 70, 3) := dk_182 0 70 (dk_at dksX2_copy_4 15 rfl rfl)
theorem dX2_copy_110 : decode cX2_copy 110 = .ok (.checkcast 47, 3) := dk_192 0 47 (dk_at dksX2_copy_4 18 rfl rfl)
theorem dX2_copy_113 : decode cX2_copy 113 = .ok (.putfield 62, 3) := dk_181 0 62 (dk_at dksX2_copy_4 21 rfl rfl)
theorem dX2_copy_116 : decode cX2_copy 116 = .ok (.aload_n 1, 1) := dk_43 (dk_at dksX2_copy_5 0 rfl rfl)
theorem dX2_copy_117 : decode cX2_copy 117 = .ok (.getfield 12, 3) := dk_180 0 12 (dk_at dksX2_copy_5 1 rfl rfl)
theorem dX2_copy_120 : decode cX2_copy 120 = .ok (.aload 4, 2) := dk_25 4 (dk_at dksX2_copy_5 4 rfl rfl)
theorem dX2_copy_122 : decode cX2_copy 122 = .ok (.invokevirtual 53, 3) := dk_182 0 53 (dk_at dksX2_copy_5 6 rfl rfl)
theorem dX2_copy_125 : decode cX2_copy 125 = .ok (.pop, 1) := dk_87 (dk_at dksX2_copy_5 9 rfl rfl)
theorem dX2_copy_126 : decode cX2_copy 126 = .ok (.goto (-68), 3) := dk_167 255 188 (dk_at dksX2_copy_5 10 rfl rfl)
theorem dX2_copy_129 : decode cX2_copy 129 = .ok (.aload_n 0, 1) := dk_42 (dk_at dksX2_copy_5 13 rfl rfl)
theorem dX2_copy_130 : decode cX2_copy 130 = .ok (.getfield 24, 3) := dk_180 0 24 (dk_at dksX2_copy_5 14 rfl rfl)
theorem dX2_copy_133 : decode cX2_copy 133 = .ok (.invokevirtual 74, 3) := dk_182 0 74 (dk_at dksX2_copy_5 17 rfl rfl)
theorem dX2_copy_136 : decode cX2_copy 136 = .ok (.astore_n 2, 1) := dk_77 (dk_at dksX2_copy_5 20 rfl rfl)
theorem dX2_copy_137 : decode cX2_copy 137 = .ok (.aload_n 2, 1) := dk_44 (dk_at dksX2_copy_5 21 rfl rfl)
theorem dX2_copy_138 : decode cX2_copy 138 = .ok (.invokeinterface 37 1, 5) := by decide +kernel
theorem dX2_copy_143 : decode cX2_copy 143 = .ok (.ifCond .eq 38, 3) := dk_153 0 38 (dk_at dksX2_copy_6 5 rfl rfl)
theorem dX2_copy_146 : decode cX2_copy 146 = .ok (.aload_n 2, 1) := dk_44 (dk_at dksX2_copy_6 8 rfl rfl)
theorem dX2_copy_147 : decode cX2_copy 147 = .ok (.invokeinterface 43 1, 5) := by decide +kernel
theorem dX2_copy_152 : decode cX2_copy 152 = .ok (.checkcast 47, 3) := dk_192 0 47 (dk_at dksX2_copy_6 14 rfl rfl)
theorem dX2_copy_155 : decode cX2_copy 155 = .ok (.astore_n 3, 1) := dk_78 (dk_at dksX2_copy_6 17 rfl rfl)
theorem dX2_copy_156 : decode cX2_copy 156 = .ok (.aload_n 1, 1) := dk_43 (dk_at dksX2_copy_6 18 rfl rfl)
theorem dX2_copy_157 : decode cX2_copy 157 = .ok (.getfield 24, 3) := dk_180 0 24 (dk_at dksX2_copy_6 19 rfl rfl)
theorem dX2_copy_160 : decode cX2_copy 160 = .ok (.aload_n 1, 1) := dk_43 (dk_at dksX2_copy_6 22 rfl rfl)
theorem dX2_copy_161 : decode cX2_copy 161 = .ok (.getfield 18, 3) := dk_180 0 18 (dk_at dksX2_copy_7 0 rfl rfl)
theorem dX2_copy_164 : decode cX2_copy 164 = .ok (.aload_n 3, 1) := dk_45 (dk_at dksX2_copy_7 3 rfl rfl)
theorem dX2_copy_165 : decode cX2_copy 165 = .ok (.getfield 66, 3) := dk_180 0 66 (dk_at dksX2_copy_7 4 rfl rfl)
theorem dX2_copy_168 : decode cX2_copy 168 = .ok (.invokevirtual 70, 3) := dk_182 0 70 (dk_at dksX2_copy_7 7 rfl rfl)
theorem dX2_copy_171 : decode cX2_copy 171 = .ok (.checkcast 47, 3) := dk_192 0 47 (dk_at dksX2_copy_7 10 rfl rfl)
theorem dX2_copy_174 : decode cX2_copy 174 = .ok (.invokevirtual 75, 3) := dk_182 0 75 (dk_at dksX2_copy_7 13 rfl rfl)
theorem dX2_copy_177 : decode cX2_copy 177 = .ok (.pop, 1) := dk_87 (dk_at dksX2_copy_7 16 rfl rfl)
theorem dX2_copy_178 : decode cX2_copy 178 = .ok (.goto (-41), 3) := dk_167 255 215 (dk_at dksX2_copy_7 17 rfl rfl)
theorem dX2_copy_181 : decode cX2_copy 181 = .ok (.iconst 0, 1) := dk_3 (dk_at dksX2_copy_7 20 rfl rfl)
theorem dX2_copy_182 : decode cX2_copy 182 = .ok (.istore_n 2, 1) := dk_61 (dk_at dksX2_copy_7 21 rfl rfl)
theorem dX2_copy_183 : decode cX2_copy 183 = .ok (.iload_n 2, 1) := dk_28 (dk_at dksX2_copy_7 22 rfl rfl)
theorem dX2_copy_184 : decode cX2_copy 184 = .ok (.bipush 7, 2) := dk_16 7 (dk_at dksX2_copy_8 0 rfl rfl)
theorem dX2_copy_186 : decode cX2_copy 186 = .ok (.if_icmp .ge 21, 3) := dk_162 0 21 (dk_at dksX2_copy_8 2 rfl rfl)
theorem dX2_copy_189 : decode cX2_copy 189 = .ok (.aload_n 1, 1) := dk_43 (dk_at dksX2_copy_8 5 rfl rfl)
theorem dX2_copy_190 : decode cX2_copy 190 = .ok (.getfield 28, 3) := dk_180 0 28 (dk_at dksX2_copy_8 6 rfl rfl)
theorem dX2_copy_193 : decode cX2_copy 193 = .ok (.iload_n 2, 1) := dk_28 (dk_at dksX2_copy_8 9 rfl rfl)
theorem dX2_copy_194 : decode cX2_copy 194 = .ok (.aload_n 0, 1) := dk_42 (dk_at dksX2_copy_8 10 rfl rfl)
theorem dX2_copy_195 : decode cX2_copy 195 = .ok (.getfield 28, 3) := dk_180 0 28 (dk_at dksX2_copy_8 11 rfl rfl)
theorem dX2_copy_198 : decode cX2_copy 198 = .ok (.iload_n 2, 1) := dk_28 (dk_at dksX2_copy_8 14 rfl rfl)
theorem dX2_copy_199 : decode cX2_copy 199 = .ok (.iaload, 1) := dk_46 (dk_at dksX2_copy_8 15 rfl rfl)
theorem dX2_copy_200 : decode cX2_copy 200 = .ok (.iastore, 1) := dk_79 (dk_at dksX2_copy_8 16 rfl rfl)
theorem dX2_copy_201 : decode cX2_copy 201 = .ok (.iinc 2 1, 3) := dk_132 2 1 (dk_at dksX2_copy_8 17 rfl rfl)
theorem dX2_copy_204 : decode cX2_copy 204 = .ok (.goto (-21), 3) := dk_167 255 235 (dk_at dksX2_copy_8 20 rfl rfl)
theorem dX2_copy_207 : decode cX2_copy 207 = .ok (.aload_n 1, 1) := dk_43 (dk_at dksX2_copy_8 23 rfl rfl)
theorem dX2_copy_208 : decode cX2_copy 208 = .ok (.aload_n 0, 1) := dk_42 (dk_at dksX2_copy_9 0 rfl rfl)
theorem dX2_copy_209 : decode cX2_copy 209 = .ok (.getfield 76, 3) := dk_180 0 76 (dk_at dksX2_copy_9 1 rfl rfl)
theorem dX2_copy_212 : decode cX2_copy 212 = .ok (.putfield 76, 3) := dk_181 0 76 (dk_at dksX2_copy_9 4 rfl rfl)
theorem dX2_copy_215 : decode cX2_copy 215 = .ok (.aload_n 1, 1) := dk_43 (dk_at dksX2_copy_9 7 rfl rfl)
theorem dX2_copy_216 : decode cX2_copy 216 = .ok (.aload_n 0, 1) := dk_42 (dk_at dksX2_copy_9 8 rfl rfl)
theorem dX2_copy_217 : decode cX2_copy 217 = .ok (.getfield 79, 3) := dk_180 0 79 (dk_at dksX2_copy_9 9 rfl rfl)
theorem dX2_copy_220 : decode cX2_copy 220 = .ok (.putfield 79, 3) := dk_181 0 79 (dk_at dksX2_copy_9 12 rfl rfl)
theorem dX2_copy_223 : decode cX2_copy 223 = .ok (.aload_n 1, 1) := dk_43 (dk_at dksX2_copy_9 15 rfl rfl)
theorem dX2_copy_224 : decode cX2_copy 224 = .ok (.aload_n 0, 1) := dk_42 (dk_at dksX2_copy_9 16 rfl rfl)
theorem dX2_copy_225 : decode cX2_copy 225 = .ok (.getfield 82, 3) := dk_180 0 82 (dk_at dksX2_copy_9 17 rfl rfl)
theorem dX2_copy_228 : decode cX2_copy 228 = .ok (.putfield 82, 3) := dk_181 0 82 (dk_at dksX2_copy_9 20 rfl rfl)
theorem dX2_copy_231 : decode cX2_copy 231 = .ok (.aload_n 1, 1) := dk_43 (dk_at dksX2_copy_9 23 rfl rfl)
theorem dX2_copy_232 : decode cX2_copy 232 = .ok (.areturn, 1) := dk_176 (dk_at dksX2_copy_10 0 rfl rfl)
abbrev cX2_look : ByteArray := prog_10_method_10_code
def yX2_look : MethodName := ⟨RX2, "look", "()I"⟩
def dkwX2_look_4 : List UInt8 := [42, 89, 180, 0, 79, 28, 96, 181, 0, 79, 27, 28, 96, 172]
abbrev dktX2_look_4 : List UInt8 := dkwX2_look_4 ++ []
def dkwX2_look_3 : List UInt8 := [182, 0, 145, 78, 45, 198, 0, 19, 45, 3, 181, 0, 133, 132, 2, 1, 42, 182, 0, 145, 78, 167, 255, 239]
abbrev dktX2_look_3 : List UInt8 := dkwX2_look_3 ++ dktX2_look_4
def dkwX2_look_2 : List UInt8 := [3, 181, 0, 133, 132, 1, 1, 167, 255, 215, 42, 89, 180, 0, 82, 27, 96, 181, 0, 82, 3, 61, 42]
abbrev dktX2_look_2 : List UInt8 := dkwX2_look_2 ++ dktX2_look_3
def dkwX2_look_1 : List UInt8 := [185, 0, 43, 1, 0, 192, 0, 57, 78, 45, 180, 0, 133, 153, 0, 18, 45, 182, 0, 142, 153, 0, 11, 45]
abbrev dktX2_look_1 : List UInt8 := dkwX2_look_1 ++ dktX2_look_2
def dkwX2_look_0 : List UInt8 := [3, 60, 42, 180, 0, 12, 182, 0, 33, 77, 44, 185, 0, 37, 1, 0, 153, 0, 38, 44]
abbrev dktX2_look_0 : List UInt8 := dkwX2_look_0 ++ dktX2_look_1
theorem dksX2_look_0 : cX2_look.data.toList.drop 0 = dktX2_look_0 := by decide +kernel
theorem dksX2_look_1 : cX2_look.data.toList.drop 20 = dktX2_look_1 := dk_seg dksX2_look_0 20 rfl rfl
theorem dksX2_look_2 : cX2_look.data.toList.drop 44 = dktX2_look_2 := dk_seg dksX2_look_1 24 rfl rfl
theorem dksX2_look_3 : cX2_look.data.toList.drop 67 = dktX2_look_3 := dk_seg dksX2_look_2 23 rfl rfl
theorem dksX2_look_4 : cX2_look.data.toList.drop 91 = dktX2_look_4 := dk_seg dksX2_look_3 24 rfl rfl
theorem dX2_look_0 : decode cX2_look 0 = .ok (.iconst 0, 1) := dk_3 (dk_at dksX2_look_0 0 rfl rfl)
theorem dX2_look_1 : decode cX2_look 1 = .ok (.istore_n 1, 1) := dk_60 (dk_at dksX2_look_0 1 rfl rfl)
theorem dX2_look_2 : decode cX2_look 2 = .ok (.aload_n 0, 1) := dk_42 (dk_at dksX2_look_0 2 rfl rfl)
theorem dX2_look_3 : decode cX2_look 3 = .ok (.getfield 12, 3) := dk_180 0 12 (dk_at dksX2_look_0 3 rfl rfl)
theorem dX2_look_6 : decode cX2_look 6 = .ok (.invokevirtual 33, 3) := dk_182 0 33 (dk_at dksX2_look_0 6 rfl rfl)
theorem dX2_look_9 : decode cX2_look 9 = .ok (.astore_n 2, 1) := dk_77 (dk_at dksX2_look_0 9 rfl rfl)
theorem dX2_look_10 : decode cX2_look 10 = .ok (.aload_n 2, 1) := dk_44 (dk_at dksX2_look_0 10 rfl rfl)
theorem dX2_look_11 : decode cX2_look 11 = .ok (.invokeinterface 37 1, 5) := by decide +kernel
theorem dX2_look_16 : decode cX2_look 16 = .ok (.ifCond .eq 38, 3) := dk_153 0 38 (dk_at dksX2_look_0 16 rfl rfl)
theorem dX2_look_19 : decode cX2_look 19 = .ok (.aload_n 2, 1) := dk_44 (dk_at dksX2_look_0 19 rfl rfl)
theorem dX2_look_20 : decode cX2_look 20 = .ok (.invokeinterface 43 1, 5) := by decide +kernel
theorem dX2_look_25 : decode cX2_look 25 = .ok (.checkcast 57, 3) := dk_192 0 57 (dk_at dksX2_look_1 5 rfl rfl)
theorem dX2_look_28 : decode cX2_look 28 = .ok (.astore_n 3, 1) := dk_78 (dk_at dksX2_look_1 8 rfl rfl)
theorem dX2_look_29 : decode cX2_look 29 = .ok (.aload_n 3, 1) := dk_45 (dk_at dksX2_look_1 9 rfl rfl)
theorem dX2_look_30 : decode cX2_look 30 = .ok (.getfield 133, 3) := dk_180 0 133 (dk_at dksX2_look_1 10 rfl rfl)
theorem dX2_look_33 : decode cX2_look 33 = .ok (.ifCond .eq 18, 3) := dk_153 0 18 (dk_at dksX2_look_1 13 rfl rfl)
theorem dX2_look_36 : decode cX2_look 36 = .ok (.aload_n 3, 1) := dk_45 (dk_at dksX2_look_1 16 rfl rfl)
theorem dX2_look_37 : decode cX2_look 37 = .ok (.invokevirtual 142, 3) := dk_182 0 142 (dk_at dksX2_look_1 17 rfl rfl)
theorem dX2_look_40 : decode cX2_look 40 = .ok (.ifCond .eq 11, 3) := dk_153 0 11 (dk_at dksX2_look_1 20 rfl rfl)
theorem dX2_look_43 : decode cX2_look 43 = .ok (.aload_n 3, 1) := dk_45 (dk_at dksX2_look_1 23 rfl rfl)
theorem dX2_look_44 : decode cX2_look 44 = .ok (.iconst 0, 1) := dk_3 (dk_at dksX2_look_2 0 rfl rfl)
theorem dX2_look_45 : decode cX2_look 45 = .ok (.putfield 133, 3) := dk_181 0 133 (dk_at dksX2_look_2 1 rfl rfl)
theorem dX2_look_48 : decode cX2_look 48 = .ok (.iinc 1 1, 3) := dk_132 1 1 (dk_at dksX2_look_2 4 rfl rfl)
theorem dX2_look_51 : decode cX2_look 51 = .ok (.goto (-41), 3) := dk_167 255 215 (dk_at dksX2_look_2 7 rfl rfl)
theorem dX2_look_54 : decode cX2_look 54 = .ok (.aload_n 0, 1) := dk_42 (dk_at dksX2_look_2 10 rfl rfl)
theorem dX2_look_55 : decode cX2_look 55 = .ok (.dup, 1) := dk_89 (dk_at dksX2_look_2 11 rfl rfl)
theorem dX2_look_56 : decode cX2_look 56 = .ok (.getfield 82, 3) := dk_180 0 82 (dk_at dksX2_look_2 12 rfl rfl)
theorem dX2_look_59 : decode cX2_look 59 = .ok (.iload_n 1, 1) := dk_27 (dk_at dksX2_look_2 15 rfl rfl)
theorem dX2_look_60 : decode cX2_look 60 = .ok (.iadd, 1) := dk_96 (dk_at dksX2_look_2 16 rfl rfl)
theorem dX2_look_61 : decode cX2_look 61 = .ok (.putfield 82, 3) := dk_181 0 82 (dk_at dksX2_look_2 17 rfl rfl)
theorem dX2_look_64 : decode cX2_look 64 = .ok (.iconst 0, 1) := dk_3 (dk_at dksX2_look_2 20 rfl rfl)
theorem dX2_look_65 : decode cX2_look 65 = .ok (.istore_n 2, 1) := dk_61 (dk_at dksX2_look_2 21 rfl rfl)
theorem dX2_look_66 : decode cX2_look 66 = .ok (.aload_n 0, 1) := dk_42 (dk_at dksX2_look_2 22 rfl rfl)
theorem dX2_look_67 : decode cX2_look 67 = .ok (.invokevirtual 145, 3) := dk_182 0 145 (dk_at dksX2_look_3 0 rfl rfl)
theorem dX2_look_70 : decode cX2_look 70 = .ok (.astore_n 3, 1) := dk_78 (dk_at dksX2_look_3 3 rfl rfl)
theorem dX2_look_71 : decode cX2_look 71 = .ok (.aload_n 3, 1) := dk_45 (dk_at dksX2_look_3 4 rfl rfl)
theorem dX2_look_72 : decode cX2_look 72 = .ok (.ifnull 19, 3) := dk_198 0 19 (dk_at dksX2_look_3 5 rfl rfl)
theorem dX2_look_75 : decode cX2_look 75 = .ok (.aload_n 3, 1) := dk_45 (dk_at dksX2_look_3 8 rfl rfl)
theorem dX2_look_76 : decode cX2_look 76 = .ok (.iconst 0, 1) := dk_3 (dk_at dksX2_look_3 9 rfl rfl)
theorem dX2_look_77 : decode cX2_look 77 = .ok (.putfield 133, 3) := dk_181 0 133 (dk_at dksX2_look_3 10 rfl rfl)
theorem dX2_look_80 : decode cX2_look 80 = .ok (.iinc 2 1, 3) := dk_132 2 1 (dk_at dksX2_look_3 13 rfl rfl)
theorem dX2_look_83 : decode cX2_look 83 = .ok (.aload_n 0, 1) := dk_42 (dk_at dksX2_look_3 16 rfl rfl)
theorem dX2_look_84 : decode cX2_look 84 = .ok (.invokevirtual 145, 3) := dk_182 0 145 (dk_at dksX2_look_3 17 rfl rfl)
theorem dX2_look_87 : decode cX2_look 87 = .ok (.astore_n 3, 1) := dk_78 (dk_at dksX2_look_3 20 rfl rfl)
theorem dX2_look_88 : decode cX2_look 88 = .ok (.goto (-17), 3) := dk_167 255 239 (dk_at dksX2_look_3 21 rfl rfl)
theorem dX2_look_91 : decode cX2_look 91 = .ok (.aload_n 0, 1) := dk_42 (dk_at dksX2_look_4 0 rfl rfl)
theorem dX2_look_92 : decode cX2_look 92 = .ok (.dup, 1) := dk_89 (dk_at dksX2_look_4 1 rfl rfl)
theorem dX2_look_93 : decode cX2_look 93 = .ok (.getfield 79, 3) := dk_180 0 79 (dk_at dksX2_look_4 2 rfl rfl)
theorem dX2_look_96 : decode cX2_look 96 = .ok (.iload_n 2, 1) := dk_28 (dk_at dksX2_look_4 5 rfl rfl)
theorem dX2_look_97 : decode cX2_look 97 = .ok (.iadd, 1) := dk_96 (dk_at dksX2_look_4 6 rfl rfl)
theorem dX2_look_98 : decode cX2_look 98 = .ok (.putfield 79, 3) := dk_181 0 79 (dk_at dksX2_look_4 7 rfl rfl)
theorem dX2_look_101 : decode cX2_look 101 = .ok (.iload_n 1, 1) := dk_27 (dk_at dksX2_look_4 10 rfl rfl)
theorem dX2_look_102 : decode cX2_look 102 = .ok (.iload_n 2, 1) := dk_28 (dk_at dksX2_look_4 11 rfl rfl)
theorem dX2_look_103 : decode cX2_look 103 = .ok (.iadd, 1) := dk_96 (dk_at dksX2_look_4 12 rfl rfl)
theorem dX2_look_104 : decode cX2_look 104 = .ok (.ireturn, 1) := dk_172 (dk_at dksX2_look_4 13 rfl rfl)
abbrev cX2_toHide : ByteArray := prog_10_method_9_code
def yX2_toHide : MethodName := ⟨RX2, "toHide", "()LSkerryLights$Tower;"⟩
def dkwX2_toHide_4 : List UInt8 := [25, 4, 176, 167, 255, 196, 167, 255, 166, 1, 176]
abbrev dktX2_toHide_4 : List UInt8 := dkwX2_toHide_4 ++ []
def dkwX2_toHide_3 : List UInt8 := [180, 0, 133, 153, 0, 24, 25, 4, 180, 0, 133, 153, 0, 16, 42, 44, 25, 4, 182, 0, 138, 153, 0, 6]
abbrev dktX2_toHide_3 : List UInt8 := dkwX2_toHide_3 ++ dktX2_toHide_4
def dkwX2_toHide_2 : List UInt8 := [185, 0, 43, 1, 0, 192, 0, 57, 58, 4, 44, 180, 0, 137, 25, 4, 180, 0, 137, 162, 0, 31, 44]
abbrev dktX2_toHide_2 : List UInt8 := dkwX2_toHide_2 ++ dktX2_toHide_3
def dkwX2_toHide_1 : List UInt8 := [192, 0, 57, 77, 42, 180, 0, 12, 182, 0, 33, 78, 45, 185, 0, 37, 1, 0, 153, 0, 57, 45]
abbrev dktX2_toHide_1 : List UInt8 := dkwX2_toHide_1 ++ dktX2_toHide_2
def dkwX2_toHide_0 : List UInt8 := [42, 180, 0, 12, 182, 0, 33, 76, 43, 185, 0, 37, 1, 0, 153, 0, 87, 43, 185, 0, 43, 1, 0]
abbrev dktX2_toHide_0 : List UInt8 := dkwX2_toHide_0 ++ dktX2_toHide_1
theorem dksX2_toHide_0 : cX2_toHide.data.toList.drop 0 = dktX2_toHide_0 := by decide +kernel
theorem dksX2_toHide_1 : cX2_toHide.data.toList.drop 23 = dktX2_toHide_1 := dk_seg dksX2_toHide_0 23 rfl rfl
theorem dksX2_toHide_2 : cX2_toHide.data.toList.drop 45 = dktX2_toHide_2 := dk_seg dksX2_toHide_1 22 rfl rfl
theorem dksX2_toHide_3 : cX2_toHide.data.toList.drop 68 = dktX2_toHide_3 := dk_seg dksX2_toHide_2 23 rfl rfl
theorem dksX2_toHide_4 : cX2_toHide.data.toList.drop 92 = dktX2_toHide_4 := dk_seg dksX2_toHide_3 24 rfl rfl
theorem dX2_toHide_0 : decode cX2_toHide 0 = .ok (.aload_n 0, 1) := dk_42 (dk_at dksX2_toHide_0 0 rfl rfl)
theorem dX2_toHide_1 : decode cX2_toHide 1 = .ok (.getfield 12, 3) := dk_180 0 12 (dk_at dksX2_toHide_0 1 rfl rfl)
theorem dX2_toHide_4 : decode cX2_toHide 4 = .ok (.invokevirtual 33, 3) := dk_182 0 33 (dk_at dksX2_toHide_0 4 rfl rfl)
theorem dX2_toHide_7 : decode cX2_toHide 7 = .ok (.astore_n 1, 1) := dk_76 (dk_at dksX2_toHide_0 7 rfl rfl)
theorem dX2_toHide_8 : decode cX2_toHide 8 = .ok (.aload_n 1, 1) := dk_43 (dk_at dksX2_toHide_0 8 rfl rfl)
theorem dX2_toHide_9 : decode cX2_toHide 9 = .ok (.invokeinterface 37 1, 5) := by decide +kernel
theorem dX2_toHide_14 : decode cX2_toHide 14 = .ok (.ifCond .eq 87, 3) := dk_153 0 87 (dk_at dksX2_toHide_0 14 rfl rfl)
theorem dX2_toHide_17 : decode cX2_toHide 17 = .ok (.aload_n 1, 1) := dk_43 (dk_at dksX2_toHide_0 17 rfl rfl)
theorem dX2_toHide_18 : decode cX2_toHide 18 = .ok (.invokeinterface 43 1, 5) := by decide +kernel
theorem dX2_toHide_23 : decode cX2_toHide 23 = .ok (.checkcast 57, 3) := dk_192 0 57 (dk_at dksX2_toHide_1 0 rfl rfl)
theorem dX2_toHide_26 : decode cX2_toHide 26 = .ok (.astore_n 2, 1) := dk_77 (dk_at dksX2_toHide_1 3 rfl rfl)
theorem dX2_toHide_27 : decode cX2_toHide 27 = .ok (.aload_n 0, 1) := dk_42 (dk_at dksX2_toHide_1 4 rfl rfl)
theorem dX2_toHide_28 : decode cX2_toHide 28 = .ok (.getfield 12, 3) := dk_180 0 12 (dk_at dksX2_toHide_1 5 rfl rfl)
theorem dX2_toHide_31 : decode cX2_toHide 31 = .ok (.invokevirtual 33, 3) := dk_182 0 33 (dk_at dksX2_toHide_1 8 rfl rfl)
theorem dX2_toHide_34 : decode cX2_toHide 34 = .ok (.astore_n 3, 1) := dk_78 (dk_at dksX2_toHide_1 11 rfl rfl)
theorem dX2_toHide_35 : decode cX2_toHide 35 = .ok (.aload_n 3, 1) := dk_45 (dk_at dksX2_toHide_1 12 rfl rfl)
theorem dX2_toHide_36 : decode cX2_toHide 36 = .ok (.invokeinterface 37 1, 5) := by decide +kernel
theorem dX2_toHide_41 : decode cX2_toHide 41 = .ok (.ifCond .eq 57, 3) := dk_153 0 57 (dk_at dksX2_toHide_1 18 rfl rfl)
theorem dX2_toHide_44 : decode cX2_toHide 44 = .ok (.aload_n 3, 1) := dk_45 (dk_at dksX2_toHide_1 21 rfl rfl)
theorem dX2_toHide_45 : decode cX2_toHide 45 = .ok (.invokeinterface 43 1, 5) := by decide +kernel
theorem dX2_toHide_50 : decode cX2_toHide 50 = .ok (.checkcast 57, 3) := dk_192 0 57 (dk_at dksX2_toHide_2 5 rfl rfl)
theorem dX2_toHide_53 : decode cX2_toHide 53 = .ok (.astore 4, 2) := dk_58 4 (dk_at dksX2_toHide_2 8 rfl rfl)
theorem dX2_toHide_55 : decode cX2_toHide 55 = .ok (.aload_n 2, 1) := dk_44 (dk_at dksX2_toHide_2 10 rfl rfl)
theorem dX2_toHide_56 : decode cX2_toHide 56 = .ok (.getfield 137, 3) := dk_180 0 137 (dk_at dksX2_toHide_2 11 rfl rfl)
theorem dX2_toHide_59 : decode cX2_toHide 59 = .ok (.aload 4, 2) := dk_25 4 (dk_at dksX2_toHide_2 14 rfl rfl)
theorem dX2_toHide_61 : decode cX2_toHide 61 = .ok (.getfield 137, 3) := dk_180 0 137 (dk_at dksX2_toHide_2 16 rfl rfl)
theorem dX2_toHide_64 : decode cX2_toHide 64 = .ok (.if_icmp .ge 31, 3) := dk_162 0 31 (dk_at dksX2_toHide_2 19 rfl rfl)
theorem dX2_toHide_67 : decode cX2_toHide 67 = .ok (.aload_n 2, 1) := dk_44 (dk_at dksX2_toHide_2 22 rfl rfl)
theorem dX2_toHide_68 : decode cX2_toHide 68 = .ok (.getfield 133, 3) := dk_180 0 133 (dk_at dksX2_toHide_3 0 rfl rfl)
theorem dX2_toHide_71 : decode cX2_toHide 71 = .ok (.ifCond .eq 24, 3) := dk_153 0 24 (dk_at dksX2_toHide_3 3 rfl rfl)
theorem dX2_toHide_74 : decode cX2_toHide 74 = .ok (.aload 4, 2) := dk_25 4 (dk_at dksX2_toHide_3 6 rfl rfl)
theorem dX2_toHide_76 : decode cX2_toHide 76 = .ok (.getfield 133, 3) := dk_180 0 133 (dk_at dksX2_toHide_3 8 rfl rfl)
theorem dX2_toHide_79 : decode cX2_toHide 79 = .ok (.ifCond .eq 16, 3) := dk_153 0 16 (dk_at dksX2_toHide_3 11 rfl rfl)
theorem dX2_toHide_82 : decode cX2_toHide 82 = .ok (.aload_n 0, 1) := dk_42 (dk_at dksX2_toHide_3 14 rfl rfl)
theorem dX2_toHide_83 : decode cX2_toHide 83 = .ok (.aload_n 2, 1) := dk_44 (dk_at dksX2_toHide_3 15 rfl rfl)
theorem dX2_toHide_84 : decode cX2_toHide 84 = .ok (.aload 4, 2) := dk_25 4 (dk_at dksX2_toHide_3 16 rfl rfl)
theorem dX2_toHide_86 : decode cX2_toHide 86 = .ok (.invokevirtual 138, 3) := dk_182 0 138 (dk_at dksX2_toHide_3 18 rfl rfl)
theorem dX2_toHide_89 : decode cX2_toHide 89 = .ok (.ifCond .eq 6, 3) := dk_153 0 6 (dk_at dksX2_toHide_3 21 rfl rfl)
theorem dX2_toHide_92 : decode cX2_toHide 92 = .ok (.aload 4, 2) := dk_25 4 (dk_at dksX2_toHide_4 0 rfl rfl)
theorem dX2_toHide_94 : decode cX2_toHide 94 = .ok (.areturn, 1) := dk_176 (dk_at dksX2_toHide_4 2 rfl rfl)
theorem dX2_toHide_95 : decode cX2_toHide 95 = .ok (.goto (-60), 3) := dk_167 255 196 (dk_at dksX2_toHide_4 3 rfl rfl)
theorem dX2_toHide_98 : decode cX2_toHide 98 = .ok (.goto (-90), 3) := dk_167 255 166 (dk_at dksX2_toHide_4 6 rfl rfl)
theorem dX2_toHide_101 : decode cX2_toHide 101 = .ok (.aconst_null, 1) := dk_1 (dk_at dksX2_toHide_4 9 rfl rfl)
theorem dX2_toHide_102 : decode cX2_toHide 102 = .ok (.areturn, 1) := dk_176 (dk_at dksX2_toHide_4 10 rfl rfl)
abbrev cX2_areMistaken : ByteArray := prog_10_method_7_code
def yX2_areMistaken : MethodName := ⟨RX2, "areMistaken", "(LSkerryLights$Tower;LSkerryLights$Tower;)Z"⟩
def dkwX2_areMistaken_1 : List UInt8 := [4, 167, 0, 4, 3, 172]
abbrev dktX2_areMistaken_1 : List UInt8 := dkwX2_areMistaken_1 ++ []
def dkwX2_areMistaken_0 : List UInt8 := [43, 44, 182, 0, 121, 153, 0, 23, 42, 43, 182, 0, 125, 42, 44, 182, 0, 125, 182, 0, 129, 153, 0, 7]
abbrev dktX2_areMistaken_0 : List UInt8 := dkwX2_areMistaken_0 ++ dktX2_areMistaken_1
theorem dksX2_areMistaken_0 : cX2_areMistaken.data.toList.drop 0 = dktX2_areMistaken_0 := by decide +kernel
theorem dksX2_areMistaken_1 : cX2_areMistaken.data.toList.drop 24 = dktX2_areMistaken_1 := dk_seg dksX2_areMistaken_0 24 rfl rfl
theorem dX2_areMistaken_0 : decode cX2_areMistaken 0 = .ok (.aload_n 1, 1) := dk_43 (dk_at dksX2_areMistaken_0 0 rfl rfl)
theorem dX2_areMistaken_1 : decode cX2_areMistaken 1 = .ok (.aload_n 2, 1) := dk_44 (dk_at dksX2_areMistaken_0 1 rfl rfl)
theorem dX2_areMistaken_2 : decode cX2_areMistaken 2 = .ok (.invokevirtual 121, 3) := dk_182 0 121 (dk_at dksX2_areMistaken_0 2 rfl rfl)
theorem dX2_areMistaken_5 : decode cX2_areMistaken 5 = .ok (.ifCond .eq 23, 3) := dk_153 0 23 (dk_at dksX2_areMistaken_0 5 rfl rfl)
theorem dX2_areMistaken_8 : decode cX2_areMistaken 8 = .ok (.aload_n 0, 1) := dk_42 (dk_at dksX2_areMistaken_0 8 rfl rfl)
theorem dX2_areMistaken_9 : decode cX2_areMistaken 9 = .ok (.aload_n 1, 1) := dk_43 (dk_at dksX2_areMistaken_0 9 rfl rfl)
theorem dX2_areMistaken_10 : decode cX2_areMistaken 10 = .ok (.invokevirtual 125, 3) := dk_182 0 125 (dk_at dksX2_areMistaken_0 10 rfl rfl)
theorem dX2_areMistaken_13 : decode cX2_areMistaken 13 = .ok (.aload_n 0, 1) := dk_42 (dk_at dksX2_areMistaken_0 13 rfl rfl)
theorem dX2_areMistaken_14 : decode cX2_areMistaken 14 = .ok (.aload_n 2, 1) := dk_44 (dk_at dksX2_areMistaken_0 14 rfl rfl)
theorem dX2_areMistaken_15 : decode cX2_areMistaken 15 = .ok (.invokevirtual 125, 3) := dk_182 0 125 (dk_at dksX2_areMistaken_0 15 rfl rfl)
theorem dX2_areMistaken_18 : decode cX2_areMistaken 18 = .ok (.invokevirtual 129, 3) := dk_182 0 129 (dk_at dksX2_areMistaken_0 18 rfl rfl)
theorem dX2_areMistaken_21 : decode cX2_areMistaken 21 = .ok (.ifCond .eq 7, 3) := dk_153 0 7 (dk_at dksX2_areMistaken_0 21 rfl rfl)
theorem dX2_areMistaken_24 : decode cX2_areMistaken 24 = .ok (.iconst 1, 1) := dk_4 (dk_at dksX2_areMistaken_1 0 rfl rfl)
theorem dX2_areMistaken_25 : decode cX2_areMistaken 25 = .ok (.goto 4, 3) := dk_167 0 4 (dk_at dksX2_areMistaken_1 1 rfl rfl)
theorem dX2_areMistaken_28 : decode cX2_areMistaken 28 = .ok (.iconst 0, 1) := dk_3 (dk_at dksX2_areMistaken_1 4 rfl rfl)
theorem dX2_areMistaken_29 : decode cX2_areMistaken 29 = .ok (.ireturn, 1) := dk_172 (dk_at dksX2_areMistaken_1 5 rfl rfl)
abbrev cX2_reached : ByteArray := prog_10_method_6_code
def yX2_reached : MethodName := ⟨RX2, "reached", "(LSkerryLights$Tower;)Ljava/util/BitSet;"⟩
def dkwX2_reached_1 : List UInt8 := [153, 0, 8, 44, 29, 182, 0, 118, 132, 3, 1, 167, 255, 233, 44, 176]
abbrev dktX2_reached_1 : List UInt8 := dkwX2_reached_1 ++ []
def dkwX2_reached_0 : List UInt8 := [187, 0, 109, 89, 16, 61, 183, 0, 111, 77, 3, 62, 29, 16, 61, 162, 0, 23, 42, 43, 29, 182, 0, 114]
abbrev dktX2_reached_0 : List UInt8 := dkwX2_reached_0 ++ dktX2_reached_1
theorem dksX2_reached_0 : cX2_reached.data.toList.drop 0 = dktX2_reached_0 := by decide +kernel
theorem dksX2_reached_1 : cX2_reached.data.toList.drop 24 = dktX2_reached_1 := dk_seg dksX2_reached_0 24 rfl rfl
theorem dX2_reached_0 : decode cX2_reached 0 = .ok (.new 109, 3) := dk_187 0 109 (dk_at dksX2_reached_0 0 rfl rfl)
theorem dX2_reached_3 : decode cX2_reached 3 = .ok (.dup, 1) := dk_89 (dk_at dksX2_reached_0 3 rfl rfl)
theorem dX2_reached_4 : decode cX2_reached 4 = .ok (.bipush 61, 2) := dk_16 61 (dk_at dksX2_reached_0 4 rfl rfl)
theorem dX2_reached_6 : decode cX2_reached 6 = .ok (.invokespecial 111, 3) := dk_183 0 111 (dk_at dksX2_reached_0 6 rfl rfl)
theorem dX2_reached_9 : decode cX2_reached 9 = .ok (.astore_n 2, 1) := dk_77 (dk_at dksX2_reached_0 9 rfl rfl)
theorem dX2_reached_10 : decode cX2_reached 10 = .ok (.iconst 0, 1) := dk_3 (dk_at dksX2_reached_0 10 rfl rfl)
theorem dX2_reached_11 : decode cX2_reached 11 = .ok (.istore_n 3, 1) := dk_62 (dk_at dksX2_reached_0 11 rfl rfl)
theorem dX2_reached_12 : decode cX2_reached 12 = .ok (.iload_n 3, 1) := dk_29 (dk_at dksX2_reached_0 12 rfl rfl)
theorem dX2_reached_13 : decode cX2_reached 13 = .ok (.bipush 61, 2) := dk_16 61 (dk_at dksX2_reached_0 13 rfl rfl)
theorem dX2_reached_15 : decode cX2_reached 15 = .ok (.if_icmp .ge 23, 3) := dk_162 0 23 (dk_at dksX2_reached_0 15 rfl rfl)
theorem dX2_reached_18 : decode cX2_reached 18 = .ok (.aload_n 0, 1) := dk_42 (dk_at dksX2_reached_0 18 rfl rfl)
theorem dX2_reached_19 : decode cX2_reached 19 = .ok (.aload_n 1, 1) := dk_43 (dk_at dksX2_reached_0 19 rfl rfl)
theorem dX2_reached_20 : decode cX2_reached 20 = .ok (.iload_n 3, 1) := dk_29 (dk_at dksX2_reached_0 20 rfl rfl)
theorem dX2_reached_21 : decode cX2_reached 21 = .ok (.invokevirtual 114, 3) := dk_182 0 114 (dk_at dksX2_reached_0 21 rfl rfl)
theorem dX2_reached_24 : decode cX2_reached 24 = .ok (.ifCond .eq 8, 3) := dk_153 0 8 (dk_at dksX2_reached_1 0 rfl rfl)
theorem dX2_reached_27 : decode cX2_reached 27 = .ok (.aload_n 2, 1) := dk_44 (dk_at dksX2_reached_1 3 rfl rfl)
theorem dX2_reached_28 : decode cX2_reached 28 = .ok (.iload_n 3, 1) := dk_29 (dk_at dksX2_reached_1 4 rfl rfl)
theorem dX2_reached_29 : decode cX2_reached 29 = .ok (.invokevirtual 118, 3) := dk_182 0 118 (dk_at dksX2_reached_1 5 rfl rfl)
theorem dX2_reached_32 : decode cX2_reached 32 = .ok (.iinc 3 1, 3) := dk_132 3 1 (dk_at dksX2_reached_1 8 rfl rfl)
theorem dX2_reached_35 : decode cX2_reached 35 = .ok (.goto (-23), 3) := dk_167 255 233 (dk_at dksX2_reached_1 11 rfl rfl)
theorem dX2_reached_38 : decode cX2_reached 38 = .ok (.aload_n 2, 1) := dk_44 (dk_at dksX2_reached_1 14 rfl rfl)
theorem dX2_reached_39 : decode cX2_reached 39 = .ok (.areturn, 1) := dk_176 (dk_at dksX2_reached_1 15 rfl rfl)
abbrev cX2_reaches : ByteArray := prog_10_method_5_code
def yX2_reaches : MethodName := ⟨RX2, "reaches", "(LSkerryLights$Tower;I)Z"⟩
def dkwX2_reaches_2 : List UInt8 := [180, 0, 106, 163, 0, 7, 4, 167, 0, 4, 3, 172]
abbrev dktX2_reaches_2 : List UInt8 := dkwX2_reaches_2 ++ []
def dkwX2_reaches_1 : List UInt8 := [180, 0, 89, 28, 182, 0, 96, 153, 0, 26, 42, 43, 180, 0, 89, 28, 182, 0, 102, 43, 180, 0, 62]
abbrev dktX2_reaches_1 : List UInt8 := dkwX2_reaches_1 ++ dktX2_reaches_2
def dkwX2_reaches_0 : List UInt8 := [43, 180, 0, 62, 199, 0, 5, 3, 172, 28, 43, 180, 0, 89, 159, 0, 37, 43, 180, 0, 92, 43]
abbrev dktX2_reaches_0 : List UInt8 := dkwX2_reaches_0 ++ dktX2_reaches_1
theorem dksX2_reaches_0 : cX2_reaches.data.toList.drop 0 = dktX2_reaches_0 := by decide +kernel
theorem dksX2_reaches_1 : cX2_reaches.data.toList.drop 22 = dktX2_reaches_1 := dk_seg dksX2_reaches_0 22 rfl rfl
theorem dksX2_reaches_2 : cX2_reaches.data.toList.drop 45 = dktX2_reaches_2 := dk_seg dksX2_reaches_1 23 rfl rfl
theorem dX2_reaches_0 : decode cX2_reaches 0 = .ok (.aload_n 1, 1) := dk_43 (dk_at dksX2_reaches_0 0 rfl rfl)
theorem dX2_reaches_1 : decode cX2_reaches 1 = .ok (.getfield 62, 3) := dk_180 0 62 (dk_at dksX2_reaches_0 1 rfl rfl)
theorem dX2_reaches_4 : decode cX2_reaches 4 = .ok (.ifnonnull 5, 3) := dk_199 0 5 (dk_at dksX2_reaches_0 4 rfl rfl)
theorem dX2_reaches_7 : decode cX2_reaches 7 = .ok (.iconst 0, 1) := dk_3 (dk_at dksX2_reaches_0 7 rfl rfl)
theorem dX2_reaches_8 : decode cX2_reaches 8 = .ok (.ireturn, 1) := dk_172 (dk_at dksX2_reaches_0 8 rfl rfl)
theorem dX2_reaches_9 : decode cX2_reaches 9 = .ok (.iload_n 2, 1) := dk_28 (dk_at dksX2_reaches_0 9 rfl rfl)
theorem dX2_reaches_10 : decode cX2_reaches 10 = .ok (.aload_n 1, 1) := dk_43 (dk_at dksX2_reaches_0 10 rfl rfl)
theorem dX2_reaches_11 : decode cX2_reaches 11 = .ok (.getfield 89, 3) := dk_180 0 89 (dk_at dksX2_reaches_0 11 rfl rfl)
theorem dX2_reaches_14 : decode cX2_reaches 14 = .ok (.if_icmp .eq 37, 3) := dk_159 0 37 (dk_at dksX2_reaches_0 14 rfl rfl)
theorem dX2_reaches_17 : decode cX2_reaches 17 = .ok (.aload_n 1, 1) := dk_43 (dk_at dksX2_reaches_0 17 rfl rfl)
theorem dX2_reaches_18 : decode cX2_reaches 18 = .ok (.getfield 92, 3) := dk_180 0 92 (dk_at dksX2_reaches_0 18 rfl rfl)
theorem dX2_reaches_21 : decode cX2_reaches 21 = .ok (.aload_n 1, 1) := dk_43 (dk_at dksX2_reaches_0 21 rfl rfl)
theorem dX2_reaches_22 : decode cX2_reaches 22 = .ok (.getfield 89, 3) := dk_180 0 89 (dk_at dksX2_reaches_1 0 rfl rfl)
theorem dX2_reaches_25 : decode cX2_reaches 25 = .ok (.iload_n 2, 1) := dk_28 (dk_at dksX2_reaches_1 3 rfl rfl)
theorem dX2_reaches_26 : decode cX2_reaches 26 = .ok (.invokevirtual 96, 3) := dk_182 0 96 (dk_at dksX2_reaches_1 4 rfl rfl)
theorem dX2_reaches_29 : decode cX2_reaches 29 = .ok (.ifCond .eq 26, 3) := dk_153 0 26 (dk_at dksX2_reaches_1 7 rfl rfl)
theorem dX2_reaches_32 : decode cX2_reaches 32 = .ok (.aload_n 0, 1) := dk_42 (dk_at dksX2_reaches_1 10 rfl rfl)
theorem dX2_reaches_33 : decode cX2_reaches 33 = .ok (.aload_n 1, 1) := dk_43 (dk_at dksX2_reaches_1 11 rfl rfl)
theorem dX2_reaches_34 : decode cX2_reaches 34 = .ok (.getfield 89, 3) := dk_180 0 89 (dk_at dksX2_reaches_1 12 rfl rfl)
theorem dX2_reaches_37 : decode cX2_reaches 37 = .ok (.iload_n 2, 1) := dk_28 (dk_at dksX2_reaches_1 15 rfl rfl)
theorem dX2_reaches_38 : decode cX2_reaches 38 = .ok (.invokevirtual 102, 3) := dk_182 0 102 (dk_at dksX2_reaches_1 16 rfl rfl)
theorem dX2_reaches_41 : decode cX2_reaches 41 = .ok (.aload_n 1, 1) := dk_43 (dk_at dksX2_reaches_1 19 rfl rfl)
theorem dX2_reaches_42 : decode cX2_reaches 42 = .ok (.getfield 62, 3) := dk_180 0 62 (dk_at dksX2_reaches_1 20 rfl rfl)
theorem dX2_reaches_45 : decode cX2_reaches 45 = .ok (.getfield 106, 3) := dk_180 0 106 (dk_at dksX2_reaches_2 0 rfl rfl)
theorem dX2_reaches_48 : decode cX2_reaches 48 = .ok (.if_icmp .gt 7, 3) := dk_163 0 7 (dk_at dksX2_reaches_2 3 rfl rfl)
theorem dX2_reaches_51 : decode cX2_reaches 51 = .ok (.iconst 1, 1) := dk_4 (dk_at dksX2_reaches_2 6 rfl rfl)
theorem dX2_reaches_52 : decode cX2_reaches 52 = .ok (.goto 4, 3) := dk_167 0 4 (dk_at dksX2_reaches_2 7 rfl rfl)
theorem dX2_reaches_55 : decode cX2_reaches 55 = .ok (.iconst 0, 1) := dk_3 (dk_at dksX2_reaches_2 10 rfl rfl)
theorem dX2_reaches_56 : decode cX2_reaches 56 = .ok (.ireturn, 1) := dk_172 (dk_at dksX2_reaches_2 11 rfl rfl)
abbrev cX2_cost : ByteArray := prog_10_method_4_code
def yX2_cost : MethodName := ⟨RX2, "cost", "(II)I"⟩
def dkwX2_cost_2 : List UInt8 := [172]
abbrev dktX2_cost_2 : List UInt8 := dkwX2_cost_2 ++ []
def dkwX2_cost_1 : List UInt8 := [21, 4, 42, 21, 5, 29, 96, 182, 0, 85, 96, 54, 4, 21, 5, 29, 96, 54, 5, 167, 255, 231, 21, 4]
abbrev dktX2_cost_1 : List UInt8 := dkwX2_cost_1 ++ dktX2_cost_2
def dkwX2_cost_0 : List UInt8 := [28, 27, 162, 0, 7, 2, 167, 0, 4, 4, 62, 3, 54, 4, 27, 54, 5, 21, 5, 28, 159, 0, 25]
abbrev dktX2_cost_0 : List UInt8 := dkwX2_cost_0 ++ dktX2_cost_1
theorem dksX2_cost_0 : cX2_cost.data.toList.drop 0 = dktX2_cost_0 := by decide +kernel
theorem dksX2_cost_1 : cX2_cost.data.toList.drop 23 = dktX2_cost_1 := dk_seg dksX2_cost_0 23 rfl rfl
theorem dksX2_cost_2 : cX2_cost.data.toList.drop 47 = dktX2_cost_2 := dk_seg dksX2_cost_1 24 rfl rfl
theorem dX2_cost_0 : decode cX2_cost 0 = .ok (.iload_n 2, 1) := dk_28 (dk_at dksX2_cost_0 0 rfl rfl)
theorem dX2_cost_1 : decode cX2_cost 1 = .ok (.iload_n 1, 1) := dk_27 (dk_at dksX2_cost_0 1 rfl rfl)
theorem dX2_cost_2 : decode cX2_cost 2 = .ok (.if_icmp .ge 7, 3) := dk_162 0 7 (dk_at dksX2_cost_0 2 rfl rfl)
theorem dX2_cost_5 : decode cX2_cost 5 = .ok (.iconst (-1), 1) := dk_2 (dk_at dksX2_cost_0 5 rfl rfl)
theorem dX2_cost_6 : decode cX2_cost 6 = .ok (.goto 4, 3) := dk_167 0 4 (dk_at dksX2_cost_0 6 rfl rfl)
theorem dX2_cost_9 : decode cX2_cost 9 = .ok (.iconst 1, 1) := dk_4 (dk_at dksX2_cost_0 9 rfl rfl)
theorem dX2_cost_10 : decode cX2_cost 10 = .ok (.istore_n 3, 1) := dk_62 (dk_at dksX2_cost_0 10 rfl rfl)
theorem dX2_cost_11 : decode cX2_cost 11 = .ok (.iconst 0, 1) := dk_3 (dk_at dksX2_cost_0 11 rfl rfl)
theorem dX2_cost_12 : decode cX2_cost 12 = .ok (.istore 4, 2) := dk_54 4 (dk_at dksX2_cost_0 12 rfl rfl)
theorem dX2_cost_14 : decode cX2_cost 14 = .ok (.iload_n 1, 1) := dk_27 (dk_at dksX2_cost_0 14 rfl rfl)
theorem dX2_cost_15 : decode cX2_cost 15 = .ok (.istore 5, 2) := dk_54 5 (dk_at dksX2_cost_0 15 rfl rfl)
theorem dX2_cost_17 : decode cX2_cost 17 = .ok (.iload 5, 2) := dk_21 5 (dk_at dksX2_cost_0 17 rfl rfl)
theorem dX2_cost_19 : decode cX2_cost 19 = .ok (.iload_n 2, 1) := dk_28 (dk_at dksX2_cost_0 19 rfl rfl)
theorem dX2_cost_20 : decode cX2_cost 20 = .ok (.if_icmp .eq 25, 3) := dk_159 0 25 (dk_at dksX2_cost_0 20 rfl rfl)
theorem dX2_cost_23 : decode cX2_cost 23 = .ok (.iload 4, 2) := dk_21 4 (dk_at dksX2_cost_1 0 rfl rfl)
theorem dX2_cost_25 : decode cX2_cost 25 = .ok (.aload_n 0, 1) := dk_42 (dk_at dksX2_cost_1 2 rfl rfl)
theorem dX2_cost_26 : decode cX2_cost 26 = .ok (.iload 5, 2) := dk_21 5 (dk_at dksX2_cost_1 3 rfl rfl)
theorem dX2_cost_28 : decode cX2_cost 28 = .ok (.iload_n 3, 1) := dk_29 (dk_at dksX2_cost_1 5 rfl rfl)
theorem dX2_cost_29 : decode cX2_cost 29 = .ok (.iadd, 1) := dk_96 (dk_at dksX2_cost_1 6 rfl rfl)
theorem dX2_cost_30 : decode cX2_cost 30 = .ok (.invokevirtual 85, 3) := dk_182 0 85 (dk_at dksX2_cost_1 7 rfl rfl)
theorem dX2_cost_33 : decode cX2_cost 33 = .ok (.iadd, 1) := dk_96 (dk_at dksX2_cost_1 10 rfl rfl)
theorem dX2_cost_34 : decode cX2_cost 34 = .ok (.istore 4, 2) := dk_54 4 (dk_at dksX2_cost_1 11 rfl rfl)
theorem dX2_cost_36 : decode cX2_cost 36 = .ok (.iload 5, 2) := dk_21 5 (dk_at dksX2_cost_1 13 rfl rfl)
theorem dX2_cost_38 : decode cX2_cost 38 = .ok (.iload_n 3, 1) := dk_29 (dk_at dksX2_cost_1 15 rfl rfl)
theorem dX2_cost_39 : decode cX2_cost 39 = .ok (.iadd, 1) := dk_96 (dk_at dksX2_cost_1 16 rfl rfl)
theorem dX2_cost_40 : decode cX2_cost 40 = .ok (.istore 5, 2) := dk_54 5 (dk_at dksX2_cost_1 17 rfl rfl)
theorem dX2_cost_42 : decode cX2_cost 42 = .ok (.goto (-25), 3) := dk_167 255 231 (dk_at dksX2_cost_1 19 rfl rfl)
theorem dX2_cost_45 : decode cX2_cost 45 = .ok (.iload 4, 2) := dk_21 4 (dk_at dksX2_cost_1 22 rfl rfl)
theorem dX2_cost_47 : decode cX2_cost 47 = .ok (.ireturn, 1) := dk_172 (dk_at dksX2_cost_2 0 rfl rfl)
abbrev cX2_costOf : ByteArray := prog_10_method_3_code
def yX2_costOf : MethodName := ⟨RX2, "costOf", "(I)I"⟩
def dkwX2_costOf_0 : List UInt8 := [4, 42, 180, 0, 28, 27, 16, 10, 108, 46, 96, 172]
abbrev dktX2_costOf_0 : List UInt8 := dkwX2_costOf_0 ++ []
theorem dksX2_costOf_0 : cX2_costOf.data.toList.drop 0 = dktX2_costOf_0 := by decide +kernel
theorem dX2_costOf_0 : decode cX2_costOf 0 = .ok (.iconst 1, 1) := dk_4 (dk_at dksX2_costOf_0 0 rfl rfl)
theorem dX2_costOf_1 : decode cX2_costOf 1 = .ok (.aload_n 0, 1) := dk_42 (dk_at dksX2_costOf_0 1 rfl rfl)
theorem dX2_costOf_2 : decode cX2_costOf 2 = .ok (.getfield 28, 3) := dk_180 0 28 (dk_at dksX2_costOf_0 2 rfl rfl)
theorem dX2_costOf_5 : decode cX2_costOf 5 = .ok (.iload_n 1, 1) := dk_27 (dk_at dksX2_costOf_0 5 rfl rfl)
theorem dX2_costOf_6 : decode cX2_costOf 6 = .ok (.bipush 10, 2) := dk_16 10 (dk_at dksX2_costOf_0 6 rfl rfl)
theorem dX2_costOf_8 : decode cX2_costOf 8 = .ok (.idiv, 1) := dk_108 (dk_at dksX2_costOf_0 8 rfl rfl)
theorem dX2_costOf_9 : decode cX2_costOf 9 = .ok (.iaload, 1) := dk_46 (dk_at dksX2_costOf_0 9 rfl rfl)
theorem dX2_costOf_10 : decode cX2_costOf 10 = .ok (.iadd, 1) := dk_96 (dk_at dksX2_costOf_0 10 rfl rfl)
theorem dX2_costOf_11 : decode cX2_costOf 11 = .ok (.ireturn, 1) := dk_172 (dk_at dksX2_costOf_0 11 rfl rfl)
abbrev cX2_lit : ByteArray := prog_10_method_8_code
def yX2_lit : MethodName := ⟨RX2, "lit", "()I"⟩
def dkwX2_lit_2 : List UInt8 := [167, 255, 222, 27, 172]
abbrev dktX2_lit_2 : List UInt8 := dkwX2_lit_2 ++ []
def dkwX2_lit_1 : List UInt8 := [185, 0, 43, 1, 0, 192, 0, 57, 78, 27, 45, 180, 0, 133, 153, 0, 7, 4, 167, 0, 4, 3, 96, 60]
abbrev dktX2_lit_1 : List UInt8 := dkwX2_lit_1 ++ dktX2_lit_2
def dkwX2_lit_0 : List UInt8 := [3, 60, 42, 180, 0, 12, 182, 0, 33, 77, 44, 185, 0, 37, 1, 0, 153, 0, 31, 44]
abbrev dktX2_lit_0 : List UInt8 := dkwX2_lit_0 ++ dktX2_lit_1
theorem dksX2_lit_0 : cX2_lit.data.toList.drop 0 = dktX2_lit_0 := by decide +kernel
theorem dksX2_lit_1 : cX2_lit.data.toList.drop 20 = dktX2_lit_1 := dk_seg dksX2_lit_0 20 rfl rfl
theorem dksX2_lit_2 : cX2_lit.data.toList.drop 44 = dktX2_lit_2 := dk_seg dksX2_lit_1 24 rfl rfl
theorem dX2_lit_0 : decode cX2_lit 0 = .ok (.iconst 0, 1) := dk_3 (dk_at dksX2_lit_0 0 rfl rfl)
theorem dX2_lit_1 : decode cX2_lit 1 = .ok (.istore_n 1, 1) := dk_60 (dk_at dksX2_lit_0 1 rfl rfl)
theorem dX2_lit_2 : decode cX2_lit 2 = .ok (.aload_n 0, 1) := dk_42 (dk_at dksX2_lit_0 2 rfl rfl)
theorem dX2_lit_3 : decode cX2_lit 3 = .ok (.getfield 12, 3) := dk_180 0 12 (dk_at dksX2_lit_0 3 rfl rfl)
theorem dX2_lit_6 : decode cX2_lit 6 = .ok (.invokevirtual 33, 3) := dk_182 0 33 (dk_at dksX2_lit_0 6 rfl rfl)
theorem dX2_lit_9 : decode cX2_lit 9 = .ok (.astore_n 2, 1) := dk_77 (dk_at dksX2_lit_0 9 rfl rfl)
theorem dX2_lit_10 : decode cX2_lit 10 = .ok (.aload_n 2, 1) := dk_44 (dk_at dksX2_lit_0 10 rfl rfl)
theorem dX2_lit_11 : decode cX2_lit 11 = .ok (.invokeinterface 37 1, 5) := by decide +kernel
theorem dX2_lit_16 : decode cX2_lit 16 = .ok (.ifCond .eq 31, 3) := dk_153 0 31 (dk_at dksX2_lit_0 16 rfl rfl)
theorem dX2_lit_19 : decode cX2_lit 19 = .ok (.aload_n 2, 1) := dk_44 (dk_at dksX2_lit_0 19 rfl rfl)
theorem dX2_lit_20 : decode cX2_lit 20 = .ok (.invokeinterface 43 1, 5) := by decide +kernel
theorem dX2_lit_25 : decode cX2_lit 25 = .ok (.checkcast 57, 3) := dk_192 0 57 (dk_at dksX2_lit_1 5 rfl rfl)
theorem dX2_lit_28 : decode cX2_lit 28 = .ok (.astore_n 3, 1) := dk_78 (dk_at dksX2_lit_1 8 rfl rfl)
theorem dX2_lit_29 : decode cX2_lit 29 = .ok (.iload_n 1, 1) := dk_27 (dk_at dksX2_lit_1 9 rfl rfl)
theorem dX2_lit_30 : decode cX2_lit 30 = .ok (.aload_n 3, 1) := dk_45 (dk_at dksX2_lit_1 10 rfl rfl)
theorem dX2_lit_31 : decode cX2_lit 31 = .ok (.getfield 133, 3) := dk_180 0 133 (dk_at dksX2_lit_1 11 rfl rfl)
theorem dX2_lit_34 : decode cX2_lit 34 = .ok (.ifCond .eq 7, 3) := dk_153 0 7 (dk_at dksX2_lit_1 14 rfl rfl)
theorem dX2_lit_37 : decode cX2_lit 37 = .ok (.iconst 1, 1) := dk_4 (dk_at dksX2_lit_1 17 rfl rfl)
theorem dX2_lit_38 : decode cX2_lit 38 = .ok (.goto 4, 3) := dk_167 0 4 (dk_at dksX2_lit_1 18 rfl rfl)
theorem dX2_lit_41 : decode cX2_lit 41 = .ok (.iconst 0, 1) := dk_3 (dk_at dksX2_lit_1 21 rfl rfl)
theorem dX2_lit_42 : decode cX2_lit 42 = .ok (.iadd, 1) := dk_96 (dk_at dksX2_lit_1 22 rfl rfl)
theorem dX2_lit_43 : decode cX2_lit 43 = .ok (.istore_n 1, 1) := dk_60 (dk_at dksX2_lit_1 23 rfl rfl)
theorem dX2_lit_44 : decode cX2_lit 44 = .ok (.goto (-34), 3) := dk_167 255 222 (dk_at dksX2_lit_2 0 rfl rfl)
theorem dX2_lit_47 : decode cX2_lit 47 = .ok (.iload_n 1, 1) := dk_27 (dk_at dksX2_lit_2 3 rfl rfl)
theorem dX2_lit_48 : decode cX2_lit 48 = .ok (.ireturn, 1) := dk_172 (dk_at dksX2_lit_2 4 rfl rfl)
abbrev cX2_whyNotFitted : ByteArray := prog_10_method_17_code
def yX2_whyNotFitted : MethodName := ⟨RX2, "whyNotFitted", "()LSkerryLights$Refusal;"⟩
def dkwX2_whyNotFitted_1 : List UInt8 := [176]
abbrev dktX2_whyNotFitted_1 : List UInt8 := dkwX2_whyNotFitted_1 ++ []
def dkwX2_whyNotFitted_0 : List UInt8 := [42, 180, 0, 24, 182, 0, 169, 153, 0, 16, 187, 0, 164, 89, 16, 8, 3, 183, 0, 166, 167, 0, 4, 1]
abbrev dktX2_whyNotFitted_0 : List UInt8 := dkwX2_whyNotFitted_0 ++ dktX2_whyNotFitted_1
theorem dksX2_whyNotFitted_0 : cX2_whyNotFitted.data.toList.drop 0 = dktX2_whyNotFitted_0 := by decide +kernel
theorem dksX2_whyNotFitted_1 : cX2_whyNotFitted.data.toList.drop 24 = dktX2_whyNotFitted_1 := dk_seg dksX2_whyNotFitted_0 24 rfl rfl
theorem dX2_whyNotFitted_0 : decode cX2_whyNotFitted 0 = .ok (.aload_n 0, 1) := dk_42 (dk_at dksX2_whyNotFitted_0 0 rfl rfl)
theorem dX2_whyNotFitted_1 : decode cX2_whyNotFitted 1 = .ok (.getfield 24, 3) := dk_180 0 24 (dk_at dksX2_whyNotFitted_0 1 rfl rfl)
theorem dX2_whyNotFitted_4 : decode cX2_whyNotFitted 4 = .ok (.invokevirtual 169, 3) := dk_182 0 169 (dk_at dksX2_whyNotFitted_0 4 rfl rfl)
theorem dX2_whyNotFitted_7 : decode cX2_whyNotFitted 7 = .ok (.ifCond .eq 16, 3) := dk_153 0 16 (dk_at dksX2_whyNotFitted_0 7 rfl rfl)
theorem dX2_whyNotFitted_10 : decode cX2_whyNotFitted 10 = .ok (.new 164, 3) := dk_187 0 164 (dk_at dksX2_whyNotFitted_0 10 rfl rfl)
theorem dX2_whyNotFitted_13 : decode cX2_whyNotFitted 13 = .ok (.dup, 1) := dk_89 (dk_at dksX2_whyNotFitted_0 13 rfl rfl)
theorem dX2_whyNotFitted_14 : decode cX2_whyNotFitted 14 = .ok (.bipush 8, 2) := dk_16 8 (dk_at dksX2_whyNotFitted_0 14 rfl rfl)
theorem dX2_whyNotFitted_16 : decode cX2_whyNotFitted 16 = .ok (.iconst 0, 1) := dk_3 (dk_at dksX2_whyNotFitted_0 16 rfl rfl)
theorem dX2_whyNotFitted_17 : decode cX2_whyNotFitted 17 = .ok (.invokespecial 166, 3) := dk_183 0 166 (dk_at dksX2_whyNotFitted_0 17 rfl rfl)
theorem dX2_whyNotFitted_20 : decode cX2_whyNotFitted 20 = .ok (.goto 4, 3) := dk_167 0 4 (dk_at dksX2_whyNotFitted_0 20 rfl rfl)
theorem dX2_whyNotFitted_23 : decode cX2_whyNotFitted 23 = .ok (.aconst_null, 1) := dk_1 (dk_at dksX2_whyNotFitted_0 23 rfl rfl)
theorem dX2_whyNotFitted_24 : decode cX2_whyNotFitted 24 = .ok (.areturn, 1) := dk_176 (dk_at dksX2_whyNotFitted_1 0 rfl rfl)
abbrev cX2_fit : ByteArray := prog_10_method_19_code
def yX2_fit : MethodName := ⟨RX2, "fit", "(LSkerryLights$Tower;)I"⟩
def dkwX2_fit_1 : List UInt8 := [180, 0, 62, 182, 0, 175, 43, 44, 181, 0, 62, 44, 180, 0, 66, 172]
abbrev dktX2_fit_1 : List UInt8 := dkwX2_fit_1 ++ []
def dkwX2_fit_0 : List UInt8 := [42, 180, 0, 24, 182, 0, 172, 192, 0, 47, 77, 43, 180, 0, 62, 198, 0, 14, 42, 180, 0, 24, 43]
abbrev dktX2_fit_0 : List UInt8 := dkwX2_fit_0 ++ dktX2_fit_1
theorem dksX2_fit_0 : cX2_fit.data.toList.drop 0 = dktX2_fit_0 := by decide +kernel
theorem dksX2_fit_1 : cX2_fit.data.toList.drop 23 = dktX2_fit_1 := dk_seg dksX2_fit_0 23 rfl rfl
theorem dX2_fit_0 : decode cX2_fit 0 = .ok (.aload_n 0, 1) := dk_42 (dk_at dksX2_fit_0 0 rfl rfl)
theorem dX2_fit_1 : decode cX2_fit 1 = .ok (.getfield 24, 3) := dk_180 0 24 (dk_at dksX2_fit_0 1 rfl rfl)
theorem dX2_fit_4 : decode cX2_fit 4 = .ok (.invokevirtual 172, 3) := dk_182 0 172 (dk_at dksX2_fit_0 4 rfl rfl)
theorem dX2_fit_7 : decode cX2_fit 7 = .ok (.checkcast 47, 3) := dk_192 0 47 (dk_at dksX2_fit_0 7 rfl rfl)
theorem dX2_fit_10 : decode cX2_fit 10 = .ok (.astore_n 2, 1) := dk_77 (dk_at dksX2_fit_0 10 rfl rfl)
theorem dX2_fit_11 : decode cX2_fit 11 = .ok (.aload_n 1, 1) := dk_43 (dk_at dksX2_fit_0 11 rfl rfl)
theorem dX2_fit_12 : decode cX2_fit 12 = .ok (.getfield 62, 3) := dk_180 0 62 (dk_at dksX2_fit_0 12 rfl rfl)
theorem dX2_fit_15 : decode cX2_fit 15 = .ok (.ifnull 14, 3) := dk_198 0 14 (dk_at dksX2_fit_0 15 rfl rfl)
theorem dX2_fit_18 : decode cX2_fit 18 = .ok (.aload_n 0, 1) := dk_42 (dk_at dksX2_fit_0 18 rfl rfl)
theorem dX2_fit_19 : decode cX2_fit 19 = .ok (.getfield 24, 3) := dk_180 0 24 (dk_at dksX2_fit_0 19 rfl rfl)
theorem dX2_fit_22 : decode cX2_fit 22 = .ok (.aload_n 1, 1) := dk_43 (dk_at dksX2_fit_0 22 rfl rfl)
theorem dX2_fit_23 : decode cX2_fit 23 = .ok (.getfield 62, 3) := dk_180 0 62 (dk_at dksX2_fit_1 0 rfl rfl)
theorem dX2_fit_26 : decode cX2_fit 26 = .ok (.invokevirtual 175, 3) := dk_182 0 175 (dk_at dksX2_fit_1 3 rfl rfl)
theorem dX2_fit_29 : decode cX2_fit 29 = .ok (.aload_n 1, 1) := dk_43 (dk_at dksX2_fit_1 6 rfl rfl)
theorem dX2_fit_30 : decode cX2_fit 30 = .ok (.aload_n 2, 1) := dk_44 (dk_at dksX2_fit_1 7 rfl rfl)
theorem dX2_fit_31 : decode cX2_fit 31 = .ok (.putfield 62, 3) := dk_181 0 62 (dk_at dksX2_fit_1 8 rfl rfl)
theorem dX2_fit_34 : decode cX2_fit 34 = .ok (.aload_n 2, 1) := dk_44 (dk_at dksX2_fit_1 11 rfl rfl)
theorem dX2_fit_35 : decode cX2_fit 35 = .ok (.getfield 66, 3) := dk_180 0 66 (dk_at dksX2_fit_1 12 rfl rfl)
theorem dX2_fit_38 : decode cX2_fit 38 = .ok (.ireturn, 1) := dk_172 (dk_at dksX2_fit_1 15 rfl rfl)
abbrev cX2_whyNotLit : ByteArray := prog_10_method_13_code
def yX2_whyNotLit : MethodName := ⟨RX2, "whyNotLit", "(LSkerryLights$Tower;)LSkerryLights$Refusal;"⟩
def dkwX2_whyNotLit_5 : List UInt8 := [153, 0, 17, 187, 0, 164, 89, 16, 6, 45, 180, 0, 137, 183, 0, 166, 176, 167, 255, 207, 1, 176]
abbrev dktX2_whyNotLit_5 : List UInt8 := dkwX2_whyNotLit_5 ++ []
def dkwX2_whyNotLit_4 : List UInt8 := [185, 0, 43, 1, 0, 192, 0, 57, 78, 45, 180, 0, 133, 153, 0, 26, 42, 43, 45, 182, 0, 138]
abbrev dktX2_whyNotLit_4 : List UInt8 := dkwX2_whyNotLit_4 ++ dktX2_whyNotLit_5
def dkwX2_whyNotLit_3 : List UInt8 := [183, 0, 166, 176, 42, 180, 0, 12, 182, 0, 33, 77, 44, 185, 0, 37, 1, 0, 153, 0, 46, 44]
abbrev dktX2_whyNotLit_3 : List UInt8 := dkwX2_whyNotLit_3 ++ dktX2_whyNotLit_4
def dkwX2_whyNotLit_2 : List UInt8 := [187, 0, 164, 89, 8, 43, 180, 0, 62, 199, 0, 7, 2, 167, 0, 10, 43, 180, 0, 62, 180, 0, 106]
abbrev dktX2_whyNotLit_2 : List UInt8 := dkwX2_whyNotLit_2 ++ dktX2_whyNotLit_3
def dkwX2_whyNotLit_1 : List UInt8 := [153, 0, 16, 187, 0, 164, 89, 6, 43, 180, 0, 137, 183, 0, 166, 176, 43, 182, 0, 142, 153, 0, 30]
abbrev dktX2_whyNotLit_1 : List UInt8 := dkwX2_whyNotLit_1 ++ dktX2_whyNotLit_2
def dkwX2_whyNotLit_0 : List UInt8 := [43, 180, 0, 161, 153, 0, 16, 187, 0, 164, 89, 5, 43, 180, 0, 137, 183, 0, 166, 176, 43, 180, 0, 133]
abbrev dktX2_whyNotLit_0 : List UInt8 := dkwX2_whyNotLit_0 ++ dktX2_whyNotLit_1
theorem dksX2_whyNotLit_0 : cX2_whyNotLit.data.toList.drop 0 = dktX2_whyNotLit_0 := by decide +kernel
theorem dksX2_whyNotLit_1 : cX2_whyNotLit.data.toList.drop 24 = dktX2_whyNotLit_1 := dk_seg dksX2_whyNotLit_0 24 rfl rfl
theorem dksX2_whyNotLit_2 : cX2_whyNotLit.data.toList.drop 47 = dktX2_whyNotLit_2 := dk_seg dksX2_whyNotLit_1 23 rfl rfl
theorem dksX2_whyNotLit_3 : cX2_whyNotLit.data.toList.drop 70 = dktX2_whyNotLit_3 := dk_seg dksX2_whyNotLit_2 23 rfl rfl
theorem dksX2_whyNotLit_4 : cX2_whyNotLit.data.toList.drop 92 = dktX2_whyNotLit_4 := dk_seg dksX2_whyNotLit_3 22 rfl rfl
theorem dksX2_whyNotLit_5 : cX2_whyNotLit.data.toList.drop 114 = dktX2_whyNotLit_5 := dk_seg dksX2_whyNotLit_4 22 rfl rfl
theorem dX2_whyNotLit_0 : decode cX2_whyNotLit 0 = .ok (.aload_n 1, 1) := dk_43 (dk_at dksX2_whyNotLit_0 0 rfl rfl)
theorem dX2_whyNotLit_1 : decode cX2_whyNotLit 1 = .ok (.getfield 161, 3) := dk_180 0 161 (dk_at dksX2_whyNotLit_0 1 rfl rfl)
theorem dX2_whyNotLit_4 : decode cX2_whyNotLit 4 = .ok (.ifCond .eq 16, 3) := dk_153 0 16 (dk_at dksX2_whyNotLit_0 4 rfl rfl)
theorem dX2_whyNotLit_7 : decode cX2_whyNotLit 7 = .ok (.new 164, 3) := dk_187 0 164 (dk_at dksX2_whyNotLit_0 7 rfl rfl)
theorem dX2_whyNotLit_10 : decode cX2_whyNotLit 10 = .ok (.dup, 1) := dk_89 (dk_at dksX2_whyNotLit_0 10 rfl rfl)
theorem dX2_whyNotLit_11 : decode cX2_whyNotLit 11 = .ok (.iconst 2, 1) := dk_5 (dk_at dksX2_whyNotLit_0 11 rfl rfl)
theorem dX2_whyNotLit_12 : decode cX2_whyNotLit 12 = .ok (.aload_n 1, 1) := dk_43 (dk_at dksX2_whyNotLit_0 12 rfl rfl)
theorem dX2_whyNotLit_13 : decode cX2_whyNotLit 13 = .ok (.getfield 137, 3) := dk_180 0 137 (dk_at dksX2_whyNotLit_0 13 rfl rfl)
theorem dX2_whyNotLit_16 : decode cX2_whyNotLit 16 = .ok (.invokespecial 166, 3) := dk_183 0 166 (dk_at dksX2_whyNotLit_0 16 rfl rfl)
theorem dX2_whyNotLit_19 : decode cX2_whyNotLit 19 = .ok (.areturn, 1) := dk_176 (dk_at dksX2_whyNotLit_0 19 rfl rfl)
theorem dX2_whyNotLit_20 : decode cX2_whyNotLit 20 = .ok (.aload_n 1, 1) := dk_43 (dk_at dksX2_whyNotLit_0 20 rfl rfl)
theorem dX2_whyNotLit_21 : decode cX2_whyNotLit 21 = .ok (.getfield 133, 3) := dk_180 0 133 (dk_at dksX2_whyNotLit_0 21 rfl rfl)
theorem dX2_whyNotLit_24 : decode cX2_whyNotLit 24 = .ok (.ifCond .eq 16, 3) := dk_153 0 16 (dk_at dksX2_whyNotLit_1 0 rfl rfl)
theorem dX2_whyNotLit_27 : decode cX2_whyNotLit 27 = .ok (.new 164, 3) := dk_187 0 164 (dk_at dksX2_whyNotLit_1 3 rfl rfl)
theorem dX2_whyNotLit_30 : decode cX2_whyNotLit 30 = .ok (.dup, 1) := dk_89 (dk_at dksX2_whyNotLit_1 6 rfl rfl)
theorem dX2_whyNotLit_31 : decode cX2_whyNotLit 31 = .ok (.iconst 3, 1) := dk_6 (dk_at dksX2_whyNotLit_1 7 rfl rfl)
theorem dX2_whyNotLit_32 : decode cX2_whyNotLit 32 = .ok (.aload_n 1, 1) := dk_43 (dk_at dksX2_whyNotLit_1 8 rfl rfl)
theorem dX2_whyNotLit_33 : decode cX2_whyNotLit 33 = .ok (.getfield 137, 3) := dk_180 0 137 (dk_at dksX2_whyNotLit_1 9 rfl rfl)
theorem dX2_whyNotLit_36 : decode cX2_whyNotLit 36 = .ok (.invokespecial 166, 3) := dk_183 0 166 (dk_at dksX2_whyNotLit_1 12 rfl rfl)
theorem dX2_whyNotLit_39 : decode cX2_whyNotLit 39 = .ok (.areturn, 1) := dk_176 (dk_at dksX2_whyNotLit_1 15 rfl rfl)
theorem dX2_whyNotLit_40 : decode cX2_whyNotLit 40 = .ok (.aload_n 1, 1) := dk_43 (dk_at dksX2_whyNotLit_1 16 rfl rfl)
theorem dX2_whyNotLit_41 : decode cX2_whyNotLit 41 = .ok (.invokevirtual 142, 3) := dk_182 0 142 (dk_at dksX2_whyNotLit_1 17 rfl rfl)
theorem dX2_whyNotLit_44 : decode cX2_whyNotLit 44 = .ok (.ifCond .eq 30, 3) := dk_153 0 30 (dk_at dksX2_whyNotLit_1 20 rfl rfl)
theorem dX2_whyNotLit_47 : decode cX2_whyNotLit 47 = .ok (.new 164, 3) := dk_187 0 164 (dk_at dksX2_whyNotLit_2 0 rfl rfl)
theorem dX2_whyNotLit_50 : decode cX2_whyNotLit 50 = .ok (.dup, 1) := dk_89 (dk_at dksX2_whyNotLit_2 3 rfl rfl)
theorem dX2_whyNotLit_51 : decode cX2_whyNotLit 51 = .ok (.iconst 5, 1) := dk_8 (dk_at dksX2_whyNotLit_2 4 rfl rfl)
theorem dX2_whyNotLit_52 : decode cX2_whyNotLit 52 = .ok (.aload_n 1, 1) := dk_43 (dk_at dksX2_whyNotLit_2 5 rfl rfl)
theorem dX2_whyNotLit_53 : decode cX2_whyNotLit 53 = .ok (.getfield 62, 3) := dk_180 0 62 (dk_at dksX2_whyNotLit_2 6 rfl rfl)
theorem dX2_whyNotLit_56 : decode cX2_whyNotLit 56 = .ok (.ifnonnull 7, 3) := dk_199 0 7 (dk_at dksX2_whyNotLit_2 9 rfl rfl)
theorem dX2_whyNotLit_59 : decode cX2_whyNotLit 59 = .ok (.iconst (-1), 1) := dk_2 (dk_at dksX2_whyNotLit_2 12 rfl rfl)
theorem dX2_whyNotLit_60 : decode cX2_whyNotLit 60 = .ok (.goto 10, 3) := dk_167 0 10 (dk_at dksX2_whyNotLit_2 13 rfl rfl)
theorem dX2_whyNotLit_63 : decode cX2_whyNotLit 63 = .ok (.aload_n 1, 1) := dk_43 (dk_at dksX2_whyNotLit_2 16 rfl rfl)
theorem dX2_whyNotLit_64 : decode cX2_whyNotLit 64 = .ok (.getfield 62, 3) := dk_180 0 62 (dk_at dksX2_whyNotLit_2 17 rfl rfl)
theorem dX2_whyNotLit_67 : decode cX2_whyNotLit 67 = .ok (.getfield 106, 3) := dk_180 0 106 (dk_at dksX2_whyNotLit_2 20 rfl rfl)
theorem dX2_whyNotLit_70 : decode cX2_whyNotLit 70 = .ok (.invokespecial 166, 3) := dk_183 0 166 (dk_at dksX2_whyNotLit_3 0 rfl rfl)
theorem dX2_whyNotLit_73 : decode cX2_whyNotLit 73 = .ok (.areturn, 1) := dk_176 (dk_at dksX2_whyNotLit_3 3 rfl rfl)
theorem dX2_whyNotLit_74 : decode cX2_whyNotLit 74 = .ok (.aload_n 0, 1) := dk_42 (dk_at dksX2_whyNotLit_3 4 rfl rfl)
theorem dX2_whyNotLit_75 : decode cX2_whyNotLit 75 = .ok (.getfield 12, 3) := dk_180 0 12 (dk_at dksX2_whyNotLit_3 5 rfl rfl)
theorem dX2_whyNotLit_78 : decode cX2_whyNotLit 78 = .ok (.invokevirtual 33, 3) := dk_182 0 33 (dk_at dksX2_whyNotLit_3 8 rfl rfl)
theorem dX2_whyNotLit_81 : decode cX2_whyNotLit 81 = .ok (.astore_n 2, 1) := dk_77 (dk_at dksX2_whyNotLit_3 11 rfl rfl)
theorem dX2_whyNotLit_82 : decode cX2_whyNotLit 82 = .ok (.aload_n 2, 1) := dk_44 (dk_at dksX2_whyNotLit_3 12 rfl rfl)
theorem dX2_whyNotLit_83 : decode cX2_whyNotLit 83 = .ok (.invokeinterface 37 1, 5) := by decide +kernel
theorem dX2_whyNotLit_88 : decode cX2_whyNotLit 88 = .ok (.ifCond .eq 46, 3) := dk_153 0 46 (dk_at dksX2_whyNotLit_3 18 rfl rfl)
theorem dX2_whyNotLit_91 : decode cX2_whyNotLit 91 = .ok (.aload_n 2, 1) := dk_44 (dk_at dksX2_whyNotLit_3 21 rfl rfl)
theorem dX2_whyNotLit_92 : decode cX2_whyNotLit 92 = .ok (.invokeinterface 43 1, 5) := by decide +kernel
theorem dX2_whyNotLit_97 : decode cX2_whyNotLit 97 = .ok (.checkcast 57, 3) := dk_192 0 57 (dk_at dksX2_whyNotLit_4 5 rfl rfl)
theorem dX2_whyNotLit_100 : decode cX2_whyNotLit 100 = .ok (.astore_n 3, 1) := dk_78 (dk_at dksX2_whyNotLit_4 8 rfl rfl)
theorem dX2_whyNotLit_101 : decode cX2_whyNotLit 101 = .ok (.aload_n 3, 1) := dk_45 (dk_at dksX2_whyNotLit_4 9 rfl rfl)
theorem dX2_whyNotLit_102 : decode cX2_whyNotLit 102 = .ok (.getfield 133, 3) := dk_180 0 133 (dk_at dksX2_whyNotLit_4 10 rfl rfl)
theorem dX2_whyNotLit_105 : decode cX2_whyNotLit 105 = .ok (.ifCond .eq 26, 3) := dk_153 0 26 (dk_at dksX2_whyNotLit_4 13 rfl rfl)
theorem dX2_whyNotLit_108 : decode cX2_whyNotLit 108 = .ok (.aload_n 0, 1) := dk_42 (dk_at dksX2_whyNotLit_4 16 rfl rfl)
theorem dX2_whyNotLit_109 : decode cX2_whyNotLit 109 = .ok (.aload_n 1, 1) := dk_43 (dk_at dksX2_whyNotLit_4 17 rfl rfl)
theorem dX2_whyNotLit_110 : decode cX2_whyNotLit 110 = .ok (.aload_n 3, 1) := dk_45 (dk_at dksX2_whyNotLit_4 18 rfl rfl)
theorem dX2_whyNotLit_111 : decode cX2_whyNotLit 111 = .ok (.invokevirtual 138, 3) := dk_182 0 138 (dk_at dksX2_whyNotLit_4 19 rfl rfl)
theorem dX2_whyNotLit_114 : decode cX2_whyNotLit 114 = .ok (.ifCond .eq 17, 3) := dk_153 0 17 (dk_at dksX2_whyNotLit_5 0 rfl rfl)
theorem dX2_whyNotLit_117 : decode cX2_whyNotLit 117 = .ok (.new 164, 3) := dk_187 0 164 (dk_at dksX2_whyNotLit_5 3 rfl rfl)
theorem dX2_whyNotLit_120 : decode cX2_whyNotLit 120 = .ok (.dup, 1) := dk_89 (dk_at dksX2_whyNotLit_5 6 rfl rfl)
theorem dX2_whyNotLit_121 : decode cX2_whyNotLit 121 = .ok (.bipush 6, 2) := dk_16 6 (dk_at dksX2_whyNotLit_5 7 rfl rfl)
theorem dX2_whyNotLit_123 : decode cX2_whyNotLit 123 = .ok (.aload_n 3, 1) := dk_45 (dk_at dksX2_whyNotLit_5 9 rfl rfl)
theorem dX2_whyNotLit_124 : decode cX2_whyNotLit 124 = .ok (.getfield 137, 3) := dk_180 0 137 (dk_at dksX2_whyNotLit_5 10 rfl rfl)
theorem dX2_whyNotLit_127 : decode cX2_whyNotLit 127 = .ok (.invokespecial 166, 3) := dk_183 0 166 (dk_at dksX2_whyNotLit_5 13 rfl rfl)
theorem dX2_whyNotLit_130 : decode cX2_whyNotLit 130 = .ok (.areturn, 1) := dk_176 (dk_at dksX2_whyNotLit_5 16 rfl rfl)
theorem dX2_whyNotLit_131 : decode cX2_whyNotLit 131 = .ok (.goto (-49), 3) := dk_167 255 207 (dk_at dksX2_whyNotLit_5 17 rfl rfl)
theorem dX2_whyNotLit_134 : decode cX2_whyNotLit 134 = .ok (.aconst_null, 1) := dk_1 (dk_at dksX2_whyNotLit_5 20 rfl rfl)
theorem dX2_whyNotLit_135 : decode cX2_whyNotLit 135 = .ok (.areturn, 1) := dk_176 (dk_at dksX2_whyNotLit_5 21 rfl rfl)
abbrev cX2_whyNotDark : ByteArray := prog_10_method_14_code
def yX2_whyNotDark : MethodName := ⟨RX2, "whyNotDark", "(LSkerryLights$Tower;)LSkerryLights$Refusal;"⟩
def dkwX2_whyNotDark_0 : List UInt8 := [43, 180, 0, 133, 153, 0, 7, 1, 167, 0, 15, 187, 0, 164, 89, 7, 43, 180, 0, 137, 183, 0, 166, 176]
abbrev dktX2_whyNotDark_0 : List UInt8 := dkwX2_whyNotDark_0 ++ []
theorem dksX2_whyNotDark_0 : cX2_whyNotDark.data.toList.drop 0 = dktX2_whyNotDark_0 := by decide +kernel
theorem dX2_whyNotDark_0 : decode cX2_whyNotDark 0 = .ok (.aload_n 1, 1) := dk_43 (dk_at dksX2_whyNotDark_0 0 rfl rfl)
theorem dX2_whyNotDark_1 : decode cX2_whyNotDark 1 = .ok (.getfield 133, 3) := dk_180 0 133 (dk_at dksX2_whyNotDark_0 1 rfl rfl)
theorem dX2_whyNotDark_4 : decode cX2_whyNotDark 4 = .ok (.ifCond .eq 7, 3) := dk_153 0 7 (dk_at dksX2_whyNotDark_0 4 rfl rfl)
theorem dX2_whyNotDark_7 : decode cX2_whyNotDark 7 = .ok (.aconst_null, 1) := dk_1 (dk_at dksX2_whyNotDark_0 7 rfl rfl)
theorem dX2_whyNotDark_8 : decode cX2_whyNotDark 8 = .ok (.goto 15, 3) := dk_167 0 15 (dk_at dksX2_whyNotDark_0 8 rfl rfl)
theorem dX2_whyNotDark_11 : decode cX2_whyNotDark 11 = .ok (.new 164, 3) := dk_187 0 164 (dk_at dksX2_whyNotDark_0 11 rfl rfl)
theorem dX2_whyNotDark_14 : decode cX2_whyNotDark 14 = .ok (.dup, 1) := dk_89 (dk_at dksX2_whyNotDark_0 14 rfl rfl)
theorem dX2_whyNotDark_15 : decode cX2_whyNotDark 15 = .ok (.iconst 4, 1) := dk_7 (dk_at dksX2_whyNotDark_0 15 rfl rfl)
theorem dX2_whyNotDark_16 : decode cX2_whyNotDark 16 = .ok (.aload_n 1, 1) := dk_43 (dk_at dksX2_whyNotDark_0 16 rfl rfl)
theorem dX2_whyNotDark_17 : decode cX2_whyNotDark 17 = .ok (.getfield 137, 3) := dk_180 0 137 (dk_at dksX2_whyNotDark_0 17 rfl rfl)
theorem dX2_whyNotDark_20 : decode cX2_whyNotDark 20 = .ok (.invokespecial 166, 3) := dk_183 0 166 (dk_at dksX2_whyNotDark_0 20 rfl rfl)
theorem dX2_whyNotDark_23 : decode cX2_whyNotDark 23 = .ok (.areturn, 1) := dk_176 (dk_at dksX2_whyNotDark_0 23 rfl rfl)
abbrev cX2_whyNotBroken : ByteArray := prog_10_method_15_code
def yX2_whyNotBroken : MethodName := ⟨RX2, "whyNotBroken", "(LSkerryLights$Tower;)LSkerryLights$Refusal;"⟩
def dkwX2_whyNotBroken_0 : List UInt8 := [43, 180, 0, 161, 153, 0, 18, 187, 0, 164, 89, 5, 43, 180, 0, 137, 183, 0, 166, 167, 0, 4, 1, 176]
abbrev dktX2_whyNotBroken_0 : List UInt8 := dkwX2_whyNotBroken_0 ++ []
theorem dksX2_whyNotBroken_0 : cX2_whyNotBroken.data.toList.drop 0 = dktX2_whyNotBroken_0 := by decide +kernel
theorem dX2_whyNotBroken_0 : decode cX2_whyNotBroken 0 = .ok (.aload_n 1, 1) := dk_43 (dk_at dksX2_whyNotBroken_0 0 rfl rfl)
theorem dX2_whyNotBroken_1 : decode cX2_whyNotBroken 1 = .ok (.getfield 161, 3) := dk_180 0 161 (dk_at dksX2_whyNotBroken_0 1 rfl rfl)
theorem dX2_whyNotBroken_4 : decode cX2_whyNotBroken 4 = .ok (.ifCond .eq 18, 3) := dk_153 0 18 (dk_at dksX2_whyNotBroken_0 4 rfl rfl)
theorem dX2_whyNotBroken_7 : decode cX2_whyNotBroken 7 = .ok (.new 164, 3) := dk_187 0 164 (dk_at dksX2_whyNotBroken_0 7 rfl rfl)
theorem dX2_whyNotBroken_10 : decode cX2_whyNotBroken 10 = .ok (.dup, 1) := dk_89 (dk_at dksX2_whyNotBroken_0 10 rfl rfl)
theorem dX2_whyNotBroken_11 : decode cX2_whyNotBroken 11 = .ok (.iconst 2, 1) := dk_5 (dk_at dksX2_whyNotBroken_0 11 rfl rfl)
theorem dX2_whyNotBroken_12 : decode cX2_whyNotBroken 12 = .ok (.aload_n 1, 1) := dk_43 (dk_at dksX2_whyNotBroken_0 12 rfl rfl)
theorem dX2_whyNotBroken_13 : decode cX2_whyNotBroken 13 = .ok (.getfield 137, 3) := dk_180 0 137 (dk_at dksX2_whyNotBroken_0 13 rfl rfl)
theorem dX2_whyNotBroken_16 : decode cX2_whyNotBroken 16 = .ok (.invokespecial 166, 3) := dk_183 0 166 (dk_at dksX2_whyNotBroken_0 16 rfl rfl)
theorem dX2_whyNotBroken_19 : decode cX2_whyNotBroken 19 = .ok (.goto 4, 3) := dk_167 0 4 (dk_at dksX2_whyNotBroken_0 19 rfl rfl)
theorem dX2_whyNotBroken_22 : decode cX2_whyNotBroken 22 = .ok (.aconst_null, 1) := dk_1 (dk_at dksX2_whyNotBroken_0 22 rfl rfl)
theorem dX2_whyNotBroken_23 : decode cX2_whyNotBroken 23 = .ok (.areturn, 1) := dk_176 (dk_at dksX2_whyNotBroken_0 23 rfl rfl)
abbrev cX2_breakDown : ByteArray := prog_10_method_18_code
def yX2_breakDown : MethodName := ⟨RX2, "breakDown", "(LSkerryLights$Tower;)V"⟩
def dkwX2_breakDown_0 : List UInt8 := [43, 4, 181, 0, 161, 43, 3, 181, 0, 133, 177]
abbrev dktX2_breakDown_0 : List UInt8 := dkwX2_breakDown_0 ++ []
theorem dksX2_breakDown_0 : cX2_breakDown.data.toList.drop 0 = dktX2_breakDown_0 := by decide +kernel
theorem dX2_breakDown_0 : decode cX2_breakDown 0 = .ok (.aload_n 1, 1) := dk_43 (dk_at dksX2_breakDown_0 0 rfl rfl)
theorem dX2_breakDown_1 : decode cX2_breakDown 1 = .ok (.iconst 1, 1) := dk_4 (dk_at dksX2_breakDown_0 1 rfl rfl)
theorem dX2_breakDown_2 : decode cX2_breakDown 2 = .ok (.putfield 161, 3) := dk_181 0 161 (dk_at dksX2_breakDown_0 2 rfl rfl)
theorem dX2_breakDown_5 : decode cX2_breakDown 5 = .ok (.aload_n 1, 1) := dk_43 (dk_at dksX2_breakDown_0 5 rfl rfl)
theorem dX2_breakDown_6 : decode cX2_breakDown 6 = .ok (.iconst 0, 1) := dk_3 (dk_at dksX2_breakDown_0 6 rfl rfl)
theorem dX2_breakDown_7 : decode cX2_breakDown 7 = .ok (.putfield 133, 3) := dk_181 0 133 (dk_at dksX2_breakDown_0 7 rfl rfl)
theorem dX2_breakDown_10 : decode cX2_breakDown 10 = .ok (.return_, 1) := dk_177 (dk_at dksX2_breakDown_0 10 rfl rfl)
abbrev cX2_whyNotMended : ByteArray := prog_10_method_16_code
def yX2_whyNotMended : MethodName := ⟨RX2, "whyNotMended", "(LSkerryLights$Tower;)LSkerryLights$Refusal;"⟩
def dkwX2_whyNotMended_1 : List UInt8 := [176]
abbrev dktX2_whyNotMended_1 : List UInt8 := dkwX2_whyNotMended_1 ++ []
def dkwX2_whyNotMended_0 : List UInt8 := [43, 180, 0, 161, 153, 0, 7, 1, 167, 0, 16, 187, 0, 164, 89, 16, 7, 43, 180, 0, 137, 183, 0, 166]
abbrev dktX2_whyNotMended_0 : List UInt8 := dkwX2_whyNotMended_0 ++ dktX2_whyNotMended_1
theorem dksX2_whyNotMended_0 : cX2_whyNotMended.data.toList.drop 0 = dktX2_whyNotMended_0 := by decide +kernel
theorem dksX2_whyNotMended_1 : cX2_whyNotMended.data.toList.drop 24 = dktX2_whyNotMended_1 := dk_seg dksX2_whyNotMended_0 24 rfl rfl
theorem dX2_whyNotMended_0 : decode cX2_whyNotMended 0 = .ok (.aload_n 1, 1) := dk_43 (dk_at dksX2_whyNotMended_0 0 rfl rfl)
theorem dX2_whyNotMended_1 : decode cX2_whyNotMended 1 = .ok (.getfield 161, 3) := dk_180 0 161 (dk_at dksX2_whyNotMended_0 1 rfl rfl)
theorem dX2_whyNotMended_4 : decode cX2_whyNotMended 4 = .ok (.ifCond .eq 7, 3) := dk_153 0 7 (dk_at dksX2_whyNotMended_0 4 rfl rfl)
theorem dX2_whyNotMended_7 : decode cX2_whyNotMended 7 = .ok (.aconst_null, 1) := dk_1 (dk_at dksX2_whyNotMended_0 7 rfl rfl)
theorem dX2_whyNotMended_8 : decode cX2_whyNotMended 8 = .ok (.goto 16, 3) := dk_167 0 16 (dk_at dksX2_whyNotMended_0 8 rfl rfl)
theorem dX2_whyNotMended_11 : decode cX2_whyNotMended 11 = .ok (.new 164, 3) := dk_187 0 164 (dk_at dksX2_whyNotMended_0 11 rfl rfl)
theorem dX2_whyNotMended_14 : decode cX2_whyNotMended 14 = .ok (.dup, 1) := dk_89 (dk_at dksX2_whyNotMended_0 14 rfl rfl)
theorem dX2_whyNotMended_15 : decode cX2_whyNotMended 15 = .ok (.bipush 7, 2) := dk_16 7 (dk_at dksX2_whyNotMended_0 15 rfl rfl)
theorem dX2_whyNotMended_17 : decode cX2_whyNotMended 17 = .ok (.aload_n 1, 1) := dk_43 (dk_at dksX2_whyNotMended_0 17 rfl rfl)
theorem dX2_whyNotMended_18 : decode cX2_whyNotMended 18 = .ok (.getfield 137, 3) := dk_180 0 137 (dk_at dksX2_whyNotMended_0 18 rfl rfl)
theorem dX2_whyNotMended_21 : decode cX2_whyNotMended 21 = .ok (.invokespecial 166, 3) := dk_183 0 166 (dk_at dksX2_whyNotMended_0 21 rfl rfl)
theorem dX2_whyNotMended_24 : decode cX2_whyNotMended 24 = .ok (.areturn, 1) := dk_176 (dk_at dksX2_whyNotMended_1 0 rfl rfl)
abbrev cX2_night : ByteArray := prog_10_method_12_code
def yX2_night : MethodName := ⟨RX2, "night", "()I"⟩
def dkwX2_night_4 : List UInt8 := [192, 0, 47, 77, 44, 182, 0, 154, 167, 255, 233, 42, 182, 0, 157, 172]
abbrev dktX2_night_4 : List UInt8 := dkwX2_night_4 ++ []
def dkwX2_night_3 : List UInt8 := [180, 0, 24, 182, 0, 74, 76, 43, 185, 0, 37, 1, 0, 153, 0, 20, 43, 185, 0, 43, 1, 0]
abbrev dktX2_night_3 : List UInt8 := dkwX2_night_3 ++ dktX2_night_4
def dkwX2_night_2 : List UInt8 := [42, 44, 180, 0, 89, 182, 0, 148, 8, 161, 0, 7, 5, 167, 0, 4, 4, 182, 0, 151, 167, 255, 206, 42]
abbrev dktX2_night_2 : List UInt8 := dkwX2_night_2 ++ dktX2_night_3
def dkwX2_night_1 : List UInt8 := [153, 0, 47, 43, 185, 0, 43, 1, 0, 192, 0, 57, 77, 44, 180, 0, 133, 153, 0, 27, 44, 180, 0, 62]
abbrev dktX2_night_1 : List UInt8 := dkwX2_night_1 ++ dktX2_night_2
def dkwX2_night_0 : List UInt8 := [42, 89, 180, 0, 76, 4, 96, 181, 0, 76, 42, 180, 0, 12, 182, 0, 33, 76, 43, 185, 0, 37, 1, 0]
abbrev dktX2_night_0 : List UInt8 := dkwX2_night_0 ++ dktX2_night_1
theorem dksX2_night_0 : cX2_night.data.toList.drop 0 = dktX2_night_0 := by decide +kernel
theorem dksX2_night_1 : cX2_night.data.toList.drop 24 = dktX2_night_1 := dk_seg dksX2_night_0 24 rfl rfl
theorem dksX2_night_2 : cX2_night.data.toList.drop 48 = dktX2_night_2 := dk_seg dksX2_night_1 24 rfl rfl
theorem dksX2_night_3 : cX2_night.data.toList.drop 72 = dktX2_night_3 := dk_seg dksX2_night_2 24 rfl rfl
theorem dksX2_night_4 : cX2_night.data.toList.drop 94 = dktX2_night_4 := dk_seg dksX2_night_3 22 rfl rfl
theorem dX2_night_0 : decode cX2_night 0 = .ok (.aload_n 0, 1) := dk_42 (dk_at dksX2_night_0 0 rfl rfl)
theorem dX2_night_1 : decode cX2_night 1 = .ok (.dup, 1) := dk_89 (dk_at dksX2_night_0 1 rfl rfl)
theorem dX2_night_2 : decode cX2_night 2 = .ok (.getfield 76, 3) := dk_180 0 76 (dk_at dksX2_night_0 2 rfl rfl)
theorem dX2_night_5 : decode cX2_night 5 = .ok (.iconst 1, 1) := dk_4 (dk_at dksX2_night_0 5 rfl rfl)
theorem dX2_night_6 : decode cX2_night 6 = .ok (.iadd, 1) := dk_96 (dk_at dksX2_night_0 6 rfl rfl)
theorem dX2_night_7 : decode cX2_night 7 = .ok (.putfield 76, 3) := dk_181 0 76 (dk_at dksX2_night_0 7 rfl rfl)
theorem dX2_night_10 : decode cX2_night 10 = .ok (.aload_n 0, 1) := dk_42 (dk_at dksX2_night_0 10 rfl rfl)
theorem dX2_night_11 : decode cX2_night 11 = .ok (.getfield 12, 3) := dk_180 0 12 (dk_at dksX2_night_0 11 rfl rfl)
theorem dX2_night_14 : decode cX2_night 14 = .ok (.invokevirtual 33, 3) := dk_182 0 33 (dk_at dksX2_night_0 14 rfl rfl)
theorem dX2_night_17 : decode cX2_night 17 = .ok (.astore_n 1, 1) := dk_76 (dk_at dksX2_night_0 17 rfl rfl)
theorem dX2_night_18 : decode cX2_night 18 = .ok (.aload_n 1, 1) := dk_43 (dk_at dksX2_night_0 18 rfl rfl)
theorem dX2_night_19 : decode cX2_night 19 = .ok (.invokeinterface 37 1, 5) := by decide +kernel
theorem dX2_night_24 : decode cX2_night 24 = .ok (.ifCond .eq 47, 3) := dk_153 0 47 (dk_at dksX2_night_1 0 rfl rfl)
theorem dX2_night_27 : decode cX2_night 27 = .ok (.aload_n 1, 1) := dk_43 (dk_at dksX2_night_1 3 rfl rfl)
theorem dX2_night_28 : decode cX2_night 28 = .ok (.invokeinterface 43 1, 5) := by decide +kernel
theorem dX2_night_33 : decode cX2_night 33 = .ok (.checkcast 57, 3) := dk_192 0 57 (dk_at dksX2_night_1 9 rfl rfl)
theorem dX2_night_36 : decode cX2_night 36 = .ok (.astore_n 2, 1) := dk_77 (dk_at dksX2_night_1 12 rfl rfl)
theorem dX2_night_37 : decode cX2_night 37 = .ok (.aload_n 2, 1) := dk_44 (dk_at dksX2_night_1 13 rfl rfl)
theorem dX2_night_38 : decode cX2_night 38 = .ok (.getfield 133, 3) := dk_180 0 133 (dk_at dksX2_night_1 14 rfl rfl)
theorem dX2_night_41 : decode cX2_night 41 = .ok (.ifCond .eq 27, 3) := dk_153 0 27 (dk_at dksX2_night_1 17 rfl rfl)
theorem dX2_night_44 : decode cX2_night 44 = .ok (.aload_n 2, 1) := dk_44 (dk_at dksX2_night_1 20 rfl rfl)
theorem dX2_night_45 : decode cX2_night 45 = .ok (.getfield 62, 3) := dk_180 0 62 (dk_at dksX2_night_1 21 rfl rfl)
theorem dX2_night_48 : decode cX2_night 48 = .ok (.aload_n 0, 1) := dk_42 (dk_at dksX2_night_2 0 rfl rfl)
theorem dX2_night_49 : decode cX2_night 49 = .ok (.aload_n 2, 1) := dk_44 (dk_at dksX2_night_2 1 rfl rfl)
theorem dX2_night_50 : decode cX2_night 50 = .ok (.getfield 89, 3) := dk_180 0 89 (dk_at dksX2_night_2 2 rfl rfl)
theorem dX2_night_53 : decode cX2_night 53 = .ok (.invokevirtual 148, 3) := dk_182 0 148 (dk_at dksX2_night_2 5 rfl rfl)
theorem dX2_night_56 : decode cX2_night 56 = .ok (.iconst 5, 1) := dk_8 (dk_at dksX2_night_2 8 rfl rfl)
theorem dX2_night_57 : decode cX2_night 57 = .ok (.if_icmp .lt 7, 3) := dk_161 0 7 (dk_at dksX2_night_2 9 rfl rfl)
theorem dX2_night_60 : decode cX2_night 60 = .ok (.iconst 2, 1) := dk_5 (dk_at dksX2_night_2 12 rfl rfl)
theorem dX2_night_61 : decode cX2_night 61 = .ok (.goto 4, 3) := dk_167 0 4 (dk_at dksX2_night_2 13 rfl rfl)
theorem dX2_night_64 : decode cX2_night 64 = .ok (.iconst 1, 1) := dk_4 (dk_at dksX2_night_2 16 rfl rfl)
theorem dX2_night_65 : decode cX2_night 65 = .ok (.invokevirtual 151, 3) := dk_182 0 151 (dk_at dksX2_night_2 17 rfl rfl)
theorem dX2_night_68 : decode cX2_night 68 = .ok (.goto (-50), 3) := dk_167 255 206 (dk_at dksX2_night_2 20 rfl rfl)
theorem dX2_night_71 : decode cX2_night 71 = .ok (.aload_n 0, 1) := dk_42 (dk_at dksX2_night_2 23 rfl rfl)
theorem dX2_night_72 : decode cX2_night 72 = .ok (.getfield 24, 3) := dk_180 0 24 (dk_at dksX2_night_3 0 rfl rfl)
theorem dX2_night_75 : decode cX2_night 75 = .ok (.invokevirtual 74, 3) := dk_182 0 74 (dk_at dksX2_night_3 3 rfl rfl)
theorem dX2_night_78 : decode cX2_night 78 = .ok (.astore_n 1, 1) := dk_76 (dk_at dksX2_night_3 6 rfl rfl)
theorem dX2_night_79 : decode cX2_night 79 = .ok (.aload_n 1, 1) := dk_43 (dk_at dksX2_night_3 7 rfl rfl)
theorem dX2_night_80 : decode cX2_night 80 = .ok (.invokeinterface 37 1, 5) := by decide +kernel
theorem dX2_night_85 : decode cX2_night 85 = .ok (.ifCond .eq 20, 3) := dk_153 0 20 (dk_at dksX2_night_3 13 rfl rfl)
theorem dX2_night_88 : decode cX2_night 88 = .ok (.aload_n 1, 1) := dk_43 (dk_at dksX2_night_3 16 rfl rfl)
theorem dX2_night_89 : decode cX2_night 89 = .ok (.invokeinterface 43 1, 5) := by decide +kernel
theorem dX2_night_94 : decode cX2_night 94 = .ok (.checkcast 47, 3) := dk_192 0 47 (dk_at dksX2_night_4 0 rfl rfl)
theorem dX2_night_97 : decode cX2_night 97 = .ok (.astore_n 2, 1) := dk_77 (dk_at dksX2_night_4 3 rfl rfl)
theorem dX2_night_98 : decode cX2_night 98 = .ok (.aload_n 2, 1) := dk_44 (dk_at dksX2_night_4 4 rfl rfl)
theorem dX2_night_99 : decode cX2_night 99 = .ok (.invokevirtual 154, 3) := dk_182 0 154 (dk_at dksX2_night_4 5 rfl rfl)
theorem dX2_night_102 : decode cX2_night 102 = .ok (.goto (-23), 3) := dk_167 255 233 (dk_at dksX2_night_4 8 rfl rfl)
theorem dX2_night_105 : decode cX2_night 105 = .ok (.aload_n 0, 1) := dk_42 (dk_at dksX2_night_4 11 rfl rfl)
theorem dX2_night_106 : decode cX2_night 106 = .ok (.invokevirtual 157, 3) := dk_182 0 157 (dk_at dksX2_night_4 12 rfl rfl)
theorem dX2_night_109 : decode cX2_night 109 = .ok (.ireturn, 1) := dk_172 (dk_at dksX2_night_4 15 rfl rfl)
abbrev cX2_fogAt : ByteArray := prog_10_method_11_code
def yX2_fogAt : MethodName := ⟨RX2, "fogAt", "(I)I"⟩
def dkwX2_fogAt_0 : List UInt8 := [42, 180, 0, 28, 27, 16, 10, 108, 46, 172]
abbrev dktX2_fogAt_0 : List UInt8 := dkwX2_fogAt_0 ++ []
theorem dksX2_fogAt_0 : cX2_fogAt.data.toList.drop 0 = dktX2_fogAt_0 := by decide +kernel
theorem dX2_fogAt_0 : decode cX2_fogAt 0 = .ok (.aload_n 0, 1) := dk_42 (dk_at dksX2_fogAt_0 0 rfl rfl)
theorem dX2_fogAt_1 : decode cX2_fogAt 1 = .ok (.getfield 28, 3) := dk_180 0 28 (dk_at dksX2_fogAt_0 1 rfl rfl)
theorem dX2_fogAt_4 : decode cX2_fogAt 4 = .ok (.iload_n 1, 1) := dk_27 (dk_at dksX2_fogAt_0 4 rfl rfl)
theorem dX2_fogAt_5 : decode cX2_fogAt 5 = .ok (.bipush 10, 2) := dk_16 10 (dk_at dksX2_fogAt_0 5 rfl rfl)
theorem dX2_fogAt_7 : decode cX2_fogAt 7 = .ok (.idiv, 1) := dk_108 (dk_at dksX2_fogAt_0 7 rfl rfl)
theorem dX2_fogAt_8 : decode cX2_fogAt 8 = .ok (.iaload, 1) := dk_46 (dk_at dksX2_fogAt_0 8 rfl rfl)
theorem dX2_fogAt_9 : decode cX2_fogAt 9 = .ok (.ireturn, 1) := dk_172 (dk_at dksX2_fogAt_0 9 rfl rfl)
abbrev cX2_canSignal : ByteArray := prog_10_method_20_code
def yX2_canSignal : MethodName := ⟨RX2, "canSignal", "(LSkerryLights$Tower;LSkerryLights$Tower;)Z"⟩
def dkwX2_canSignal_1 : List UInt8 := [154, 0, 19, 42, 43, 44, 180, 0, 89, 182, 0, 114, 153, 0, 7, 4, 167, 0, 4, 3, 172]
abbrev dktX2_canSignal_1 : List UInt8 := dkwX2_canSignal_1 ++ []
def dkwX2_canSignal_0 : List UInt8 := [43, 180, 0, 137, 44, 180, 0, 137, 159, 0, 33, 43, 180, 0, 133, 153, 0, 26, 44, 180, 0, 161]
abbrev dktX2_canSignal_0 : List UInt8 := dkwX2_canSignal_0 ++ dktX2_canSignal_1
theorem dksX2_canSignal_0 : cX2_canSignal.data.toList.drop 0 = dktX2_canSignal_0 := by decide +kernel
theorem dksX2_canSignal_1 : cX2_canSignal.data.toList.drop 22 = dktX2_canSignal_1 := dk_seg dksX2_canSignal_0 22 rfl rfl
theorem dX2_canSignal_0 : decode cX2_canSignal 0 = .ok (.aload_n 1, 1) := dk_43 (dk_at dksX2_canSignal_0 0 rfl rfl)
theorem dX2_canSignal_1 : decode cX2_canSignal 1 = .ok (.getfield 137, 3) := dk_180 0 137 (dk_at dksX2_canSignal_0 1 rfl rfl)
theorem dX2_canSignal_4 : decode cX2_canSignal 4 = .ok (.aload_n 2, 1) := dk_44 (dk_at dksX2_canSignal_0 4 rfl rfl)
theorem dX2_canSignal_5 : decode cX2_canSignal 5 = .ok (.getfield 137, 3) := dk_180 0 137 (dk_at dksX2_canSignal_0 5 rfl rfl)
theorem dX2_canSignal_8 : decode cX2_canSignal 8 = .ok (.if_icmp .eq 33, 3) := dk_159 0 33 (dk_at dksX2_canSignal_0 8 rfl rfl)
theorem dX2_canSignal_11 : decode cX2_canSignal 11 = .ok (.aload_n 1, 1) := dk_43 (dk_at dksX2_canSignal_0 11 rfl rfl)
theorem dX2_canSignal_12 : decode cX2_canSignal 12 = .ok (.getfield 133, 3) := dk_180 0 133 (dk_at dksX2_canSignal_0 12 rfl rfl)
theorem dX2_canSignal_15 : decode cX2_canSignal 15 = .ok (.ifCond .eq 26, 3) := dk_153 0 26 (dk_at dksX2_canSignal_0 15 rfl rfl)
theorem dX2_canSignal_18 : decode cX2_canSignal 18 = .ok (.aload_n 2, 1) := dk_44 (dk_at dksX2_canSignal_0 18 rfl rfl)
theorem dX2_canSignal_19 : decode cX2_canSignal 19 = .ok (.getfield 161, 3) := dk_180 0 161 (dk_at dksX2_canSignal_0 19 rfl rfl)
theorem dX2_canSignal_22 : decode cX2_canSignal 22 = .ok (.ifCond .ne 19, 3) := dk_154 0 19 (dk_at dksX2_canSignal_1 0 rfl rfl)
theorem dX2_canSignal_25 : decode cX2_canSignal 25 = .ok (.aload_n 0, 1) := dk_42 (dk_at dksX2_canSignal_1 3 rfl rfl)
theorem dX2_canSignal_26 : decode cX2_canSignal 26 = .ok (.aload_n 1, 1) := dk_43 (dk_at dksX2_canSignal_1 4 rfl rfl)
theorem dX2_canSignal_27 : decode cX2_canSignal 27 = .ok (.aload_n 2, 1) := dk_44 (dk_at dksX2_canSignal_1 5 rfl rfl)
theorem dX2_canSignal_28 : decode cX2_canSignal 28 = .ok (.getfield 89, 3) := dk_180 0 89 (dk_at dksX2_canSignal_1 6 rfl rfl)
theorem dX2_canSignal_31 : decode cX2_canSignal 31 = .ok (.invokevirtual 114, 3) := dk_182 0 114 (dk_at dksX2_canSignal_1 9 rfl rfl)
theorem dX2_canSignal_34 : decode cX2_canSignal 34 = .ok (.ifCond .eq 7, 3) := dk_153 0 7 (dk_at dksX2_canSignal_1 12 rfl rfl)
theorem dX2_canSignal_37 : decode cX2_canSignal 37 = .ok (.iconst 1, 1) := dk_4 (dk_at dksX2_canSignal_1 15 rfl rfl)
theorem dX2_canSignal_38 : decode cX2_canSignal 38 = .ok (.goto 4, 3) := dk_167 0 4 (dk_at dksX2_canSignal_1 16 rfl rfl)
theorem dX2_canSignal_41 : decode cX2_canSignal 41 = .ok (.iconst 0, 1) := dk_3 (dk_at dksX2_canSignal_1 19 rfl rfl)
theorem dX2_canSignal_42 : decode cX2_canSignal 42 = .ok (.ireturn, 1) := dk_172 (dk_at dksX2_canSignal_1 20 rfl rfl)
abbrev cX2_margin : ByteArray := prog_10_method_25_code
def yX2_margin : MethodName := ⟨RX2, "margin", "(LSkerryLights$Tower;LSkerryLights$Tower;)I"⟩
def dkwX2_margin_0 : List UInt8 := [43, 180, 0, 62, 180, 0, 106, 42, 43, 180, 0, 89, 44, 180, 0, 89, 182, 0, 102, 100, 172]
abbrev dktX2_margin_0 : List UInt8 := dkwX2_margin_0 ++ []
theorem dksX2_margin_0 : cX2_margin.data.toList.drop 0 = dktX2_margin_0 := by decide +kernel
theorem dX2_margin_0 : decode cX2_margin 0 = .ok (.aload_n 1, 1) := dk_43 (dk_at dksX2_margin_0 0 rfl rfl)
theorem dX2_margin_1 : decode cX2_margin 1 = .ok (.getfield 62, 3) := dk_180 0 62 (dk_at dksX2_margin_0 1 rfl rfl)
theorem dX2_margin_4 : decode cX2_margin 4 = .ok (.getfield 106, 3) := dk_180 0 106 (dk_at dksX2_margin_0 4 rfl rfl)
theorem dX2_margin_7 : decode cX2_margin 7 = .ok (.aload_n 0, 1) := dk_42 (dk_at dksX2_margin_0 7 rfl rfl)
theorem dX2_margin_8 : decode cX2_margin 8 = .ok (.aload_n 1, 1) := dk_43 (dk_at dksX2_margin_0 8 rfl rfl)
theorem dX2_margin_9 : decode cX2_margin 9 = .ok (.getfield 89, 3) := dk_180 0 89 (dk_at dksX2_margin_0 9 rfl rfl)
theorem dX2_margin_12 : decode cX2_margin 12 = .ok (.aload_n 2, 1) := dk_44 (dk_at dksX2_margin_0 12 rfl rfl)
theorem dX2_margin_13 : decode cX2_margin 13 = .ok (.getfield 89, 3) := dk_180 0 89 (dk_at dksX2_margin_0 13 rfl rfl)
theorem dX2_margin_16 : decode cX2_margin 16 = .ok (.invokevirtual 102, 3) := dk_182 0 102 (dk_at dksX2_margin_0 16 rfl rfl)
theorem dX2_margin_19 : decode cX2_margin 19 = .ok (.isub, 1) := dk_100 (dk_at dksX2_margin_0 19 rfl rfl)
theorem dX2_margin_20 : decode cX2_margin 20 = .ok (.ireturn, 1) := dk_172 (dk_at dksX2_margin_0 20 rfl rfl)
abbrev cX2_signalsTo : ByteArray := prog_10_method_21_code
def yX2_signalsTo : MethodName := ⟨RX2, "signalsTo", "(LSkerryLights$Tower;)[I"⟩
def dkwX2_signalsTo_6 : List UInt8 := [167, 255, 162, 44, 176]
abbrev dktX2_signalsTo_6 : List UInt8 := dkwX2_signalsTo_6 ++ []
def dkwX2_signalsTo_5 : List UInt8 := [180, 0, 137, 44, 25, 4, 180, 0, 137, 46, 4, 96, 79, 45, 25, 6, 182, 0, 182, 87, 167, 255, 190]
abbrev dktX2_signalsTo_5 : List UInt8 := dkwX2_signalsTo_5 ++ dktX2_signalsTo_6
def dkwX2_signalsTo_4 : List UInt8 := [25, 6, 180, 0, 137, 46, 156, 0, 37, 42, 25, 6, 25, 4, 182, 0, 187, 153, 0, 26, 44, 25, 6]
abbrev dktX2_signalsTo_4 : List UInt8 := dkwX2_signalsTo_4 ++ dktX2_signalsTo_5
def dkwX2_signalsTo_3 : List UInt8 := [25, 5, 185, 0, 37, 1, 0, 153, 0, 62, 25, 5, 185, 0, 43, 1, 0, 192, 0, 57, 58, 6, 44]
abbrev dktX2_signalsTo_3 : List UInt8 := dkwX2_signalsTo_3 ++ dktX2_signalsTo_4
def dkwX2_signalsTo_2 : List UInt8 := [182, 0, 183, 154, 0, 93, 45, 182, 0, 184, 192, 0, 57, 58, 4, 42, 180, 0, 12, 182, 0, 33, 58, 5]
abbrev dktX2_signalsTo_2 : List UInt8 := dkwX2_signalsTo_2 ++ dktX2_signalsTo_3
def dkwX2_signalsTo_1 : List UInt8 := [187, 0, 179, 89, 183, 0, 181, 78, 44, 43, 180, 0, 137, 3, 79, 45, 43, 182, 0, 182, 87, 45]
abbrev dktX2_signalsTo_1 : List UInt8 := dkwX2_signalsTo_1 ++ dktX2_signalsTo_2
def dkwX2_signalsTo_0 : List UInt8 := [16, 8, 188, 10, 77, 3, 62, 29, 16, 8, 162, 0, 13, 44, 29, 2, 79, 132, 3, 1, 167, 255, 243]
abbrev dktX2_signalsTo_0 : List UInt8 := dkwX2_signalsTo_0 ++ dktX2_signalsTo_1
theorem dksX2_signalsTo_0 : cX2_signalsTo.data.toList.drop 0 = dktX2_signalsTo_0 := by decide +kernel
theorem dksX2_signalsTo_1 : cX2_signalsTo.data.toList.drop 23 = dktX2_signalsTo_1 := dk_seg dksX2_signalsTo_0 23 rfl rfl
theorem dksX2_signalsTo_2 : cX2_signalsTo.data.toList.drop 45 = dktX2_signalsTo_2 := dk_seg dksX2_signalsTo_1 22 rfl rfl
theorem dksX2_signalsTo_3 : cX2_signalsTo.data.toList.drop 69 = dktX2_signalsTo_3 := dk_seg dksX2_signalsTo_2 24 rfl rfl
theorem dksX2_signalsTo_4 : cX2_signalsTo.data.toList.drop 92 = dktX2_signalsTo_4 := dk_seg dksX2_signalsTo_3 23 rfl rfl
theorem dksX2_signalsTo_5 : cX2_signalsTo.data.toList.drop 115 = dktX2_signalsTo_5 := dk_seg dksX2_signalsTo_4 23 rfl rfl
theorem dksX2_signalsTo_6 : cX2_signalsTo.data.toList.drop 138 = dktX2_signalsTo_6 := dk_seg dksX2_signalsTo_5 23 rfl rfl
theorem dX2_signalsTo_0 : decode cX2_signalsTo 0 = .ok (.bipush 8, 2) := dk_16 8 (dk_at dksX2_signalsTo_0 0 rfl rfl)
theorem dX2_signalsTo_2 : decode cX2_signalsTo 2 = .ok (.newarray .int, 2) := dk_188_10 (dk_at dksX2_signalsTo_0 2 rfl rfl)
theorem dX2_signalsTo_4 : decode cX2_signalsTo 4 = .ok (.astore_n 2, 1) := dk_77 (dk_at dksX2_signalsTo_0 4 rfl rfl)
theorem dX2_signalsTo_5 : decode cX2_signalsTo 5 = .ok (.iconst 0, 1) := dk_3 (dk_at dksX2_signalsTo_0 5 rfl rfl)
theorem dX2_signalsTo_6 : decode cX2_signalsTo 6 = .ok (.istore_n 3, 1) := dk_62 (dk_at dksX2_signalsTo_0 6 rfl rfl)
theorem dX2_signalsTo_7 : decode cX2_signalsTo 7 = .ok (.iload_n 3, 1) := dk_29 (dk_at dksX2_signalsTo_0 7 rfl rfl)
theorem dX2_signalsTo_8 : decode cX2_signalsTo 8 = .ok (.bipush 8, 2) := dk_16 8 (dk_at dksX2_signalsTo_0 8 rfl rfl)
theorem dX2_signalsTo_10 : decode cX2_signalsTo 10 = .ok (.if_icmp .ge 13, 3) := dk_162 0 13 (dk_at dksX2_signalsTo_0 10 rfl rfl)
theorem dX2_signalsTo_13 : decode cX2_signalsTo 13 = .ok (.aload_n 2, 1) := dk_44 (dk_at dksX2_signalsTo_0 13 rfl rfl)
theorem dX2_signalsTo_14 : decode cX2_signalsTo 14 = .ok (.iload_n 3, 1) := dk_29 (dk_at dksX2_signalsTo_0 14 rfl rfl)
theorem dX2_signalsTo_15 : decode cX2_signalsTo 15 = .ok (.iconst (-1), 1) := dk_2 (dk_at dksX2_signalsTo_0 15 rfl rfl)
theorem dX2_signalsTo_16 : decode cX2_signalsTo 16 = .ok (.iastore, 1) := dk_79 (dk_at dksX2_signalsTo_0 16 rfl rfl)
theorem dX2_signalsTo_17 : decode cX2_signalsTo 17 = .ok (.iinc 3 1, 3) := dk_132 3 1 (dk_at dksX2_signalsTo_0 17 rfl rfl)
theorem dX2_signalsTo_20 : decode cX2_signalsTo 20 = .ok (.goto (-13), 3) := dk_167 255 243 (dk_at dksX2_signalsTo_0 20 rfl rfl)
theorem dX2_signalsTo_23 : decode cX2_signalsTo 23 = .ok (.new 179, 3) := dk_187 0 179 (dk_at dksX2_signalsTo_1 0 rfl rfl)
theorem dX2_signalsTo_26 : decode cX2_signalsTo 26 = .ok (.dup, 1) := dk_89 (dk_at dksX2_signalsTo_1 3 rfl rfl)
theorem dX2_signalsTo_27 : decode cX2_signalsTo 27 = .ok (.invokespecial 181, 3) := dk_183 0 181 (dk_at dksX2_signalsTo_1 4 rfl rfl)
theorem dX2_signalsTo_30 : decode cX2_signalsTo 30 = .ok (.astore_n 3, 1) := dk_78 (dk_at dksX2_signalsTo_1 7 rfl rfl)
theorem dX2_signalsTo_31 : decode cX2_signalsTo 31 = .ok (.aload_n 2, 1) := dk_44 (dk_at dksX2_signalsTo_1 8 rfl rfl)
theorem dX2_signalsTo_32 : decode cX2_signalsTo 32 = .ok (.aload_n 1, 1) := dk_43 (dk_at dksX2_signalsTo_1 9 rfl rfl)
theorem dX2_signalsTo_33 : decode cX2_signalsTo 33 = .ok (.getfield 137, 3) := dk_180 0 137 (dk_at dksX2_signalsTo_1 10 rfl rfl)
theorem dX2_signalsTo_36 : decode cX2_signalsTo 36 = .ok (.iconst 0, 1) := dk_3 (dk_at dksX2_signalsTo_1 13 rfl rfl)
theorem dX2_signalsTo_37 : decode cX2_signalsTo 37 = .ok (.iastore, 1) := dk_79 (dk_at dksX2_signalsTo_1 14 rfl rfl)
theorem dX2_signalsTo_38 : decode cX2_signalsTo 38 = .ok (.aload_n 3, 1) := dk_45 (dk_at dksX2_signalsTo_1 15 rfl rfl)
theorem dX2_signalsTo_39 : decode cX2_signalsTo 39 = .ok (.aload_n 1, 1) := dk_43 (dk_at dksX2_signalsTo_1 16 rfl rfl)
theorem dX2_signalsTo_40 : decode cX2_signalsTo 40 = .ok (.invokevirtual 182, 3) := dk_182 0 182 (dk_at dksX2_signalsTo_1 17 rfl rfl)
theorem dX2_signalsTo_43 : decode cX2_signalsTo 43 = .ok (.pop, 1) := dk_87 (dk_at dksX2_signalsTo_1 20 rfl rfl)
theorem dX2_signalsTo_44 : decode cX2_signalsTo 44 = .ok (.aload_n 3, 1) := dk_45 (dk_at dksX2_signalsTo_1 21 rfl rfl)
theorem dX2_signalsTo_45 : decode cX2_signalsTo 45 = .ok (.invokevirtual 183, 3) := dk_182 0 183 (dk_at dksX2_signalsTo_2 0 rfl rfl)
theorem dX2_signalsTo_48 : decode cX2_signalsTo 48 = .ok (.ifCond .ne 93, 3) := dk_154 0 93 (dk_at dksX2_signalsTo_2 3 rfl rfl)
theorem dX2_signalsTo_51 : decode cX2_signalsTo 51 = .ok (.aload_n 3, 1) := dk_45 (dk_at dksX2_signalsTo_2 6 rfl rfl)
theorem dX2_signalsTo_52 : decode cX2_signalsTo 52 = .ok (.invokevirtual 184, 3) := dk_182 0 184 (dk_at dksX2_signalsTo_2 7 rfl rfl)
theorem dX2_signalsTo_55 : decode cX2_signalsTo 55 = .ok (.checkcast 57, 3) := dk_192 0 57 (dk_at dksX2_signalsTo_2 10 rfl rfl)
theorem dX2_signalsTo_58 : decode cX2_signalsTo 58 = .ok (.astore 4, 2) := dk_58 4 (dk_at dksX2_signalsTo_2 13 rfl rfl)
theorem dX2_signalsTo_60 : decode cX2_signalsTo 60 = .ok (.aload_n 0, 1) := dk_42 (dk_at dksX2_signalsTo_2 15 rfl rfl)
theorem dX2_signalsTo_61 : decode cX2_signalsTo 61 = .ok (.getfield 12, 3) := dk_180 0 12 (dk_at dksX2_signalsTo_2 16 rfl rfl)
theorem dX2_signalsTo_64 : decode cX2_signalsTo 64 = .ok (.invokevirtual 33, 3) := dk_182 0 33 (dk_at dksX2_signalsTo_2 19 rfl rfl)
theorem dX2_signalsTo_67 : decode cX2_signalsTo 67 = .ok (.astore 5, 2) := dk_58 5 (dk_at dksX2_signalsTo_2 22 rfl rfl)
theorem dX2_signalsTo_69 : decode cX2_signalsTo 69 = .ok (.aload 5, 2) := dk_25 5 (dk_at dksX2_signalsTo_3 0 rfl rfl)
theorem dX2_signalsTo_71 : decode cX2_signalsTo 71 = .ok (.invokeinterface 37 1, 5) := by decide +kernel
theorem dX2_signalsTo_76 : decode cX2_signalsTo 76 = .ok (.ifCond .eq 62, 3) := dk_153 0 62 (dk_at dksX2_signalsTo_3 7 rfl rfl)
theorem dX2_signalsTo_79 : decode cX2_signalsTo 79 = .ok (.aload 5, 2) := dk_25 5 (dk_at dksX2_signalsTo_3 10 rfl rfl)
theorem dX2_signalsTo_81 : decode cX2_signalsTo 81 = .ok (.invokeinterface 43 1, 5) := by decide +kernel
theorem dX2_signalsTo_86 : decode cX2_signalsTo 86 = .ok (.checkcast 57, 3) := dk_192 0 57 (dk_at dksX2_signalsTo_3 17 rfl rfl)
theorem dX2_signalsTo_89 : decode cX2_signalsTo 89 = .ok (.astore 6, 2) := dk_58 6 (dk_at dksX2_signalsTo_3 20 rfl rfl)
theorem dX2_signalsTo_91 : decode cX2_signalsTo 91 = .ok (.aload_n 2, 1) := dk_44 (dk_at dksX2_signalsTo_3 22 rfl rfl)
theorem dX2_signalsTo_92 : decode cX2_signalsTo 92 = .ok (.aload 6, 2) := dk_25 6 (dk_at dksX2_signalsTo_4 0 rfl rfl)
theorem dX2_signalsTo_94 : decode cX2_signalsTo 94 = .ok (.getfield 137, 3) := dk_180 0 137 (dk_at dksX2_signalsTo_4 2 rfl rfl)
theorem dX2_signalsTo_97 : decode cX2_signalsTo 97 = .ok (.iaload, 1) := dk_46 (dk_at dksX2_signalsTo_4 5 rfl rfl)
theorem dX2_signalsTo_98 : decode cX2_signalsTo 98 = .ok (.ifCond .ge 37, 3) := dk_156 0 37 (dk_at dksX2_signalsTo_4 6 rfl rfl)
theorem dX2_signalsTo_101 : decode cX2_signalsTo 101 = .ok (.aload_n 0, 1) := dk_42 (dk_at dksX2_signalsTo_4 9 rfl rfl)
theorem dX2_signalsTo_102 : decode cX2_signalsTo 102 = .ok (.aload 6, 2) := dk_25 6 (dk_at dksX2_signalsTo_4 10 rfl rfl)
theorem dX2_signalsTo_104 : decode cX2_signalsTo 104 = .ok (.aload 4, 2) := dk_25 4 (dk_at dksX2_signalsTo_4 12 rfl rfl)
theorem dX2_signalsTo_106 : decode cX2_signalsTo 106 = .ok (.invokevirtual 187, 3) := dk_182 0 187 (dk_at dksX2_signalsTo_4 14 rfl rfl)
theorem dX2_signalsTo_109 : decode cX2_signalsTo 109 = .ok (.ifCond .eq 26, 3) := dk_153 0 26 (dk_at dksX2_signalsTo_4 17 rfl rfl)
theorem dX2_signalsTo_112 : decode cX2_signalsTo 112 = .ok (.aload_n 2, 1) := dk_44 (dk_at dksX2_signalsTo_4 20 rfl rfl)
theorem dX2_signalsTo_113 : decode cX2_signalsTo 113 = .ok (.aload 6, 2) := dk_25 6 (dk_at dksX2_signalsTo_4 21 rfl rfl)
theorem dX2_signalsTo_115 : decode cX2_signalsTo 115 = .ok (.getfield 137, 3) := dk_180 0 137 (dk_at dksX2_signalsTo_5 0 rfl rfl)
theorem dX2_signalsTo_118 : decode cX2_signalsTo 118 = .ok (.aload_n 2, 1) := dk_44 (dk_at dksX2_signalsTo_5 3 rfl rfl)
theorem dX2_signalsTo_119 : decode cX2_signalsTo 119 = .ok (.aload 4, 2) := dk_25 4 (dk_at dksX2_signalsTo_5 4 rfl rfl)
theorem dX2_signalsTo_121 : decode cX2_signalsTo 121 = .ok (.getfield 137, 3) := dk_180 0 137 (dk_at dksX2_signalsTo_5 6 rfl rfl)
theorem dX2_signalsTo_124 : decode cX2_signalsTo 124 = .ok (.iaload, 1) := dk_46 (dk_at dksX2_signalsTo_5 9 rfl rfl)
theorem dX2_signalsTo_125 : decode cX2_signalsTo 125 = .ok (.iconst 1, 1) := dk_4 (dk_at dksX2_signalsTo_5 10 rfl rfl)
theorem dX2_signalsTo_126 : decode cX2_signalsTo 126 = .ok (.iadd, 1) := dk_96 (dk_at dksX2_signalsTo_5 11 rfl rfl)
theorem dX2_signalsTo_127 : decode cX2_signalsTo 127 = .ok (.iastore, 1) := dk_79 (dk_at dksX2_signalsTo_5 12 rfl rfl)
theorem dX2_signalsTo_128 : decode cX2_signalsTo 128 = .ok (.aload_n 3, 1) := dk_45 (dk_at dksX2_signalsTo_5 13 rfl rfl)
theorem dX2_signalsTo_129 : decode cX2_signalsTo 129 = .ok (.aload 6, 2) := dk_25 6 (dk_at dksX2_signalsTo_5 14 rfl rfl)
theorem dX2_signalsTo_131 : decode cX2_signalsTo 131 = .ok (.invokevirtual 182, 3) := dk_182 0 182 (dk_at dksX2_signalsTo_5 16 rfl rfl)
theorem dX2_signalsTo_134 : decode cX2_signalsTo 134 = .ok (.pop, 1) := dk_87 (dk_at dksX2_signalsTo_5 19 rfl rfl)
theorem dX2_signalsTo_135 : decode cX2_signalsTo 135 = .ok (.goto (-66), 3) := dk_167 255 190 (dk_at dksX2_signalsTo_5 20 rfl rfl)
theorem dX2_signalsTo_138 : decode cX2_signalsTo 138 = .ok (.goto (-94), 3) := dk_167 255 162 (dk_at dksX2_signalsTo_6 0 rfl rfl)
theorem dX2_signalsTo_141 : decode cX2_signalsTo 141 = .ok (.aload_n 2, 1) := dk_44 (dk_at dksX2_signalsTo_6 3 rfl rfl)
theorem dX2_signalsTo_142 : decode cX2_signalsTo 142 = .ok (.areturn, 1) := dk_176 (dk_at dksX2_signalsTo_6 4 rfl rfl)
abbrev cX2_fewest : ByteArray := prog_10_method_24_code
def yX2_fewest : MethodName := ⟨RX2, "fewest", "(LSkerryLights$Tower;LSkerryLights$Tower;I)I"⟩
def dkwX2_fewest_4 : List UInt8 := [21, 4, 172]
abbrev dktX2_fewest_4 : List UInt8 := dkwX2_fewest_4 ++ []
def dkwX2_fewest_3 : List UInt8 := [25, 6, 44, 29, 4, 25, 6, 180, 0, 137, 120, 128, 182, 0, 201, 96, 184, 0, 205, 54, 4, 167, 255, 187]
abbrev dktX2_fewest_3 : List UInt8 := dkwX2_fewest_3 ++ dktX2_fewest_4
def dkwX2_fewest_2 : List UInt8 := [180, 0, 137, 122, 4, 126, 154, 0, 38, 42, 43, 25, 6, 182, 0, 187, 153, 0, 28, 21, 4, 4, 42]
abbrev dktX2_fewest_2 : List UInt8 := dkwX2_fewest_2 ++ dktX2_fewest_3
def dkwX2_fewest_1 : List UInt8 := [185, 0, 37, 1, 0, 153, 0, 65, 25, 5, 185, 0, 43, 1, 0, 192, 0, 57, 58, 6, 29, 25, 6]
abbrev dktX2_fewest_1 : List UInt8 := dkwX2_fewest_1 ++ dktX2_fewest_2
def dkwX2_fewest_0 : List UInt8 := [43, 44, 166, 0, 5, 3, 172, 16, 8, 54, 4, 42, 180, 0, 12, 182, 0, 33, 58, 5, 25, 5]
abbrev dktX2_fewest_0 : List UInt8 := dkwX2_fewest_0 ++ dktX2_fewest_1
theorem dksX2_fewest_0 : cX2_fewest.data.toList.drop 0 = dktX2_fewest_0 := by decide +kernel
theorem dksX2_fewest_1 : cX2_fewest.data.toList.drop 22 = dktX2_fewest_1 := dk_seg dksX2_fewest_0 22 rfl rfl
theorem dksX2_fewest_2 : cX2_fewest.data.toList.drop 45 = dktX2_fewest_2 := dk_seg dksX2_fewest_1 23 rfl rfl
theorem dksX2_fewest_3 : cX2_fewest.data.toList.drop 68 = dktX2_fewest_3 := dk_seg dksX2_fewest_2 23 rfl rfl
theorem dksX2_fewest_4 : cX2_fewest.data.toList.drop 92 = dktX2_fewest_4 := dk_seg dksX2_fewest_3 24 rfl rfl
theorem dX2_fewest_0 : decode cX2_fewest 0 = .ok (.aload_n 1, 1) := dk_43 (dk_at dksX2_fewest_0 0 rfl rfl)
theorem dX2_fewest_1 : decode cX2_fewest 1 = .ok (.aload_n 2, 1) := dk_44 (dk_at dksX2_fewest_0 1 rfl rfl)
theorem dX2_fewest_2 : decode cX2_fewest 2 = .ok (.if_acmp .ne 5, 3) := dk_166 0 5 (dk_at dksX2_fewest_0 2 rfl rfl)
theorem dX2_fewest_5 : decode cX2_fewest 5 = .ok (.iconst 0, 1) := dk_3 (dk_at dksX2_fewest_0 5 rfl rfl)
theorem dX2_fewest_6 : decode cX2_fewest 6 = .ok (.ireturn, 1) := dk_172 (dk_at dksX2_fewest_0 6 rfl rfl)
theorem dX2_fewest_7 : decode cX2_fewest 7 = .ok (.bipush 8, 2) := dk_16 8 (dk_at dksX2_fewest_0 7 rfl rfl)
theorem dX2_fewest_9 : decode cX2_fewest 9 = .ok (.istore 4, 2) := dk_54 4 (dk_at dksX2_fewest_0 9 rfl rfl)
theorem dX2_fewest_11 : decode cX2_fewest 11 = .ok (.aload_n 0, 1) := dk_42 (dk_at dksX2_fewest_0 11 rfl rfl)
theorem dX2_fewest_12 : decode cX2_fewest 12 = .ok (.getfield 12, 3) := dk_180 0 12 (dk_at dksX2_fewest_0 12 rfl rfl)
theorem dX2_fewest_15 : decode cX2_fewest 15 = .ok (.invokevirtual 33, 3) := dk_182 0 33 (dk_at dksX2_fewest_0 15 rfl rfl)
theorem dX2_fewest_18 : decode cX2_fewest 18 = .ok (.astore 5, 2) := dk_58 5 (dk_at dksX2_fewest_0 18 rfl rfl)
theorem dX2_fewest_20 : decode cX2_fewest 20 = .ok (.aload 5, 2) := dk_25 5 (dk_at dksX2_fewest_0 20 rfl rfl)
theorem dX2_fewest_22 : decode cX2_fewest 22 = .ok (.invokeinterface 37 1, 5) := by decide +kernel
theorem dX2_fewest_27 : decode cX2_fewest 27 = .ok (.ifCond .eq 65, 3) := dk_153 0 65 (dk_at dksX2_fewest_1 5 rfl rfl)
theorem dX2_fewest_30 : decode cX2_fewest 30 = .ok (.aload 5, 2) := dk_25 5 (dk_at dksX2_fewest_1 8 rfl rfl)
theorem dX2_fewest_32 : decode cX2_fewest 32 = .ok (.invokeinterface 43 1, 5) := by decide +kernel
theorem dX2_fewest_37 : decode cX2_fewest 37 = .ok (.checkcast 57, 3) := dk_192 0 57 (dk_at dksX2_fewest_1 15 rfl rfl)
theorem dX2_fewest_40 : decode cX2_fewest 40 = .ok (.astore 6, 2) := dk_58 6 (dk_at dksX2_fewest_1 18 rfl rfl)
theorem dX2_fewest_42 : decode cX2_fewest 42 = .ok (.iload_n 3, 1) := dk_29 (dk_at dksX2_fewest_1 20 rfl rfl)
theorem dX2_fewest_43 : decode cX2_fewest 43 = .ok (.aload 6, 2) := dk_25 6 (dk_at dksX2_fewest_1 21 rfl rfl)
theorem dX2_fewest_45 : decode cX2_fewest 45 = .ok (.getfield 137, 3) := dk_180 0 137 (dk_at dksX2_fewest_2 0 rfl rfl)
theorem dX2_fewest_48 : decode cX2_fewest 48 = .ok (.ishr, 1) := dk_122 (dk_at dksX2_fewest_2 3 rfl rfl)
theorem dX2_fewest_49 : decode cX2_fewest 49 = .ok (.iconst 1, 1) := dk_4 (dk_at dksX2_fewest_2 4 rfl rfl)
theorem dX2_fewest_50 : decode cX2_fewest 50 = .ok (.iand, 1) := dk_126 (dk_at dksX2_fewest_2 5 rfl rfl)
theorem dX2_fewest_51 : decode cX2_fewest 51 = .ok (.ifCond .ne 38, 3) := dk_154 0 38 (dk_at dksX2_fewest_2 6 rfl rfl)
theorem dX2_fewest_54 : decode cX2_fewest 54 = .ok (.aload_n 0, 1) := dk_42 (dk_at dksX2_fewest_2 9 rfl rfl)
theorem dX2_fewest_55 : decode cX2_fewest 55 = .ok (.aload_n 1, 1) := dk_43 (dk_at dksX2_fewest_2 10 rfl rfl)
theorem dX2_fewest_56 : decode cX2_fewest 56 = .ok (.aload 6, 2) := dk_25 6 (dk_at dksX2_fewest_2 11 rfl rfl)
theorem dX2_fewest_58 : decode cX2_fewest 58 = .ok (.invokevirtual 187, 3) := dk_182 0 187 (dk_at dksX2_fewest_2 13 rfl rfl)
theorem dX2_fewest_61 : decode cX2_fewest 61 = .ok (.ifCond .eq 28, 3) := dk_153 0 28 (dk_at dksX2_fewest_2 16 rfl rfl)
theorem dX2_fewest_64 : decode cX2_fewest 64 = .ok (.iload 4, 2) := dk_21 4 (dk_at dksX2_fewest_2 19 rfl rfl)
theorem dX2_fewest_66 : decode cX2_fewest 66 = .ok (.iconst 1, 1) := dk_4 (dk_at dksX2_fewest_2 21 rfl rfl)
theorem dX2_fewest_67 : decode cX2_fewest 67 = .ok (.aload_n 0, 1) := dk_42 (dk_at dksX2_fewest_2 22 rfl rfl)
theorem dX2_fewest_68 : decode cX2_fewest 68 = .ok (.aload 6, 2) := dk_25 6 (dk_at dksX2_fewest_3 0 rfl rfl)
theorem dX2_fewest_70 : decode cX2_fewest 70 = .ok (.aload_n 2, 1) := dk_44 (dk_at dksX2_fewest_3 2 rfl rfl)
theorem dX2_fewest_71 : decode cX2_fewest 71 = .ok (.iload_n 3, 1) := dk_29 (dk_at dksX2_fewest_3 3 rfl rfl)
theorem dX2_fewest_72 : decode cX2_fewest 72 = .ok (.iconst 1, 1) := dk_4 (dk_at dksX2_fewest_3 4 rfl rfl)
theorem dX2_fewest_73 : decode cX2_fewest 73 = .ok (.aload 6, 2) := dk_25 6 (dk_at dksX2_fewest_3 5 rfl rfl)
theorem dX2_fewest_75 : decode cX2_fewest 75 = .ok (.getfield 137, 3) := dk_180 0 137 (dk_at dksX2_fewest_3 7 rfl rfl)
theorem dX2_fewest_78 : decode cX2_fewest 78 = .ok (.ishl, 1) := dk_120 (dk_at dksX2_fewest_3 10 rfl rfl)
theorem dX2_fewest_79 : decode cX2_fewest 79 = .ok (.ior, 1) := dk_128 (dk_at dksX2_fewest_3 11 rfl rfl)
theorem dX2_fewest_80 : decode cX2_fewest 80 = .ok (.invokevirtual 201, 3) := dk_182 0 201 (dk_at dksX2_fewest_3 12 rfl rfl)
theorem dX2_fewest_83 : decode cX2_fewest 83 = .ok (.iadd, 1) := dk_96 (dk_at dksX2_fewest_3 15 rfl rfl)
theorem dX2_fewest_84 : decode cX2_fewest 84 = .ok (.invokestatic 205, 3) := dk_184 0 205 (dk_at dksX2_fewest_3 16 rfl rfl)
theorem dX2_fewest_87 : decode cX2_fewest 87 = .ok (.istore 4, 2) := dk_54 4 (dk_at dksX2_fewest_3 19 rfl rfl)
theorem dX2_fewest_89 : decode cX2_fewest 89 = .ok (.goto (-69), 3) := dk_167 255 187 (dk_at dksX2_fewest_3 21 rfl rfl)
theorem dX2_fewest_92 : decode cX2_fewest 92 = .ok (.iload 4, 2) := dk_21 4 (dk_at dksX2_fewest_4 0 rfl rfl)
theorem dX2_fewest_94 : decode cX2_fewest 94 = .ok (.ireturn, 1) := dk_172 (dk_at dksX2_fewest_4 2 rfl rfl)
abbrev cX2_route : ByteArray := prog_10_method_23_code
def yX2_route : MethodName := ⟨RX2, "route", "(LSkerryLights$Tower;LSkerryLights$Tower;)Ljava/util/LinkedList;"⟩
def dkwX2_route_2 : List UInt8 := [182, 0, 194, 192, 0, 57, 25, 4, 182, 0, 197, 182, 0, 75, 87, 167, 255, 230, 45, 176]
abbrev dktX2_route_2 : List UInt8 := dkwX2_route_2 ++ []
def dkwX2_route_1 : List UInt8 := [156, 0, 5, 45, 176, 45, 43, 182, 0, 75, 87, 45, 182, 0, 194, 44, 165, 0, 24, 45, 42, 45]
abbrev dktX2_route_1 : List UInt8 := dkwX2_route_1 ++ dktX2_route_2
def dkwX2_route_0 : List UInt8 := [187, 0, 21, 89, 183, 0, 23, 78, 42, 44, 182, 0, 190, 58, 4, 25, 4, 43, 180, 0, 137, 46]
abbrev dktX2_route_0 : List UInt8 := dkwX2_route_0 ++ dktX2_route_1
theorem dksX2_route_0 : cX2_route.data.toList.drop 0 = dktX2_route_0 := by decide +kernel
theorem dksX2_route_1 : cX2_route.data.toList.drop 22 = dktX2_route_1 := dk_seg dksX2_route_0 22 rfl rfl
theorem dksX2_route_2 : cX2_route.data.toList.drop 44 = dktX2_route_2 := dk_seg dksX2_route_1 22 rfl rfl
theorem dX2_route_0 : decode cX2_route 0 = .ok (.new 21, 3) := dk_187 0 21 (dk_at dksX2_route_0 0 rfl rfl)
theorem dX2_route_3 : decode cX2_route 3 = .ok (.dup, 1) := dk_89 (dk_at dksX2_route_0 3 rfl rfl)
theorem dX2_route_4 : decode cX2_route 4 = .ok (.invokespecial 23, 3) := dk_183 0 23 (dk_at dksX2_route_0 4 rfl rfl)
theorem dX2_route_7 : decode cX2_route 7 = .ok (.astore_n 3, 1) := dk_78 (dk_at dksX2_route_0 7 rfl rfl)
theorem dX2_route_8 : decode cX2_route 8 = .ok (.aload_n 0, 1) := dk_42 (dk_at dksX2_route_0 8 rfl rfl)
theorem dX2_route_9 : decode cX2_route 9 = .ok (.aload_n 2, 1) := dk_44 (dk_at dksX2_route_0 9 rfl rfl)
theorem dX2_route_10 : decode cX2_route 10 = .ok (.invokevirtual 190, 3) := dk_182 0 190 (dk_at dksX2_route_0 10 rfl rfl)
theorem dX2_route_13 : decode cX2_route 13 = .ok (.astore 4, 2) := dk_58 4 (dk_at dksX2_route_0 13 rfl rfl)
theorem dX2_route_15 : decode cX2_route 15 = .ok (.aload 4, 2) := dk_25 4 (dk_at dksX2_route_0 15 rfl rfl)
theorem dX2_route_17 : decode cX2_route 17 = .ok (.aload_n 1, 1) := dk_43 (dk_at dksX2_route_0 17 rfl rfl)
theorem dX2_route_18 : decode cX2_route 18 = .ok (.getfield 137, 3) := dk_180 0 137 (dk_at dksX2_route_0 18 rfl rfl)
theorem dX2_route_21 : decode cX2_route 21 = .ok (.iaload, 1) := dk_46 (dk_at dksX2_route_0 21 rfl rfl)
theorem dX2_route_22 : decode cX2_route 22 = .ok (.ifCond .ge 5, 3) := dk_156 0 5 (dk_at dksX2_route_1 0 rfl rfl)
theorem dX2_route_25 : decode cX2_route 25 = .ok (.aload_n 3, 1) := dk_45 (dk_at dksX2_route_1 3 rfl rfl)
theorem dX2_route_26 : decode cX2_route 26 = .ok (.areturn, 1) := dk_176 (dk_at dksX2_route_1 4 rfl rfl)
theorem dX2_route_27 : decode cX2_route 27 = .ok (.aload_n 3, 1) := dk_45 (dk_at dksX2_route_1 5 rfl rfl)
theorem dX2_route_28 : decode cX2_route 28 = .ok (.aload_n 1, 1) := dk_43 (dk_at dksX2_route_1 6 rfl rfl)
theorem dX2_route_29 : decode cX2_route 29 = .ok (.invokevirtual 75, 3) := dk_182 0 75 (dk_at dksX2_route_1 7 rfl rfl)
theorem dX2_route_32 : decode cX2_route 32 = .ok (.pop, 1) := dk_87 (dk_at dksX2_route_1 10 rfl rfl)
theorem dX2_route_33 : decode cX2_route 33 = .ok (.aload_n 3, 1) := dk_45 (dk_at dksX2_route_1 11 rfl rfl)
theorem dX2_route_34 : decode cX2_route 34 = .ok (.invokevirtual 194, 3) := dk_182 0 194 (dk_at dksX2_route_1 12 rfl rfl)
theorem dX2_route_37 : decode cX2_route 37 = .ok (.aload_n 2, 1) := dk_44 (dk_at dksX2_route_1 15 rfl rfl)
theorem dX2_route_38 : decode cX2_route 38 = .ok (.if_acmp .eq 24, 3) := dk_165 0 24 (dk_at dksX2_route_1 16 rfl rfl)
theorem dX2_route_41 : decode cX2_route 41 = .ok (.aload_n 3, 1) := dk_45 (dk_at dksX2_route_1 19 rfl rfl)
theorem dX2_route_42 : decode cX2_route 42 = .ok (.aload_n 0, 1) := dk_42 (dk_at dksX2_route_1 20 rfl rfl)
theorem dX2_route_43 : decode cX2_route 43 = .ok (.aload_n 3, 1) := dk_45 (dk_at dksX2_route_1 21 rfl rfl)
theorem dX2_route_44 : decode cX2_route 44 = .ok (.invokevirtual 194, 3) := dk_182 0 194 (dk_at dksX2_route_2 0 rfl rfl)
theorem dX2_route_47 : decode cX2_route 47 = .ok (.checkcast 57, 3) := dk_192 0 57 (dk_at dksX2_route_2 3 rfl rfl)
theorem dX2_route_50 : decode cX2_route 50 = .ok (.aload 4, 2) := dk_25 4 (dk_at dksX2_route_2 6 rfl rfl)
theorem dX2_route_52 : decode cX2_route 52 = .ok (.invokevirtual 197, 3) := dk_182 0 197 (dk_at dksX2_route_2 8 rfl rfl)
theorem dX2_route_55 : decode cX2_route 55 = .ok (.invokevirtual 75, 3) := dk_182 0 75 (dk_at dksX2_route_2 11 rfl rfl)
theorem dX2_route_58 : decode cX2_route 58 = .ok (.pop, 1) := dk_87 (dk_at dksX2_route_2 14 rfl rfl)
theorem dX2_route_59 : decode cX2_route 59 = .ok (.goto (-26), 3) := dk_167 255 230 (dk_at dksX2_route_2 15 rfl rfl)
theorem dX2_route_62 : decode cX2_route 62 = .ok (.aload_n 3, 1) := dk_45 (dk_at dksX2_route_2 18 rfl rfl)
theorem dX2_route_63 : decode cX2_route 63 = .ok (.areturn, 1) := dk_176 (dk_at dksX2_route_2 19 rfl rfl)
abbrev cX2_nextOf : ByteArray := prog_10_method_22_code
def yX2_nextOf : MethodName := ⟨RX2, "nextOf", "(LSkerryLights$Tower;[I)LSkerryLights$Tower;"⟩
def dkwX2_nextOf_2 : List UInt8 := [43, 25, 4, 182, 0, 187, 153, 0, 6, 25, 4, 176, 167, 255, 205, 43, 176]
abbrev dktX2_nextOf_2 : List UInt8 := dkwX2_nextOf_2 ++ []
def dkwX2_nextOf_1 : List UInt8 := [192, 0, 57, 58, 4, 44, 25, 4, 180, 0, 137, 46, 44, 43, 180, 0, 137, 46, 4, 100, 160, 0, 16, 42]
abbrev dktX2_nextOf_1 : List UInt8 := dkwX2_nextOf_1 ++ dktX2_nextOf_2
def dkwX2_nextOf_0 : List UInt8 := [42, 180, 0, 12, 182, 0, 33, 78, 45, 185, 0, 37, 1, 0, 153, 0, 48, 45, 185, 0, 43, 1, 0]
abbrev dktX2_nextOf_0 : List UInt8 := dkwX2_nextOf_0 ++ dktX2_nextOf_1
theorem dksX2_nextOf_0 : cX2_nextOf.data.toList.drop 0 = dktX2_nextOf_0 := by decide +kernel
theorem dksX2_nextOf_1 : cX2_nextOf.data.toList.drop 23 = dktX2_nextOf_1 := dk_seg dksX2_nextOf_0 23 rfl rfl
theorem dksX2_nextOf_2 : cX2_nextOf.data.toList.drop 47 = dktX2_nextOf_2 := dk_seg dksX2_nextOf_1 24 rfl rfl
theorem dX2_nextOf_0 : decode cX2_nextOf 0 = .ok (.aload_n 0, 1) := dk_42 (dk_at dksX2_nextOf_0 0 rfl rfl)
theorem dX2_nextOf_1 : decode cX2_nextOf 1 = .ok (.getfield 12, 3) := dk_180 0 12 (dk_at dksX2_nextOf_0 1 rfl rfl)
theorem dX2_nextOf_4 : decode cX2_nextOf 4 = .ok (.invokevirtual 33, 3) := dk_182 0 33 (dk_at dksX2_nextOf_0 4 rfl rfl)
theorem dX2_nextOf_7 : decode cX2_nextOf 7 = .ok (.astore_n 3, 1) := dk_78 (dk_at dksX2_nextOf_0 7 rfl rfl)
theorem dX2_nextOf_8 : decode cX2_nextOf 8 = .ok (.aload_n 3, 1) := dk_45 (dk_at dksX2_nextOf_0 8 rfl rfl)
theorem dX2_nextOf_9 : decode cX2_nextOf 9 = .ok (.invokeinterface 37 1, 5) := by decide +kernel
theorem dX2_nextOf_14 : decode cX2_nextOf 14 = .ok (.ifCond .eq 48, 3) := dk_153 0 48 (dk_at dksX2_nextOf_0 14 rfl rfl)
theorem dX2_nextOf_17 : decode cX2_nextOf 17 = .ok (.aload_n 3, 1) := dk_45 (dk_at dksX2_nextOf_0 17 rfl rfl)
theorem dX2_nextOf_18 : decode cX2_nextOf 18 = .ok (.invokeinterface 43 1, 5) := by decide +kernel
theorem dX2_nextOf_23 : decode cX2_nextOf 23 = .ok (.checkcast 57, 3) := dk_192 0 57 (dk_at dksX2_nextOf_1 0 rfl rfl)
theorem dX2_nextOf_26 : decode cX2_nextOf 26 = .ok (.astore 4, 2) := dk_58 4 (dk_at dksX2_nextOf_1 3 rfl rfl)
theorem dX2_nextOf_28 : decode cX2_nextOf 28 = .ok (.aload_n 2, 1) := dk_44 (dk_at dksX2_nextOf_1 5 rfl rfl)
theorem dX2_nextOf_29 : decode cX2_nextOf 29 = .ok (.aload 4, 2) := dk_25 4 (dk_at dksX2_nextOf_1 6 rfl rfl)
theorem dX2_nextOf_31 : decode cX2_nextOf 31 = .ok (.getfield 137, 3) := dk_180 0 137 (dk_at dksX2_nextOf_1 8 rfl rfl)
theorem dX2_nextOf_34 : decode cX2_nextOf 34 = .ok (.iaload, 1) := dk_46 (dk_at dksX2_nextOf_1 11 rfl rfl)
theorem dX2_nextOf_35 : decode cX2_nextOf 35 = .ok (.aload_n 2, 1) := dk_44 (dk_at dksX2_nextOf_1 12 rfl rfl)
theorem dX2_nextOf_36 : decode cX2_nextOf 36 = .ok (.aload_n 1, 1) := dk_43 (dk_at dksX2_nextOf_1 13 rfl rfl)
theorem dX2_nextOf_37 : decode cX2_nextOf 37 = .ok (.getfield 137, 3) := dk_180 0 137 (dk_at dksX2_nextOf_1 14 rfl rfl)
theorem dX2_nextOf_40 : decode cX2_nextOf 40 = .ok (.iaload, 1) := dk_46 (dk_at dksX2_nextOf_1 17 rfl rfl)
theorem dX2_nextOf_41 : decode cX2_nextOf 41 = .ok (.iconst 1, 1) := dk_4 (dk_at dksX2_nextOf_1 18 rfl rfl)
theorem dX2_nextOf_42 : decode cX2_nextOf 42 = .ok (.isub, 1) := dk_100 (dk_at dksX2_nextOf_1 19 rfl rfl)
theorem dX2_nextOf_43 : decode cX2_nextOf 43 = .ok (.if_icmp .ne 16, 3) := dk_160 0 16 (dk_at dksX2_nextOf_1 20 rfl rfl)
theorem dX2_nextOf_46 : decode cX2_nextOf 46 = .ok (.aload_n 0, 1) := dk_42 (dk_at dksX2_nextOf_1 23 rfl rfl)
theorem dX2_nextOf_47 : decode cX2_nextOf 47 = .ok (.aload_n 1, 1) := dk_43 (dk_at dksX2_nextOf_2 0 rfl rfl)
theorem dX2_nextOf_48 : decode cX2_nextOf 48 = .ok (.aload 4, 2) := dk_25 4 (dk_at dksX2_nextOf_2 1 rfl rfl)
theorem dX2_nextOf_50 : decode cX2_nextOf 50 = .ok (.invokevirtual 187, 3) := dk_182 0 187 (dk_at dksX2_nextOf_2 3 rfl rfl)
theorem dX2_nextOf_53 : decode cX2_nextOf 53 = .ok (.ifCond .eq 6, 3) := dk_153 0 6 (dk_at dksX2_nextOf_2 6 rfl rfl)
theorem dX2_nextOf_56 : decode cX2_nextOf 56 = .ok (.aload 4, 2) := dk_25 4 (dk_at dksX2_nextOf_2 9 rfl rfl)
theorem dX2_nextOf_58 : decode cX2_nextOf 58 = .ok (.areturn, 1) := dk_176 (dk_at dksX2_nextOf_2 11 rfl rfl)
theorem dX2_nextOf_59 : decode cX2_nextOf 59 = .ok (.goto (-51), 3) := dk_167 255 205 (dk_at dksX2_nextOf_2 12 rfl rfl)
theorem dX2_nextOf_62 : decode cX2_nextOf 62 = .ok (.aload_n 1, 1) := dk_43 (dk_at dksX2_nextOf_2 15 rfl rfl)
theorem dX2_nextOf_63 : decode cX2_nextOf 63 = .ok (.areturn, 1) := dk_176 (dk_at dksX2_nextOf_2 16 rfl rfl)
theorem q106 : (Jvm.Cond.initialized "SkerryLights$State") ∈ lw_all := lw_g (lw_at lw_m1 2 rfl) rfl
theorem q170 : (Jvm.Cond.instantiable "SkerryLights$State" (7 : Nat)) ∈ lw_all := lw_g (lw_at lw_m1 66 rfl) rfl
theorem q172 : (Jvm.Cond.instanceMethod ({ cls := "SkerryLights$State", name := "<init>", desc := "()V" } : Jvm.MethodName)) ∈ lw_all := lw_g (lw_at lw_m1 68 rfl) rfl
theorem q173 : (Jvm.Cond.code ({ cls := "SkerryLights$State", name := "<init>", desc := "()V" } : Jvm.MethodName) prog_10_method_1_code (1 : Nat) (Option.none : Option Jvm.ClassFile.FieldType)) ∈ lw_all := lw_g (lw_at lw_m1 69 rfl) rfl
theorem q174 : (Jvm.Cond.methodLink "SkerryLights$State" (3 : Nat) ({ cls := "java/lang/Object", name := "<init>", desc := "()V" } : Jvm.MethodName)) ∈ lw_all := lw_g (lw_at lw_m1 70 rfl) rfl
theorem q175 : (Jvm.Cond.classLink "SkerryLights$State" (9 : Nat) "java/util/ArrayList") ∈ lw_all := lw_g (lw_at lw_m1 71 rfl) rfl
theorem q177 : (Jvm.Cond.methodLink "SkerryLights$State" (11 : Nat) ({ cls := "java/util/ArrayList", name := "<init>", desc := "()V" } : Jvm.MethodName)) ∈ lw_all := lw_g (lw_at lw_m1 73 rfl) rfl
theorem q208 : (Jvm.Cond.classLink "SkerryLights$State" (21 : Nat) "java/util/LinkedList") ∈ lw_all := lw_g (lw_at lw_m1 104 rfl) rfl
theorem q210 : (Jvm.Cond.methodLink "SkerryLights$State" (23 : Nat) ({ cls := "java/util/LinkedList", name := "<init>", desc := "()V" } : Jvm.MethodName)) ∈ lw_all := lw_g (lw_at lw_m1 106 rfl) rfl
theorem q229 : (Jvm.Cond.fieldLink "SkerryLights$State" (12 : Nat) "SkerryLights$State" "towers" "Ljava/util/ArrayList;") ∈ lw_all := lw_g (lw_at lw_m1 125 rfl) rfl
theorem q231 : (Jvm.Cond.fieldLink "SkerryLights$State" (18 : Nat) "SkerryLights$State" "lenses" "Ljava/util/ArrayList;") ∈ lw_all := lw_g (lw_at lw_m1 127 rfl) rfl
theorem q233 : (Jvm.Cond.fieldLink "SkerryLights$State" (24 : Nat) "SkerryLights$State" "store" "Ljava/util/LinkedList;") ∈ lw_all := lw_g (lw_at lw_m1 129 rfl) rfl
theorem q235 : (Jvm.Cond.fieldLink "SkerryLights$State" (28 : Nat) "SkerryLights$State" "fog" "[I") ∈ lw_all := lw_g (lw_at lw_m1 131 rfl) rfl
theorem q237 : (Jvm.Cond.fieldLink "SkerryLights$State" (76 : Nat) "SkerryLights$State" "nights" "I") ∈ lw_all := lw_g (lw_at lw_m1 133 rfl) rfl
theorem q239 : (Jvm.Cond.fieldLink "SkerryLights$State" (79 : Nat) "SkerryLights$State" "mistaken" "I") ∈ lw_all := lw_g (lw_at lw_m1 135 rfl) rfl
theorem q241 : (Jvm.Cond.fieldLink "SkerryLights$State" (82 : Nat) "SkerryLights$State" "worn" "I") ∈ lw_all := lw_g (lw_at lw_m1 137 rfl) rfl
theorem q243 : (Jvm.Cond.laysFinal "SkerryLights$State" "SkerryLights$State" "towers" "Ljava/util/ArrayList;") ∈ lw_all := lw_g (lw_at lw_m1 139 rfl) rfl
theorem q244 : (Jvm.Cond.soleField "SkerryLights$State" "towers") ∈ lw_all := lw_g (lw_at lw_m1 140 rfl) rfl
theorem q245 : (Jvm.Cond.laysFinal "SkerryLights$State" "SkerryLights$State" "lenses" "Ljava/util/ArrayList;") ∈ lw_all := lw_g (lw_at lw_m1 141 rfl) rfl
theorem q246 : (Jvm.Cond.soleField "SkerryLights$State" "lenses") ∈ lw_all := lw_g (lw_at lw_m1 142 rfl) rfl
theorem q247 : (Jvm.Cond.laysFinal "SkerryLights$State" "SkerryLights$State" "store" "Ljava/util/LinkedList;") ∈ lw_all := lw_g (lw_at lw_m1 143 rfl) rfl
theorem q248 : (Jvm.Cond.soleField "SkerryLights$State" "store") ∈ lw_all := lw_g (lw_at lw_m1 144 rfl) rfl
theorem q249 : (Jvm.Cond.laysFinal "SkerryLights$State" "SkerryLights$State" "fog" "[I") ∈ lw_all := lw_g (lw_at lw_m1 145 rfl) rfl
theorem q250 : (Jvm.Cond.soleField "SkerryLights$State" "fog") ∈ lw_all := lw_g (lw_at lw_m1 146 rfl) rfl
theorem q251 : (Jvm.Cond.lays "SkerryLights$State" "SkerryLights$State" "nights" "I") ∈ lw_all := lw_g (lw_at lw_m1 147 rfl) rfl
theorem q252 : (Jvm.Cond.soleField "SkerryLights$State" "nights") ∈ lw_all := lw_g (lw_at lw_m1 148 rfl) rfl
theorem q253 : (Jvm.Cond.lays "SkerryLights$State" "SkerryLights$State" "mistaken" "I") ∈ lw_all := lw_g (lw_at lw_m1 149 rfl) rfl
theorem q254 : (Jvm.Cond.soleField "SkerryLights$State" "mistaken") ∈ lw_all := lw_g (lw_at lw_m1 150 rfl) rfl
theorem q255 : (Jvm.Cond.lays "SkerryLights$State" "SkerryLights$State" "worn" "I") ∈ lw_all := lw_g (lw_at lw_m1 151 rfl) rfl
theorem q256 : (Jvm.Cond.soleField "SkerryLights$State" "worn") ∈ lw_all := lw_g (lw_at lw_m1 152 rfl) rfl
theorem q257 : (Jvm.Cond.superclass "SkerryLights$State" "java/lang/Object") ∈ lw_all := lw_g (lw_at lw_m1 153 rfl) rfl
theorem q323 : (Jvm.Cond.selects "SkerryLights$State" ({ cls := "java/lang/Object", name := "getClass", desc := "()Ljava/lang/Class;" } : Jvm.MethodName) ({ cls := "java/lang/Object", name := "getClass", desc := "()Ljava/lang/Class;" } : Jvm.MethodName)) ∈ lw_all := lw_g (lw_at lw_m1 219 rfl) rfl
theorem q430 : (Jvm.Cond.instanceMethod ({ cls := "SkerryLights$State", name := "copy", desc := "()LSkerryLights$State;" } : Jvm.MethodName)) ∈ lw_all := lw_g (lw_at lw_m2 86 rfl) rfl
theorem q431 : (Jvm.Cond.selects "SkerryLights$State" ({ cls := "SkerryLights$State", name := "copy", desc := "()LSkerryLights$State;" } : Jvm.MethodName) ({ cls := "SkerryLights$State", name := "copy", desc := "()LSkerryLights$State;" } : Jvm.MethodName)) ∈ lw_all := lw_g (lw_at lw_m2 87 rfl) rfl
theorem q432 : (Jvm.Cond.code ({ cls := "SkerryLights$State", name := "copy", desc := "()LSkerryLights$State;" } : Jvm.MethodName) prog_10_method_2_code (5 : Nat) (Option.some (Jvm.ClassFile.FieldType.object "SkerryLights$State"))) ∈ lw_all := lw_g (lw_at lw_m2 88 rfl) rfl
theorem q433 : (Jvm.Cond.classLink "SkerryLights$State" (13 : Nat) "SkerryLights$State") ∈ lw_all := lw_g (lw_at lw_m2 89 rfl) rfl
theorem q434 : (Jvm.Cond.methodLink "SkerryLights$State" (32 : Nat) ({ cls := "SkerryLights$State", name := "<init>", desc := "()V" } : Jvm.MethodName)) ∈ lw_all := lw_g (lw_at lw_m2 90 rfl) rfl
theorem q435 : (Jvm.Cond.methodLink "SkerryLights$State" (33 : Nat) ({ cls := "java/util/ArrayList", name := "iterator", desc := "()Ljava/util/Iterator;" } : Jvm.MethodName)) ∈ lw_all := lw_g (lw_at lw_m2 91 rfl) rfl
theorem q460 : (Jvm.Cond.interfaceEntry "SkerryLights$State" (37 : Nat)) ∈ lw_tbl := lw_at lw_m2 116 rfl
theorem q461 : (Jvm.Cond.methodLink "SkerryLights$State" (37 : Nat) ({ cls := "java/util/Iterator", name := "hasNext", desc := "()Z" } : Jvm.MethodName)) ∈ lw_all := lw_g (lw_at lw_m2 117 rfl) rfl
theorem q494 : (Jvm.Cond.interfaceEntry "SkerryLights$State" (43 : Nat)) ∈ lw_tbl := lw_at lw_m2 150 rfl
theorem q495 : (Jvm.Cond.methodLink "SkerryLights$State" (43 : Nat) ({ cls := "java/util/Iterator", name := "next", desc := "()Ljava/lang/Object;" } : Jvm.MethodName)) ∈ lw_all := lw_g (lw_at lw_m2 151 rfl) rfl
theorem q949 : (Jvm.Cond.classLink "SkerryLights$State" (47 : Nat) "SkerryLights$Lens") ∈ lw_all := lw_g (lw_at lw_m4 125 rfl) rfl
theorem q950 : (Jvm.Cond.methodLink "SkerryLights$State" (49 : Nat) ({ cls := "SkerryLights$Lens", name := "copy", desc := "()LSkerryLights$Lens;" } : Jvm.MethodName)) ∈ lw_all := lw_g (lw_at lw_m4 126 rfl) rfl
theorem q961 : (Jvm.Cond.fieldLinkNest "SkerryLights$State" (66 : Nat) "SkerryLights$Lens" "number" "I" "SkerryLights") ∈ lw_tbl := lw_at lw_m4 137 rfl
theorem q967 : (Jvm.Cond.fieldLinkNest "SkerryLights$State" (106 : Nat) "SkerryLights$Lens" "power" "I" "SkerryLights") ∈ lw_tbl := lw_at lw_m4 143 rfl
theorem q980 : (Jvm.Cond.methodLink "SkerryLights$State" (53 : Nat) ({ cls := "java/util/ArrayList", name := "add", desc := "(Ljava/lang/Object;)Z" } : Jvm.MethodName)) ∈ lw_all := lw_g (lw_at lw_m4 156 rfl) rfl
theorem q1008 : (Jvm.Cond.classLink "SkerryLights$State" (57 : Nat) "SkerryLights$Tower") ∈ lw_all := lw_g (lw_at lw_m4 184 rfl) rfl
theorem q1009 : (Jvm.Cond.methodLink "SkerryLights$State" (59 : Nat) ({ cls := "SkerryLights$Tower", name := "copy", desc := "()LSkerryLights$Tower;" } : Jvm.MethodName)) ∈ lw_all := lw_g (lw_at lw_m4 185 rfl) rfl
theorem q1020 : (Jvm.Cond.fieldLinkNest "SkerryLights$State" (137 : Nat) "SkerryLights$Tower" "number" "I" "SkerryLights") ∈ lw_tbl := lw_at lw_m4 196 rfl
theorem q1023 : (Jvm.Cond.fieldLinkNest "SkerryLights$State" (89 : Nat) "SkerryLights$Tower" "place" "I" "SkerryLights") ∈ lw_tbl := lw_at lw_m4 199 rfl
theorem q1026 : (Jvm.Cond.fieldLinkNest "SkerryLights$State" (92 : Nat) "SkerryLights$Tower" "side" "LSkerryLights$Side;" "SkerryLights") ∈ lw_tbl := lw_at lw_m4 202 rfl
theorem q1034 : (Jvm.Cond.fieldLinkNest "SkerryLights$State" (62 : Nat) "SkerryLights$Tower" "lens" "LSkerryLights$Lens;" "SkerryLights") ∈ lw_tbl := lw_at lw_m4 210 rfl
theorem q1038 : (Jvm.Cond.fieldLinkNest "SkerryLights$State" (133 : Nat) "SkerryLights$Tower" "isLit" "Z" "SkerryLights") ∈ lw_tbl := lw_at lw_m4 214 rfl
theorem q1041 : (Jvm.Cond.fieldLinkNest "SkerryLights$State" (161 : Nat) "SkerryLights$Tower" "isBroken" "Z" "SkerryLights") ∈ lw_tbl := lw_at lw_m4 217 rfl
theorem q1062 : (Jvm.Cond.methodLink "SkerryLights$State" (70 : Nat) ({ cls := "java/util/ArrayList", name := "get", desc := "(I)Ljava/lang/Object;" } : Jvm.MethodName)) ∈ lw_all := lw_g (lw_at lw_m4 238 rfl) rfl
theorem q1063 : (Jvm.Cond.methodLink "SkerryLights$State" (74 : Nat) ({ cls := "java/util/LinkedList", name := "iterator", desc := "()Ljava/util/Iterator;" } : Jvm.MethodName)) ∈ lw_all := lw_g (lw_at lw_m4 239 rfl) rfl
theorem q1147 : (Jvm.Cond.methodLink "SkerryLights$State" (75 : Nat) ({ cls := "java/util/LinkedList", name := "add", desc := "(Ljava/lang/Object;)Z" } : Jvm.MethodName)) ∈ lw_all := lw_g (lw_at lw_m5 83 rfl) rfl
theorem q1208 : (Jvm.Cond.instanceMethod ({ cls := "SkerryLights$State", name := "look", desc := "()I" } : Jvm.MethodName)) ∈ lw_all := lw_g (lw_at lw_m5 144 rfl) rfl
theorem q1209 : (Jvm.Cond.selects "SkerryLights$State" ({ cls := "SkerryLights$State", name := "look", desc := "()I" } : Jvm.MethodName) ({ cls := "SkerryLights$State", name := "look", desc := "()I" } : Jvm.MethodName)) ∈ lw_all := lw_g (lw_at lw_m5 145 rfl) rfl
theorem q1210 : (Jvm.Cond.code ({ cls := "SkerryLights$State", name := "look", desc := "()I" } : Jvm.MethodName) prog_10_method_10_code (4 : Nat) (Option.some Jvm.ClassFile.FieldType.int)) ∈ lw_all := lw_g (lw_at lw_m5 146 rfl) rfl
theorem q1211 : (Jvm.Cond.methodLink "SkerryLights$State" (142 : Nat) ({ cls := "SkerryLights$Tower", name := "isWeak", desc := "()Z" } : Jvm.MethodName)) ∈ lw_all := lw_g (lw_at lw_m5 147 rfl) rfl
theorem q1215 : (Jvm.Cond.methodLink "SkerryLights$State" (145 : Nat) ({ cls := "SkerryLights$State", name := "toHide", desc := "()LSkerryLights$Tower;" } : Jvm.MethodName)) ∈ lw_all := lw_g (lw_at lw_m5 151 rfl) rfl
theorem q1216 : (Jvm.Cond.privateMethod ({ cls := "SkerryLights$State", name := "toHide", desc := "()LSkerryLights$Tower;" } : Jvm.MethodName)) ∈ lw_tbl := lw_at lw_m5 152 rfl
theorem q1217 : (Jvm.Cond.instanceMethod ({ cls := "SkerryLights$State", name := "toHide", desc := "()LSkerryLights$Tower;" } : Jvm.MethodName)) ∈ lw_all := lw_g (lw_at lw_m5 153 rfl) rfl
theorem q1218 : (Jvm.Cond.code ({ cls := "SkerryLights$State", name := "toHide", desc := "()LSkerryLights$Tower;" } : Jvm.MethodName) prog_10_method_9_code (5 : Nat) (Option.some (Jvm.ClassFile.FieldType.object "SkerryLights$Tower"))) ∈ lw_all := lw_g (lw_at lw_m5 154 rfl) rfl
theorem q1219 : (Jvm.Cond.methodLink "SkerryLights$State" (138 : Nat) ({ cls := "SkerryLights$State", name := "areMistaken", desc := "(LSkerryLights$Tower;LSkerryLights$Tower;)Z" } : Jvm.MethodName)) ∈ lw_all := lw_g (lw_at lw_m5 155 rfl) rfl
theorem q1220 : (Jvm.Cond.instanceMethod ({ cls := "SkerryLights$State", name := "areMistaken", desc := "(LSkerryLights$Tower;LSkerryLights$Tower;)Z" } : Jvm.MethodName)) ∈ lw_all := lw_g (lw_at lw_m5 156 rfl) rfl
theorem q1221 : (Jvm.Cond.selects "SkerryLights$State" ({ cls := "SkerryLights$State", name := "areMistaken", desc := "(LSkerryLights$Tower;LSkerryLights$Tower;)Z" } : Jvm.MethodName) ({ cls := "SkerryLights$State", name := "areMistaken", desc := "(LSkerryLights$Tower;LSkerryLights$Tower;)Z" } : Jvm.MethodName)) ∈ lw_all := lw_g (lw_at lw_m5 157 rfl) rfl
theorem q1222 : (Jvm.Cond.code ({ cls := "SkerryLights$State", name := "areMistaken", desc := "(LSkerryLights$Tower;LSkerryLights$Tower;)Z" } : Jvm.MethodName) prog_10_method_7_code (3 : Nat) (Option.some Jvm.ClassFile.FieldType.boolean)) ∈ lw_all := lw_g (lw_at lw_m5 158 rfl) rfl
theorem q1223 : (Jvm.Cond.methodLink "SkerryLights$State" (121 : Nat) ({ cls := "SkerryLights$Tower", name := "isLike", desc := "(LSkerryLights$Tower;)Z" } : Jvm.MethodName)) ∈ lw_all := lw_g (lw_at lw_m5 159 rfl) rfl
theorem q1231 : (Jvm.Cond.methodLink "SkerryLights$State" (125 : Nat) ({ cls := "SkerryLights$State", name := "reached", desc := "(LSkerryLights$Tower;)Ljava/util/BitSet;" } : Jvm.MethodName)) ∈ lw_all := lw_g (lw_at lw_m5 167 rfl) rfl
theorem q1232 : (Jvm.Cond.instanceMethod ({ cls := "SkerryLights$State", name := "reached", desc := "(LSkerryLights$Tower;)Ljava/util/BitSet;" } : Jvm.MethodName)) ∈ lw_all := lw_g (lw_at lw_m5 168 rfl) rfl
theorem q1233 : (Jvm.Cond.selects "SkerryLights$State" ({ cls := "SkerryLights$State", name := "reached", desc := "(LSkerryLights$Tower;)Ljava/util/BitSet;" } : Jvm.MethodName) ({ cls := "SkerryLights$State", name := "reached", desc := "(LSkerryLights$Tower;)Ljava/util/BitSet;" } : Jvm.MethodName)) ∈ lw_all := lw_g (lw_at lw_m5 169 rfl) rfl
theorem q1234 : (Jvm.Cond.code ({ cls := "SkerryLights$State", name := "reached", desc := "(LSkerryLights$Tower;)Ljava/util/BitSet;" } : Jvm.MethodName) prog_10_method_6_code (4 : Nat) (Option.some (Jvm.ClassFile.FieldType.object "java/util/BitSet"))) ∈ lw_all := lw_g (lw_at lw_m5 170 rfl) rfl
theorem q1235 : (Jvm.Cond.classLink "SkerryLights$State" (109 : Nat) "java/util/BitSet") ∈ lw_all := lw_g (lw_at lw_m5 171 rfl) rfl
theorem q1237 : (Jvm.Cond.methodLink "SkerryLights$State" (111 : Nat) ({ cls := "java/util/BitSet", name := "<init>", desc := "(I)V" } : Jvm.MethodName)) ∈ lw_all := lw_g (lw_at lw_m5 173 rfl) rfl
theorem q1259 : (Jvm.Cond.methodLink "SkerryLights$State" (114 : Nat) ({ cls := "SkerryLights$State", name := "reaches", desc := "(LSkerryLights$Tower;I)Z" } : Jvm.MethodName)) ∈ lw_all := lw_g (lw_at lw_m5 195 rfl) rfl
theorem q1260 : (Jvm.Cond.instanceMethod ({ cls := "SkerryLights$State", name := "reaches", desc := "(LSkerryLights$Tower;I)Z" } : Jvm.MethodName)) ∈ lw_all := lw_g (lw_at lw_m5 196 rfl) rfl
theorem q1261 : (Jvm.Cond.selects "SkerryLights$State" ({ cls := "SkerryLights$State", name := "reaches", desc := "(LSkerryLights$Tower;I)Z" } : Jvm.MethodName) ({ cls := "SkerryLights$State", name := "reaches", desc := "(LSkerryLights$Tower;I)Z" } : Jvm.MethodName)) ∈ lw_all := lw_g (lw_at lw_m5 197 rfl) rfl
theorem q1262 : (Jvm.Cond.code ({ cls := "SkerryLights$State", name := "reaches", desc := "(LSkerryLights$Tower;I)Z" } : Jvm.MethodName) prog_10_method_5_code (3 : Nat) (Option.some Jvm.ClassFile.FieldType.boolean)) ∈ lw_all := lw_g (lw_at lw_m5 198 rfl) rfl
theorem q1263 : (Jvm.Cond.methodLink "SkerryLights$State" (96 : Nat) ({ cls := "SkerryLights$Side", name := "has", desc := "(II)Z" } : Jvm.MethodName)) ∈ lw_all := lw_g (lw_at lw_m5 199 rfl) rfl
theorem q1275 : (Jvm.Cond.methodLink "SkerryLights$State" (102 : Nat) ({ cls := "SkerryLights$State", name := "cost", desc := "(II)I" } : Jvm.MethodName)) ∈ lw_all := lw_g (lw_at lw_m5 211 rfl) rfl
theorem q1276 : (Jvm.Cond.instanceMethod ({ cls := "SkerryLights$State", name := "cost", desc := "(II)I" } : Jvm.MethodName)) ∈ lw_all := lw_g (lw_at lw_m5 212 rfl) rfl
theorem q1277 : (Jvm.Cond.selects "SkerryLights$State" ({ cls := "SkerryLights$State", name := "cost", desc := "(II)I" } : Jvm.MethodName) ({ cls := "SkerryLights$State", name := "cost", desc := "(II)I" } : Jvm.MethodName)) ∈ lw_all := lw_g (lw_at lw_m5 213 rfl) rfl
theorem q1278 : (Jvm.Cond.code ({ cls := "SkerryLights$State", name := "cost", desc := "(II)I" } : Jvm.MethodName) prog_10_method_4_code (6 : Nat) (Option.some Jvm.ClassFile.FieldType.int)) ∈ lw_all := lw_g (lw_at lw_m5 214 rfl) rfl
theorem q1279 : (Jvm.Cond.methodLink "SkerryLights$State" (85 : Nat) ({ cls := "SkerryLights$State", name := "costOf", desc := "(I)I" } : Jvm.MethodName)) ∈ lw_all := lw_g (lw_at lw_m5 215 rfl) rfl
theorem q1280 : (Jvm.Cond.instanceMethod ({ cls := "SkerryLights$State", name := "costOf", desc := "(I)I" } : Jvm.MethodName)) ∈ lw_all := lw_g (lw_at lw_m5 216 rfl) rfl
theorem q1281 : (Jvm.Cond.selects "SkerryLights$State" ({ cls := "SkerryLights$State", name := "costOf", desc := "(I)I" } : Jvm.MethodName) ({ cls := "SkerryLights$State", name := "costOf", desc := "(I)I" } : Jvm.MethodName)) ∈ lw_all := lw_g (lw_at lw_m5 217 rfl) rfl
theorem q1282 : (Jvm.Cond.code ({ cls := "SkerryLights$State", name := "costOf", desc := "(I)I" } : Jvm.MethodName) prog_10_method_3_code (2 : Nat) (Option.some Jvm.ClassFile.FieldType.int)) ∈ lw_all := lw_g (lw_at lw_m5 218 rfl) rfl
theorem q1283 : (Jvm.Cond.methodLink "SkerryLights$State" (118 : Nat) ({ cls := "java/util/BitSet", name := "set", desc := "(I)V" } : Jvm.MethodName)) ∈ lw_all := lw_g (lw_at lw_m5 219 rfl) rfl
theorem q1318 : (Jvm.Cond.methodLink "SkerryLights$State" (129 : Nat) ({ cls := "java/util/BitSet", name := "intersects", desc := "(Ljava/util/BitSet;)Z" } : Jvm.MethodName)) ∈ lw_all := lw_g (lw_at lw_m6 14 rfl) rfl
theorem q1470 : (Jvm.Cond.instanceMethod ({ cls := "SkerryLights$State", name := "lit", desc := "()I" } : Jvm.MethodName)) ∈ lw_all := lw_g (lw_at lw_m6 166 rfl) rfl
theorem q1471 : (Jvm.Cond.selects "SkerryLights$State" ({ cls := "SkerryLights$State", name := "lit", desc := "()I" } : Jvm.MethodName) ({ cls := "SkerryLights$State", name := "lit", desc := "()I" } : Jvm.MethodName)) ∈ lw_all := lw_g (lw_at lw_m6 167 rfl) rfl
theorem q1472 : (Jvm.Cond.code ({ cls := "SkerryLights$State", name := "lit", desc := "()I" } : Jvm.MethodName) prog_10_method_8_code (4 : Nat) (Option.some Jvm.ClassFile.FieldType.int)) ∈ lw_all := lw_g (lw_at lw_m6 168 rfl) rfl
theorem q1650 : (Jvm.Cond.instanceMethod ({ cls := "SkerryLights$State", name := "whyNotFitted", desc := "()LSkerryLights$Refusal;" } : Jvm.MethodName)) ∈ lw_all := lw_g (lw_at lw_m7 106 rfl) rfl
theorem q1651 : (Jvm.Cond.selects "SkerryLights$State" ({ cls := "SkerryLights$State", name := "whyNotFitted", desc := "()LSkerryLights$Refusal;" } : Jvm.MethodName) ({ cls := "SkerryLights$State", name := "whyNotFitted", desc := "()LSkerryLights$Refusal;" } : Jvm.MethodName)) ∈ lw_all := lw_g (lw_at lw_m7 107 rfl) rfl
theorem q1652 : (Jvm.Cond.code ({ cls := "SkerryLights$State", name := "whyNotFitted", desc := "()LSkerryLights$Refusal;" } : Jvm.MethodName) prog_10_method_17_code (1 : Nat) (Option.some (Jvm.ClassFile.FieldType.object "SkerryLights$Refusal"))) ∈ lw_all := lw_g (lw_at lw_m7 108 rfl) rfl
theorem q1653 : (Jvm.Cond.methodLink "SkerryLights$State" (169 : Nat) ({ cls := "java/util/LinkedList", name := "isEmpty", desc := "()Z" } : Jvm.MethodName)) ∈ lw_all := lw_g (lw_at lw_m7 109 rfl) rfl
theorem q1665 : (Jvm.Cond.classLink "SkerryLights$State" (164 : Nat) "SkerryLights$Refusal") ∈ lw_all := lw_g (lw_at lw_m7 121 rfl) rfl
theorem q1666 : (Jvm.Cond.methodLink "SkerryLights$State" (166 : Nat) ({ cls := "SkerryLights$Refusal", name := "<init>", desc := "(II)V" } : Jvm.MethodName)) ∈ lw_all := lw_g (lw_at lw_m7 122 rfl) rfl
theorem q1668 : (Jvm.Cond.instanceMethod ({ cls := "SkerryLights$State", name := "fit", desc := "(LSkerryLights$Tower;)I" } : Jvm.MethodName)) ∈ lw_all := lw_g (lw_at lw_m7 124 rfl) rfl
theorem q1669 : (Jvm.Cond.selects "SkerryLights$State" ({ cls := "SkerryLights$State", name := "fit", desc := "(LSkerryLights$Tower;)I" } : Jvm.MethodName) ({ cls := "SkerryLights$State", name := "fit", desc := "(LSkerryLights$Tower;)I" } : Jvm.MethodName)) ∈ lw_all := lw_g (lw_at lw_m7 125 rfl) rfl
theorem q1670 : (Jvm.Cond.code ({ cls := "SkerryLights$State", name := "fit", desc := "(LSkerryLights$Tower;)I" } : Jvm.MethodName) prog_10_method_19_code (3 : Nat) (Option.some Jvm.ClassFile.FieldType.int)) ∈ lw_all := lw_g (lw_at lw_m7 126 rfl) rfl
theorem q1671 : (Jvm.Cond.methodLink "SkerryLights$State" (172 : Nat) ({ cls := "java/util/LinkedList", name := "removeFirst", desc := "()Ljava/lang/Object;" } : Jvm.MethodName)) ∈ lw_all := lw_g (lw_at lw_m7 127 rfl) rfl
theorem q1672 : (Jvm.Cond.methodLink "SkerryLights$State" (175 : Nat) ({ cls := "java/util/LinkedList", name := "addLast", desc := "(Ljava/lang/Object;)V" } : Jvm.MethodName)) ∈ lw_all := lw_g (lw_at lw_m7 128 rfl) rfl
theorem q1681 : (Jvm.Cond.instanceMethod ({ cls := "SkerryLights$State", name := "whyNotLit", desc := "(LSkerryLights$Tower;)LSkerryLights$Refusal;" } : Jvm.MethodName)) ∈ lw_all := lw_g (lw_at lw_m7 137 rfl) rfl
theorem q1682 : (Jvm.Cond.selects "SkerryLights$State" ({ cls := "SkerryLights$State", name := "whyNotLit", desc := "(LSkerryLights$Tower;)LSkerryLights$Refusal;" } : Jvm.MethodName) ({ cls := "SkerryLights$State", name := "whyNotLit", desc := "(LSkerryLights$Tower;)LSkerryLights$Refusal;" } : Jvm.MethodName)) ∈ lw_all := lw_g (lw_at lw_m7 138 rfl) rfl
theorem q1683 : (Jvm.Cond.code ({ cls := "SkerryLights$State", name := "whyNotLit", desc := "(LSkerryLights$Tower;)LSkerryLights$Refusal;" } : Jvm.MethodName) prog_10_method_13_code (4 : Nat) (Option.some (Jvm.ClassFile.FieldType.object "SkerryLights$Refusal"))) ∈ lw_all := lw_g (lw_at lw_m7 139 rfl) rfl
theorem q1692 : (Jvm.Cond.instanceMethod ({ cls := "SkerryLights$State", name := "whyNotDark", desc := "(LSkerryLights$Tower;)LSkerryLights$Refusal;" } : Jvm.MethodName)) ∈ lw_all := lw_g (lw_at lw_m7 148 rfl) rfl
theorem q1693 : (Jvm.Cond.selects "SkerryLights$State" ({ cls := "SkerryLights$State", name := "whyNotDark", desc := "(LSkerryLights$Tower;)LSkerryLights$Refusal;" } : Jvm.MethodName) ({ cls := "SkerryLights$State", name := "whyNotDark", desc := "(LSkerryLights$Tower;)LSkerryLights$Refusal;" } : Jvm.MethodName)) ∈ lw_all := lw_g (lw_at lw_m7 149 rfl) rfl
theorem q1694 : (Jvm.Cond.code ({ cls := "SkerryLights$State", name := "whyNotDark", desc := "(LSkerryLights$Tower;)LSkerryLights$Refusal;" } : Jvm.MethodName) prog_10_method_14_code (2 : Nat) (Option.some (Jvm.ClassFile.FieldType.object "SkerryLights$Refusal"))) ∈ lw_all := lw_g (lw_at lw_m7 150 rfl) rfl
theorem q1703 : (Jvm.Cond.instanceMethod ({ cls := "SkerryLights$State", name := "whyNotBroken", desc := "(LSkerryLights$Tower;)LSkerryLights$Refusal;" } : Jvm.MethodName)) ∈ lw_all := lw_g (lw_at lw_m7 159 rfl) rfl
theorem q1704 : (Jvm.Cond.selects "SkerryLights$State" ({ cls := "SkerryLights$State", name := "whyNotBroken", desc := "(LSkerryLights$Tower;)LSkerryLights$Refusal;" } : Jvm.MethodName) ({ cls := "SkerryLights$State", name := "whyNotBroken", desc := "(LSkerryLights$Tower;)LSkerryLights$Refusal;" } : Jvm.MethodName)) ∈ lw_all := lw_g (lw_at lw_m7 160 rfl) rfl
theorem q1705 : (Jvm.Cond.code ({ cls := "SkerryLights$State", name := "whyNotBroken", desc := "(LSkerryLights$Tower;)LSkerryLights$Refusal;" } : Jvm.MethodName) prog_10_method_15_code (2 : Nat) (Option.some (Jvm.ClassFile.FieldType.object "SkerryLights$Refusal"))) ∈ lw_all := lw_g (lw_at lw_m7 161 rfl) rfl
theorem q1707 : (Jvm.Cond.instanceMethod ({ cls := "SkerryLights$State", name := "breakDown", desc := "(LSkerryLights$Tower;)V" } : Jvm.MethodName)) ∈ lw_all := lw_g (lw_at lw_m7 163 rfl) rfl
theorem q1708 : (Jvm.Cond.selects "SkerryLights$State" ({ cls := "SkerryLights$State", name := "breakDown", desc := "(LSkerryLights$Tower;)V" } : Jvm.MethodName) ({ cls := "SkerryLights$State", name := "breakDown", desc := "(LSkerryLights$Tower;)V" } : Jvm.MethodName)) ∈ lw_all := lw_g (lw_at lw_m7 164 rfl) rfl
theorem q1709 : (Jvm.Cond.code ({ cls := "SkerryLights$State", name := "breakDown", desc := "(LSkerryLights$Tower;)V" } : Jvm.MethodName) prog_10_method_18_code (2 : Nat) (Option.none : Option Jvm.ClassFile.FieldType)) ∈ lw_all := lw_g (lw_at lw_m7 165 rfl) rfl
theorem q1718 : (Jvm.Cond.instanceMethod ({ cls := "SkerryLights$State", name := "whyNotMended", desc := "(LSkerryLights$Tower;)LSkerryLights$Refusal;" } : Jvm.MethodName)) ∈ lw_all := lw_g (lw_at lw_m7 174 rfl) rfl
theorem q1719 : (Jvm.Cond.selects "SkerryLights$State" ({ cls := "SkerryLights$State", name := "whyNotMended", desc := "(LSkerryLights$Tower;)LSkerryLights$Refusal;" } : Jvm.MethodName) ({ cls := "SkerryLights$State", name := "whyNotMended", desc := "(LSkerryLights$Tower;)LSkerryLights$Refusal;" } : Jvm.MethodName)) ∈ lw_all := lw_g (lw_at lw_m7 175 rfl) rfl
theorem q1720 : (Jvm.Cond.code ({ cls := "SkerryLights$State", name := "whyNotMended", desc := "(LSkerryLights$Tower;)LSkerryLights$Refusal;" } : Jvm.MethodName) prog_10_method_16_code (2 : Nat) (Option.some (Jvm.ClassFile.FieldType.object "SkerryLights$Refusal"))) ∈ lw_all := lw_g (lw_at lw_m7 176 rfl) rfl
theorem q1743 : (Jvm.Cond.instanceMethod ({ cls := "SkerryLights$State", name := "night", desc := "()I" } : Jvm.MethodName)) ∈ lw_all := lw_g (lw_at lw_m7 199 rfl) rfl
theorem q1744 : (Jvm.Cond.selects "SkerryLights$State" ({ cls := "SkerryLights$State", name := "night", desc := "()I" } : Jvm.MethodName) ({ cls := "SkerryLights$State", name := "night", desc := "()I" } : Jvm.MethodName)) ∈ lw_all := lw_g (lw_at lw_m7 200 rfl) rfl
theorem q1745 : (Jvm.Cond.code ({ cls := "SkerryLights$State", name := "night", desc := "()I" } : Jvm.MethodName) prog_10_method_12_code (3 : Nat) (Option.some Jvm.ClassFile.FieldType.int)) ∈ lw_all := lw_g (lw_at lw_m7 201 rfl) rfl
theorem q1746 : (Jvm.Cond.methodLink "SkerryLights$State" (148 : Nat) ({ cls := "SkerryLights$State", name := "fogAt", desc := "(I)I" } : Jvm.MethodName)) ∈ lw_all := lw_g (lw_at lw_m7 202 rfl) rfl
theorem q1747 : (Jvm.Cond.privateMethod ({ cls := "SkerryLights$State", name := "fogAt", desc := "(I)I" } : Jvm.MethodName)) ∈ lw_tbl := lw_at lw_m7 203 rfl
theorem q1748 : (Jvm.Cond.instanceMethod ({ cls := "SkerryLights$State", name := "fogAt", desc := "(I)I" } : Jvm.MethodName)) ∈ lw_all := lw_g (lw_at lw_m7 204 rfl) rfl
theorem q1749 : (Jvm.Cond.code ({ cls := "SkerryLights$State", name := "fogAt", desc := "(I)I" } : Jvm.MethodName) prog_10_method_11_code (2 : Nat) (Option.some Jvm.ClassFile.FieldType.int)) ∈ lw_all := lw_g (lw_at lw_m7 205 rfl) rfl
theorem q1750 : (Jvm.Cond.methodLink "SkerryLights$State" (151 : Nat) ({ cls := "SkerryLights$Lens", name := "wear", desc := "(I)V" } : Jvm.MethodName)) ∈ lw_all := lw_g (lw_at lw_m7 206 rfl) rfl
theorem q1755 : (Jvm.Cond.methodLink "SkerryLights$State" (154 : Nat) ({ cls := "SkerryLights$Lens", name := "rest", desc := "()V" } : Jvm.MethodName)) ∈ lw_all := lw_g (lw_at lw_m7 211 rfl) rfl
theorem q1760 : (Jvm.Cond.methodLink "SkerryLights$State" (157 : Nat) ({ cls := "SkerryLights$State", name := "look", desc := "()I" } : Jvm.MethodName)) ∈ lw_all := lw_g (lw_at lw_m7 216 rfl) rfl
theorem q1840 : (Jvm.Cond.instanceMethod ({ cls := "SkerryLights$State", name := "canSignal", desc := "(LSkerryLights$Tower;LSkerryLights$Tower;)Z" } : Jvm.MethodName)) ∈ lw_all := lw_g (lw_at lw_m8 56 rfl) rfl
theorem q1841 : (Jvm.Cond.selects "SkerryLights$State" ({ cls := "SkerryLights$State", name := "canSignal", desc := "(LSkerryLights$Tower;LSkerryLights$Tower;)Z" } : Jvm.MethodName) ({ cls := "SkerryLights$State", name := "canSignal", desc := "(LSkerryLights$Tower;LSkerryLights$Tower;)Z" } : Jvm.MethodName)) ∈ lw_all := lw_g (lw_at lw_m8 57 rfl) rfl
theorem q1842 : (Jvm.Cond.code ({ cls := "SkerryLights$State", name := "canSignal", desc := "(LSkerryLights$Tower;LSkerryLights$Tower;)Z" } : Jvm.MethodName) prog_10_method_20_code (3 : Nat) (Option.some Jvm.ClassFile.FieldType.boolean)) ∈ lw_all := lw_g (lw_at lw_m8 58 rfl) rfl
theorem q1844 : (Jvm.Cond.instanceMethod ({ cls := "SkerryLights$State", name := "margin", desc := "(LSkerryLights$Tower;LSkerryLights$Tower;)I" } : Jvm.MethodName)) ∈ lw_all := lw_g (lw_at lw_m8 60 rfl) rfl
theorem q1845 : (Jvm.Cond.selects "SkerryLights$State" ({ cls := "SkerryLights$State", name := "margin", desc := "(LSkerryLights$Tower;LSkerryLights$Tower;)I" } : Jvm.MethodName) ({ cls := "SkerryLights$State", name := "margin", desc := "(LSkerryLights$Tower;LSkerryLights$Tower;)I" } : Jvm.MethodName)) ∈ lw_all := lw_g (lw_at lw_m8 61 rfl) rfl
theorem q1846 : (Jvm.Cond.code ({ cls := "SkerryLights$State", name := "margin", desc := "(LSkerryLights$Tower;LSkerryLights$Tower;)I" } : Jvm.MethodName) prog_10_method_25_code (3 : Nat) (Option.some Jvm.ClassFile.FieldType.int)) ∈ lw_all := lw_g (lw_at lw_m8 62 rfl) rfl
theorem q1855 : (Jvm.Cond.instanceMethod ({ cls := "SkerryLights$State", name := "signalsTo", desc := "(LSkerryLights$Tower;)[I" } : Jvm.MethodName)) ∈ lw_all := lw_g (lw_at lw_m8 71 rfl) rfl
theorem q1856 : (Jvm.Cond.selects "SkerryLights$State" ({ cls := "SkerryLights$State", name := "signalsTo", desc := "(LSkerryLights$Tower;)[I" } : Jvm.MethodName) ({ cls := "SkerryLights$State", name := "signalsTo", desc := "(LSkerryLights$Tower;)[I" } : Jvm.MethodName)) ∈ lw_all := lw_g (lw_at lw_m8 72 rfl) rfl
theorem q1857 : (Jvm.Cond.code ({ cls := "SkerryLights$State", name := "signalsTo", desc := "(LSkerryLights$Tower;)[I" } : Jvm.MethodName) prog_10_method_21_code (7 : Nat) (Option.some (Jvm.ClassFile.FieldType.array Jvm.ClassFile.FieldType.int))) ∈ lw_all := lw_g (lw_at lw_m8 73 rfl) rfl
theorem q1858 : (Jvm.Cond.classLink "SkerryLights$State" (179 : Nat) "java/util/ArrayDeque") ∈ lw_all := lw_g (lw_at lw_m8 74 rfl) rfl
theorem q1860 : (Jvm.Cond.methodLink "SkerryLights$State" (181 : Nat) ({ cls := "java/util/ArrayDeque", name := "<init>", desc := "()V" } : Jvm.MethodName)) ∈ lw_all := lw_g (lw_at lw_m8 76 rfl) rfl
theorem q1875 : (Jvm.Cond.methodLink "SkerryLights$State" (182 : Nat) ({ cls := "java/util/ArrayDeque", name := "add", desc := "(Ljava/lang/Object;)Z" } : Jvm.MethodName)) ∈ lw_all := lw_g (lw_at lw_m8 91 rfl) rfl
theorem q1904 : (Jvm.Cond.methodLink "SkerryLights$State" (183 : Nat) ({ cls := "java/util/ArrayDeque", name := "isEmpty", desc := "()Z" } : Jvm.MethodName)) ∈ lw_all := lw_g (lw_at lw_m8 120 rfl) rfl
theorem q1908 : (Jvm.Cond.methodLink "SkerryLights$State" (184 : Nat) ({ cls := "java/util/ArrayDeque", name := "poll", desc := "()Ljava/lang/Object;" } : Jvm.MethodName)) ∈ lw_all := lw_g (lw_at lw_m8 124 rfl) rfl
theorem q1919 : (Jvm.Cond.methodLink "SkerryLights$State" (187 : Nat) ({ cls := "SkerryLights$State", name := "canSignal", desc := "(LSkerryLights$Tower;LSkerryLights$Tower;)Z" } : Jvm.MethodName)) ∈ lw_all := lw_g (lw_at lw_m8 135 rfl) rfl
theorem q1928 : (Jvm.Cond.instanceMethod ({ cls := "SkerryLights$State", name := "fewest", desc := "(LSkerryLights$Tower;LSkerryLights$Tower;I)I" } : Jvm.MethodName)) ∈ lw_all := lw_g (lw_at lw_m8 144 rfl) rfl
theorem q1929 : (Jvm.Cond.selects "SkerryLights$State" ({ cls := "SkerryLights$State", name := "fewest", desc := "(LSkerryLights$Tower;LSkerryLights$Tower;I)I" } : Jvm.MethodName) ({ cls := "SkerryLights$State", name := "fewest", desc := "(LSkerryLights$Tower;LSkerryLights$Tower;I)I" } : Jvm.MethodName)) ∈ lw_all := lw_g (lw_at lw_m8 145 rfl) rfl
theorem q1930 : (Jvm.Cond.code ({ cls := "SkerryLights$State", name := "fewest", desc := "(LSkerryLights$Tower;LSkerryLights$Tower;I)I" } : Jvm.MethodName) prog_10_method_24_code (7 : Nat) (Option.some Jvm.ClassFile.FieldType.int)) ∈ lw_all := lw_g (lw_at lw_m8 146 rfl) rfl
theorem q1931 : (Jvm.Cond.methodLink "SkerryLights$State" (201 : Nat) ({ cls := "SkerryLights$State", name := "fewest", desc := "(LSkerryLights$Tower;LSkerryLights$Tower;I)I" } : Jvm.MethodName)) ∈ lw_all := lw_g (lw_at lw_m8 147 rfl) rfl
theorem q1932 : (Jvm.Cond.methodLink "SkerryLights$State" (205 : Nat) ({ cls := "java/lang/Math", name := "min", desc := "(II)I" } : Jvm.MethodName)) ∈ lw_all := lw_g (lw_at lw_m8 148 rfl) rfl
theorem q1941 : (Jvm.Cond.instanceMethod ({ cls := "SkerryLights$State", name := "route", desc := "(LSkerryLights$Tower;LSkerryLights$Tower;)Ljava/util/LinkedList;" } : Jvm.MethodName)) ∈ lw_all := lw_g (lw_at lw_m8 157 rfl) rfl
theorem q1942 : (Jvm.Cond.selects "SkerryLights$State" ({ cls := "SkerryLights$State", name := "route", desc := "(LSkerryLights$Tower;LSkerryLights$Tower;)Ljava/util/LinkedList;" } : Jvm.MethodName) ({ cls := "SkerryLights$State", name := "route", desc := "(LSkerryLights$Tower;LSkerryLights$Tower;)Ljava/util/LinkedList;" } : Jvm.MethodName)) ∈ lw_all := lw_g (lw_at lw_m8 158 rfl) rfl
theorem q1943 : (Jvm.Cond.code ({ cls := "SkerryLights$State", name := "route", desc := "(LSkerryLights$Tower;LSkerryLights$Tower;)Ljava/util/LinkedList;" } : Jvm.MethodName) prog_10_method_23_code (5 : Nat) (Option.some (Jvm.ClassFile.FieldType.object "java/util/LinkedList"))) ∈ lw_all := lw_g (lw_at lw_m8 159 rfl) rfl
theorem q1944 : (Jvm.Cond.methodLink "SkerryLights$State" (190 : Nat) ({ cls := "SkerryLights$State", name := "signalsTo", desc := "(LSkerryLights$Tower;)[I" } : Jvm.MethodName)) ∈ lw_all := lw_g (lw_at lw_m8 160 rfl) rfl
theorem q1945 : (Jvm.Cond.methodLink "SkerryLights$State" (194 : Nat) ({ cls := "java/util/LinkedList", name := "getLast", desc := "()Ljava/lang/Object;" } : Jvm.MethodName)) ∈ lw_all := lw_g (lw_at lw_m8 161 rfl) rfl
theorem q1946 : (Jvm.Cond.methodLink "SkerryLights$State" (197 : Nat) ({ cls := "SkerryLights$State", name := "nextOf", desc := "(LSkerryLights$Tower;[I)LSkerryLights$Tower;" } : Jvm.MethodName)) ∈ lw_all := lw_g (lw_at lw_m8 162 rfl) rfl
theorem q1947 : (Jvm.Cond.privateMethod ({ cls := "SkerryLights$State", name := "nextOf", desc := "(LSkerryLights$Tower;[I)LSkerryLights$Tower;" } : Jvm.MethodName)) ∈ lw_tbl := lw_at lw_m8 163 rfl
theorem q1948 : (Jvm.Cond.instanceMethod ({ cls := "SkerryLights$State", name := "nextOf", desc := "(LSkerryLights$Tower;[I)LSkerryLights$Tower;" } : Jvm.MethodName)) ∈ lw_all := lw_g (lw_at lw_m8 164 rfl) rfl
theorem q1949 : (Jvm.Cond.code ({ cls := "SkerryLights$State", name := "nextOf", desc := "(LSkerryLights$Tower;[I)LSkerryLights$Tower;" } : Jvm.MethodName) prog_10_method_22_code (5 : Nat) (Option.some (Jvm.ClassFile.FieldType.object "SkerryLights$Tower"))) ∈ lw_all := lw_g (lw_at lw_m8 165 rfl) rfl
theorem q2394 : (Jvm.Cond.selects "SkerryLights$State" ({ cls := "java/lang/Object", name := "equals", desc := "(Ljava/lang/Object;)Z" } : Jvm.MethodName) ({ cls := "java/lang/Object", name := "equals", desc := "(Ljava/lang/Object;)Z" } : Jvm.MethodName)) ∈ lw_all := lw_g (lw_at lw_m10 130 rfl) rfl
theorem q3094 : (Jvm.Cond.castable "SkerryLights$State" "java/lang/Object") ∈ lw_tbl := lw_at lw_m13 110 rfl
theorem in_X2 : ∀ w ∈ wsX20, w ∈ lw_all := lw_in wsX20 [243, 245, 247, 249, 251, 253, 255] (by decide +kernel) (by decide +kernel)
