/-! SkerryLights -/
set_option maxRecDepth 100000
def RX1 : String := "SkerryLights"
def TX1 : u_T := fun k => match k with
  | 0 => ("SkerryLights", "state", "LSkerryLights$State;", false)
  | 1 => ("SkerryLights", "saved", "LSkerryLights$State;", false)
  | 2 => ("SkerryLights", "history", "Ljava/util/LinkedList;", true)
  | 3 => ("SkerryLights", "input", "Ljava/lang/StringBuilder;", true)
  | 4 => ("SkerryLights", "word", "Ljava/lang/StringBuilder;", true)
  | 5 => ("SkerryLights", "hasCome", "Z", false)
  | 6 => ("SkerryLights", "faultPosition", "I", false)
  | 7 => ("SkerryLights", "latest", "Ljava/util/ArrayList;", true)
  | _ => ("SkerryLights", "sides", "Ljava/util/List;", true)
def tyX1 : Nat → FieldType := fun k => match k with
  | 0 => .object "SkerryLights$State"
  | 1 => .object "SkerryLights$State"
  | 2 => .object "java/util/LinkedList"
  | 3 => .object "java/lang/StringBuilder"
  | 4 => .object "java/lang/StringBuilder"
  | 5 => .boolean
  | 6 => .int
  | 7 => .object "java/util/ArrayList"
  | _ => .object "java/util/List"
abbrev wsX10 : List Cond := u_ws RX1 TX1 9
theorem nmX1 : ∀ a, a < 9 → ∀ b, b < 9 → a ≠ b → (TX1 a).2.1 ≠ (TX1 b).2.1 := by decide +kernel
theorem tyX1_ok : ∀ k, k < 9 → parseFieldDescriptor (TX1 k).2.2.1 = some (tyX1 k) := by decide +kernel
abbrev cX1_init : ByteArray := prog_1_method_1_code
def yX1_init : MethodName := ⟨RX1, "<init>", "()V"⟩
def dkwX1_init_3 : List UInt8 := [178, 0, 50, 178, 0, 53, 184, 0, 56, 181, 0, 62, 177]
abbrev dktX1_init_3 : List UInt8 := dkwX1_init_3 ++ []
def dkwX1_init_2 : List UInt8 := [181, 0, 30, 42, 2, 181, 0, 33, 42, 187, 0, 37, 89, 183, 0, 39, 181, 0, 40, 42, 178, 0, 44]
abbrev dktX1_init_2 : List UInt8 := dkwX1_init_2 ++ dktX1_init_3
def dkwX1_init_1 : List UInt8 := [181, 0, 19, 42, 187, 0, 23, 89, 183, 0, 25, 181, 0, 26, 42, 187, 0, 23, 89, 183, 0, 25]
abbrev dktX1_init_1 : List UInt8 := dkwX1_init_1 ++ dktX1_init_2
def dkwX1_init_0 : List UInt8 := [42, 183, 0, 1, 42, 187, 0, 7, 89, 183, 0, 9, 181, 0, 10, 42, 187, 0, 16, 89, 183, 0, 18]
abbrev dktX1_init_0 : List UInt8 := dkwX1_init_0 ++ dktX1_init_1
theorem dksX1_init_0 : cX1_init.data.toList.drop 0 = dktX1_init_0 := by decide +kernel
theorem dksX1_init_1 : cX1_init.data.toList.drop 23 = dktX1_init_1 := dk_seg dksX1_init_0 23 rfl rfl
theorem dksX1_init_2 : cX1_init.data.toList.drop 45 = dktX1_init_2 := dk_seg dksX1_init_1 22 rfl rfl
theorem dksX1_init_3 : cX1_init.data.toList.drop 68 = dktX1_init_3 := dk_seg dksX1_init_2 23 rfl rfl
theorem dX1_init_0 : decode cX1_init 0 = .ok (.aload_n 0, 1) := dk_42 (dk_at dksX1_init_0 0 rfl rfl)
theorem dX1_init_1 : decode cX1_init 1 = .ok (.invokespecial 1, 3) := dk_183 0 1 (dk_at dksX1_init_0 1 rfl rfl)
theorem dX1_init_4 : decode cX1_init 4 = .ok (.aload_n 0, 1) := dk_42 (dk_at dksX1_init_0 4 rfl rfl)
theorem dX1_init_5 : decode cX1_init 5 = .ok (.new 7, 3) := dk_187 0 7 (dk_at dksX1_init_0 5 rfl rfl)
theorem dX1_init_8 : decode cX1_init 8 = .ok (.dup, 1) := dk_89 (dk_at dksX1_init_0 8 rfl rfl)
theorem dX1_init_9 : decode cX1_init 9 = .ok (.invokespecial 9, 3) := dk_183 0 9 (dk_at dksX1_init_0 9 rfl rfl)
theorem dX1_init_12 : decode cX1_init 12 = .ok (.putfield 10, 3) := dk_181 0 10 (dk_at dksX1_init_0 12 rfl rfl)
theorem dX1_init_15 : decode cX1_init 15 = .ok (.aload_n 0, 1) := dk_42 (dk_at dksX1_init_0 15 rfl rfl)
theorem dX1_init_16 : decode cX1_init 16 = .ok (.new 16, 3) := dk_187 0 16 (dk_at dksX1_init_0 16 rfl rfl)
theorem dX1_init_19 : decode cX1_init 19 = .ok (.dup, 1) := dk_89 (dk_at dksX1_init_0 19 rfl rfl)
theorem dX1_init_20 : decode cX1_init 20 = .ok (.invokespecial 18, 3) := dk_183 0 18 (dk_at dksX1_init_0 20 rfl rfl)
theorem dX1_init_23 : decode cX1_init 23 = .ok (.putfield 19, 3) := dk_181 0 19 (dk_at dksX1_init_1 0 rfl rfl)
theorem dX1_init_26 : decode cX1_init 26 = .ok (.aload_n 0, 1) := dk_42 (dk_at dksX1_init_1 3 rfl rfl)
theorem dX1_init_27 : decode cX1_init 27 = .ok (.new 23, 3) := dk_187 0 23 (dk_at dksX1_init_1 4 rfl rfl)
theorem dX1_init_30 : decode cX1_init 30 = .ok (.dup, 1) := dk_89 (dk_at dksX1_init_1 7 rfl rfl)
theorem dX1_init_31 : decode cX1_init 31 = .ok (.invokespecial 25, 3) := dk_183 0 25 (dk_at dksX1_init_1 8 rfl rfl)
theorem dX1_init_34 : decode cX1_init 34 = .ok (.putfield 26, 3) := dk_181 0 26 (dk_at dksX1_init_1 11 rfl rfl)
theorem dX1_init_37 : decode cX1_init 37 = .ok (.aload_n 0, 1) := dk_42 (dk_at dksX1_init_1 14 rfl rfl)
theorem dX1_init_38 : decode cX1_init 38 = .ok (.new 23, 3) := dk_187 0 23 (dk_at dksX1_init_1 15 rfl rfl)
theorem dX1_init_41 : decode cX1_init 41 = .ok (.dup, 1) := dk_89 (dk_at dksX1_init_1 18 rfl rfl)
theorem dX1_init_42 : decode cX1_init 42 = .ok (.invokespecial 25, 3) := dk_183 0 25 (dk_at dksX1_init_1 19 rfl rfl)
theorem dX1_init_45 : decode cX1_init 45 = .ok (.putfield 30, 3) := dk_181 0 30 (dk_at dksX1_init_2 0 rfl rfl)
theorem dX1_init_48 : decode cX1_init 48 = .ok (.aload_n 0, 1) := dk_42 (dk_at dksX1_init_2 3 rfl rfl)
theorem dX1_init_49 : decode cX1_init 49 = .ok (.iconst (-1), 1) := dk_2 (dk_at dksX1_init_2 4 rfl rfl)
theorem dX1_init_50 : decode cX1_init 50 = .ok (.putfield 33, 3) := dk_181 0 33 (dk_at dksX1_init_2 5 rfl rfl)
theorem dX1_init_53 : decode cX1_init 53 = .ok (.aload_n 0, 1) := dk_42 (dk_at dksX1_init_2 8 rfl rfl)
theorem dX1_init_54 : decode cX1_init 54 = .ok (.new 37, 3) := dk_187 0 37 (dk_at dksX1_init_2 9 rfl rfl)
theorem dX1_init_57 : decode cX1_init 57 = .ok (.dup, 1) := dk_89 (dk_at dksX1_init_2 12 rfl rfl)
theorem dX1_init_58 : decode cX1_init 58 = .ok (.invokespecial 39, 3) := dk_183 0 39 (dk_at dksX1_init_2 13 rfl rfl)
theorem dX1_init_61 : decode cX1_init 61 = .ok (.putfield 40, 3) := dk_181 0 40 (dk_at dksX1_init_2 16 rfl rfl)
theorem dX1_init_64 : decode cX1_init 64 = .ok (.aload_n 0, 1) := dk_42 (dk_at dksX1_init_2 19 rfl rfl)
theorem dX1_init_65 : decode cX1_init 65 = .ok (.getstatic 44, 3) := dk_178 0 44 (dk_at dksX1_init_2 20 rfl rfl)
theorem dX1_init_68 : decode cX1_init 68 = .ok (.getstatic 50, 3) := dk_178 0 50 (dk_at dksX1_init_3 0 rfl rfl)
theorem dX1_init_71 : decode cX1_init 71 = .ok (.getstatic 53, 3) := dk_178 0 53 (dk_at dksX1_init_3 3 rfl rfl)
theorem dX1_init_74 : decode cX1_init 74 = .ok (.invokestatic 56, 3) := dk_184 0 56 (dk_at dksX1_init_3 6 rfl rfl)
theorem dX1_init_77 : decode cX1_init 77 = .ok (.putfield 62, 3) := dk_181 0 62 (dk_at dksX1_init_3 9 rfl rfl)
theorem dX1_init_80 : decode cX1_init 80 = .ok (.return_, 1) := dk_177 (dk_at dksX1_init_3 12 rfl rfl)
abbrev cX1_handOn : ByteArray := prog_1_method_23_code
def yX1_handOn : MethodName := ⟨RX1, "handOn", "()I"⟩
def dkwX1_handOn_3 : List UInt8 := [25, 5, 77, 167, 255, 220, 42, 180, 0, 10, 182, 0, 205, 87, 43, 182, 0, 107, 172]
abbrev dktX1_handOn_3 : List UInt8 := dkwX1_handOn_3 ++ []
def dkwX1_handOn_2 : List UInt8 := [185, 0, 142, 1, 0, 192, 0, 116, 58, 4, 25, 4, 180, 0, 250, 58, 5, 25, 4, 44, 181, 0, 250]
abbrev dktX1_handOn_2 : List UInt8 := dkwX1_handOn_2 ++ dktX1_handOn_3
def dkwX1_handOn_1 : List UInt8 := [192, 0, 116, 180, 0, 250, 77, 43, 182, 1, 6, 78, 45, 185, 0, 136, 1, 0, 153, 0, 33, 45]
abbrev dktX1_handOn_1 : List UInt8 := dkwX1_handOn_1 ++ dktX1_handOn_2
def dkwX1_handOn_0 : List UInt8 := [42, 182, 0, 160, 42, 182, 0, 255, 76, 43, 182, 0, 107, 5, 162, 0, 5, 3, 172, 43, 182, 1, 3]
abbrev dktX1_handOn_0 : List UInt8 := dkwX1_handOn_0 ++ dktX1_handOn_1
theorem dksX1_handOn_0 : cX1_handOn.data.toList.drop 0 = dktX1_handOn_0 := by decide +kernel
theorem dksX1_handOn_1 : cX1_handOn.data.toList.drop 23 = dktX1_handOn_1 := dk_seg dksX1_handOn_0 23 rfl rfl
theorem dksX1_handOn_2 : cX1_handOn.data.toList.drop 45 = dktX1_handOn_2 := dk_seg dksX1_handOn_1 22 rfl rfl
theorem dksX1_handOn_3 : cX1_handOn.data.toList.drop 68 = dktX1_handOn_3 := dk_seg dksX1_handOn_2 23 rfl rfl
theorem dX1_handOn_0 : decode cX1_handOn 0 = .ok (.aload_n 0, 1) := dk_42 (dk_at dksX1_handOn_0 0 rfl rfl)
theorem dX1_handOn_1 : decode cX1_handOn 1 = .ok (.invokevirtual 160, 3) := dk_182 0 160 (dk_at dksX1_handOn_0 1 rfl rfl)
theorem dX1_handOn_4 : decode cX1_handOn 4 = .ok (.aload_n 0, 1) := dk_42 (dk_at dksX1_handOn_0 4 rfl rfl)
theorem dX1_handOn_5 : decode cX1_handOn 5 = .ok (.invokevirtual 255, 3) := dk_182 0 255 (dk_at dksX1_handOn_0 5 rfl rfl)
theorem dX1_handOn_8 : decode cX1_handOn 8 = .ok (.astore_n 1, 1) := dk_76 (dk_at dksX1_handOn_0 8 rfl rfl)
theorem dX1_handOn_9 : decode cX1_handOn 9 = .ok (.aload_n 1, 1) := dk_43 (dk_at dksX1_handOn_0 9 rfl rfl)
theorem dX1_handOn_10 : decode cX1_handOn 10 = .ok (.invokevirtual 107, 3) := dk_182 0 107 (dk_at dksX1_handOn_0 10 rfl rfl)
theorem dX1_handOn_13 : decode cX1_handOn 13 = .ok (.iconst 2, 1) := dk_5 (dk_at dksX1_handOn_0 13 rfl rfl)
theorem dX1_handOn_14 : decode cX1_handOn 14 = .ok (.if_icmp .ge 5, 3) := dk_162 0 5 (dk_at dksX1_handOn_0 14 rfl rfl)
theorem dX1_handOn_17 : decode cX1_handOn 17 = .ok (.iconst 0, 1) := dk_3 (dk_at dksX1_handOn_0 17 rfl rfl)
theorem dX1_handOn_18 : decode cX1_handOn 18 = .ok (.ireturn, 1) := dk_172 (dk_at dksX1_handOn_0 18 rfl rfl)
theorem dX1_handOn_19 : decode cX1_handOn 19 = .ok (.aload_n 1, 1) := dk_43 (dk_at dksX1_handOn_0 19 rfl rfl)
theorem dX1_handOn_20 : decode cX1_handOn 20 = .ok (.invokevirtual 259, 3) := dk_182 1 3 (dk_at dksX1_handOn_0 20 rfl rfl)
theorem dX1_handOn_23 : decode cX1_handOn 23 = .ok (.checkcast 116, 3) := dk_192 0 116 (dk_at dksX1_handOn_1 0 rfl rfl)
theorem dX1_handOn_26 : decode cX1_handOn 26 = .ok (.getfield 250, 3) := dk_180 0 250 (dk_at dksX1_handOn_1 3 rfl rfl)
theorem dX1_handOn_29 : decode cX1_handOn 29 = .ok (.astore_n 2, 1) := dk_77 (dk_at dksX1_handOn_1 6 rfl rfl)
theorem dX1_handOn_30 : decode cX1_handOn 30 = .ok (.aload_n 1, 1) := dk_43 (dk_at dksX1_handOn_1 7 rfl rfl)
theorem dX1_handOn_31 : decode cX1_handOn 31 = .ok (.invokevirtual 262, 3) := dk_182 1 6 (dk_at dksX1_handOn_1 8 rfl rfl)
theorem dX1_handOn_34 : decode cX1_handOn 34 = .ok (.astore_n 3, 1) := dk_78 (dk_at dksX1_handOn_1 11 rfl rfl)
theorem dX1_handOn_35 : decode cX1_handOn 35 = .ok (.aload_n 3, 1) := dk_45 (dk_at dksX1_handOn_1 12 rfl rfl)
theorem dX1_handOn_36 : decode cX1_handOn 36 = .ok (.invokeinterface 136 1, 5) := by decide +kernel
theorem dX1_handOn_41 : decode cX1_handOn 41 = .ok (.ifCond .eq 33, 3) := dk_153 0 33 (dk_at dksX1_handOn_1 18 rfl rfl)
theorem dX1_handOn_44 : decode cX1_handOn 44 = .ok (.aload_n 3, 1) := dk_45 (dk_at dksX1_handOn_1 21 rfl rfl)
theorem dX1_handOn_45 : decode cX1_handOn 45 = .ok (.invokeinterface 142 1, 5) := by decide +kernel
theorem dX1_handOn_50 : decode cX1_handOn 50 = .ok (.checkcast 116, 3) := dk_192 0 116 (dk_at dksX1_handOn_2 5 rfl rfl)
theorem dX1_handOn_53 : decode cX1_handOn 53 = .ok (.astore 4, 2) := dk_58 4 (dk_at dksX1_handOn_2 8 rfl rfl)
theorem dX1_handOn_55 : decode cX1_handOn 55 = .ok (.aload 4, 2) := dk_25 4 (dk_at dksX1_handOn_2 10 rfl rfl)
theorem dX1_handOn_57 : decode cX1_handOn 57 = .ok (.getfield 250, 3) := dk_180 0 250 (dk_at dksX1_handOn_2 12 rfl rfl)
theorem dX1_handOn_60 : decode cX1_handOn 60 = .ok (.astore 5, 2) := dk_58 5 (dk_at dksX1_handOn_2 15 rfl rfl)
theorem dX1_handOn_62 : decode cX1_handOn 62 = .ok (.aload 4, 2) := dk_25 4 (dk_at dksX1_handOn_2 17 rfl rfl)
theorem dX1_handOn_64 : decode cX1_handOn 64 = .ok (.aload_n 2, 1) := dk_44 (dk_at dksX1_handOn_2 19 rfl rfl)
theorem dX1_handOn_65 : decode cX1_handOn 65 = .ok (.putfield 250, 3) := dk_181 0 250 (dk_at dksX1_handOn_2 20 rfl rfl)
theorem dX1_handOn_68 : decode cX1_handOn 68 = .ok (.aload 5, 2) := dk_25 5 (dk_at dksX1_handOn_3 0 rfl rfl)
theorem dX1_handOn_70 : decode cX1_handOn 70 = .ok (.astore_n 2, 1) := dk_77 (dk_at dksX1_handOn_3 2 rfl rfl)
theorem dX1_handOn_71 : decode cX1_handOn 71 = .ok (.goto (-36), 3) := dk_167 255 220 (dk_at dksX1_handOn_3 3 rfl rfl)
theorem dX1_handOn_74 : decode cX1_handOn 74 = .ok (.aload_n 0, 1) := dk_42 (dk_at dksX1_handOn_3 6 rfl rfl)
theorem dX1_handOn_75 : decode cX1_handOn 75 = .ok (.getfield 10, 3) := dk_180 0 10 (dk_at dksX1_handOn_3 7 rfl rfl)
theorem dX1_handOn_78 : decode cX1_handOn 78 = .ok (.invokevirtual 205, 3) := dk_182 0 205 (dk_at dksX1_handOn_3 10 rfl rfl)
theorem dX1_handOn_81 : decode cX1_handOn 81 = .ok (.pop, 1) := dk_87 (dk_at dksX1_handOn_3 13 rfl rfl)
theorem dX1_handOn_82 : decode cX1_handOn 82 = .ok (.aload_n 1, 1) := dk_43 (dk_at dksX1_handOn_3 14 rfl rfl)
theorem dX1_handOn_83 : decode cX1_handOn 83 = .ok (.invokevirtual 107, 3) := dk_182 0 107 (dk_at dksX1_handOn_3 15 rfl rfl)
theorem dX1_handOn_86 : decode cX1_handOn 86 = .ok (.ireturn, 1) := dk_172 (dk_at dksX1_handOn_3 18 rfl rfl)
abbrev cX1_change : ByteArray := prog_1_method_10_code
def yX1_change : MethodName := ⟨RX1, "change", "()V"⟩
def dkwX1_change_1 : List UInt8 := [164, 0, 11, 42, 180, 0, 19, 182, 0, 108, 87, 177]
abbrev dktX1_change_1 : List UInt8 := dkwX1_change_1 ++ []
def dkwX1_change_0 : List UInt8 := [42, 180, 0, 19, 42, 180, 0, 10, 182, 0, 99, 182, 0, 103, 42, 180, 0, 19, 182, 0, 107, 16, 8]
abbrev dktX1_change_0 : List UInt8 := dkwX1_change_0 ++ dktX1_change_1
theorem dksX1_change_0 : cX1_change.data.toList.drop 0 = dktX1_change_0 := by decide +kernel
theorem dksX1_change_1 : cX1_change.data.toList.drop 23 = dktX1_change_1 := dk_seg dksX1_change_0 23 rfl rfl
theorem dX1_change_0 : decode cX1_change 0 = .ok (.aload_n 0, 1) := dk_42 (dk_at dksX1_change_0 0 rfl rfl)
theorem dX1_change_1 : decode cX1_change 1 = .ok (.getfield 19, 3) := dk_180 0 19 (dk_at dksX1_change_0 1 rfl rfl)
theorem dX1_change_4 : decode cX1_change 4 = .ok (.aload_n 0, 1) := dk_42 (dk_at dksX1_change_0 4 rfl rfl)
theorem dX1_change_5 : decode cX1_change 5 = .ok (.getfield 10, 3) := dk_180 0 10 (dk_at dksX1_change_0 5 rfl rfl)
theorem dX1_change_8 : decode cX1_change 8 = .ok (.invokevirtual 99, 3) := dk_182 0 99 (dk_at dksX1_change_0 8 rfl rfl)
theorem dX1_change_11 : decode cX1_change 11 = .ok (.invokevirtual 103, 3) := dk_182 0 103 (dk_at dksX1_change_0 11 rfl rfl)
theorem dX1_change_14 : decode cX1_change 14 = .ok (.aload_n 0, 1) := dk_42 (dk_at dksX1_change_0 14 rfl rfl)
theorem dX1_change_15 : decode cX1_change 15 = .ok (.getfield 19, 3) := dk_180 0 19 (dk_at dksX1_change_0 15 rfl rfl)
theorem dX1_change_18 : decode cX1_change 18 = .ok (.invokevirtual 107, 3) := dk_182 0 107 (dk_at dksX1_change_0 18 rfl rfl)
theorem dX1_change_21 : decode cX1_change 21 = .ok (.bipush 8, 2) := dk_16 8 (dk_at dksX1_change_0 21 rfl rfl)
theorem dX1_change_23 : decode cX1_change 23 = .ok (.if_icmp .le 11, 3) := dk_164 0 11 (dk_at dksX1_change_1 0 rfl rfl)
theorem dX1_change_26 : decode cX1_change 26 = .ok (.aload_n 0, 1) := dk_42 (dk_at dksX1_change_1 3 rfl rfl)
theorem dX1_change_27 : decode cX1_change 27 = .ok (.getfield 19, 3) := dk_180 0 19 (dk_at dksX1_change_1 4 rfl rfl)
theorem dX1_change_30 : decode cX1_change 30 = .ok (.invokevirtual 108, 3) := dk_182 0 108 (dk_at dksX1_change_1 7 rfl rfl)
theorem dX1_change_33 : decode cX1_change 33 = .ok (.pop, 1) := dk_87 (dk_at dksX1_change_1 10 rfl rfl)
theorem dX1_change_34 : decode cX1_change 34 = .ok (.return_, 1) := dk_177 (dk_at dksX1_change_1 11 rfl rfl)
abbrev cX1_fitted : ByteArray := prog_1_method_22_code
def yX1_fitted : MethodName := ⟨RX1, "fitted", "()Ljava/util/LinkedList;"⟩
def dkwX1_fitted_3 : List UInt8 := [167, 255, 212, 132, 2, 1, 167, 255, 189, 43, 176]
abbrev dktX1_fitted_3 : List UInt8 := dkwX1_fitted_3 ++ []
def dkwX1_fitted_2 : List UInt8 := [25, 4, 180, 0, 147, 28, 160, 0, 18, 25, 4, 180, 0, 250, 198, 0, 10, 43, 25, 4, 182, 0, 254, 87]
abbrev dktX1_fitted_2 : List UInt8 := dkwX1_fitted_2 ++ dktX1_fitted_3
def dkwX1_fitted_1 : List UInt8 := [182, 0, 132, 78, 45, 185, 0, 136, 1, 0, 153, 0, 41, 45, 185, 0, 142, 1, 0, 192, 0, 116, 58, 4]
abbrev dktX1_fitted_1 : List UInt8 := dkwX1_fitted_1 ++ dktX1_fitted_2
def dkwX1_fitted_0 : List UInt8 := [187, 0, 16, 89, 183, 0, 18, 76, 3, 61, 28, 16, 61, 162, 0, 67, 42, 180, 0, 10, 180, 0, 78]
abbrev dktX1_fitted_0 : List UInt8 := dkwX1_fitted_0 ++ dktX1_fitted_1
theorem dksX1_fitted_0 : cX1_fitted.data.toList.drop 0 = dktX1_fitted_0 := by decide +kernel
theorem dksX1_fitted_1 : cX1_fitted.data.toList.drop 23 = dktX1_fitted_1 := dk_seg dksX1_fitted_0 23 rfl rfl
theorem dksX1_fitted_2 : cX1_fitted.data.toList.drop 47 = dktX1_fitted_2 := dk_seg dksX1_fitted_1 24 rfl rfl
theorem dksX1_fitted_3 : cX1_fitted.data.toList.drop 71 = dktX1_fitted_3 := dk_seg dksX1_fitted_2 24 rfl rfl
theorem dX1_fitted_0 : decode cX1_fitted 0 = .ok (.new 16, 3) := dk_187 0 16 (dk_at dksX1_fitted_0 0 rfl rfl)
theorem dX1_fitted_3 : decode cX1_fitted 3 = .ok (.dup, 1) := dk_89 (dk_at dksX1_fitted_0 3 rfl rfl)
theorem dX1_fitted_4 : decode cX1_fitted 4 = .ok (.invokespecial 18, 3) := dk_183 0 18 (dk_at dksX1_fitted_0 4 rfl rfl)
theorem dX1_fitted_7 : decode cX1_fitted 7 = .ok (.astore_n 1, 1) := dk_76 (dk_at dksX1_fitted_0 7 rfl rfl)
theorem dX1_fitted_8 : decode cX1_fitted 8 = .ok (.iconst 0, 1) := dk_3 (dk_at dksX1_fitted_0 8 rfl rfl)
theorem dX1_fitted_9 : decode cX1_fitted 9 = .ok (.istore_n 2, 1) := dk_61 (dk_at dksX1_fitted_0 9 rfl rfl)
theorem dX1_fitted_10 : decode cX1_fitted 10 = .ok (.iload_n 2, 1) := dk_28 (dk_at dksX1_fitted_0 10 rfl rfl)
theorem dX1_fitted_11 : decode cX1_fitted 11 = .ok (.bipush 61, 2) := dk_16 61 (dk_at dksX1_fitted_0 11 rfl rfl)
theorem dX1_fitted_13 : decode cX1_fitted 13 = .ok (.if_icmp .ge 67, 3) := dk_162 0 67 (dk_at dksX1_fitted_0 13 rfl rfl)
theorem dX1_fitted_16 : decode cX1_fitted 16 = .ok (.aload_n 0, 1) := dk_42 (dk_at dksX1_fitted_0 16 rfl rfl)
theorem dX1_fitted_17 : decode cX1_fitted 17 = .ok (.getfield 10, 3) := dk_180 0 10 (dk_at dksX1_fitted_0 17 rfl rfl)
theorem dX1_fitted_20 : decode cX1_fitted 20 = .ok (.getfield 78, 3) := dk_180 0 78 (dk_at dksX1_fitted_0 20 rfl rfl)
theorem dX1_fitted_23 : decode cX1_fitted 23 = .ok (.invokevirtual 132, 3) := dk_182 0 132 (dk_at dksX1_fitted_1 0 rfl rfl)
theorem dX1_fitted_26 : decode cX1_fitted 26 = .ok (.astore_n 3, 1) := dk_78 (dk_at dksX1_fitted_1 3 rfl rfl)
theorem dX1_fitted_27 : decode cX1_fitted 27 = .ok (.aload_n 3, 1) := dk_45 (dk_at dksX1_fitted_1 4 rfl rfl)
theorem dX1_fitted_28 : decode cX1_fitted 28 = .ok (.invokeinterface 136 1, 5) := by decide +kernel
theorem dX1_fitted_33 : decode cX1_fitted 33 = .ok (.ifCond .eq 41, 3) := dk_153 0 41 (dk_at dksX1_fitted_1 10 rfl rfl)
theorem dX1_fitted_36 : decode cX1_fitted 36 = .ok (.aload_n 3, 1) := dk_45 (dk_at dksX1_fitted_1 13 rfl rfl)
theorem dX1_fitted_37 : decode cX1_fitted 37 = .ok (.invokeinterface 142 1, 5) := by decide +kernel
theorem dX1_fitted_42 : decode cX1_fitted 42 = .ok (.checkcast 116, 3) := dk_192 0 116 (dk_at dksX1_fitted_1 19 rfl rfl)
theorem dX1_fitted_45 : decode cX1_fitted 45 = .ok (.astore 4, 2) := dk_58 4 (dk_at dksX1_fitted_1 22 rfl rfl)
theorem dX1_fitted_47 : decode cX1_fitted 47 = .ok (.aload 4, 2) := dk_25 4 (dk_at dksX1_fitted_2 0 rfl rfl)
theorem dX1_fitted_49 : decode cX1_fitted 49 = .ok (.getfield 147, 3) := dk_180 0 147 (dk_at dksX1_fitted_2 2 rfl rfl)
theorem dX1_fitted_52 : decode cX1_fitted 52 = .ok (.iload_n 2, 1) := dk_28 (dk_at dksX1_fitted_2 5 rfl rfl)
theorem dX1_fitted_53 : decode cX1_fitted 53 = .ok (.if_icmp .ne 18, 3) := dk_160 0 18 (dk_at dksX1_fitted_2 6 rfl rfl)
theorem dX1_fitted_56 : decode cX1_fitted 56 = .ok (.aload 4, 2) := dk_25 4 (dk_at dksX1_fitted_2 9 rfl rfl)
theorem dX1_fitted_58 : decode cX1_fitted 58 = .ok (.getfield 250, 3) := dk_180 0 250 (dk_at dksX1_fitted_2 11 rfl rfl)
theorem dX1_fitted_61 : decode cX1_fitted 61 = .ok (.ifnull 10, 3) := dk_198 0 10 (dk_at dksX1_fitted_2 14 rfl rfl)
theorem dX1_fitted_64 : decode cX1_fitted 64 = .ok (.aload_n 1, 1) := dk_43 (dk_at dksX1_fitted_2 17 rfl rfl)
theorem dX1_fitted_65 : decode cX1_fitted 65 = .ok (.aload 4, 2) := dk_25 4 (dk_at dksX1_fitted_2 18 rfl rfl)
theorem dX1_fitted_67 : decode cX1_fitted 67 = .ok (.invokevirtual 254, 3) := dk_182 0 254 (dk_at dksX1_fitted_2 20 rfl rfl)
theorem dX1_fitted_70 : decode cX1_fitted 70 = .ok (.pop, 1) := dk_87 (dk_at dksX1_fitted_2 23 rfl rfl)
theorem dX1_fitted_71 : decode cX1_fitted 71 = .ok (.goto (-44), 3) := dk_167 255 212 (dk_at dksX1_fitted_3 0 rfl rfl)
theorem dX1_fitted_74 : decode cX1_fitted 74 = .ok (.iinc 2 1, 3) := dk_132 2 1 (dk_at dksX1_fitted_3 3 rfl rfl)
theorem dX1_fitted_77 : decode cX1_fitted 77 = .ok (.goto (-67), 3) := dk_167 255 189 (dk_at dksX1_fitted_3 6 rfl rfl)
theorem dX1_fitted_80 : decode cX1_fitted 80 = .ok (.aload_n 1, 1) := dk_43 (dk_at dksX1_fitted_3 9 rfl rfl)
theorem dX1_fitted_81 : decode cX1_fitted 81 = .ok (.areturn, 1) := dk_176 (dk_at dksX1_fitted_3 10 rfl rfl)
abbrev cX1_scrap : ByteArray := prog_1_method_24_code
def yX1_scrap : MethodName := ⟨RX1, "scrap", "()I"⟩
def dkwX1_scrap_2 : List UInt8 := [181, 1, 10, 44, 185, 1, 13, 1, 0, 132, 1, 1, 167, 255, 215, 27, 172]
abbrev dktX1_scrap_2 : List UInt8 := dkwX1_scrap_2 ++ []
def dkwX1_scrap_1 : List UInt8 := [153, 0, 38, 44, 185, 0, 142, 1, 0, 192, 0, 170, 78, 45, 180, 1, 7, 8, 162, 0, 17, 45, 4]
abbrev dktX1_scrap_1 : List UInt8 := dkwX1_scrap_1 ++ dktX1_scrap_2
def dkwX1_scrap_0 : List UInt8 := [42, 182, 0, 160, 3, 60, 42, 180, 0, 10, 180, 0, 173, 182, 1, 6, 77, 44, 185, 0, 136, 1, 0]
abbrev dktX1_scrap_0 : List UInt8 := dkwX1_scrap_0 ++ dktX1_scrap_1
theorem dksX1_scrap_0 : cX1_scrap.data.toList.drop 0 = dktX1_scrap_0 := by decide +kernel
theorem dksX1_scrap_1 : cX1_scrap.data.toList.drop 23 = dktX1_scrap_1 := dk_seg dksX1_scrap_0 23 rfl rfl
theorem dksX1_scrap_2 : cX1_scrap.data.toList.drop 46 = dktX1_scrap_2 := dk_seg dksX1_scrap_1 23 rfl rfl
theorem dX1_scrap_0 : decode cX1_scrap 0 = .ok (.aload_n 0, 1) := dk_42 (dk_at dksX1_scrap_0 0 rfl rfl)
theorem dX1_scrap_1 : decode cX1_scrap 1 = .ok (.invokevirtual 160, 3) := dk_182 0 160 (dk_at dksX1_scrap_0 1 rfl rfl)
theorem dX1_scrap_4 : decode cX1_scrap 4 = .ok (.iconst 0, 1) := dk_3 (dk_at dksX1_scrap_0 4 rfl rfl)
theorem dX1_scrap_5 : decode cX1_scrap 5 = .ok (.istore_n 1, 1) := dk_60 (dk_at dksX1_scrap_0 5 rfl rfl)
theorem dX1_scrap_6 : decode cX1_scrap 6 = .ok (.aload_n 0, 1) := dk_42 (dk_at dksX1_scrap_0 6 rfl rfl)
theorem dX1_scrap_7 : decode cX1_scrap 7 = .ok (.getfield 10, 3) := dk_180 0 10 (dk_at dksX1_scrap_0 7 rfl rfl)
theorem dX1_scrap_10 : decode cX1_scrap 10 = .ok (.getfield 173, 3) := dk_180 0 173 (dk_at dksX1_scrap_0 10 rfl rfl)
theorem dX1_scrap_13 : decode cX1_scrap 13 = .ok (.invokevirtual 262, 3) := dk_182 1 6 (dk_at dksX1_scrap_0 13 rfl rfl)
theorem dX1_scrap_16 : decode cX1_scrap 16 = .ok (.astore_n 2, 1) := dk_77 (dk_at dksX1_scrap_0 16 rfl rfl)
theorem dX1_scrap_17 : decode cX1_scrap 17 = .ok (.aload_n 2, 1) := dk_44 (dk_at dksX1_scrap_0 17 rfl rfl)
theorem dX1_scrap_18 : decode cX1_scrap 18 = .ok (.invokeinterface 136 1, 5) := by decide +kernel
theorem dX1_scrap_23 : decode cX1_scrap 23 = .ok (.ifCond .eq 38, 3) := dk_153 0 38 (dk_at dksX1_scrap_1 0 rfl rfl)
theorem dX1_scrap_26 : decode cX1_scrap 26 = .ok (.aload_n 2, 1) := dk_44 (dk_at dksX1_scrap_1 3 rfl rfl)
theorem dX1_scrap_27 : decode cX1_scrap 27 = .ok (.invokeinterface 142 1, 5) := by decide +kernel
theorem dX1_scrap_32 : decode cX1_scrap 32 = .ok (.checkcast 170, 3) := dk_192 0 170 (dk_at dksX1_scrap_1 9 rfl rfl)
theorem dX1_scrap_35 : decode cX1_scrap 35 = .ok (.astore_n 3, 1) := dk_78 (dk_at dksX1_scrap_1 12 rfl rfl)
theorem dX1_scrap_36 : decode cX1_scrap 36 = .ok (.aload_n 3, 1) := dk_45 (dk_at dksX1_scrap_1 13 rfl rfl)
theorem dX1_scrap_37 : decode cX1_scrap 37 = .ok (.getfield 263, 3) := dk_180 1 7 (dk_at dksX1_scrap_1 14 rfl rfl)
theorem dX1_scrap_40 : decode cX1_scrap 40 = .ok (.iconst 5, 1) := dk_8 (dk_at dksX1_scrap_1 17 rfl rfl)
theorem dX1_scrap_41 : decode cX1_scrap 41 = .ok (.if_icmp .ge 17, 3) := dk_162 0 17 (dk_at dksX1_scrap_1 18 rfl rfl)
theorem dX1_scrap_44 : decode cX1_scrap 44 = .ok (.aload_n 3, 1) := dk_45 (dk_at dksX1_scrap_1 21 rfl rfl)
theorem dX1_scrap_45 : decode cX1_scrap 45 = .ok (.iconst 1, 1) := dk_4 (dk_at dksX1_scrap_1 22 rfl rfl)
theorem dX1_scrap_46 : decode cX1_scrap 46 = .ok (.putfield 266, 3) := dk_181 1 10 (dk_at dksX1_scrap_2 0 rfl rfl)
theorem dX1_scrap_49 : decode cX1_scrap 49 = .ok (.aload_n 2, 1) := dk_44 (dk_at dksX1_scrap_2 3 rfl rfl)
theorem dX1_scrap_50 : decode cX1_scrap 50 = .ok (.invokeinterface 269 1, 5) := by decide +kernel
theorem dX1_scrap_55 : decode cX1_scrap 55 = .ok (.iinc 1 1, 3) := dk_132 1 1 (dk_at dksX1_scrap_2 9 rfl rfl)
theorem dX1_scrap_58 : decode cX1_scrap 58 = .ok (.goto (-41), 3) := dk_167 255 215 (dk_at dksX1_scrap_2 12 rfl rfl)
theorem dX1_scrap_61 : decode cX1_scrap 61 = .ok (.iload_n 1, 1) := dk_27 (dk_at dksX1_scrap_2 15 rfl rfl)
theorem dX1_scrap_62 : decode cX1_scrap 62 = .ok (.ireturn, 1) := dk_172 (dk_at dksX1_scrap_2 16 rfl rfl)
abbrev cX1_mistakes : ByteArray := prog_1_method_31_code
def yX1_mistakes : MethodName := ⟨RX1, "mistakes", "()I"⟩
def dkwX1_mistakes_4 : List UInt8 := [4, 167, 0, 4, 3, 96, 60, 167, 255, 201, 167, 255, 167, 27, 172]
abbrev dktX1_mistakes_4 : List UInt8 := dkwX1_mistakes_4 ++ []
def dkwX1_mistakes_3 : List UInt8 := [180, 0, 150, 25, 5, 180, 0, 150, 162, 0, 20, 42, 180, 0, 10, 45, 25, 5, 182, 1, 49, 153, 0, 7]
abbrev dktX1_mistakes_3 : List UInt8 := dkwX1_mistakes_3 ++ dktX1_mistakes_4
def dkwX1_mistakes_2 : List UInt8 := [185, 0, 136, 1, 0, 153, 0, 51, 25, 4, 185, 0, 142, 1, 0, 192, 0, 116, 58, 5, 27, 45]
abbrev dktX1_mistakes_2 : List UInt8 := dkwX1_mistakes_2 ++ dktX1_mistakes_3
def dkwX1_mistakes_1 : List UInt8 := [185, 0, 142, 1, 0, 192, 0, 116, 78, 42, 180, 0, 10, 180, 0, 78, 182, 0, 132, 58, 4, 25, 4]
abbrev dktX1_mistakes_1 : List UInt8 := dkwX1_mistakes_1 ++ dktX1_mistakes_2
def dkwX1_mistakes_0 : List UInt8 := [3, 60, 42, 180, 0, 10, 180, 0, 78, 182, 0, 132, 77, 44, 185, 0, 136, 1, 0, 153, 0, 86, 44]
abbrev dktX1_mistakes_0 : List UInt8 := dkwX1_mistakes_0 ++ dktX1_mistakes_1
theorem dksX1_mistakes_0 : cX1_mistakes.data.toList.drop 0 = dktX1_mistakes_0 := by decide +kernel
theorem dksX1_mistakes_1 : cX1_mistakes.data.toList.drop 23 = dktX1_mistakes_1 := dk_seg dksX1_mistakes_0 23 rfl rfl
theorem dksX1_mistakes_2 : cX1_mistakes.data.toList.drop 46 = dktX1_mistakes_2 := dk_seg dksX1_mistakes_1 23 rfl rfl
theorem dksX1_mistakes_3 : cX1_mistakes.data.toList.drop 68 = dktX1_mistakes_3 := dk_seg dksX1_mistakes_2 22 rfl rfl
theorem dksX1_mistakes_4 : cX1_mistakes.data.toList.drop 92 = dktX1_mistakes_4 := dk_seg dksX1_mistakes_3 24 rfl rfl
theorem dX1_mistakes_0 : decode cX1_mistakes 0 = .ok (.iconst 0, 1) := dk_3 (dk_at dksX1_mistakes_0 0 rfl rfl)
theorem dX1_mistakes_1 : decode cX1_mistakes 1 = .ok (.istore_n 1, 1) := dk_60 (dk_at dksX1_mistakes_0 1 rfl rfl)
theorem dX1_mistakes_2 : decode cX1_mistakes 2 = .ok (.aload_n 0, 1) := dk_42 (dk_at dksX1_mistakes_0 2 rfl rfl)
theorem dX1_mistakes_3 : decode cX1_mistakes 3 = .ok (.getfield 10, 3) := dk_180 0 10 (dk_at dksX1_mistakes_0 3 rfl rfl)
theorem dX1_mistakes_6 : decode cX1_mistakes 6 = .ok (.getfield 78, 3) := dk_180 0 78 (dk_at dksX1_mistakes_0 6 rfl rfl)
theorem dX1_mistakes_9 : decode cX1_mistakes 9 = .ok (.invokevirtual 132, 3) := dk_182 0 132 (dk_at dksX1_mistakes_0 9 rfl rfl)
theorem dX1_mistakes_12 : decode cX1_mistakes 12 = .ok (.astore_n 2, 1) := dk_77 (dk_at dksX1_mistakes_0 12 rfl rfl)
theorem dX1_mistakes_13 : decode cX1_mistakes 13 = .ok (.aload_n 2, 1) := dk_44 (dk_at dksX1_mistakes_0 13 rfl rfl)
theorem dX1_mistakes_14 : decode cX1_mistakes 14 = .ok (.invokeinterface 136 1, 5) := by decide +kernel
theorem dX1_mistakes_19 : decode cX1_mistakes 19 = .ok (.ifCond .eq 86, 3) := dk_153 0 86 (dk_at dksX1_mistakes_0 19 rfl rfl)
theorem dX1_mistakes_22 : decode cX1_mistakes 22 = .ok (.aload_n 2, 1) := dk_44 (dk_at dksX1_mistakes_0 22 rfl rfl)
theorem dX1_mistakes_23 : decode cX1_mistakes 23 = .ok (.invokeinterface 142 1, 5) := by decide +kernel
theorem dX1_mistakes_28 : decode cX1_mistakes 28 = .ok (.checkcast 116, 3) := dk_192 0 116 (dk_at dksX1_mistakes_1 5 rfl rfl)
theorem dX1_mistakes_31 : decode cX1_mistakes 31 = .ok (.astore_n 3, 1) := dk_78 (dk_at dksX1_mistakes_1 8 rfl rfl)
theorem dX1_mistakes_32 : decode cX1_mistakes 32 = .ok (.aload_n 0, 1) := dk_42 (dk_at dksX1_mistakes_1 9 rfl rfl)
theorem dX1_mistakes_33 : decode cX1_mistakes 33 = .ok (.getfield 10, 3) := dk_180 0 10 (dk_at dksX1_mistakes_1 10 rfl rfl)
theorem dX1_mistakes_36 : decode cX1_mistakes 36 = .ok (.getfield 78, 3) := dk_180 0 78 (dk_at dksX1_mistakes_1 13 rfl rfl)
theorem dX1_mistakes_39 : decode cX1_mistakes 39 = .ok (.invokevirtual 132, 3) := dk_182 0 132 (dk_at dksX1_mistakes_1 16 rfl rfl)
theorem dX1_mistakes_42 : decode cX1_mistakes 42 = .ok (.astore 4, 2) := dk_58 4 (dk_at dksX1_mistakes_1 19 rfl rfl)
theorem dX1_mistakes_44 : decode cX1_mistakes 44 = .ok (.aload 4, 2) := dk_25 4 (dk_at dksX1_mistakes_1 21 rfl rfl)
theorem dX1_mistakes_46 : decode cX1_mistakes 46 = .ok (.invokeinterface 136 1, 5) := by decide +kernel
theorem dX1_mistakes_51 : decode cX1_mistakes 51 = .ok (.ifCond .eq 51, 3) := dk_153 0 51 (dk_at dksX1_mistakes_2 5 rfl rfl)
theorem dX1_mistakes_54 : decode cX1_mistakes 54 = .ok (.aload 4, 2) := dk_25 4 (dk_at dksX1_mistakes_2 8 rfl rfl)
theorem dX1_mistakes_56 : decode cX1_mistakes 56 = .ok (.invokeinterface 142 1, 5) := by decide +kernel
theorem dX1_mistakes_61 : decode cX1_mistakes 61 = .ok (.checkcast 116, 3) := dk_192 0 116 (dk_at dksX1_mistakes_2 15 rfl rfl)
theorem dX1_mistakes_64 : decode cX1_mistakes 64 = .ok (.astore 5, 2) := dk_58 5 (dk_at dksX1_mistakes_2 18 rfl rfl)
theorem dX1_mistakes_66 : decode cX1_mistakes 66 = .ok (.iload_n 1, 1) := dk_27 (dk_at dksX1_mistakes_2 20 rfl rfl)
theorem dX1_mistakes_67 : decode cX1_mistakes 67 = .ok (.aload_n 3, 1) := dk_45 (dk_at dksX1_mistakes_2 21 rfl rfl)
theorem dX1_mistakes_68 : decode cX1_mistakes 68 = .ok (.getfield 150, 3) := dk_180 0 150 (dk_at dksX1_mistakes_3 0 rfl rfl)
theorem dX1_mistakes_71 : decode cX1_mistakes 71 = .ok (.aload 5, 2) := dk_25 5 (dk_at dksX1_mistakes_3 3 rfl rfl)
theorem dX1_mistakes_73 : decode cX1_mistakes 73 = .ok (.getfield 150, 3) := dk_180 0 150 (dk_at dksX1_mistakes_3 5 rfl rfl)
theorem dX1_mistakes_76 : decode cX1_mistakes 76 = .ok (.if_icmp .ge 20, 3) := dk_162 0 20 (dk_at dksX1_mistakes_3 8 rfl rfl)
theorem dX1_mistakes_79 : decode cX1_mistakes 79 = .ok (.aload_n 0, 1) := dk_42 (dk_at dksX1_mistakes_3 11 rfl rfl)
theorem dX1_mistakes_80 : decode cX1_mistakes 80 = .ok (.getfield 10, 3) := dk_180 0 10 (dk_at dksX1_mistakes_3 12 rfl rfl)
theorem dX1_mistakes_83 : decode cX1_mistakes 83 = .ok (.aload_n 3, 1) := dk_45 (dk_at dksX1_mistakes_3 15 rfl rfl)
theorem dX1_mistakes_84 : decode cX1_mistakes 84 = .ok (.aload 5, 2) := dk_25 5 (dk_at dksX1_mistakes_3 16 rfl rfl)
theorem dX1_mistakes_86 : decode cX1_mistakes 86 = .ok (.invokevirtual 305, 3) := dk_182 1 49 (dk_at dksX1_mistakes_3 18 rfl rfl)
theorem dX1_mistakes_89 : decode cX1_mistakes 89 = .ok (.ifCond .eq 7, 3) := dk_153 0 7 (dk_at dksX1_mistakes_3 21 rfl rfl)
theorem dX1_mistakes_92 : decode cX1_mistakes 92 = .ok (.iconst 1, 1) := dk_4 (dk_at dksX1_mistakes_4 0 rfl rfl)
theorem dX1_mistakes_93 : decode cX1_mistakes 93 = .ok (.goto 4, 3) := dk_167 0 4 (dk_at dksX1_mistakes_4 1 rfl rfl)
theorem dX1_mistakes_96 : decode cX1_mistakes 96 = .ok (.iconst 0, 1) := dk_3 (dk_at dksX1_mistakes_4 4 rfl rfl)
theorem dX1_mistakes_97 : decode cX1_mistakes 97 = .ok (.iadd, 1) := dk_96 (dk_at dksX1_mistakes_4 5 rfl rfl)
theorem dX1_mistakes_98 : decode cX1_mistakes 98 = .ok (.istore_n 1, 1) := dk_60 (dk_at dksX1_mistakes_4 6 rfl rfl)
theorem dX1_mistakes_99 : decode cX1_mistakes 99 = .ok (.goto (-55), 3) := dk_167 255 201 (dk_at dksX1_mistakes_4 7 rfl rfl)
theorem dX1_mistakes_102 : decode cX1_mistakes 102 = .ok (.goto (-89), 3) := dk_167 255 167 (dk_at dksX1_mistakes_4 10 rfl rfl)
theorem dX1_mistakes_105 : decode cX1_mistakes 105 = .ok (.iload_n 1, 1) := dk_27 (dk_at dksX1_mistakes_4 13 rfl rfl)
theorem dX1_mistakes_106 : decode cX1_mistakes 106 = .ok (.ireturn, 1) := dk_172 (dk_at dksX1_mistakes_4 14 rfl rfl)
abbrev cX1_unwatched : ByteArray := prog_1_method_35_code
def yX1_unwatched : MethodName := ⟨RX1, "unwatched", "()I"⟩
def dkwX1_unwatched_1 : List UInt8 := [96, 60, 132, 2, 1, 167, 255, 231, 27, 172]
abbrev dktX1_unwatched_1 : List UInt8 := dkwX1_unwatched_1 ++ []
def dkwX1_unwatched_0 : List UInt8 := [3, 60, 3, 61, 28, 16, 61, 162, 0, 25, 27, 42, 28, 182, 1, 53, 199, 0, 7, 4, 167, 0, 4, 3]
abbrev dktX1_unwatched_0 : List UInt8 := dkwX1_unwatched_0 ++ dktX1_unwatched_1
theorem dksX1_unwatched_0 : cX1_unwatched.data.toList.drop 0 = dktX1_unwatched_0 := by decide +kernel
theorem dksX1_unwatched_1 : cX1_unwatched.data.toList.drop 24 = dktX1_unwatched_1 := dk_seg dksX1_unwatched_0 24 rfl rfl
theorem dX1_unwatched_0 : decode cX1_unwatched 0 = .ok (.iconst 0, 1) := dk_3 (dk_at dksX1_unwatched_0 0 rfl rfl)
theorem dX1_unwatched_1 : decode cX1_unwatched 1 = .ok (.istore_n 1, 1) := dk_60 (dk_at dksX1_unwatched_0 1 rfl rfl)
theorem dX1_unwatched_2 : decode cX1_unwatched 2 = .ok (.iconst 0, 1) := dk_3 (dk_at dksX1_unwatched_0 2 rfl rfl)
theorem dX1_unwatched_3 : decode cX1_unwatched 3 = .ok (.istore_n 2, 1) := dk_61 (dk_at dksX1_unwatched_0 3 rfl rfl)
theorem dX1_unwatched_4 : decode cX1_unwatched 4 = .ok (.iload_n 2, 1) := dk_28 (dk_at dksX1_unwatched_0 4 rfl rfl)
theorem dX1_unwatched_5 : decode cX1_unwatched 5 = .ok (.bipush 61, 2) := dk_16 61 (dk_at dksX1_unwatched_0 5 rfl rfl)
theorem dX1_unwatched_7 : decode cX1_unwatched 7 = .ok (.if_icmp .ge 25, 3) := dk_162 0 25 (dk_at dksX1_unwatched_0 7 rfl rfl)
theorem dX1_unwatched_10 : decode cX1_unwatched 10 = .ok (.iload_n 1, 1) := dk_27 (dk_at dksX1_unwatched_0 10 rfl rfl)
theorem dX1_unwatched_11 : decode cX1_unwatched 11 = .ok (.aload_n 0, 1) := dk_42 (dk_at dksX1_unwatched_0 11 rfl rfl)
theorem dX1_unwatched_12 : decode cX1_unwatched 12 = .ok (.iload_n 2, 1) := dk_28 (dk_at dksX1_unwatched_0 12 rfl rfl)
theorem dX1_unwatched_13 : decode cX1_unwatched 13 = .ok (.invokevirtual 309, 3) := dk_182 1 53 (dk_at dksX1_unwatched_0 13 rfl rfl)
theorem dX1_unwatched_16 : decode cX1_unwatched 16 = .ok (.ifnonnull 7, 3) := dk_199 0 7 (dk_at dksX1_unwatched_0 16 rfl rfl)
theorem dX1_unwatched_19 : decode cX1_unwatched 19 = .ok (.iconst 1, 1) := dk_4 (dk_at dksX1_unwatched_0 19 rfl rfl)
theorem dX1_unwatched_20 : decode cX1_unwatched 20 = .ok (.goto 4, 3) := dk_167 0 4 (dk_at dksX1_unwatched_0 20 rfl rfl)
theorem dX1_unwatched_23 : decode cX1_unwatched 23 = .ok (.iconst 0, 1) := dk_3 (dk_at dksX1_unwatched_0 23 rfl rfl)
theorem dX1_unwatched_24 : decode cX1_unwatched 24 = .ok (.iadd, 1) := dk_96 (dk_at dksX1_unwatched_1 0 rfl rfl)
theorem dX1_unwatched_25 : decode cX1_unwatched 25 = .ok (.istore_n 1, 1) := dk_60 (dk_at dksX1_unwatched_1 1 rfl rfl)
theorem dX1_unwatched_26 : decode cX1_unwatched 26 = .ok (.iinc 2 1, 3) := dk_132 2 1 (dk_at dksX1_unwatched_1 2 rfl rfl)
theorem dX1_unwatched_29 : decode cX1_unwatched 29 = .ok (.goto (-25), 3) := dk_167 255 231 (dk_at dksX1_unwatched_1 5 rfl rfl)
theorem dX1_unwatched_32 : decode cX1_unwatched 32 = .ok (.iload_n 1, 1) := dk_27 (dk_at dksX1_unwatched_1 8 rfl rfl)
theorem dX1_unwatched_33 : decode cX1_unwatched 33 = .ok (.ireturn, 1) := dk_172 (dk_at dksX1_unwatched_1 9 rfl rfl)
abbrev cX1_watcherOf : ByteArray := prog_1_method_32_code
def yX1_watcherOf : MethodName := ⟨RX1, "watcherOf", "(I)LSkerryLights$Tower;"⟩
def dkwX1_watcherOf_4 : List UInt8 := [44, 176]
abbrev dktX1_watcherOf_4 : List UInt8 := dkwX1_watcherOf_4 ++ []
def dkwX1_watcherOf_3 : List UInt8 := [182, 1, 23, 42, 180, 0, 10, 44, 180, 0, 147, 27, 182, 1, 23, 162, 0, 6, 25, 4, 77, 167, 255, 177]
abbrev dktX1_watcherOf_3 : List UInt8 := dkwX1_watcherOf_3 ++ dktX1_watcherOf_4
def dkwX1_watcherOf_2 : List UInt8 := [27, 182, 1, 26, 154, 0, 6, 167, 255, 215, 44, 198, 0, 31, 42, 180, 0, 10, 25, 4, 180, 0, 147, 27]
abbrev dktX1_watcherOf_2 : List UInt8 := dkwX1_watcherOf_2 ++ dktX1_watcherOf_3
def dkwX1_watcherOf_1 : List UInt8 := [185, 0, 142, 1, 0, 192, 0, 116, 58, 4, 25, 4, 180, 0, 220, 153, 255, 231, 42, 180, 0, 10, 25, 4]
abbrev dktX1_watcherOf_1 : List UInt8 := dkwX1_watcherOf_1 ++ dktX1_watcherOf_2
def dkwX1_watcherOf_0 : List UInt8 := [1, 77, 42, 180, 0, 10, 180, 0, 78, 182, 0, 132, 78, 45, 185, 0, 136, 1, 0, 153, 0, 76, 45]
abbrev dktX1_watcherOf_0 : List UInt8 := dkwX1_watcherOf_0 ++ dktX1_watcherOf_1
theorem dksX1_watcherOf_0 : cX1_watcherOf.data.toList.drop 0 = dktX1_watcherOf_0 := by decide +kernel
theorem dksX1_watcherOf_1 : cX1_watcherOf.data.toList.drop 23 = dktX1_watcherOf_1 := dk_seg dksX1_watcherOf_0 23 rfl rfl
theorem dksX1_watcherOf_2 : cX1_watcherOf.data.toList.drop 47 = dktX1_watcherOf_2 := dk_seg dksX1_watcherOf_1 24 rfl rfl
theorem dksX1_watcherOf_3 : cX1_watcherOf.data.toList.drop 71 = dktX1_watcherOf_3 := dk_seg dksX1_watcherOf_2 24 rfl rfl
theorem dksX1_watcherOf_4 : cX1_watcherOf.data.toList.drop 95 = dktX1_watcherOf_4 := dk_seg dksX1_watcherOf_3 24 rfl rfl
theorem dX1_watcherOf_0 : decode cX1_watcherOf 0 = .ok (.aconst_null, 1) := dk_1 (dk_at dksX1_watcherOf_0 0 rfl rfl)
theorem dX1_watcherOf_1 : decode cX1_watcherOf 1 = .ok (.astore_n 2, 1) := dk_77 (dk_at dksX1_watcherOf_0 1 rfl rfl)
theorem dX1_watcherOf_2 : decode cX1_watcherOf 2 = .ok (.aload_n 0, 1) := dk_42 (dk_at dksX1_watcherOf_0 2 rfl rfl)
theorem dX1_watcherOf_3 : decode cX1_watcherOf 3 = .ok (.getfield 10, 3) := dk_180 0 10 (dk_at dksX1_watcherOf_0 3 rfl rfl)
theorem dX1_watcherOf_6 : decode cX1_watcherOf 6 = .ok (.getfield 78, 3) := dk_180 0 78 (dk_at dksX1_watcherOf_0 6 rfl rfl)
theorem dX1_watcherOf_9 : decode cX1_watcherOf 9 = .ok (.invokevirtual 132, 3) := dk_182 0 132 (dk_at dksX1_watcherOf_0 9 rfl rfl)
theorem dX1_watcherOf_12 : decode cX1_watcherOf 12 = .ok (.astore_n 3, 1) := dk_78 (dk_at dksX1_watcherOf_0 12 rfl rfl)
theorem dX1_watcherOf_13 : decode cX1_watcherOf 13 = .ok (.aload_n 3, 1) := dk_45 (dk_at dksX1_watcherOf_0 13 rfl rfl)
theorem dX1_watcherOf_14 : decode cX1_watcherOf 14 = .ok (.invokeinterface 136 1, 5) := by decide +kernel
theorem dX1_watcherOf_19 : decode cX1_watcherOf 19 = .ok (.ifCond .eq 76, 3) := dk_153 0 76 (dk_at dksX1_watcherOf_0 19 rfl rfl)
theorem dX1_watcherOf_22 : decode cX1_watcherOf 22 = .ok (.aload_n 3, 1) := dk_45 (dk_at dksX1_watcherOf_0 22 rfl rfl)
theorem dX1_watcherOf_23 : decode cX1_watcherOf 23 = .ok (.invokeinterface 142 1, 5) := by decide +kernel
theorem dX1_watcherOf_28 : decode cX1_watcherOf 28 = .ok (.checkcast 116, 3) := dk_192 0 116 (dk_at dksX1_watcherOf_1 5 rfl rfl)
theorem dX1_watcherOf_31 : decode cX1_watcherOf 31 = .ok (.astore 4, 2) := dk_58 4 (dk_at dksX1_watcherOf_1 8 rfl rfl)
theorem dX1_watcherOf_33 : decode cX1_watcherOf 33 = .ok (.aload 4, 2) := dk_25 4 (dk_at dksX1_watcherOf_1 10 rfl rfl)
theorem dX1_watcherOf_35 : decode cX1_watcherOf 35 = .ok (.getfield 220, 3) := dk_180 0 220 (dk_at dksX1_watcherOf_1 12 rfl rfl)
theorem dX1_watcherOf_38 : decode cX1_watcherOf 38 = .ok (.ifCond .eq (-25), 3) := dk_153 255 231 (dk_at dksX1_watcherOf_1 15 rfl rfl)
theorem dX1_watcherOf_41 : decode cX1_watcherOf 41 = .ok (.aload_n 0, 1) := dk_42 (dk_at dksX1_watcherOf_1 18 rfl rfl)
theorem dX1_watcherOf_42 : decode cX1_watcherOf 42 = .ok (.getfield 10, 3) := dk_180 0 10 (dk_at dksX1_watcherOf_1 19 rfl rfl)
theorem dX1_watcherOf_45 : decode cX1_watcherOf 45 = .ok (.aload 4, 2) := dk_25 4 (dk_at dksX1_watcherOf_1 22 rfl rfl)
theorem dX1_watcherOf_47 : decode cX1_watcherOf 47 = .ok (.iload_n 1, 1) := dk_27 (dk_at dksX1_watcherOf_2 0 rfl rfl)
theorem dX1_watcherOf_48 : decode cX1_watcherOf 48 = .ok (.invokevirtual 282, 3) := dk_182 1 26 (dk_at dksX1_watcherOf_2 1 rfl rfl)
theorem dX1_watcherOf_51 : decode cX1_watcherOf 51 = .ok (.ifCond .ne 6, 3) := dk_154 0 6 (dk_at dksX1_watcherOf_2 4 rfl rfl)
theorem dX1_watcherOf_54 : decode cX1_watcherOf 54 = .ok (.goto (-41), 3) := dk_167 255 215 (dk_at dksX1_watcherOf_2 7 rfl rfl)
theorem dX1_watcherOf_57 : decode cX1_watcherOf 57 = .ok (.aload_n 2, 1) := dk_44 (dk_at dksX1_watcherOf_2 10 rfl rfl)
theorem dX1_watcherOf_58 : decode cX1_watcherOf 58 = .ok (.ifnull 31, 3) := dk_198 0 31 (dk_at dksX1_watcherOf_2 11 rfl rfl)
theorem dX1_watcherOf_61 : decode cX1_watcherOf 61 = .ok (.aload_n 0, 1) := dk_42 (dk_at dksX1_watcherOf_2 14 rfl rfl)
theorem dX1_watcherOf_62 : decode cX1_watcherOf 62 = .ok (.getfield 10, 3) := dk_180 0 10 (dk_at dksX1_watcherOf_2 15 rfl rfl)
theorem dX1_watcherOf_65 : decode cX1_watcherOf 65 = .ok (.aload 4, 2) := dk_25 4 (dk_at dksX1_watcherOf_2 18 rfl rfl)
theorem dX1_watcherOf_67 : decode cX1_watcherOf 67 = .ok (.getfield 147, 3) := dk_180 0 147 (dk_at dksX1_watcherOf_2 20 rfl rfl)
theorem dX1_watcherOf_70 : decode cX1_watcherOf 70 = .ok (.iload_n 1, 1) := dk_27 (dk_at dksX1_watcherOf_2 23 rfl rfl)
theorem dX1_watcherOf_71 : decode cX1_watcherOf 71 = .ok (.invokevirtual 279, 3) := dk_182 1 23 (dk_at dksX1_watcherOf_3 0 rfl rfl)
theorem dX1_watcherOf_74 : decode cX1_watcherOf 74 = .ok (.aload_n 0, 1) := dk_42 (dk_at dksX1_watcherOf_3 3 rfl rfl)
theorem dX1_watcherOf_75 : decode cX1_watcherOf 75 = .ok (.getfield 10, 3) := dk_180 0 10 (dk_at dksX1_watcherOf_3 4 rfl rfl)
theorem dX1_watcherOf_78 : decode cX1_watcherOf 78 = .ok (.aload_n 2, 1) := dk_44 (dk_at dksX1_watcherOf_3 7 rfl rfl)
theorem dX1_watcherOf_79 : decode cX1_watcherOf 79 = .ok (.getfield 147, 3) := dk_180 0 147 (dk_at dksX1_watcherOf_3 8 rfl rfl)
theorem dX1_watcherOf_82 : decode cX1_watcherOf 82 = .ok (.iload_n 1, 1) := dk_27 (dk_at dksX1_watcherOf_3 11 rfl rfl)
theorem dX1_watcherOf_83 : decode cX1_watcherOf 83 = .ok (.invokevirtual 279, 3) := dk_182 1 23 (dk_at dksX1_watcherOf_3 12 rfl rfl)
theorem dX1_watcherOf_86 : decode cX1_watcherOf 86 = .ok (.if_icmp .ge 6, 3) := dk_162 0 6 (dk_at dksX1_watcherOf_3 15 rfl rfl)
theorem dX1_watcherOf_89 : decode cX1_watcherOf 89 = .ok (.aload 4, 2) := dk_25 4 (dk_at dksX1_watcherOf_3 18 rfl rfl)
theorem dX1_watcherOf_91 : decode cX1_watcherOf 91 = .ok (.astore_n 2, 1) := dk_77 (dk_at dksX1_watcherOf_3 20 rfl rfl)
theorem dX1_watcherOf_92 : decode cX1_watcherOf 92 = .ok (.goto (-79), 3) := dk_167 255 177 (dk_at dksX1_watcherOf_3 21 rfl rfl)
theorem dX1_watcherOf_95 : decode cX1_watcherOf 95 = .ok (.aload_n 2, 1) := dk_44 (dk_at dksX1_watcherOf_4 0 rfl rfl)
theorem dX1_watcherOf_96 : decode cX1_watcherOf 96 = .ok (.areturn, 1) := dk_176 (dk_at dksX1_watcherOf_4 1 rfl rfl)
abbrev cX1_unwatchedAgain : ByteArray := prog_1_method_37_code
def yX1_unwatchedAgain : MethodName := ⟨RX1, "unwatchedAgain", "()I"⟩
def dkwX1_unwatchedAgain_3 : List UInt8 := [16, 61, 43, 182, 1, 66, 100, 172]
abbrev dktX1_unwatchedAgain_3 : List UInt8 := dkwX1_unwatchedAgain_3 ++ []
def dkwX1_unwatchedAgain_2 : List UInt8 := [153, 0, 21, 43, 42, 45, 2, 182, 1, 59, 42, 45, 4, 182, 1, 59, 4, 96, 182, 1, 63, 167, 255, 212]
abbrev dktX1_unwatchedAgain_2 : List UInt8 := dkwX1_unwatchedAgain_2 ++ dktX1_unwatchedAgain_3
def dkwX1_unwatchedAgain_1 : List UInt8 := [185, 0, 136, 1, 0, 153, 0, 41, 44, 185, 0, 142, 1, 0, 192, 0, 116, 78, 45, 180, 0, 220]
abbrev dktX1_unwatchedAgain_1 : List UInt8 := dkwX1_unwatchedAgain_1 ++ dktX1_unwatchedAgain_2
def dkwX1_unwatchedAgain_0 : List UInt8 := [187, 1, 38, 89, 16, 61, 183, 1, 56, 76, 42, 180, 0, 10, 180, 0, 78, 182, 0, 132, 77, 44]
abbrev dktX1_unwatchedAgain_0 : List UInt8 := dkwX1_unwatchedAgain_0 ++ dktX1_unwatchedAgain_1
theorem dksX1_unwatchedAgain_0 : cX1_unwatchedAgain.data.toList.drop 0 = dktX1_unwatchedAgain_0 := by decide +kernel
theorem dksX1_unwatchedAgain_1 : cX1_unwatchedAgain.data.toList.drop 22 = dktX1_unwatchedAgain_1 := dk_seg dksX1_unwatchedAgain_0 22 rfl rfl
theorem dksX1_unwatchedAgain_2 : cX1_unwatchedAgain.data.toList.drop 44 = dktX1_unwatchedAgain_2 := dk_seg dksX1_unwatchedAgain_1 22 rfl rfl
theorem dksX1_unwatchedAgain_3 : cX1_unwatchedAgain.data.toList.drop 68 = dktX1_unwatchedAgain_3 := dk_seg dksX1_unwatchedAgain_2 24 rfl rfl
theorem dX1_unwatchedAgain_0 : decode cX1_unwatchedAgain 0 = .ok (.new 294, 3) := dk_187 1 38 (dk_at dksX1_unwatchedAgain_0 0 rfl rfl)
theorem dX1_unwatchedAgain_3 : decode cX1_unwatchedAgain 3 = .ok (.dup, 1) := dk_89 (dk_at dksX1_unwatchedAgain_0 3 rfl rfl)
theorem dX1_unwatchedAgain_4 : decode cX1_unwatchedAgain 4 = .ok (.bipush 61, 2) := dk_16 61 (dk_at dksX1_unwatchedAgain_0 4 rfl rfl)
theorem dX1_unwatchedAgain_6 : decode cX1_unwatchedAgain 6 = .ok (.invokespecial 312, 3) := dk_183 1 56 (dk_at dksX1_unwatchedAgain_0 6 rfl rfl)
theorem dX1_unwatchedAgain_9 : decode cX1_unwatchedAgain 9 = .ok (.astore_n 1, 1) := dk_76 (dk_at dksX1_unwatchedAgain_0 9 rfl rfl)
theorem dX1_unwatchedAgain_10 : decode cX1_unwatchedAgain 10 = .ok (.aload_n 0, 1) := dk_42 (dk_at dksX1_unwatchedAgain_0 10 rfl rfl)
theorem dX1_unwatchedAgain_11 : decode cX1_unwatchedAgain 11 = .ok (.getfield 10, 3) := dk_180 0 10 (dk_at dksX1_unwatchedAgain_0 11 rfl rfl)
theorem dX1_unwatchedAgain_14 : decode cX1_unwatchedAgain 14 = .ok (.getfield 78, 3) := dk_180 0 78 (dk_at dksX1_unwatchedAgain_0 14 rfl rfl)
theorem dX1_unwatchedAgain_17 : decode cX1_unwatchedAgain 17 = .ok (.invokevirtual 132, 3) := dk_182 0 132 (dk_at dksX1_unwatchedAgain_0 17 rfl rfl)
theorem dX1_unwatchedAgain_20 : decode cX1_unwatchedAgain 20 = .ok (.astore_n 2, 1) := dk_77 (dk_at dksX1_unwatchedAgain_0 20 rfl rfl)
theorem dX1_unwatchedAgain_21 : decode cX1_unwatchedAgain 21 = .ok (.aload_n 2, 1) := dk_44 (dk_at dksX1_unwatchedAgain_0 21 rfl rfl)
theorem dX1_unwatchedAgain_22 : decode cX1_unwatchedAgain 22 = .ok (.invokeinterface 136 1, 5) := by decide +kernel
theorem dX1_unwatchedAgain_27 : decode cX1_unwatchedAgain 27 = .ok (.ifCond .eq 41, 3) := dk_153 0 41 (dk_at dksX1_unwatchedAgain_1 5 rfl rfl)
theorem dX1_unwatchedAgain_30 : decode cX1_unwatchedAgain 30 = .ok (.aload_n 2, 1) := dk_44 (dk_at dksX1_unwatchedAgain_1 8 rfl rfl)
theorem dX1_unwatchedAgain_31 : decode cX1_unwatchedAgain 31 = .ok (.invokeinterface 142 1, 5) := by decide +kernel
theorem dX1_unwatchedAgain_36 : decode cX1_unwatchedAgain 36 = .ok (.checkcast 116, 3) := dk_192 0 116 (dk_at dksX1_unwatchedAgain_1 14 rfl rfl)
theorem dX1_unwatchedAgain_39 : decode cX1_unwatchedAgain 39 = .ok (.astore_n 3, 1) := dk_78 (dk_at dksX1_unwatchedAgain_1 17 rfl rfl)
theorem dX1_unwatchedAgain_40 : decode cX1_unwatchedAgain 40 = .ok (.aload_n 3, 1) := dk_45 (dk_at dksX1_unwatchedAgain_1 18 rfl rfl)
theorem dX1_unwatchedAgain_41 : decode cX1_unwatchedAgain 41 = .ok (.getfield 220, 3) := dk_180 0 220 (dk_at dksX1_unwatchedAgain_1 19 rfl rfl)
theorem dX1_unwatchedAgain_44 : decode cX1_unwatchedAgain 44 = .ok (.ifCond .eq 21, 3) := dk_153 0 21 (dk_at dksX1_unwatchedAgain_2 0 rfl rfl)
theorem dX1_unwatchedAgain_47 : decode cX1_unwatchedAgain 47 = .ok (.aload_n 1, 1) := dk_43 (dk_at dksX1_unwatchedAgain_2 3 rfl rfl)
theorem dX1_unwatchedAgain_48 : decode cX1_unwatchedAgain 48 = .ok (.aload_n 0, 1) := dk_42 (dk_at dksX1_unwatchedAgain_2 4 rfl rfl)
theorem dX1_unwatchedAgain_49 : decode cX1_unwatchedAgain 49 = .ok (.aload_n 3, 1) := dk_45 (dk_at dksX1_unwatchedAgain_2 5 rfl rfl)
theorem dX1_unwatchedAgain_50 : decode cX1_unwatchedAgain 50 = .ok (.iconst (-1), 1) := dk_2 (dk_at dksX1_unwatchedAgain_2 6 rfl rfl)
theorem dX1_unwatchedAgain_51 : decode cX1_unwatchedAgain 51 = .ok (.invokevirtual 315, 3) := dk_182 1 59 (dk_at dksX1_unwatchedAgain_2 7 rfl rfl)
theorem dX1_unwatchedAgain_54 : decode cX1_unwatchedAgain 54 = .ok (.aload_n 0, 1) := dk_42 (dk_at dksX1_unwatchedAgain_2 10 rfl rfl)
theorem dX1_unwatchedAgain_55 : decode cX1_unwatchedAgain 55 = .ok (.aload_n 3, 1) := dk_45 (dk_at dksX1_unwatchedAgain_2 11 rfl rfl)
theorem dX1_unwatchedAgain_56 : decode cX1_unwatchedAgain 56 = .ok (.iconst 1, 1) := dk_4 (dk_at dksX1_unwatchedAgain_2 12 rfl rfl)
theorem dX1_unwatchedAgain_57 : decode cX1_unwatchedAgain 57 = .ok (.invokevirtual 315, 3) := dk_182 1 59 (dk_at dksX1_unwatchedAgain_2 13 rfl rfl)
theorem dX1_unwatchedAgain_60 : decode cX1_unwatchedAgain 60 = .ok (.iconst 1, 1) := dk_4 (dk_at dksX1_unwatchedAgain_2 16 rfl rfl)
theorem dX1_unwatchedAgain_61 : decode cX1_unwatchedAgain 61 = .ok (.iadd, 1) := dk_96 (dk_at dksX1_unwatchedAgain_2 17 rfl rfl)
theorem dX1_unwatchedAgain_62 : decode cX1_unwatchedAgain 62 = .ok (.invokevirtual 319, 3) := dk_182 1 63 (dk_at dksX1_unwatchedAgain_2 18 rfl rfl)
theorem dX1_unwatchedAgain_65 : decode cX1_unwatchedAgain 65 = .ok (.goto (-44), 3) := dk_167 255 212 (dk_at dksX1_unwatchedAgain_2 21 rfl rfl)
theorem dX1_unwatchedAgain_68 : decode cX1_unwatchedAgain 68 = .ok (.bipush 61, 2) := dk_16 61 (dk_at dksX1_unwatchedAgain_3 0 rfl rfl)
theorem dX1_unwatchedAgain_70 : decode cX1_unwatchedAgain 70 = .ok (.aload_n 1, 1) := dk_43 (dk_at dksX1_unwatchedAgain_3 2 rfl rfl)
theorem dX1_unwatchedAgain_71 : decode cX1_unwatchedAgain 71 = .ok (.invokevirtual 322, 3) := dk_182 1 66 (dk_at dksX1_unwatchedAgain_3 3 rfl rfl)
theorem dX1_unwatchedAgain_74 : decode cX1_unwatchedAgain 74 = .ok (.isub, 1) := dk_100 (dk_at dksX1_unwatchedAgain_3 6 rfl rfl)
theorem dX1_unwatchedAgain_75 : decode cX1_unwatchedAgain 75 = .ok (.ireturn, 1) := dk_172 (dk_at dksX1_unwatchedAgain_3 7 rfl rfl)
abbrev cX1_endOf : ByteArray := prog_1_method_36_code
def yX1_endOf : MethodName := ⟨RX1, "endOf", "(LSkerryLights$Tower;I)I"⟩
def dkwX1_endOf_1 : List UInt8 := [182, 1, 26, 153, 0, 10, 29, 28, 96, 62, 167, 255, 229, 29, 172]
abbrev dktX1_endOf_1 : List UInt8 := dkwX1_endOf_1 ++ []
def dkwX1_endOf_0 : List UInt8 := [43, 180, 0, 147, 62, 29, 28, 96, 184, 0, 118, 153, 0, 24, 42, 180, 0, 10, 43, 29, 28, 96]
abbrev dktX1_endOf_0 : List UInt8 := dkwX1_endOf_0 ++ dktX1_endOf_1
theorem dksX1_endOf_0 : cX1_endOf.data.toList.drop 0 = dktX1_endOf_0 := by decide +kernel
theorem dksX1_endOf_1 : cX1_endOf.data.toList.drop 22 = dktX1_endOf_1 := dk_seg dksX1_endOf_0 22 rfl rfl
theorem dX1_endOf_0 : decode cX1_endOf 0 = .ok (.aload_n 1, 1) := dk_43 (dk_at dksX1_endOf_0 0 rfl rfl)
theorem dX1_endOf_1 : decode cX1_endOf 1 = .ok (.getfield 147, 3) := dk_180 0 147 (dk_at dksX1_endOf_0 1 rfl rfl)
theorem dX1_endOf_4 : decode cX1_endOf 4 = .ok (.istore_n 3, 1) := dk_62 (dk_at dksX1_endOf_0 4 rfl rfl)
theorem dX1_endOf_5 : decode cX1_endOf 5 = .ok (.iload_n 3, 1) := dk_29 (dk_at dksX1_endOf_0 5 rfl rfl)
theorem dX1_endOf_6 : decode cX1_endOf 6 = .ok (.iload_n 2, 1) := dk_28 (dk_at dksX1_endOf_0 6 rfl rfl)
theorem dX1_endOf_7 : decode cX1_endOf 7 = .ok (.iadd, 1) := dk_96 (dk_at dksX1_endOf_0 7 rfl rfl)
theorem dX1_endOf_8 : decode cX1_endOf 8 = .ok (.invokestatic 118, 3) := dk_184 0 118 (dk_at dksX1_endOf_0 8 rfl rfl)
theorem dX1_endOf_11 : decode cX1_endOf 11 = .ok (.ifCond .eq 24, 3) := dk_153 0 24 (dk_at dksX1_endOf_0 11 rfl rfl)
theorem dX1_endOf_14 : decode cX1_endOf 14 = .ok (.aload_n 0, 1) := dk_42 (dk_at dksX1_endOf_0 14 rfl rfl)
theorem dX1_endOf_15 : decode cX1_endOf 15 = .ok (.getfield 10, 3) := dk_180 0 10 (dk_at dksX1_endOf_0 15 rfl rfl)
theorem dX1_endOf_18 : decode cX1_endOf 18 = .ok (.aload_n 1, 1) := dk_43 (dk_at dksX1_endOf_0 18 rfl rfl)
theorem dX1_endOf_19 : decode cX1_endOf 19 = .ok (.iload_n 3, 1) := dk_29 (dk_at dksX1_endOf_0 19 rfl rfl)
theorem dX1_endOf_20 : decode cX1_endOf 20 = .ok (.iload_n 2, 1) := dk_28 (dk_at dksX1_endOf_0 20 rfl rfl)
theorem dX1_endOf_21 : decode cX1_endOf 21 = .ok (.iadd, 1) := dk_96 (dk_at dksX1_endOf_0 21 rfl rfl)
theorem dX1_endOf_22 : decode cX1_endOf 22 = .ok (.invokevirtual 282, 3) := dk_182 1 26 (dk_at dksX1_endOf_1 0 rfl rfl)
theorem dX1_endOf_25 : decode cX1_endOf 25 = .ok (.ifCond .eq 10, 3) := dk_153 0 10 (dk_at dksX1_endOf_1 3 rfl rfl)
theorem dX1_endOf_28 : decode cX1_endOf 28 = .ok (.iload_n 3, 1) := dk_29 (dk_at dksX1_endOf_1 6 rfl rfl)
theorem dX1_endOf_29 : decode cX1_endOf 29 = .ok (.iload_n 2, 1) := dk_28 (dk_at dksX1_endOf_1 7 rfl rfl)
theorem dX1_endOf_30 : decode cX1_endOf 30 = .ok (.iadd, 1) := dk_96 (dk_at dksX1_endOf_1 8 rfl rfl)
theorem dX1_endOf_31 : decode cX1_endOf 31 = .ok (.istore_n 3, 1) := dk_62 (dk_at dksX1_endOf_1 9 rfl rfl)
theorem dX1_endOf_32 : decode cX1_endOf 32 = .ok (.goto (-27), 3) := dk_167 255 229 (dk_at dksX1_endOf_1 10 rfl rfl)
theorem dX1_endOf_35 : decode cX1_endOf 35 = .ok (.iload_n 3, 1) := dk_29 (dk_at dksX1_endOf_1 13 rfl rfl)
theorem dX1_endOf_36 : decode cX1_endOf 36 = .ok (.ireturn, 1) := dk_172 (dk_at dksX1_endOf_1 14 rfl rfl)
abbrev cX1_isPlace : ByteArray := prog_1_method_8_code
def yX1_isPlace : MethodName := ⟨RX1, "isPlace", "(I)Z"⟩
def dkwX1_isPlace_0 : List UInt8 := [26, 3, 16, 60, 184, 0, 85, 172]
abbrev dktX1_isPlace_0 : List UInt8 := dkwX1_isPlace_0 ++ []
theorem dksX1_isPlace_0 : cX1_isPlace.data.toList.drop 0 = dktX1_isPlace_0 := by decide +kernel
theorem dX1_isPlace_0 : decode cX1_isPlace 0 = .ok (.iload_n 0, 1) := dk_26 (dk_at dksX1_isPlace_0 0 rfl rfl)
theorem dX1_isPlace_1 : decode cX1_isPlace 1 = .ok (.iconst 0, 1) := dk_3 (dk_at dksX1_isPlace_0 1 rfl rfl)
theorem dX1_isPlace_2 : decode cX1_isPlace 2 = .ok (.bipush 60, 2) := dk_16 60 (dk_at dksX1_isPlace_0 2 rfl rfl)
theorem dX1_isPlace_4 : decode cX1_isPlace 4 = .ok (.invokestatic 85, 3) := dk_184 0 85 (dk_at dksX1_isPlace_0 4 rfl rfl)
theorem dX1_isPlace_7 : decode cX1_isPlace 7 = .ok (.ireturn, 1) := dk_172 (dk_at dksX1_isPlace_0 7 rfl rfl)
abbrev cX1_isBetween : ByteArray := prog_1_method_2_code
def yX1_isBetween : MethodName := ⟨RX1, "isBetween", "(III)Z"⟩
def dkwX1_isBetween_0 : List UInt8 := [26, 27, 161, 0, 12, 26, 28, 163, 0, 7, 4, 167, 0, 4, 3, 172]
abbrev dktX1_isBetween_0 : List UInt8 := dkwX1_isBetween_0 ++ []
theorem dksX1_isBetween_0 : cX1_isBetween.data.toList.drop 0 = dktX1_isBetween_0 := by decide +kernel
theorem dX1_isBetween_0 : decode cX1_isBetween 0 = .ok (.iload_n 0, 1) := dk_26 (dk_at dksX1_isBetween_0 0 rfl rfl)
theorem dX1_isBetween_1 : decode cX1_isBetween 1 = .ok (.iload_n 1, 1) := dk_27 (dk_at dksX1_isBetween_0 1 rfl rfl)
theorem dX1_isBetween_2 : decode cX1_isBetween 2 = .ok (.if_icmp .lt 12, 3) := dk_161 0 12 (dk_at dksX1_isBetween_0 2 rfl rfl)
theorem dX1_isBetween_5 : decode cX1_isBetween 5 = .ok (.iload_n 0, 1) := dk_26 (dk_at dksX1_isBetween_0 5 rfl rfl)
theorem dX1_isBetween_6 : decode cX1_isBetween 6 = .ok (.iload_n 2, 1) := dk_28 (dk_at dksX1_isBetween_0 6 rfl rfl)
theorem dX1_isBetween_7 : decode cX1_isBetween 7 = .ok (.if_icmp .gt 7, 3) := dk_163 0 7 (dk_at dksX1_isBetween_0 7 rfl rfl)
theorem dX1_isBetween_10 : decode cX1_isBetween 10 = .ok (.iconst 1, 1) := dk_4 (dk_at dksX1_isBetween_0 10 rfl rfl)
theorem dX1_isBetween_11 : decode cX1_isBetween 11 = .ok (.goto 4, 3) := dk_167 0 4 (dk_at dksX1_isBetween_0 11 rfl rfl)
theorem dX1_isBetween_14 : decode cX1_isBetween 14 = .ok (.iconst 0, 1) := dk_3 (dk_at dksX1_isBetween_0 14 rfl rfl)
theorem dX1_isBetween_15 : decode cX1_isBetween 15 = .ok (.ireturn, 1) := dk_172 (dk_at dksX1_isBetween_0 15 rfl rfl)
abbrev cX1_watchedShare : ByteArray := prog_1_method_64_code
def yX1_watchedShare : MethodName := ⟨RX1, "watchedShare", "()F"⟩
def dkwX1_watchedShare_0 : List UInt8 := [16, 61, 42, 182, 1, 217, 100, 134, 19, 1, 220, 110, 174]
abbrev dktX1_watchedShare_0 : List UInt8 := dkwX1_watchedShare_0 ++ []
theorem dksX1_watchedShare_0 : cX1_watchedShare.data.toList.drop 0 = dktX1_watchedShare_0 := by decide +kernel
theorem dX1_watchedShare_0 : decode cX1_watchedShare 0 = .ok (.bipush 61, 2) := dk_16 61 (dk_at dksX1_watchedShare_0 0 rfl rfl)
theorem dX1_watchedShare_2 : decode cX1_watchedShare 2 = .ok (.aload_n 0, 1) := dk_42 (dk_at dksX1_watchedShare_0 2 rfl rfl)
theorem dX1_watchedShare_3 : decode cX1_watchedShare 3 = .ok (.invokevirtual 473, 3) := dk_182 1 217 (dk_at dksX1_watchedShare_0 3 rfl rfl)
theorem dX1_watchedShare_6 : decode cX1_watchedShare 6 = .ok (.isub, 1) := dk_100 (dk_at dksX1_watchedShare_0 6 rfl rfl)
theorem dX1_watchedShare_7 : decode cX1_watchedShare 7 = .ok (.i2f, 1) := dk_134 (dk_at dksX1_watchedShare_0 7 rfl rfl)
theorem dX1_watchedShare_8 : decode cX1_watchedShare 8 = .ok (.ldc_w 476, 3) := dk_19 1 220 (dk_at dksX1_watchedShare_0 8 rfl rfl)
theorem dX1_watchedShare_11 : decode cX1_watchedShare 11 = .ok (.fdiv, 1) := dk_110 (dk_at dksX1_watchedShare_0 11 rfl rfl)
theorem dX1_watchedShare_12 : decode cX1_watchedShare 12 = .ok (.freturn, 1) := dk_174 (dk_at dksX1_watchedShare_0 12 rfl rfl)
abbrev cX1_save : ByteArray := prog_1_method_66_code
def yX1_save : MethodName := ⟨RX1, "save", "()I"⟩
def dkwX1_save_0 : List UInt8 := [42, 42, 180, 0, 10, 182, 0, 99, 181, 1, 224, 42, 180, 0, 10, 182, 0, 224, 172]
abbrev dktX1_save_0 : List UInt8 := dkwX1_save_0 ++ []
theorem dksX1_save_0 : cX1_save.data.toList.drop 0 = dktX1_save_0 := by decide +kernel
theorem dX1_save_0 : decode cX1_save 0 = .ok (.aload_n 0, 1) := dk_42 (dk_at dksX1_save_0 0 rfl rfl)
theorem dX1_save_1 : decode cX1_save 1 = .ok (.aload_n 0, 1) := dk_42 (dk_at dksX1_save_0 1 rfl rfl)
theorem dX1_save_2 : decode cX1_save 2 = .ok (.getfield 10, 3) := dk_180 0 10 (dk_at dksX1_save_0 2 rfl rfl)
theorem dX1_save_5 : decode cX1_save 5 = .ok (.invokevirtual 99, 3) := dk_182 0 99 (dk_at dksX1_save_0 5 rfl rfl)
theorem dX1_save_8 : decode cX1_save 8 = .ok (.putfield 480, 3) := dk_181 1 224 (dk_at dksX1_save_0 8 rfl rfl)
theorem dX1_save_11 : decode cX1_save 11 = .ok (.aload_n 0, 1) := dk_42 (dk_at dksX1_save_0 11 rfl rfl)
theorem dX1_save_12 : decode cX1_save 12 = .ok (.getfield 10, 3) := dk_180 0 10 (dk_at dksX1_save_0 12 rfl rfl)
theorem dX1_save_15 : decode cX1_save 15 = .ok (.invokevirtual 224, 3) := dk_182 0 224 (dk_at dksX1_save_0 15 rfl rfl)
theorem dX1_save_18 : decode cX1_save 18 = .ok (.ireturn, 1) := dk_172 (dk_at dksX1_save_0 18 rfl rfl)
abbrev cX1_tower : ByteArray := prog_1_method_12_code
def yX1_tower : MethodName := ⟨RX1, "tower", "(III)I"⟩
def dkwX1_tower_8 : List UInt8 := [182, 0, 81, 4, 100, 172]
abbrev dktX1_tower_8 : List UInt8 := dkwX1_tower_8 ++ []
def dkwX1_tower_7 : List UInt8 := [185, 0, 163, 2, 0, 192, 0, 45, 29, 183, 0, 164, 182, 0, 92, 87, 42, 180, 0, 10, 180, 0, 78]
abbrev dktX1_tower_7 : List UInt8 := dkwX1_tower_7 ++ dktX1_tower_8
def dkwX1_tower_6 : List UInt8 := [180, 0, 78, 187, 0, 116, 89, 42, 180, 0, 10, 180, 0, 78, 182, 0, 81, 27, 42, 180, 0, 62, 28]
abbrev dktX1_tower_6 : List UInt8 := dkwX1_tower_6 ++ dktX1_tower_7
def dkwX1_tower_5 : List UInt8 := [183, 0, 153, 167, 0, 4, 1, 83, 182, 0, 156, 167, 255, 197, 42, 182, 0, 160, 42, 180, 0, 10]
abbrev dktX1_tower_5 : List UInt8 := dkwX1_tower_5 ++ dktX1_tower_6
def dkwX1_tower_4 : List UInt8 := [189, 0, 145, 89, 3, 25, 5, 180, 0, 147, 27, 160, 0, 19, 187, 0, 145, 89, 4, 25, 5, 180, 0, 150]
abbrev dktX1_tower_4 : List UInt8 := dkwX1_tower_4 ++ dktX1_tower_5
def dkwX1_tower_3 : List UInt8 := [25, 4, 185, 0, 136, 1, 0, 153, 0, 55, 25, 4, 185, 0, 142, 1, 0, 192, 0, 116, 58, 5, 42, 4]
abbrev dktX1_tower_3 : List UInt8 := dkwX1_tower_3 ++ dktX1_tower_4
def dkwX1_tower_2 : List UInt8 := [162, 0, 7, 4, 167, 0, 4, 3, 184, 0, 129, 42, 180, 0, 10, 180, 0, 78, 182, 0, 132, 58, 4]
abbrev dktX1_tower_2 : List UInt8 := dkwX1_tower_2 ++ dktX1_tower_3
def dkwX1_tower_1 : List UInt8 := [153, 0, 7, 4, 167, 0, 4, 3, 184, 0, 126, 42, 180, 0, 10, 180, 0, 78, 182, 0, 81, 16, 8]
abbrev dktX1_tower_1 : List UInt8 := dkwX1_tower_1 ++ dktX1_tower_2
def dkwX1_tower_0 : List UInt8 := [27, 184, 0, 118, 184, 0, 122, 28, 3, 5, 184, 0, 85, 153, 0, 17, 29, 3, 16, 9, 184, 0, 85]
abbrev dktX1_tower_0 : List UInt8 := dkwX1_tower_0 ++ dktX1_tower_1
theorem dksX1_tower_0 : cX1_tower.data.toList.drop 0 = dktX1_tower_0 := by decide +kernel
theorem dksX1_tower_1 : cX1_tower.data.toList.drop 23 = dktX1_tower_1 := dk_seg dksX1_tower_0 23 rfl rfl
theorem dksX1_tower_2 : cX1_tower.data.toList.drop 46 = dktX1_tower_2 := dk_seg dksX1_tower_1 23 rfl rfl
theorem dksX1_tower_3 : cX1_tower.data.toList.drop 69 = dktX1_tower_3 := dk_seg dksX1_tower_2 23 rfl rfl
theorem dksX1_tower_4 : cX1_tower.data.toList.drop 93 = dktX1_tower_4 := dk_seg dksX1_tower_3 24 rfl rfl
theorem dksX1_tower_5 : cX1_tower.data.toList.drop 117 = dktX1_tower_5 := dk_seg dksX1_tower_4 24 rfl rfl
theorem dksX1_tower_6 : cX1_tower.data.toList.drop 139 = dktX1_tower_6 := dk_seg dksX1_tower_5 22 rfl rfl
theorem dksX1_tower_7 : cX1_tower.data.toList.drop 162 = dktX1_tower_7 := dk_seg dksX1_tower_6 23 rfl rfl
theorem dksX1_tower_8 : cX1_tower.data.toList.drop 185 = dktX1_tower_8 := dk_seg dksX1_tower_7 23 rfl rfl
theorem dX1_tower_0 : decode cX1_tower 0 = .ok (.iload_n 1, 1) := dk_27 (dk_at dksX1_tower_0 0 rfl rfl)
theorem dX1_tower_1 : decode cX1_tower 1 = .ok (.invokestatic 118, 3) := dk_184 0 118 (dk_at dksX1_tower_0 1 rfl rfl)
theorem dX1_tower_4 : decode cX1_tower 4 = .ok (.invokestatic 122, 3) := dk_184 0 122 (dk_at dksX1_tower_0 4 rfl rfl)
theorem dX1_tower_7 : decode cX1_tower 7 = .ok (.iload_n 2, 1) := dk_28 (dk_at dksX1_tower_0 7 rfl rfl)
theorem dX1_tower_8 : decode cX1_tower 8 = .ok (.iconst 0, 1) := dk_3 (dk_at dksX1_tower_0 8 rfl rfl)
theorem dX1_tower_9 : decode cX1_tower 9 = .ok (.iconst 2, 1) := dk_5 (dk_at dksX1_tower_0 9 rfl rfl)
theorem dX1_tower_10 : decode cX1_tower 10 = .ok (.invokestatic 85, 3) := dk_184 0 85 (dk_at dksX1_tower_0 10 rfl rfl)
theorem dX1_tower_13 : decode cX1_tower 13 = .ok (.ifCond .eq 17, 3) := dk_153 0 17 (dk_at dksX1_tower_0 13 rfl rfl)
theorem dX1_tower_16 : decode cX1_tower 16 = .ok (.iload_n 3, 1) := dk_29 (dk_at dksX1_tower_0 16 rfl rfl)
theorem dX1_tower_17 : decode cX1_tower 17 = .ok (.iconst 0, 1) := dk_3 (dk_at dksX1_tower_0 17 rfl rfl)
theorem dX1_tower_18 : decode cX1_tower 18 = .ok (.bipush 9, 2) := dk_16 9 (dk_at dksX1_tower_0 18 rfl rfl)
theorem dX1_tower_20 : decode cX1_tower 20 = .ok (.invokestatic 85, 3) := dk_184 0 85 (dk_at dksX1_tower_0 20 rfl rfl)
theorem dX1_tower_23 : decode cX1_tower 23 = .ok (.ifCond .eq 7, 3) := dk_153 0 7 (dk_at dksX1_tower_1 0 rfl rfl)
theorem dX1_tower_26 : decode cX1_tower 26 = .ok (.iconst 1, 1) := dk_4 (dk_at dksX1_tower_1 3 rfl rfl)
theorem dX1_tower_27 : decode cX1_tower 27 = .ok (.goto 4, 3) := dk_167 0 4 (dk_at dksX1_tower_1 4 rfl rfl)
theorem dX1_tower_30 : decode cX1_tower 30 = .ok (.iconst 0, 1) := dk_3 (dk_at dksX1_tower_1 7 rfl rfl)
theorem dX1_tower_31 : decode cX1_tower 31 = .ok (.invokestatic 126, 3) := dk_184 0 126 (dk_at dksX1_tower_1 8 rfl rfl)
theorem dX1_tower_34 : decode cX1_tower 34 = .ok (.aload_n 0, 1) := dk_42 (dk_at dksX1_tower_1 11 rfl rfl)
theorem dX1_tower_35 : decode cX1_tower 35 = .ok (.getfield 10, 3) := dk_180 0 10 (dk_at dksX1_tower_1 12 rfl rfl)
theorem dX1_tower_38 : decode cX1_tower 38 = .ok (.getfield 78, 3) := dk_180 0 78 (dk_at dksX1_tower_1 15 rfl rfl)
theorem dX1_tower_41 : decode cX1_tower 41 = .ok (.invokevirtual 81, 3) := dk_182 0 81 (dk_at dksX1_tower_1 18 rfl rfl)
theorem dX1_tower_44 : decode cX1_tower 44 = .ok (.bipush 8, 2) := dk_16 8 (dk_at dksX1_tower_1 21 rfl rfl)
theorem dX1_tower_46 : decode cX1_tower 46 = .ok (.if_icmp .ge 7, 3) := dk_162 0 7 (dk_at dksX1_tower_2 0 rfl rfl)
theorem dX1_tower_49 : decode cX1_tower 49 = .ok (.iconst 1, 1) := dk_4 (dk_at dksX1_tower_2 3 rfl rfl)
theorem dX1_tower_50 : decode cX1_tower 50 = .ok (.goto 4, 3) := dk_167 0 4 (dk_at dksX1_tower_2 4 rfl rfl)
theorem dX1_tower_53 : decode cX1_tower 53 = .ok (.iconst 0, 1) := dk_3 (dk_at dksX1_tower_2 7 rfl rfl)
theorem dX1_tower_54 : decode cX1_tower 54 = .ok (.invokestatic 129, 3) := dk_184 0 129 (dk_at dksX1_tower_2 8 rfl rfl)
theorem dX1_tower_57 : decode cX1_tower 57 = .ok (.aload_n 0, 1) := dk_42 (dk_at dksX1_tower_2 11 rfl rfl)
theorem dX1_tower_58 : decode cX1_tower 58 = .ok (.getfield 10, 3) := dk_180 0 10 (dk_at dksX1_tower_2 12 rfl rfl)
theorem dX1_tower_61 : decode cX1_tower 61 = .ok (.getfield 78, 3) := dk_180 0 78 (dk_at dksX1_tower_2 15 rfl rfl)
theorem dX1_tower_64 : decode cX1_tower 64 = .ok (.invokevirtual 132, 3) := dk_182 0 132 (dk_at dksX1_tower_2 18 rfl rfl)
theorem dX1_tower_67 : decode cX1_tower 67 = .ok (.astore 4, 2) := dk_58 4 (dk_at dksX1_tower_2 21 rfl rfl)
theorem dX1_tower_69 : decode cX1_tower 69 = .ok (.aload 4, 2) := dk_25 4 (dk_at dksX1_tower_3 0 rfl rfl)
theorem dX1_tower_71 : decode cX1_tower 71 = .ok (.invokeinterface 136 1, 5) := by decide +kernel
theorem dX1_tower_76 : decode cX1_tower 76 = .ok (.ifCond .eq 55, 3) := dk_153 0 55 (dk_at dksX1_tower_3 7 rfl rfl)
theorem dX1_tower_79 : decode cX1_tower 79 = .ok (.aload 4, 2) := dk_25 4 (dk_at dksX1_tower_3 10 rfl rfl)
theorem dX1_tower_81 : decode cX1_tower 81 = .ok (.invokeinterface 142 1, 5) := by decide +kernel
theorem dX1_tower_86 : decode cX1_tower 86 = .ok (.checkcast 116, 3) := dk_192 0 116 (dk_at dksX1_tower_3 17 rfl rfl)
theorem dX1_tower_89 : decode cX1_tower 89 = .ok (.astore 5, 2) := dk_58 5 (dk_at dksX1_tower_3 20 rfl rfl)
theorem dX1_tower_91 : decode cX1_tower 91 = .ok (.aload_n 0, 1) := dk_42 (dk_at dksX1_tower_3 22 rfl rfl)
theorem dX1_tower_92 : decode cX1_tower 92 = .ok (.iconst 1, 1) := dk_4 (dk_at dksX1_tower_3 23 rfl rfl)
theorem dX1_tower_93 : decode cX1_tower 93 = .ok (.anewarray 145, 3) := dk_189 0 145 (dk_at dksX1_tower_4 0 rfl rfl)
theorem dX1_tower_96 : decode cX1_tower 96 = .ok (.dup, 1) := dk_89 (dk_at dksX1_tower_4 3 rfl rfl)
theorem dX1_tower_97 : decode cX1_tower 97 = .ok (.iconst 0, 1) := dk_3 (dk_at dksX1_tower_4 4 rfl rfl)
theorem dX1_tower_98 : decode cX1_tower 98 = .ok (.aload 5, 2) := dk_25 5 (dk_at dksX1_tower_4 5 rfl rfl)
theorem dX1_tower_100 : decode cX1_tower 100 = .ok (.getfield 147, 3) := dk_180 0 147 (dk_at dksX1_tower_4 7 rfl rfl)
theorem dX1_tower_103 : decode cX1_tower 103 = .ok (.iload_n 1, 1) := dk_27 (dk_at dksX1_tower_4 10 rfl rfl)
theorem dX1_tower_104 : decode cX1_tower 104 = .ok (.if_icmp .ne 19, 3) := dk_160 0 19 (dk_at dksX1_tower_4 11 rfl rfl)
theorem dX1_tower_107 : decode cX1_tower 107 = .ok (.new 145, 3) := dk_187 0 145 (dk_at dksX1_tower_4 14 rfl rfl)
theorem dX1_tower_110 : decode cX1_tower 110 = .ok (.dup, 1) := dk_89 (dk_at dksX1_tower_4 17 rfl rfl)
theorem dX1_tower_111 : decode cX1_tower 111 = .ok (.iconst 1, 1) := dk_4 (dk_at dksX1_tower_4 18 rfl rfl)
theorem dX1_tower_112 : decode cX1_tower 112 = .ok (.aload 5, 2) := dk_25 5 (dk_at dksX1_tower_4 19 rfl rfl)
theorem dX1_tower_114 : decode cX1_tower 114 = .ok (.getfield 150, 3) := dk_180 0 150 (dk_at dksX1_tower_4 21 rfl rfl)
theorem dX1_tower_117 : decode cX1_tower 117 = .ok (.invokespecial 153, 3) := dk_183 0 153 (dk_at dksX1_tower_5 0 rfl rfl)
theorem dX1_tower_120 : decode cX1_tower 120 = .ok (.goto 4, 3) := dk_167 0 4 (dk_at dksX1_tower_5 3 rfl rfl)
theorem dX1_tower_123 : decode cX1_tower 123 = .ok (.aconst_null, 1) := dk_1 (dk_at dksX1_tower_5 6 rfl rfl)
theorem dX1_tower_124 : decode cX1_tower 124 = .ok (.aastore, 1) := dk_83 (dk_at dksX1_tower_5 7 rfl rfl)
theorem dX1_tower_125 : decode cX1_tower 125 = .ok (.invokevirtual 156, 3) := dk_182 0 156 (dk_at dksX1_tower_5 8 rfl rfl)
theorem dX1_tower_128 : decode cX1_tower 128 = .ok (.goto (-59), 3) := dk_167 255 197 (dk_at dksX1_tower_5 11 rfl rfl)
theorem dX1_tower_131 : decode cX1_tower 131 = .ok (.aload_n 0, 1) := dk_42 (dk_at dksX1_tower_5 14 rfl rfl)
theorem dX1_tower_132 : decode cX1_tower 132 = .ok (.invokevirtual 160, 3) := dk_182 0 160 (dk_at dksX1_tower_5 15 rfl rfl)
theorem dX1_tower_135 : decode cX1_tower 135 = .ok (.aload_n 0, 1) := dk_42 (dk_at dksX1_tower_5 18 rfl rfl)
theorem dX1_tower_136 : decode cX1_tower 136 = .ok (.getfield 10, 3) := dk_180 0 10 (dk_at dksX1_tower_5 19 rfl rfl)
theorem dX1_tower_139 : decode cX1_tower 139 = .ok (.getfield 78, 3) := dk_180 0 78 (dk_at dksX1_tower_6 0 rfl rfl)
theorem dX1_tower_142 : decode cX1_tower 142 = .ok (.new 116, 3) := dk_187 0 116 (dk_at dksX1_tower_6 3 rfl rfl)
theorem dX1_tower_145 : decode cX1_tower 145 = .ok (.dup, 1) := dk_89 (dk_at dksX1_tower_6 6 rfl rfl)
theorem dX1_tower_146 : decode cX1_tower 146 = .ok (.aload_n 0, 1) := dk_42 (dk_at dksX1_tower_6 7 rfl rfl)
theorem dX1_tower_147 : decode cX1_tower 147 = .ok (.getfield 10, 3) := dk_180 0 10 (dk_at dksX1_tower_6 8 rfl rfl)
theorem dX1_tower_150 : decode cX1_tower 150 = .ok (.getfield 78, 3) := dk_180 0 78 (dk_at dksX1_tower_6 11 rfl rfl)
theorem dX1_tower_153 : decode cX1_tower 153 = .ok (.invokevirtual 81, 3) := dk_182 0 81 (dk_at dksX1_tower_6 14 rfl rfl)
theorem dX1_tower_156 : decode cX1_tower 156 = .ok (.iload_n 1, 1) := dk_27 (dk_at dksX1_tower_6 17 rfl rfl)
theorem dX1_tower_157 : decode cX1_tower 157 = .ok (.aload_n 0, 1) := dk_42 (dk_at dksX1_tower_6 18 rfl rfl)
theorem dX1_tower_158 : decode cX1_tower 158 = .ok (.getfield 62, 3) := dk_180 0 62 (dk_at dksX1_tower_6 19 rfl rfl)
theorem dX1_tower_161 : decode cX1_tower 161 = .ok (.iload_n 2, 1) := dk_28 (dk_at dksX1_tower_6 22 rfl rfl)
theorem dX1_tower_162 : decode cX1_tower 162 = .ok (.invokeinterface 163 2, 5) := by decide +kernel
theorem dX1_tower_167 : decode cX1_tower 167 = .ok (.checkcast 45, 3) := dk_192 0 45 (dk_at dksX1_tower_7 5 rfl rfl)
theorem dX1_tower_170 : decode cX1_tower 170 = .ok (.iload_n 3, 1) := dk_29 (dk_at dksX1_tower_7 8 rfl rfl)
theorem dX1_tower_171 : decode cX1_tower 171 = .ok (.invokespecial 164, 3) := dk_183 0 164 (dk_at dksX1_tower_7 9 rfl rfl)
theorem dX1_tower_174 : decode cX1_tower 174 = .ok (.invokevirtual 92, 3) := dk_182 0 92 (dk_at dksX1_tower_7 12 rfl rfl)
theorem dX1_tower_177 : decode cX1_tower 177 = .ok (.pop, 1) := dk_87 (dk_at dksX1_tower_7 15 rfl rfl)
theorem dX1_tower_178 : decode cX1_tower 178 = .ok (.aload_n 0, 1) := dk_42 (dk_at dksX1_tower_7 16 rfl rfl)
theorem dX1_tower_179 : decode cX1_tower 179 = .ok (.getfield 10, 3) := dk_180 0 10 (dk_at dksX1_tower_7 17 rfl rfl)
theorem dX1_tower_182 : decode cX1_tower 182 = .ok (.getfield 78, 3) := dk_180 0 78 (dk_at dksX1_tower_7 20 rfl rfl)
theorem dX1_tower_185 : decode cX1_tower 185 = .ok (.invokevirtual 81, 3) := dk_182 0 81 (dk_at dksX1_tower_8 0 rfl rfl)
theorem dX1_tower_188 : decode cX1_tower 188 = .ok (.iconst 1, 1) := dk_4 (dk_at dksX1_tower_8 3 rfl rfl)
theorem dX1_tower_189 : decode cX1_tower 189 = .ok (.isub, 1) := dk_100 (dk_at dksX1_tower_8 4 rfl rfl)
theorem dX1_tower_190 : decode cX1_tower 190 = .ok (.ireturn, 1) := dk_172 (dk_at dksX1_tower_8 5 rfl rfl)
abbrev cX1_checkIndex : ByteArray := prog_1_method_4_code
def yX1_checkIndex : MethodName := ⟨RX1, "checkIndex", "(Z)V"⟩
def dkwX1_checkIndex_0 : List UInt8 := [26, 154, 0, 11, 187, 0, 69, 89, 183, 0, 71, 191, 177]
abbrev dktX1_checkIndex_0 : List UInt8 := dkwX1_checkIndex_0 ++ []
theorem dksX1_checkIndex_0 : cX1_checkIndex.data.toList.drop 0 = dktX1_checkIndex_0 := by decide +kernel
theorem dX1_checkIndex_0 : decode cX1_checkIndex 0 = .ok (.iload_n 0, 1) := dk_26 (dk_at dksX1_checkIndex_0 0 rfl rfl)
theorem dX1_checkIndex_1 : decode cX1_checkIndex 1 = .ok (.ifCond .ne 11, 3) := dk_154 0 11 (dk_at dksX1_checkIndex_0 1 rfl rfl)
theorem dX1_checkIndex_4 : decode cX1_checkIndex 4 = .ok (.new 69, 3) := dk_187 0 69 (dk_at dksX1_checkIndex_0 4 rfl rfl)
theorem dX1_checkIndex_7 : decode cX1_checkIndex 7 = .ok (.dup, 1) := dk_89 (dk_at dksX1_checkIndex_0 7 rfl rfl)
theorem dX1_checkIndex_8 : decode cX1_checkIndex 8 = .ok (.invokespecial 71, 3) := dk_183 0 71 (dk_at dksX1_checkIndex_0 8 rfl rfl)
theorem dX1_checkIndex_11 : decode cX1_checkIndex 11 = .ok (.athrow, 1) := dk_191 (dk_at dksX1_checkIndex_0 11 rfl rfl)
theorem dX1_checkIndex_12 : decode cX1_checkIndex 12 = .ok (.return_, 1) := dk_177 (dk_at dksX1_checkIndex_0 12 rfl rfl)
abbrev cX1_check : ByteArray := prog_1_method_3_code
def yX1_check : MethodName := ⟨RX1, "check", "(Z)V"⟩
def dkwX1_check_0 : List UInt8 := [26, 154, 0, 11, 187, 0, 66, 89, 183, 0, 68, 191, 177]
abbrev dktX1_check_0 : List UInt8 := dkwX1_check_0 ++ []
theorem dksX1_check_0 : cX1_check.data.toList.drop 0 = dktX1_check_0 := by decide +kernel
theorem dX1_check_0 : decode cX1_check 0 = .ok (.iload_n 0, 1) := dk_26 (dk_at dksX1_check_0 0 rfl rfl)
theorem dX1_check_1 : decode cX1_check 1 = .ok (.ifCond .ne 11, 3) := dk_154 0 11 (dk_at dksX1_check_0 1 rfl rfl)
theorem dX1_check_4 : decode cX1_check 4 = .ok (.new 66, 3) := dk_187 0 66 (dk_at dksX1_check_0 4 rfl rfl)
theorem dX1_check_7 : decode cX1_check 7 = .ok (.dup, 1) := dk_89 (dk_at dksX1_check_0 7 rfl rfl)
theorem dX1_check_8 : decode cX1_check 8 = .ok (.invokespecial 68, 3) := dk_183 0 68 (dk_at dksX1_check_0 8 rfl rfl)
theorem dX1_check_11 : decode cX1_check 11 = .ok (.athrow, 1) := dk_191 (dk_at dksX1_check_0 11 rfl rfl)
theorem dX1_check_12 : decode cX1_check 12 = .ok (.return_, 1) := dk_177 (dk_at dksX1_check_0 12 rfl rfl)
abbrev cX1_checkState : ByteArray := prog_1_method_6_code
def yX1_checkState : MethodName := ⟨RX1, "checkState", "(Z)V"⟩
def dkwX1_checkState_0 : List UInt8 := [26, 154, 0, 11, 187, 0, 75, 89, 183, 0, 77, 191, 177]
abbrev dktX1_checkState_0 : List UInt8 := dkwX1_checkState_0 ++ []
theorem dksX1_checkState_0 : cX1_checkState.data.toList.drop 0 = dktX1_checkState_0 := by decide +kernel
theorem dX1_checkState_0 : decode cX1_checkState 0 = .ok (.iload_n 0, 1) := dk_26 (dk_at dksX1_checkState_0 0 rfl rfl)
theorem dX1_checkState_1 : decode cX1_checkState 1 = .ok (.ifCond .ne 11, 3) := dk_154 0 11 (dk_at dksX1_checkState_0 1 rfl rfl)
theorem dX1_checkState_4 : decode cX1_checkState 4 = .ok (.new 75, 3) := dk_187 0 75 (dk_at dksX1_checkState_0 4 rfl rfl)
theorem dX1_checkState_7 : decode cX1_checkState 7 = .ok (.dup, 1) := dk_89 (dk_at dksX1_checkState_0 7 rfl rfl)
theorem dX1_checkState_8 : decode cX1_checkState 8 = .ok (.invokespecial 77, 3) := dk_183 0 77 (dk_at dksX1_checkState_0 8 rfl rfl)
theorem dX1_checkState_11 : decode cX1_checkState 11 = .ok (.athrow, 1) := dk_191 (dk_at dksX1_checkState_0 11 rfl rfl)
theorem dX1_checkState_12 : decode cX1_checkState 12 = .ok (.return_, 1) := dk_177 (dk_at dksX1_checkState_0 12 rfl rfl)
abbrev cX1_refuse : ByteArray := prog_1_method_9_code
def yX1_refuse : MethodName := ⟨RX1, "refuse", "([LSkerryLights$Refusal;)V"⟩
def dkwX1_refuse_2 : List UInt8 := [167, 255, 231, 187, 0, 96, 89, 183, 0, 98, 191]
abbrev dktX1_refuse_2 : List UInt8 := dkwX1_refuse_2 ++ []
def dkwX1_refuse_1 : List UInt8 := [29, 162, 0, 25, 44, 21, 4, 50, 58, 5, 42, 180, 0, 40, 25, 5, 182, 0, 92, 87, 132, 4, 1]
abbrev dktX1_refuse_1 : List UInt8 := dkwX1_refuse_1 ++ dktX1_refuse_2
def dkwX1_refuse_0 : List UInt8 := [43, 3, 50, 199, 0, 4, 177, 42, 180, 0, 40, 182, 0, 89, 43, 77, 44, 190, 62, 3, 54, 4, 21, 4]
abbrev dktX1_refuse_0 : List UInt8 := dkwX1_refuse_0 ++ dktX1_refuse_1
theorem dksX1_refuse_0 : cX1_refuse.data.toList.drop 0 = dktX1_refuse_0 := by decide +kernel
theorem dksX1_refuse_1 : cX1_refuse.data.toList.drop 24 = dktX1_refuse_1 := dk_seg dksX1_refuse_0 24 rfl rfl
theorem dksX1_refuse_2 : cX1_refuse.data.toList.drop 47 = dktX1_refuse_2 := dk_seg dksX1_refuse_1 23 rfl rfl
theorem dX1_refuse_0 : decode cX1_refuse 0 = .ok (.aload_n 1, 1) := dk_43 (dk_at dksX1_refuse_0 0 rfl rfl)
theorem dX1_refuse_1 : decode cX1_refuse 1 = .ok (.iconst 0, 1) := dk_3 (dk_at dksX1_refuse_0 1 rfl rfl)
theorem dX1_refuse_2 : decode cX1_refuse 2 = .ok (.aaload, 1) := dk_50 (dk_at dksX1_refuse_0 2 rfl rfl)
theorem dX1_refuse_3 : decode cX1_refuse 3 = .ok (.ifnonnull 4, 3) := dk_199 0 4 (dk_at dksX1_refuse_0 3 rfl rfl)
theorem dX1_refuse_6 : decode cX1_refuse 6 = .ok (.return_, 1) := dk_177 (dk_at dksX1_refuse_0 6 rfl rfl)
theorem dX1_refuse_7 : decode cX1_refuse 7 = .ok (.aload_n 0, 1) := dk_42 (dk_at dksX1_refuse_0 7 rfl rfl)
theorem dX1_refuse_8 : decode cX1_refuse 8 = .ok (.getfield 40, 3) := dk_180 0 40 (dk_at dksX1_refuse_0 8 rfl rfl)
theorem dX1_refuse_11 : decode cX1_refuse 11 = .ok (.invokevirtual 89, 3) := dk_182 0 89 (dk_at dksX1_refuse_0 11 rfl rfl)
theorem dX1_refuse_14 : decode cX1_refuse 14 = .ok (.aload_n 1, 1) := dk_43 (dk_at dksX1_refuse_0 14 rfl rfl)
theorem dX1_refuse_15 : decode cX1_refuse 15 = .ok (.astore_n 2, 1) := dk_77 (dk_at dksX1_refuse_0 15 rfl rfl)
theorem dX1_refuse_16 : decode cX1_refuse 16 = .ok (.aload_n 2, 1) := dk_44 (dk_at dksX1_refuse_0 16 rfl rfl)
theorem dX1_refuse_17 : decode cX1_refuse 17 = .ok (.arraylength, 1) := dk_190 (dk_at dksX1_refuse_0 17 rfl rfl)
theorem dX1_refuse_18 : decode cX1_refuse 18 = .ok (.istore_n 3, 1) := dk_62 (dk_at dksX1_refuse_0 18 rfl rfl)
theorem dX1_refuse_19 : decode cX1_refuse 19 = .ok (.iconst 0, 1) := dk_3 (dk_at dksX1_refuse_0 19 rfl rfl)
theorem dX1_refuse_20 : decode cX1_refuse 20 = .ok (.istore 4, 2) := dk_54 4 (dk_at dksX1_refuse_0 20 rfl rfl)
theorem dX1_refuse_22 : decode cX1_refuse 22 = .ok (.iload 4, 2) := dk_21 4 (dk_at dksX1_refuse_0 22 rfl rfl)
theorem dX1_refuse_24 : decode cX1_refuse 24 = .ok (.iload_n 3, 1) := dk_29 (dk_at dksX1_refuse_1 0 rfl rfl)
theorem dX1_refuse_25 : decode cX1_refuse 25 = .ok (.if_icmp .ge 25, 3) := dk_162 0 25 (dk_at dksX1_refuse_1 1 rfl rfl)
theorem dX1_refuse_28 : decode cX1_refuse 28 = .ok (.aload_n 2, 1) := dk_44 (dk_at dksX1_refuse_1 4 rfl rfl)
theorem dX1_refuse_29 : decode cX1_refuse 29 = .ok (.iload 4, 2) := dk_21 4 (dk_at dksX1_refuse_1 5 rfl rfl)
theorem dX1_refuse_31 : decode cX1_refuse 31 = .ok (.aaload, 1) := dk_50 (dk_at dksX1_refuse_1 7 rfl rfl)
theorem dX1_refuse_32 : decode cX1_refuse 32 = .ok (.astore 5, 2) := dk_58 5 (dk_at dksX1_refuse_1 8 rfl rfl)
theorem dX1_refuse_34 : decode cX1_refuse 34 = .ok (.aload_n 0, 1) := dk_42 (dk_at dksX1_refuse_1 10 rfl rfl)
theorem dX1_refuse_35 : decode cX1_refuse 35 = .ok (.getfield 40, 3) := dk_180 0 40 (dk_at dksX1_refuse_1 11 rfl rfl)
theorem dX1_refuse_38 : decode cX1_refuse 38 = .ok (.aload 5, 2) := dk_25 5 (dk_at dksX1_refuse_1 14 rfl rfl)
theorem dX1_refuse_40 : decode cX1_refuse 40 = .ok (.invokevirtual 92, 3) := dk_182 0 92 (dk_at dksX1_refuse_1 16 rfl rfl)
theorem dX1_refuse_43 : decode cX1_refuse 43 = .ok (.pop, 1) := dk_87 (dk_at dksX1_refuse_1 19 rfl rfl)
theorem dX1_refuse_44 : decode cX1_refuse 44 = .ok (.iinc 4 1, 3) := dk_132 4 1 (dk_at dksX1_refuse_1 20 rfl rfl)
theorem dX1_refuse_47 : decode cX1_refuse 47 = .ok (.goto (-25), 3) := dk_167 255 231 (dk_at dksX1_refuse_2 0 rfl rfl)
theorem dX1_refuse_50 : decode cX1_refuse 50 = .ok (.new 96, 3) := dk_187 0 96 (dk_at dksX1_refuse_2 3 rfl rfl)
theorem dX1_refuse_53 : decode cX1_refuse 53 = .ok (.dup, 1) := dk_89 (dk_at dksX1_refuse_2 6 rfl rfl)
theorem dX1_refuse_54 : decode cX1_refuse 54 = .ok (.invokespecial 98, 3) := dk_183 0 98 (dk_at dksX1_refuse_2 7 rfl rfl)
theorem dX1_refuse_57 : decode cX1_refuse 57 = .ok (.athrow, 1) := dk_191 (dk_at dksX1_refuse_2 10 rfl rfl)
abbrev cX1_lens : ByteArray := prog_1_method_13_code
def yX1_lens : MethodName := ⟨RX1, "lens", "(I)I"⟩
def dkwX1_lens_3 : List UInt8 := [180, 0, 10, 180, 0, 173, 44, 182, 0, 103, 44, 180, 0, 176, 172]
abbrev dktX1_lens_3 : List UInt8 := dkwX1_lens_3 ++ []
def dkwX1_lens_2 : List UInt8 := [180, 0, 167, 182, 0, 81, 27, 183, 0, 172, 77, 42, 180, 0, 10, 180, 0, 167, 44, 182, 0, 92, 87, 42]
abbrev dktX1_lens_2 : List UInt8 := dkwX1_lens_2 ++ dktX1_lens_3
def dkwX1_lens_1 : List UInt8 := [162, 0, 7, 4, 167, 0, 4, 3, 184, 0, 129, 42, 182, 0, 160, 187, 0, 170, 89, 42, 180, 0, 10]
abbrev dktX1_lens_1 : List UInt8 := dkwX1_lens_1 ++ dktX1_lens_2
def dkwX1_lens_0 : List UInt8 := [27, 8, 16, 60, 184, 0, 85, 184, 0, 126, 42, 180, 0, 10, 180, 0, 167, 182, 0, 81, 16, 12]
abbrev dktX1_lens_0 : List UInt8 := dkwX1_lens_0 ++ dktX1_lens_1
theorem dksX1_lens_0 : cX1_lens.data.toList.drop 0 = dktX1_lens_0 := by decide +kernel
theorem dksX1_lens_1 : cX1_lens.data.toList.drop 22 = dktX1_lens_1 := dk_seg dksX1_lens_0 22 rfl rfl
theorem dksX1_lens_2 : cX1_lens.data.toList.drop 45 = dktX1_lens_2 := dk_seg dksX1_lens_1 23 rfl rfl
theorem dksX1_lens_3 : cX1_lens.data.toList.drop 69 = dktX1_lens_3 := dk_seg dksX1_lens_2 24 rfl rfl
theorem dX1_lens_0 : decode cX1_lens 0 = .ok (.iload_n 1, 1) := dk_27 (dk_at dksX1_lens_0 0 rfl rfl)
theorem dX1_lens_1 : decode cX1_lens 1 = .ok (.iconst 5, 1) := dk_8 (dk_at dksX1_lens_0 1 rfl rfl)
theorem dX1_lens_2 : decode cX1_lens 2 = .ok (.bipush 60, 2) := dk_16 60 (dk_at dksX1_lens_0 2 rfl rfl)
theorem dX1_lens_4 : decode cX1_lens 4 = .ok (.invokestatic 85, 3) := dk_184 0 85 (dk_at dksX1_lens_0 4 rfl rfl)
theorem dX1_lens_7 : decode cX1_lens 7 = .ok (.invokestatic 126, 3) := dk_184 0 126 (dk_at dksX1_lens_0 7 rfl rfl)
theorem dX1_lens_10 : decode cX1_lens 10 = .ok (.aload_n 0, 1) := dk_42 (dk_at dksX1_lens_0 10 rfl rfl)
theorem dX1_lens_11 : decode cX1_lens 11 = .ok (.getfield 10, 3) := dk_180 0 10 (dk_at dksX1_lens_0 11 rfl rfl)
theorem dX1_lens_14 : decode cX1_lens 14 = .ok (.getfield 167, 3) := dk_180 0 167 (dk_at dksX1_lens_0 14 rfl rfl)
theorem dX1_lens_17 : decode cX1_lens 17 = .ok (.invokevirtual 81, 3) := dk_182 0 81 (dk_at dksX1_lens_0 17 rfl rfl)
theorem dX1_lens_20 : decode cX1_lens 20 = .ok (.bipush 12, 2) := dk_16 12 (dk_at dksX1_lens_0 20 rfl rfl)
theorem dX1_lens_22 : decode cX1_lens 22 = .ok (.if_icmp .ge 7, 3) := dk_162 0 7 (dk_at dksX1_lens_1 0 rfl rfl)
theorem dX1_lens_25 : decode cX1_lens 25 = .ok (.iconst 1, 1) := dk_4 (dk_at dksX1_lens_1 3 rfl rfl)
theorem dX1_lens_26 : decode cX1_lens 26 = .ok (.goto 4, 3) := dk_167 0 4 (dk_at dksX1_lens_1 4 rfl rfl)
theorem dX1_lens_29 : decode cX1_lens 29 = .ok (.iconst 0, 1) := dk_3 (dk_at dksX1_lens_1 7 rfl rfl)
theorem dX1_lens_30 : decode cX1_lens 30 = .ok (.invokestatic 129, 3) := dk_184 0 129 (dk_at dksX1_lens_1 8 rfl rfl)
theorem dX1_lens_33 : decode cX1_lens 33 = .ok (.aload_n 0, 1) := dk_42 (dk_at dksX1_lens_1 11 rfl rfl)
theorem dX1_lens_34 : decode cX1_lens 34 = .ok (.invokevirtual 160, 3) := dk_182 0 160 (dk_at dksX1_lens_1 12 rfl rfl)
theorem dX1_lens_37 : decode cX1_lens 37 = .ok (.new 170, 3) := dk_187 0 170 (dk_at dksX1_lens_1 15 rfl rfl)
theorem dX1_lens_40 : decode cX1_lens 40 = .ok (.dup, 1) := dk_89 (dk_at dksX1_lens_1 18 rfl rfl)
theorem dX1_lens_41 : decode cX1_lens 41 = .ok (.aload_n 0, 1) := dk_42 (dk_at dksX1_lens_1 19 rfl rfl)
theorem dX1_lens_42 : decode cX1_lens 42 = .ok (.getfield 10, 3) := dk_180 0 10 (dk_at dksX1_lens_1 20 rfl rfl)
theorem dX1_lens_45 : decode cX1_lens 45 = .ok (.getfield 167, 3) := dk_180 0 167 (dk_at dksX1_lens_2 0 rfl rfl)
theorem dX1_lens_48 : decode cX1_lens 48 = .ok (.invokevirtual 81, 3) := dk_182 0 81 (dk_at dksX1_lens_2 3 rfl rfl)
theorem dX1_lens_51 : decode cX1_lens 51 = .ok (.iload_n 1, 1) := dk_27 (dk_at dksX1_lens_2 6 rfl rfl)
theorem dX1_lens_52 : decode cX1_lens 52 = .ok (.invokespecial 172, 3) := dk_183 0 172 (dk_at dksX1_lens_2 7 rfl rfl)
theorem dX1_lens_55 : decode cX1_lens 55 = .ok (.astore_n 2, 1) := dk_77 (dk_at dksX1_lens_2 10 rfl rfl)
theorem dX1_lens_56 : decode cX1_lens 56 = .ok (.aload_n 0, 1) := dk_42 (dk_at dksX1_lens_2 11 rfl rfl)
theorem dX1_lens_57 : decode cX1_lens 57 = .ok (.getfield 10, 3) := dk_180 0 10 (dk_at dksX1_lens_2 12 rfl rfl)
theorem dX1_lens_60 : decode cX1_lens 60 = .ok (.getfield 167, 3) := dk_180 0 167 (dk_at dksX1_lens_2 15 rfl rfl)
theorem dX1_lens_63 : decode cX1_lens 63 = .ok (.aload_n 2, 1) := dk_44 (dk_at dksX1_lens_2 18 rfl rfl)
theorem dX1_lens_64 : decode cX1_lens 64 = .ok (.invokevirtual 92, 3) := dk_182 0 92 (dk_at dksX1_lens_2 19 rfl rfl)
theorem dX1_lens_67 : decode cX1_lens 67 = .ok (.pop, 1) := dk_87 (dk_at dksX1_lens_2 22 rfl rfl)
theorem dX1_lens_68 : decode cX1_lens 68 = .ok (.aload_n 0, 1) := dk_42 (dk_at dksX1_lens_2 23 rfl rfl)
theorem dX1_lens_69 : decode cX1_lens 69 = .ok (.getfield 10, 3) := dk_180 0 10 (dk_at dksX1_lens_3 0 rfl rfl)
theorem dX1_lens_72 : decode cX1_lens 72 = .ok (.getfield 173, 3) := dk_180 0 173 (dk_at dksX1_lens_3 3 rfl rfl)
theorem dX1_lens_75 : decode cX1_lens 75 = .ok (.aload_n 2, 1) := dk_44 (dk_at dksX1_lens_3 6 rfl rfl)
theorem dX1_lens_76 : decode cX1_lens 76 = .ok (.invokevirtual 103, 3) := dk_182 0 103 (dk_at dksX1_lens_3 7 rfl rfl)
theorem dX1_lens_79 : decode cX1_lens 79 = .ok (.aload_n 2, 1) := dk_44 (dk_at dksX1_lens_3 10 rfl rfl)
theorem dX1_lens_80 : decode cX1_lens 80 = .ok (.getfield 176, 3) := dk_180 0 176 (dk_at dksX1_lens_3 11 rfl rfl)
theorem dX1_lens_83 : decode cX1_lens 83 = .ok (.ireturn, 1) := dk_172 (dk_at dksX1_lens_3 14 rfl rfl)
abbrev cX1_pattern : ByteArray := prog_1_method_14_code
def yX1_pattern : MethodName := ⟨RX1, "pattern", "(III)I"⟩
def dkwX1_pattern_3 : List UInt8 := [181, 0, 193, 42, 27, 182, 0, 189, 29, 181, 0, 202, 42, 180, 0, 10, 182, 0, 205, 87, 21, 4, 172]
abbrev dktX1_pattern_3 : List UInt8 := dkwX1_pattern_3 ++ []
def dkwX1_pattern_2 : List UInt8 := [42, 182, 0, 160, 42, 27, 182, 0, 189, 180, 0, 193, 184, 0, 196, 54, 4, 42, 27, 182, 0, 189, 28]
abbrev dktX1_pattern_2 : List UInt8 := dkwX1_pattern_2 ++ dktX1_pattern_3
def dkwX1_pattern_1 : List UInt8 := [29, 184, 0, 180, 184, 0, 186, 120, 4, 100, 184, 0, 85, 153, 0, 7, 4, 167, 0, 4, 3, 184, 0, 126]
abbrev dktX1_pattern_1 : List UInt8 := dkwX1_pattern_1 ++ dktX1_pattern_2
def dkwX1_pattern_0 : List UInt8 := [42, 27, 182, 0, 177, 184, 0, 122, 29, 5, 16, 8, 184, 0, 85, 153, 0, 29, 28, 4, 4, 16, 8, 3]
abbrev dktX1_pattern_0 : List UInt8 := dkwX1_pattern_0 ++ dktX1_pattern_1
theorem dksX1_pattern_0 : cX1_pattern.data.toList.drop 0 = dktX1_pattern_0 := by decide +kernel
theorem dksX1_pattern_1 : cX1_pattern.data.toList.drop 24 = dktX1_pattern_1 := dk_seg dksX1_pattern_0 24 rfl rfl
theorem dksX1_pattern_2 : cX1_pattern.data.toList.drop 48 = dktX1_pattern_2 := dk_seg dksX1_pattern_1 24 rfl rfl
theorem dksX1_pattern_3 : cX1_pattern.data.toList.drop 71 = dktX1_pattern_3 := dk_seg dksX1_pattern_2 23 rfl rfl
theorem dX1_pattern_0 : decode cX1_pattern 0 = .ok (.aload_n 0, 1) := dk_42 (dk_at dksX1_pattern_0 0 rfl rfl)
theorem dX1_pattern_1 : decode cX1_pattern 1 = .ok (.iload_n 1, 1) := dk_27 (dk_at dksX1_pattern_0 1 rfl rfl)
theorem dX1_pattern_2 : decode cX1_pattern 2 = .ok (.invokevirtual 177, 3) := dk_182 0 177 (dk_at dksX1_pattern_0 2 rfl rfl)
theorem dX1_pattern_5 : decode cX1_pattern 5 = .ok (.invokestatic 122, 3) := dk_184 0 122 (dk_at dksX1_pattern_0 5 rfl rfl)
theorem dX1_pattern_8 : decode cX1_pattern 8 = .ok (.iload_n 3, 1) := dk_29 (dk_at dksX1_pattern_0 8 rfl rfl)
theorem dX1_pattern_9 : decode cX1_pattern 9 = .ok (.iconst 2, 1) := dk_5 (dk_at dksX1_pattern_0 9 rfl rfl)
theorem dX1_pattern_10 : decode cX1_pattern 10 = .ok (.bipush 8, 2) := dk_16 8 (dk_at dksX1_pattern_0 10 rfl rfl)
theorem dX1_pattern_12 : decode cX1_pattern 12 = .ok (.invokestatic 85, 3) := dk_184 0 85 (dk_at dksX1_pattern_0 12 rfl rfl)
theorem dX1_pattern_15 : decode cX1_pattern 15 = .ok (.ifCond .eq 29, 3) := dk_153 0 29 (dk_at dksX1_pattern_0 15 rfl rfl)
theorem dX1_pattern_18 : decode cX1_pattern 18 = .ok (.iload_n 2, 1) := dk_28 (dk_at dksX1_pattern_0 18 rfl rfl)
theorem dX1_pattern_19 : decode cX1_pattern 19 = .ok (.iconst 1, 1) := dk_4 (dk_at dksX1_pattern_0 19 rfl rfl)
theorem dX1_pattern_20 : decode cX1_pattern 20 = .ok (.iconst 1, 1) := dk_4 (dk_at dksX1_pattern_0 20 rfl rfl)
theorem dX1_pattern_21 : decode cX1_pattern 21 = .ok (.bipush 8, 2) := dk_16 8 (dk_at dksX1_pattern_0 21 rfl rfl)
theorem dX1_pattern_23 : decode cX1_pattern 23 = .ok (.iconst 0, 1) := dk_3 (dk_at dksX1_pattern_0 23 rfl rfl)
theorem dX1_pattern_24 : decode cX1_pattern 24 = .ok (.iload_n 3, 1) := dk_29 (dk_at dksX1_pattern_1 0 rfl rfl)
theorem dX1_pattern_25 : decode cX1_pattern 25 = .ok (.invokestatic 180, 3) := dk_184 0 180 (dk_at dksX1_pattern_1 1 rfl rfl)
theorem dX1_pattern_28 : decode cX1_pattern 28 = .ok (.invokestatic 186, 3) := dk_184 0 186 (dk_at dksX1_pattern_1 4 rfl rfl)
theorem dX1_pattern_31 : decode cX1_pattern 31 = .ok (.ishl, 1) := dk_120 (dk_at dksX1_pattern_1 7 rfl rfl)
theorem dX1_pattern_32 : decode cX1_pattern 32 = .ok (.iconst 1, 1) := dk_4 (dk_at dksX1_pattern_1 8 rfl rfl)
theorem dX1_pattern_33 : decode cX1_pattern 33 = .ok (.isub, 1) := dk_100 (dk_at dksX1_pattern_1 9 rfl rfl)
theorem dX1_pattern_34 : decode cX1_pattern 34 = .ok (.invokestatic 85, 3) := dk_184 0 85 (dk_at dksX1_pattern_1 10 rfl rfl)
theorem dX1_pattern_37 : decode cX1_pattern 37 = .ok (.ifCond .eq 7, 3) := dk_153 0 7 (dk_at dksX1_pattern_1 13 rfl rfl)
theorem dX1_pattern_40 : decode cX1_pattern 40 = .ok (.iconst 1, 1) := dk_4 (dk_at dksX1_pattern_1 16 rfl rfl)
theorem dX1_pattern_41 : decode cX1_pattern 41 = .ok (.goto 4, 3) := dk_167 0 4 (dk_at dksX1_pattern_1 17 rfl rfl)
theorem dX1_pattern_44 : decode cX1_pattern 44 = .ok (.iconst 0, 1) := dk_3 (dk_at dksX1_pattern_1 20 rfl rfl)
theorem dX1_pattern_45 : decode cX1_pattern 45 = .ok (.invokestatic 126, 3) := dk_184 0 126 (dk_at dksX1_pattern_1 21 rfl rfl)
theorem dX1_pattern_48 : decode cX1_pattern 48 = .ok (.aload_n 0, 1) := dk_42 (dk_at dksX1_pattern_2 0 rfl rfl)
theorem dX1_pattern_49 : decode cX1_pattern 49 = .ok (.invokevirtual 160, 3) := dk_182 0 160 (dk_at dksX1_pattern_2 1 rfl rfl)
theorem dX1_pattern_52 : decode cX1_pattern 52 = .ok (.aload_n 0, 1) := dk_42 (dk_at dksX1_pattern_2 4 rfl rfl)
theorem dX1_pattern_53 : decode cX1_pattern 53 = .ok (.iload_n 1, 1) := dk_27 (dk_at dksX1_pattern_2 5 rfl rfl)
theorem dX1_pattern_54 : decode cX1_pattern 54 = .ok (.invokevirtual 189, 3) := dk_182 0 189 (dk_at dksX1_pattern_2 6 rfl rfl)
theorem dX1_pattern_57 : decode cX1_pattern 57 = .ok (.getfield 193, 3) := dk_180 0 193 (dk_at dksX1_pattern_2 9 rfl rfl)
theorem dX1_pattern_60 : decode cX1_pattern 60 = .ok (.invokestatic 196, 3) := dk_184 0 196 (dk_at dksX1_pattern_2 12 rfl rfl)
theorem dX1_pattern_63 : decode cX1_pattern 63 = .ok (.istore 4, 2) := dk_54 4 (dk_at dksX1_pattern_2 15 rfl rfl)
theorem dX1_pattern_65 : decode cX1_pattern 65 = .ok (.aload_n 0, 1) := dk_42 (dk_at dksX1_pattern_2 17 rfl rfl)
theorem dX1_pattern_66 : decode cX1_pattern 66 = .ok (.iload_n 1, 1) := dk_27 (dk_at dksX1_pattern_2 18 rfl rfl)
theorem dX1_pattern_67 : decode cX1_pattern 67 = .ok (.invokevirtual 189, 3) := dk_182 0 189 (dk_at dksX1_pattern_2 19 rfl rfl)
theorem dX1_pattern_70 : decode cX1_pattern 70 = .ok (.iload_n 2, 1) := dk_28 (dk_at dksX1_pattern_2 22 rfl rfl)
theorem dX1_pattern_71 : decode cX1_pattern 71 = .ok (.putfield 193, 3) := dk_181 0 193 (dk_at dksX1_pattern_3 0 rfl rfl)
theorem dX1_pattern_74 : decode cX1_pattern 74 = .ok (.aload_n 0, 1) := dk_42 (dk_at dksX1_pattern_3 3 rfl rfl)
theorem dX1_pattern_75 : decode cX1_pattern 75 = .ok (.iload_n 1, 1) := dk_27 (dk_at dksX1_pattern_3 4 rfl rfl)
theorem dX1_pattern_76 : decode cX1_pattern 76 = .ok (.invokevirtual 189, 3) := dk_182 0 189 (dk_at dksX1_pattern_3 5 rfl rfl)
theorem dX1_pattern_79 : decode cX1_pattern 79 = .ok (.iload_n 3, 1) := dk_29 (dk_at dksX1_pattern_3 8 rfl rfl)
theorem dX1_pattern_80 : decode cX1_pattern 80 = .ok (.putfield 202, 3) := dk_181 0 202 (dk_at dksX1_pattern_3 9 rfl rfl)
theorem dX1_pattern_83 : decode cX1_pattern 83 = .ok (.aload_n 0, 1) := dk_42 (dk_at dksX1_pattern_3 12 rfl rfl)
theorem dX1_pattern_84 : decode cX1_pattern 84 = .ok (.getfield 10, 3) := dk_180 0 10 (dk_at dksX1_pattern_3 13 rfl rfl)
theorem dX1_pattern_87 : decode cX1_pattern 87 = .ok (.invokevirtual 205, 3) := dk_182 0 205 (dk_at dksX1_pattern_3 16 rfl rfl)
theorem dX1_pattern_90 : decode cX1_pattern 90 = .ok (.pop, 1) := dk_87 (dk_at dksX1_pattern_3 19 rfl rfl)
theorem dX1_pattern_91 : decode cX1_pattern 91 = .ok (.iload 4, 2) := dk_21 4 (dk_at dksX1_pattern_3 20 rfl rfl)
theorem dX1_pattern_93 : decode cX1_pattern 93 = .ok (.ireturn, 1) := dk_172 (dk_at dksX1_pattern_3 22 rfl rfl)
abbrev cX1_isTower : ByteArray := prog_1_method_7_code
def yX1_isTower : MethodName := ⟨RX1, "isTower", "(I)Z"⟩
def dkwX1_isTower_0 : List UInt8 := [27, 3, 42, 180, 0, 10, 180, 0, 78, 182, 0, 81, 4, 100, 184, 0, 85, 172]
abbrev dktX1_isTower_0 : List UInt8 := dkwX1_isTower_0 ++ []
theorem dksX1_isTower_0 : cX1_isTower.data.toList.drop 0 = dktX1_isTower_0 := by decide +kernel
theorem dX1_isTower_0 : decode cX1_isTower 0 = .ok (.iload_n 1, 1) := dk_27 (dk_at dksX1_isTower_0 0 rfl rfl)
theorem dX1_isTower_1 : decode cX1_isTower 1 = .ok (.iconst 0, 1) := dk_3 (dk_at dksX1_isTower_0 1 rfl rfl)
theorem dX1_isTower_2 : decode cX1_isTower 2 = .ok (.aload_n 0, 1) := dk_42 (dk_at dksX1_isTower_0 2 rfl rfl)
theorem dX1_isTower_3 : decode cX1_isTower 3 = .ok (.getfield 10, 3) := dk_180 0 10 (dk_at dksX1_isTower_0 3 rfl rfl)
theorem dX1_isTower_6 : decode cX1_isTower 6 = .ok (.getfield 78, 3) := dk_180 0 78 (dk_at dksX1_isTower_0 6 rfl rfl)
theorem dX1_isTower_9 : decode cX1_isTower 9 = .ok (.invokevirtual 81, 3) := dk_182 0 81 (dk_at dksX1_isTower_0 9 rfl rfl)
theorem dX1_isTower_12 : decode cX1_isTower 12 = .ok (.iconst 1, 1) := dk_4 (dk_at dksX1_isTower_0 12 rfl rfl)
theorem dX1_isTower_13 : decode cX1_isTower 13 = .ok (.isub, 1) := dk_100 (dk_at dksX1_isTower_0 13 rfl rfl)
theorem dX1_isTower_14 : decode cX1_isTower 14 = .ok (.invokestatic 85, 3) := dk_184 0 85 (dk_at dksX1_isTower_0 14 rfl rfl)
theorem dX1_isTower_17 : decode cX1_isTower 17 = .ok (.ireturn, 1) := dk_172 (dk_at dksX1_isTower_0 17 rfl rfl)
abbrev cX1_at : ByteArray := prog_1_method_11_code
def yX1_at : MethodName := ⟨RX1, "at", "(I)LSkerryLights$Tower;"⟩
def dkwX1_at_0 : List UInt8 := [42, 180, 0, 10, 180, 0, 78, 27, 182, 0, 112, 192, 0, 116, 176]
abbrev dktX1_at_0 : List UInt8 := dkwX1_at_0 ++ []
theorem dksX1_at_0 : cX1_at.data.toList.drop 0 = dktX1_at_0 := by decide +kernel
theorem dX1_at_0 : decode cX1_at 0 = .ok (.aload_n 0, 1) := dk_42 (dk_at dksX1_at_0 0 rfl rfl)
theorem dX1_at_1 : decode cX1_at 1 = .ok (.getfield 10, 3) := dk_180 0 10 (dk_at dksX1_at_0 1 rfl rfl)
theorem dX1_at_4 : decode cX1_at 4 = .ok (.getfield 78, 3) := dk_180 0 78 (dk_at dksX1_at_0 4 rfl rfl)
theorem dX1_at_7 : decode cX1_at 7 = .ok (.iload_n 1, 1) := dk_27 (dk_at dksX1_at_0 7 rfl rfl)
theorem dX1_at_8 : decode cX1_at 8 = .ok (.invokevirtual 112, 3) := dk_182 0 112 (dk_at dksX1_at_0 8 rfl rfl)
theorem dX1_at_11 : decode cX1_at 11 = .ok (.checkcast 116, 3) := dk_192 0 116 (dk_at dksX1_at_0 11 rfl rfl)
theorem dX1_at_14 : decode cX1_at 14 = .ok (.areturn, 1) := dk_176 (dk_at dksX1_at_0 14 rfl rfl)
abbrev cX1_fit : ByteArray := prog_1_method_15_code
def yX1_fit : MethodName := ⟨RX1, "fit", "(I)I"⟩
def dkwX1_fit_2 : List UInt8 := [182, 0, 205, 87, 28, 172]
abbrev dktX1_fit_2 : List UInt8 := dkwX1_fit_2 ++ []
def dkwX1_fit_1 : List UInt8 := [182, 0, 156, 42, 182, 0, 160, 42, 180, 0, 10, 42, 27, 182, 0, 189, 182, 0, 212, 61, 42, 180, 0, 10]
abbrev dktX1_fit_1 : List UInt8 := dkwX1_fit_1 ++ dktX1_fit_2
def dkwX1_fit_0 : List UInt8 := [42, 27, 182, 0, 177, 184, 0, 122, 42, 4, 189, 0, 145, 89, 3, 42, 180, 0, 10, 182, 0, 208, 83]
abbrev dktX1_fit_0 : List UInt8 := dkwX1_fit_0 ++ dktX1_fit_1
theorem dksX1_fit_0 : cX1_fit.data.toList.drop 0 = dktX1_fit_0 := by decide +kernel
theorem dksX1_fit_1 : cX1_fit.data.toList.drop 23 = dktX1_fit_1 := dk_seg dksX1_fit_0 23 rfl rfl
theorem dksX1_fit_2 : cX1_fit.data.toList.drop 47 = dktX1_fit_2 := dk_seg dksX1_fit_1 24 rfl rfl
theorem dX1_fit_0 : decode cX1_fit 0 = .ok (.aload_n 0, 1) := dk_42 (dk_at dksX1_fit_0 0 rfl rfl)
theorem dX1_fit_1 : decode cX1_fit 1 = .ok (.iload_n 1, 1) := dk_27 (dk_at dksX1_fit_0 1 rfl rfl)
theorem dX1_fit_2 : decode cX1_fit 2 = .ok (.invokevirtual 177, 3) := dk_182 0 177 (dk_at dksX1_fit_0 2 rfl rfl)
theorem dX1_fit_5 : decode cX1_fit 5 = .ok (.invokestatic 122, 3) := dk_184 0 122 (dk_at dksX1_fit_0 5 rfl rfl)
theorem dX1_fit_8 : decode cX1_fit 8 = .ok (.aload_n 0, 1) := dk_42 (dk_at dksX1_fit_0 8 rfl rfl)
theorem dX1_fit_9 : decode cX1_fit 9 = .ok (.iconst 1, 1) := dk_4 (dk_at dksX1_fit_0 9 rfl rfl)
theorem dX1_fit_10 : decode cX1_fit 10 = .ok (.anewarray 145, 3) := dk_189 0 145 (dk_at dksX1_fit_0 10 rfl rfl)
theorem dX1_fit_13 : decode cX1_fit 13 = .ok (.dup, 1) := dk_89 (dk_at dksX1_fit_0 13 rfl rfl)
theorem dX1_fit_14 : decode cX1_fit 14 = .ok (.iconst 0, 1) := dk_3 (dk_at dksX1_fit_0 14 rfl rfl)
theorem dX1_fit_15 : decode cX1_fit 15 = .ok (.aload_n 0, 1) := dk_42 (dk_at dksX1_fit_0 15 rfl rfl)
theorem dX1_fit_16 : decode cX1_fit 16 = .ok (.getfield 10, 3) := dk_180 0 10 (dk_at dksX1_fit_0 16 rfl rfl)
theorem dX1_fit_19 : decode cX1_fit 19 = .ok (.invokevirtual 208, 3) := dk_182 0 208 (dk_at dksX1_fit_0 19 rfl rfl)
theorem dX1_fit_22 : decode cX1_fit 22 = .ok (.aastore, 1) := dk_83 (dk_at dksX1_fit_0 22 rfl rfl)
theorem dX1_fit_23 : decode cX1_fit 23 = .ok (.invokevirtual 156, 3) := dk_182 0 156 (dk_at dksX1_fit_1 0 rfl rfl)
theorem dX1_fit_26 : decode cX1_fit 26 = .ok (.aload_n 0, 1) := dk_42 (dk_at dksX1_fit_1 3 rfl rfl)
theorem dX1_fit_27 : decode cX1_fit 27 = .ok (.invokevirtual 160, 3) := dk_182 0 160 (dk_at dksX1_fit_1 4 rfl rfl)
theorem dX1_fit_30 : decode cX1_fit 30 = .ok (.aload_n 0, 1) := dk_42 (dk_at dksX1_fit_1 7 rfl rfl)
theorem dX1_fit_31 : decode cX1_fit 31 = .ok (.getfield 10, 3) := dk_180 0 10 (dk_at dksX1_fit_1 8 rfl rfl)
theorem dX1_fit_34 : decode cX1_fit 34 = .ok (.aload_n 0, 1) := dk_42 (dk_at dksX1_fit_1 11 rfl rfl)
theorem dX1_fit_35 : decode cX1_fit 35 = .ok (.iload_n 1, 1) := dk_27 (dk_at dksX1_fit_1 12 rfl rfl)
theorem dX1_fit_36 : decode cX1_fit 36 = .ok (.invokevirtual 189, 3) := dk_182 0 189 (dk_at dksX1_fit_1 13 rfl rfl)
theorem dX1_fit_39 : decode cX1_fit 39 = .ok (.invokevirtual 212, 3) := dk_182 0 212 (dk_at dksX1_fit_1 16 rfl rfl)
theorem dX1_fit_42 : decode cX1_fit 42 = .ok (.istore_n 2, 1) := dk_61 (dk_at dksX1_fit_1 19 rfl rfl)
theorem dX1_fit_43 : decode cX1_fit 43 = .ok (.aload_n 0, 1) := dk_42 (dk_at dksX1_fit_1 20 rfl rfl)
theorem dX1_fit_44 : decode cX1_fit 44 = .ok (.getfield 10, 3) := dk_180 0 10 (dk_at dksX1_fit_1 21 rfl rfl)
theorem dX1_fit_47 : decode cX1_fit 47 = .ok (.invokevirtual 205, 3) := dk_182 0 205 (dk_at dksX1_fit_2 0 rfl rfl)
theorem dX1_fit_50 : decode cX1_fit 50 = .ok (.pop, 1) := dk_87 (dk_at dksX1_fit_2 3 rfl rfl)
theorem dX1_fit_51 : decode cX1_fit 51 = .ok (.iload_n 2, 1) := dk_28 (dk_at dksX1_fit_2 4 rfl rfl)
theorem dX1_fit_52 : decode cX1_fit 52 = .ok (.ireturn, 1) := dk_172 (dk_at dksX1_fit_2 5 rfl rfl)
abbrev cX1_light : ByteArray := prog_1_method_16_code
def yX1_light : MethodName := ⟨RX1, "light", "(I)I"⟩
def dkwX1_light_2 : List UInt8 := [182, 0, 224, 172]
abbrev dktX1_light_2 : List UInt8 := dkwX1_light_2 ++ []
def dkwX1_light_1 : List UInt8 := [182, 0, 216, 83, 182, 0, 156, 42, 182, 0, 160, 42, 27, 182, 0, 189, 4, 181, 0, 220, 42, 180, 0, 10]
abbrev dktX1_light_1 : List UInt8 := dkwX1_light_1 ++ dktX1_light_2
def dkwX1_light_0 : List UInt8 := [42, 27, 182, 0, 177, 184, 0, 122, 42, 4, 189, 0, 145, 89, 3, 42, 180, 0, 10, 42, 27, 182, 0, 189]
abbrev dktX1_light_0 : List UInt8 := dkwX1_light_0 ++ dktX1_light_1
theorem dksX1_light_0 : cX1_light.data.toList.drop 0 = dktX1_light_0 := by decide +kernel
theorem dksX1_light_1 : cX1_light.data.toList.drop 24 = dktX1_light_1 := dk_seg dksX1_light_0 24 rfl rfl
theorem dksX1_light_2 : cX1_light.data.toList.drop 48 = dktX1_light_2 := dk_seg dksX1_light_1 24 rfl rfl
theorem dX1_light_0 : decode cX1_light 0 = .ok (.aload_n 0, 1) := dk_42 (dk_at dksX1_light_0 0 rfl rfl)
theorem dX1_light_1 : decode cX1_light 1 = .ok (.iload_n 1, 1) := dk_27 (dk_at dksX1_light_0 1 rfl rfl)
theorem dX1_light_2 : decode cX1_light 2 = .ok (.invokevirtual 177, 3) := dk_182 0 177 (dk_at dksX1_light_0 2 rfl rfl)
theorem dX1_light_5 : decode cX1_light 5 = .ok (.invokestatic 122, 3) := dk_184 0 122 (dk_at dksX1_light_0 5 rfl rfl)
theorem dX1_light_8 : decode cX1_light 8 = .ok (.aload_n 0, 1) := dk_42 (dk_at dksX1_light_0 8 rfl rfl)
theorem dX1_light_9 : decode cX1_light 9 = .ok (.iconst 1, 1) := dk_4 (dk_at dksX1_light_0 9 rfl rfl)
theorem dX1_light_10 : decode cX1_light 10 = .ok (.anewarray 145, 3) := dk_189 0 145 (dk_at dksX1_light_0 10 rfl rfl)
theorem dX1_light_13 : decode cX1_light 13 = .ok (.dup, 1) := dk_89 (dk_at dksX1_light_0 13 rfl rfl)
theorem dX1_light_14 : decode cX1_light 14 = .ok (.iconst 0, 1) := dk_3 (dk_at dksX1_light_0 14 rfl rfl)
theorem dX1_light_15 : decode cX1_light 15 = .ok (.aload_n 0, 1) := dk_42 (dk_at dksX1_light_0 15 rfl rfl)
theorem dX1_light_16 : decode cX1_light 16 = .ok (.getfield 10, 3) := dk_180 0 10 (dk_at dksX1_light_0 16 rfl rfl)
theorem dX1_light_19 : decode cX1_light 19 = .ok (.aload_n 0, 1) := dk_42 (dk_at dksX1_light_0 19 rfl rfl)
theorem dX1_light_20 : decode cX1_light 20 = .ok (.iload_n 1, 1) := dk_27 (dk_at dksX1_light_0 20 rfl rfl)
theorem dX1_light_21 : decode cX1_light 21 = .ok (.invokevirtual 189, 3) := dk_182 0 189 (dk_at dksX1_light_0 21 rfl rfl)
theorem dX1_light_24 : decode cX1_light 24 = .ok (.invokevirtual 216, 3) := dk_182 0 216 (dk_at dksX1_light_1 0 rfl rfl)
theorem dX1_light_27 : decode cX1_light 27 = .ok (.aastore, 1) := dk_83 (dk_at dksX1_light_1 3 rfl rfl)
theorem dX1_light_28 : decode cX1_light 28 = .ok (.invokevirtual 156, 3) := dk_182 0 156 (dk_at dksX1_light_1 4 rfl rfl)
theorem dX1_light_31 : decode cX1_light 31 = .ok (.aload_n 0, 1) := dk_42 (dk_at dksX1_light_1 7 rfl rfl)
theorem dX1_light_32 : decode cX1_light 32 = .ok (.invokevirtual 160, 3) := dk_182 0 160 (dk_at dksX1_light_1 8 rfl rfl)
theorem dX1_light_35 : decode cX1_light 35 = .ok (.aload_n 0, 1) := dk_42 (dk_at dksX1_light_1 11 rfl rfl)
theorem dX1_light_36 : decode cX1_light 36 = .ok (.iload_n 1, 1) := dk_27 (dk_at dksX1_light_1 12 rfl rfl)
theorem dX1_light_37 : decode cX1_light 37 = .ok (.invokevirtual 189, 3) := dk_182 0 189 (dk_at dksX1_light_1 13 rfl rfl)
theorem dX1_light_40 : decode cX1_light 40 = .ok (.iconst 1, 1) := dk_4 (dk_at dksX1_light_1 16 rfl rfl)
theorem dX1_light_41 : decode cX1_light 41 = .ok (.putfield 220, 3) := dk_181 0 220 (dk_at dksX1_light_1 17 rfl rfl)
theorem dX1_light_44 : decode cX1_light 44 = .ok (.aload_n 0, 1) := dk_42 (dk_at dksX1_light_1 20 rfl rfl)
theorem dX1_light_45 : decode cX1_light 45 = .ok (.getfield 10, 3) := dk_180 0 10 (dk_at dksX1_light_1 21 rfl rfl)
theorem dX1_light_48 : decode cX1_light 48 = .ok (.invokevirtual 224, 3) := dk_182 0 224 (dk_at dksX1_light_2 0 rfl rfl)
theorem dX1_light_51 : decode cX1_light 51 = .ok (.ireturn, 1) := dk_172 (dk_at dksX1_light_2 3 rfl rfl)
abbrev cX1_darken : ByteArray := prog_1_method_17_code
def yX1_darken : MethodName := ⟨RX1, "darken", "(I)I"⟩
def dkwX1_darken_2 : List UInt8 := [182, 0, 224, 172]
abbrev dktX1_darken_2 : List UInt8 := dkwX1_darken_2 ++ []
def dkwX1_darken_1 : List UInt8 := [182, 0, 227, 83, 182, 0, 156, 42, 182, 0, 160, 42, 27, 182, 0, 189, 3, 181, 0, 220, 42, 180, 0, 10]
abbrev dktX1_darken_1 : List UInt8 := dkwX1_darken_1 ++ dktX1_darken_2
def dkwX1_darken_0 : List UInt8 := [42, 27, 182, 0, 177, 184, 0, 122, 42, 4, 189, 0, 145, 89, 3, 42, 180, 0, 10, 42, 27, 182, 0, 189]
abbrev dktX1_darken_0 : List UInt8 := dkwX1_darken_0 ++ dktX1_darken_1
theorem dksX1_darken_0 : cX1_darken.data.toList.drop 0 = dktX1_darken_0 := by decide +kernel
theorem dksX1_darken_1 : cX1_darken.data.toList.drop 24 = dktX1_darken_1 := dk_seg dksX1_darken_0 24 rfl rfl
theorem dksX1_darken_2 : cX1_darken.data.toList.drop 48 = dktX1_darken_2 := dk_seg dksX1_darken_1 24 rfl rfl
theorem dX1_darken_0 : decode cX1_darken 0 = .ok (.aload_n 0, 1) := dk_42 (dk_at dksX1_darken_0 0 rfl rfl)
theorem dX1_darken_1 : decode cX1_darken 1 = .ok (.iload_n 1, 1) := dk_27 (dk_at dksX1_darken_0 1 rfl rfl)
theorem dX1_darken_2 : decode cX1_darken 2 = .ok (.invokevirtual 177, 3) := dk_182 0 177 (dk_at dksX1_darken_0 2 rfl rfl)
theorem dX1_darken_5 : decode cX1_darken 5 = .ok (.invokestatic 122, 3) := dk_184 0 122 (dk_at dksX1_darken_0 5 rfl rfl)
theorem dX1_darken_8 : decode cX1_darken 8 = .ok (.aload_n 0, 1) := dk_42 (dk_at dksX1_darken_0 8 rfl rfl)
theorem dX1_darken_9 : decode cX1_darken 9 = .ok (.iconst 1, 1) := dk_4 (dk_at dksX1_darken_0 9 rfl rfl)
theorem dX1_darken_10 : decode cX1_darken 10 = .ok (.anewarray 145, 3) := dk_189 0 145 (dk_at dksX1_darken_0 10 rfl rfl)
theorem dX1_darken_13 : decode cX1_darken 13 = .ok (.dup, 1) := dk_89 (dk_at dksX1_darken_0 13 rfl rfl)
theorem dX1_darken_14 : decode cX1_darken 14 = .ok (.iconst 0, 1) := dk_3 (dk_at dksX1_darken_0 14 rfl rfl)
theorem dX1_darken_15 : decode cX1_darken 15 = .ok (.aload_n 0, 1) := dk_42 (dk_at dksX1_darken_0 15 rfl rfl)
theorem dX1_darken_16 : decode cX1_darken 16 = .ok (.getfield 10, 3) := dk_180 0 10 (dk_at dksX1_darken_0 16 rfl rfl)
theorem dX1_darken_19 : decode cX1_darken 19 = .ok (.aload_n 0, 1) := dk_42 (dk_at dksX1_darken_0 19 rfl rfl)
theorem dX1_darken_20 : decode cX1_darken 20 = .ok (.iload_n 1, 1) := dk_27 (dk_at dksX1_darken_0 20 rfl rfl)
theorem dX1_darken_21 : decode cX1_darken 21 = .ok (.invokevirtual 189, 3) := dk_182 0 189 (dk_at dksX1_darken_0 21 rfl rfl)
theorem dX1_darken_24 : decode cX1_darken 24 = .ok (.invokevirtual 227, 3) := dk_182 0 227 (dk_at dksX1_darken_1 0 rfl rfl)
theorem dX1_darken_27 : decode cX1_darken 27 = .ok (.aastore, 1) := dk_83 (dk_at dksX1_darken_1 3 rfl rfl)
theorem dX1_darken_28 : decode cX1_darken 28 = .ok (.invokevirtual 156, 3) := dk_182 0 156 (dk_at dksX1_darken_1 4 rfl rfl)
theorem dX1_darken_31 : decode cX1_darken 31 = .ok (.aload_n 0, 1) := dk_42 (dk_at dksX1_darken_1 7 rfl rfl)
theorem dX1_darken_32 : decode cX1_darken 32 = .ok (.invokevirtual 160, 3) := dk_182 0 160 (dk_at dksX1_darken_1 8 rfl rfl)
theorem dX1_darken_35 : decode cX1_darken 35 = .ok (.aload_n 0, 1) := dk_42 (dk_at dksX1_darken_1 11 rfl rfl)
theorem dX1_darken_36 : decode cX1_darken 36 = .ok (.iload_n 1, 1) := dk_27 (dk_at dksX1_darken_1 12 rfl rfl)
theorem dX1_darken_37 : decode cX1_darken 37 = .ok (.invokevirtual 189, 3) := dk_182 0 189 (dk_at dksX1_darken_1 13 rfl rfl)
theorem dX1_darken_40 : decode cX1_darken 40 = .ok (.iconst 0, 1) := dk_3 (dk_at dksX1_darken_1 16 rfl rfl)
theorem dX1_darken_41 : decode cX1_darken 41 = .ok (.putfield 220, 3) := dk_181 0 220 (dk_at dksX1_darken_1 17 rfl rfl)
theorem dX1_darken_44 : decode cX1_darken 44 = .ok (.aload_n 0, 1) := dk_42 (dk_at dksX1_darken_1 20 rfl rfl)
theorem dX1_darken_45 : decode cX1_darken 45 = .ok (.getfield 10, 3) := dk_180 0 10 (dk_at dksX1_darken_1 21 rfl rfl)
theorem dX1_darken_48 : decode cX1_darken 48 = .ok (.invokevirtual 224, 3) := dk_182 0 224 (dk_at dksX1_darken_2 0 rfl rfl)
theorem dX1_darken_51 : decode cX1_darken 51 = .ok (.ireturn, 1) := dk_172 (dk_at dksX1_darken_2 3 rfl rfl)
abbrev cX1_breakDown : ByteArray := prog_1_method_18_code
def yX1_breakDown : MethodName := ⟨RX1, "breakDown", "(I)I"⟩
def dkwX1_breakDown_2 : List UInt8 := [180, 0, 10, 182, 0, 224, 172]
abbrev dktX1_breakDown_2 : List UInt8 := dkwX1_breakDown_2 ++ []
def dkwX1_breakDown_1 : List UInt8 := [182, 0, 230, 83, 182, 0, 156, 42, 182, 0, 160, 42, 180, 0, 10, 42, 27, 182, 0, 189, 182, 0, 233, 42]
abbrev dktX1_breakDown_1 : List UInt8 := dkwX1_breakDown_1 ++ dktX1_breakDown_2
def dkwX1_breakDown_0 : List UInt8 := [42, 27, 182, 0, 177, 184, 0, 122, 42, 4, 189, 0, 145, 89, 3, 42, 180, 0, 10, 42, 27, 182, 0, 189]
abbrev dktX1_breakDown_0 : List UInt8 := dkwX1_breakDown_0 ++ dktX1_breakDown_1
theorem dksX1_breakDown_0 : cX1_breakDown.data.toList.drop 0 = dktX1_breakDown_0 := by decide +kernel
theorem dksX1_breakDown_1 : cX1_breakDown.data.toList.drop 24 = dktX1_breakDown_1 := dk_seg dksX1_breakDown_0 24 rfl rfl
theorem dksX1_breakDown_2 : cX1_breakDown.data.toList.drop 48 = dktX1_breakDown_2 := dk_seg dksX1_breakDown_1 24 rfl rfl
theorem dX1_breakDown_0 : decode cX1_breakDown 0 = .ok (.aload_n 0, 1) := dk_42 (dk_at dksX1_breakDown_0 0 rfl rfl)
theorem dX1_breakDown_1 : decode cX1_breakDown 1 = .ok (.iload_n 1, 1) := dk_27 (dk_at dksX1_breakDown_0 1 rfl rfl)
theorem dX1_breakDown_2 : decode cX1_breakDown 2 = .ok (.invokevirtual 177, 3) := dk_182 0 177 (dk_at dksX1_breakDown_0 2 rfl rfl)
theorem dX1_breakDown_5 : decode cX1_breakDown 5 = .ok (.invokestatic 122, 3) := dk_184 0 122 (dk_at dksX1_breakDown_0 5 rfl rfl)
theorem dX1_breakDown_8 : decode cX1_breakDown 8 = .ok (.aload_n 0, 1) := dk_42 (dk_at dksX1_breakDown_0 8 rfl rfl)
theorem dX1_breakDown_9 : decode cX1_breakDown 9 = .ok (.iconst 1, 1) := dk_4 (dk_at dksX1_breakDown_0 9 rfl rfl)
theorem dX1_breakDown_10 : decode cX1_breakDown 10 = .ok (.anewarray 145, 3) := dk_189 0 145 (dk_at dksX1_breakDown_0 10 rfl rfl)
theorem dX1_breakDown_13 : decode cX1_breakDown 13 = .ok (.dup, 1) := dk_89 (dk_at dksX1_breakDown_0 13 rfl rfl)
theorem dX1_breakDown_14 : decode cX1_breakDown 14 = .ok (.iconst 0, 1) := dk_3 (dk_at dksX1_breakDown_0 14 rfl rfl)
theorem dX1_breakDown_15 : decode cX1_breakDown 15 = .ok (.aload_n 0, 1) := dk_42 (dk_at dksX1_breakDown_0 15 rfl rfl)
theorem dX1_breakDown_16 : decode cX1_breakDown 16 = .ok (.getfield 10, 3) := dk_180 0 10 (dk_at dksX1_breakDown_0 16 rfl rfl)
theorem dX1_breakDown_19 : decode cX1_breakDown 19 = .ok (.aload_n 0, 1) := dk_42 (dk_at dksX1_breakDown_0 19 rfl rfl)
theorem dX1_breakDown_20 : decode cX1_breakDown 20 = .ok (.iload_n 1, 1) := dk_27 (dk_at dksX1_breakDown_0 20 rfl rfl)
theorem dX1_breakDown_21 : decode cX1_breakDown 21 = .ok (.invokevirtual 189, 3) := dk_182 0 189 (dk_at dksX1_breakDown_0 21 rfl rfl)
theorem dX1_breakDown_24 : decode cX1_breakDown 24 = .ok (.invokevirtual 230, 3) := dk_182 0 230 (dk_at dksX1_breakDown_1 0 rfl rfl)
theorem dX1_breakDown_27 : decode cX1_breakDown 27 = .ok (.aastore, 1) := dk_83 (dk_at dksX1_breakDown_1 3 rfl rfl)
theorem dX1_breakDown_28 : decode cX1_breakDown 28 = .ok (.invokevirtual 156, 3) := dk_182 0 156 (dk_at dksX1_breakDown_1 4 rfl rfl)
theorem dX1_breakDown_31 : decode cX1_breakDown 31 = .ok (.aload_n 0, 1) := dk_42 (dk_at dksX1_breakDown_1 7 rfl rfl)
theorem dX1_breakDown_32 : decode cX1_breakDown 32 = .ok (.invokevirtual 160, 3) := dk_182 0 160 (dk_at dksX1_breakDown_1 8 rfl rfl)
theorem dX1_breakDown_35 : decode cX1_breakDown 35 = .ok (.aload_n 0, 1) := dk_42 (dk_at dksX1_breakDown_1 11 rfl rfl)
theorem dX1_breakDown_36 : decode cX1_breakDown 36 = .ok (.getfield 10, 3) := dk_180 0 10 (dk_at dksX1_breakDown_1 12 rfl rfl)
theorem dX1_breakDown_39 : decode cX1_breakDown 39 = .ok (.aload_n 0, 1) := dk_42 (dk_at dksX1_breakDown_1 15 rfl rfl)
theorem dX1_breakDown_40 : decode cX1_breakDown 40 = .ok (.iload_n 1, 1) := dk_27 (dk_at dksX1_breakDown_1 16 rfl rfl)
theorem dX1_breakDown_41 : decode cX1_breakDown 41 = .ok (.invokevirtual 189, 3) := dk_182 0 189 (dk_at dksX1_breakDown_1 17 rfl rfl)
theorem dX1_breakDown_44 : decode cX1_breakDown 44 = .ok (.invokevirtual 233, 3) := dk_182 0 233 (dk_at dksX1_breakDown_1 20 rfl rfl)
theorem dX1_breakDown_47 : decode cX1_breakDown 47 = .ok (.aload_n 0, 1) := dk_42 (dk_at dksX1_breakDown_1 23 rfl rfl)
theorem dX1_breakDown_48 : decode cX1_breakDown 48 = .ok (.getfield 10, 3) := dk_180 0 10 (dk_at dksX1_breakDown_2 0 rfl rfl)
theorem dX1_breakDown_51 : decode cX1_breakDown 51 = .ok (.invokevirtual 224, 3) := dk_182 0 224 (dk_at dksX1_breakDown_2 3 rfl rfl)
theorem dX1_breakDown_54 : decode cX1_breakDown 54 = .ok (.ireturn, 1) := dk_172 (dk_at dksX1_breakDown_2 6 rfl rfl)
abbrev cX1_mend : ByteArray := prog_1_method_20_code
def yX1_mend : MethodName := ⟨RX1, "mend", "(I)I"⟩
def dkwX1_mend_2 : List UInt8 := [172]
abbrev dktX1_mend_2 : List UInt8 := dkwX1_mend_2 ++ []
def dkwX1_mend_1 : List UInt8 := [182, 0, 240, 83, 182, 0, 156, 42, 182, 0, 160, 42, 27, 182, 0, 189, 3, 181, 0, 237, 42, 182, 0, 243]
abbrev dktX1_mend_1 : List UInt8 := dkwX1_mend_1 ++ dktX1_mend_2
def dkwX1_mend_0 : List UInt8 := [42, 27, 182, 0, 177, 184, 0, 122, 42, 4, 189, 0, 145, 89, 3, 42, 180, 0, 10, 42, 27, 182, 0, 189]
abbrev dktX1_mend_0 : List UInt8 := dkwX1_mend_0 ++ dktX1_mend_1
theorem dksX1_mend_0 : cX1_mend.data.toList.drop 0 = dktX1_mend_0 := by decide +kernel
theorem dksX1_mend_1 : cX1_mend.data.toList.drop 24 = dktX1_mend_1 := dk_seg dksX1_mend_0 24 rfl rfl
theorem dksX1_mend_2 : cX1_mend.data.toList.drop 48 = dktX1_mend_2 := dk_seg dksX1_mend_1 24 rfl rfl
theorem dX1_mend_0 : decode cX1_mend 0 = .ok (.aload_n 0, 1) := dk_42 (dk_at dksX1_mend_0 0 rfl rfl)
theorem dX1_mend_1 : decode cX1_mend 1 = .ok (.iload_n 1, 1) := dk_27 (dk_at dksX1_mend_0 1 rfl rfl)
theorem dX1_mend_2 : decode cX1_mend 2 = .ok (.invokevirtual 177, 3) := dk_182 0 177 (dk_at dksX1_mend_0 2 rfl rfl)
theorem dX1_mend_5 : decode cX1_mend 5 = .ok (.invokestatic 122, 3) := dk_184 0 122 (dk_at dksX1_mend_0 5 rfl rfl)
theorem dX1_mend_8 : decode cX1_mend 8 = .ok (.aload_n 0, 1) := dk_42 (dk_at dksX1_mend_0 8 rfl rfl)
theorem dX1_mend_9 : decode cX1_mend 9 = .ok (.iconst 1, 1) := dk_4 (dk_at dksX1_mend_0 9 rfl rfl)
theorem dX1_mend_10 : decode cX1_mend 10 = .ok (.anewarray 145, 3) := dk_189 0 145 (dk_at dksX1_mend_0 10 rfl rfl)
theorem dX1_mend_13 : decode cX1_mend 13 = .ok (.dup, 1) := dk_89 (dk_at dksX1_mend_0 13 rfl rfl)
theorem dX1_mend_14 : decode cX1_mend 14 = .ok (.iconst 0, 1) := dk_3 (dk_at dksX1_mend_0 14 rfl rfl)
theorem dX1_mend_15 : decode cX1_mend 15 = .ok (.aload_n 0, 1) := dk_42 (dk_at dksX1_mend_0 15 rfl rfl)
theorem dX1_mend_16 : decode cX1_mend 16 = .ok (.getfield 10, 3) := dk_180 0 10 (dk_at dksX1_mend_0 16 rfl rfl)
theorem dX1_mend_19 : decode cX1_mend 19 = .ok (.aload_n 0, 1) := dk_42 (dk_at dksX1_mend_0 19 rfl rfl)
theorem dX1_mend_20 : decode cX1_mend 20 = .ok (.iload_n 1, 1) := dk_27 (dk_at dksX1_mend_0 20 rfl rfl)
theorem dX1_mend_21 : decode cX1_mend 21 = .ok (.invokevirtual 189, 3) := dk_182 0 189 (dk_at dksX1_mend_0 21 rfl rfl)
theorem dX1_mend_24 : decode cX1_mend 24 = .ok (.invokevirtual 240, 3) := dk_182 0 240 (dk_at dksX1_mend_1 0 rfl rfl)
theorem dX1_mend_27 : decode cX1_mend 27 = .ok (.aastore, 1) := dk_83 (dk_at dksX1_mend_1 3 rfl rfl)
theorem dX1_mend_28 : decode cX1_mend 28 = .ok (.invokevirtual 156, 3) := dk_182 0 156 (dk_at dksX1_mend_1 4 rfl rfl)
theorem dX1_mend_31 : decode cX1_mend 31 = .ok (.aload_n 0, 1) := dk_42 (dk_at dksX1_mend_1 7 rfl rfl)
theorem dX1_mend_32 : decode cX1_mend 32 = .ok (.invokevirtual 160, 3) := dk_182 0 160 (dk_at dksX1_mend_1 8 rfl rfl)
theorem dX1_mend_35 : decode cX1_mend 35 = .ok (.aload_n 0, 1) := dk_42 (dk_at dksX1_mend_1 11 rfl rfl)
theorem dX1_mend_36 : decode cX1_mend 36 = .ok (.iload_n 1, 1) := dk_27 (dk_at dksX1_mend_1 12 rfl rfl)
theorem dX1_mend_37 : decode cX1_mend 37 = .ok (.invokevirtual 189, 3) := dk_182 0 189 (dk_at dksX1_mend_1 13 rfl rfl)
theorem dX1_mend_40 : decode cX1_mend 40 = .ok (.iconst 0, 1) := dk_3 (dk_at dksX1_mend_1 16 rfl rfl)
theorem dX1_mend_41 : decode cX1_mend 41 = .ok (.putfield 237, 3) := dk_181 0 237 (dk_at dksX1_mend_1 17 rfl rfl)
theorem dX1_mend_44 : decode cX1_mend 44 = .ok (.aload_n 0, 1) := dk_42 (dk_at dksX1_mend_1 20 rfl rfl)
theorem dX1_mend_45 : decode cX1_mend 45 = .ok (.invokevirtual 243, 3) := dk_182 0 243 (dk_at dksX1_mend_1 21 rfl rfl)
theorem dX1_mend_48 : decode cX1_mend 48 = .ok (.ireturn, 1) := dk_172 (dk_at dksX1_mend_2 0 rfl rfl)
abbrev cX1_broken : ByteArray := prog_1_method_19_code
def yX1_broken : MethodName := ⟨RX1, "broken", "()I"⟩
def dkwX1_broken_2 : List UInt8 := [167, 255, 222, 27, 172]
abbrev dktX1_broken_2 : List UInt8 := dkwX1_broken_2 ++ []
def dkwX1_broken_1 : List UInt8 := [185, 0, 142, 1, 0, 192, 0, 116, 78, 27, 45, 180, 0, 237, 153, 0, 7, 4, 167, 0, 4, 3, 96, 60]
abbrev dktX1_broken_1 : List UInt8 := dkwX1_broken_1 ++ dktX1_broken_2
def dkwX1_broken_0 : List UInt8 := [3, 60, 42, 180, 0, 10, 180, 0, 78, 182, 0, 132, 77, 44, 185, 0, 136, 1, 0, 153, 0, 31, 44]
abbrev dktX1_broken_0 : List UInt8 := dkwX1_broken_0 ++ dktX1_broken_1
theorem dksX1_broken_0 : cX1_broken.data.toList.drop 0 = dktX1_broken_0 := by decide +kernel
theorem dksX1_broken_1 : cX1_broken.data.toList.drop 23 = dktX1_broken_1 := dk_seg dksX1_broken_0 23 rfl rfl
theorem dksX1_broken_2 : cX1_broken.data.toList.drop 47 = dktX1_broken_2 := dk_seg dksX1_broken_1 24 rfl rfl
theorem dX1_broken_0 : decode cX1_broken 0 = .ok (.iconst 0, 1) := dk_3 (dk_at dksX1_broken_0 0 rfl rfl)
theorem dX1_broken_1 : decode cX1_broken 1 = .ok (.istore_n 1, 1) := dk_60 (dk_at dksX1_broken_0 1 rfl rfl)
theorem dX1_broken_2 : decode cX1_broken 2 = .ok (.aload_n 0, 1) := dk_42 (dk_at dksX1_broken_0 2 rfl rfl)
theorem dX1_broken_3 : decode cX1_broken 3 = .ok (.getfield 10, 3) := dk_180 0 10 (dk_at dksX1_broken_0 3 rfl rfl)
theorem dX1_broken_6 : decode cX1_broken 6 = .ok (.getfield 78, 3) := dk_180 0 78 (dk_at dksX1_broken_0 6 rfl rfl)
theorem dX1_broken_9 : decode cX1_broken 9 = .ok (.invokevirtual 132, 3) := dk_182 0 132 (dk_at dksX1_broken_0 9 rfl rfl)
theorem dX1_broken_12 : decode cX1_broken 12 = .ok (.astore_n 2, 1) := dk_77 (dk_at dksX1_broken_0 12 rfl rfl)
theorem dX1_broken_13 : decode cX1_broken 13 = .ok (.aload_n 2, 1) := dk_44 (dk_at dksX1_broken_0 13 rfl rfl)
theorem dX1_broken_14 : decode cX1_broken 14 = .ok (.invokeinterface 136 1, 5) := by decide +kernel
theorem dX1_broken_19 : decode cX1_broken 19 = .ok (.ifCond .eq 31, 3) := dk_153 0 31 (dk_at dksX1_broken_0 19 rfl rfl)
theorem dX1_broken_22 : decode cX1_broken 22 = .ok (.aload_n 2, 1) := dk_44 (dk_at dksX1_broken_0 22 rfl rfl)
theorem dX1_broken_23 : decode cX1_broken 23 = .ok (.invokeinterface 142 1, 5) := by decide +kernel
theorem dX1_broken_28 : decode cX1_broken 28 = .ok (.checkcast 116, 3) := dk_192 0 116 (dk_at dksX1_broken_1 5 rfl rfl)
theorem dX1_broken_31 : decode cX1_broken 31 = .ok (.astore_n 3, 1) := dk_78 (dk_at dksX1_broken_1 8 rfl rfl)
theorem dX1_broken_32 : decode cX1_broken 32 = .ok (.iload_n 1, 1) := dk_27 (dk_at dksX1_broken_1 9 rfl rfl)
theorem dX1_broken_33 : decode cX1_broken 33 = .ok (.aload_n 3, 1) := dk_45 (dk_at dksX1_broken_1 10 rfl rfl)
theorem dX1_broken_34 : decode cX1_broken 34 = .ok (.getfield 237, 3) := dk_180 0 237 (dk_at dksX1_broken_1 11 rfl rfl)
theorem dX1_broken_37 : decode cX1_broken 37 = .ok (.ifCond .eq 7, 3) := dk_153 0 7 (dk_at dksX1_broken_1 14 rfl rfl)
theorem dX1_broken_40 : decode cX1_broken 40 = .ok (.iconst 1, 1) := dk_4 (dk_at dksX1_broken_1 17 rfl rfl)
theorem dX1_broken_41 : decode cX1_broken 41 = .ok (.goto 4, 3) := dk_167 0 4 (dk_at dksX1_broken_1 18 rfl rfl)
theorem dX1_broken_44 : decode cX1_broken 44 = .ok (.iconst 0, 1) := dk_3 (dk_at dksX1_broken_1 21 rfl rfl)
theorem dX1_broken_45 : decode cX1_broken 45 = .ok (.iadd, 1) := dk_96 (dk_at dksX1_broken_1 22 rfl rfl)
theorem dX1_broken_46 : decode cX1_broken 46 = .ok (.istore_n 1, 1) := dk_60 (dk_at dksX1_broken_1 23 rfl rfl)
theorem dX1_broken_47 : decode cX1_broken 47 = .ok (.goto (-34), 3) := dk_167 255 222 (dk_at dksX1_broken_2 0 rfl rfl)
theorem dX1_broken_50 : decode cX1_broken 50 = .ok (.iload_n 1, 1) := dk_27 (dk_at dksX1_broken_2 3 rfl rfl)
theorem dX1_broken_51 : decode cX1_broken 51 = .ok (.ireturn, 1) := dk_172 (dk_at dksX1_broken_2 4 rfl rfl)
abbrev cX1_fog : ByteArray := prog_1_method_21_code
def yX1_fog : MethodName := ⟨RX1, "fog", "(II)I"⟩
def dkwX1_fog_2 : List UInt8 := [182, 0, 205, 87, 29, 172]
abbrev dktX1_fog_2 : List UInt8 := dkwX1_fog_2 ++ []
def dkwX1_fog_1 : List UInt8 := [42, 180, 0, 10, 180, 0, 246, 27, 46, 62, 42, 180, 0, 10, 180, 0, 246, 27, 28, 79, 42, 180, 0, 10]
abbrev dktX1_fog_1 : List UInt8 := dkwX1_fog_1 ++ dktX1_fog_2
def dkwX1_fog_0 : List UInt8 := [27, 3, 16, 6, 184, 0, 85, 184, 0, 122, 28, 3, 16, 9, 184, 0, 85, 184, 0, 126, 42, 182, 0, 160]
abbrev dktX1_fog_0 : List UInt8 := dkwX1_fog_0 ++ dktX1_fog_1
theorem dksX1_fog_0 : cX1_fog.data.toList.drop 0 = dktX1_fog_0 := by decide +kernel
theorem dksX1_fog_1 : cX1_fog.data.toList.drop 24 = dktX1_fog_1 := dk_seg dksX1_fog_0 24 rfl rfl
theorem dksX1_fog_2 : cX1_fog.data.toList.drop 48 = dktX1_fog_2 := dk_seg dksX1_fog_1 24 rfl rfl
theorem dX1_fog_0 : decode cX1_fog 0 = .ok (.iload_n 1, 1) := dk_27 (dk_at dksX1_fog_0 0 rfl rfl)
theorem dX1_fog_1 : decode cX1_fog 1 = .ok (.iconst 0, 1) := dk_3 (dk_at dksX1_fog_0 1 rfl rfl)
theorem dX1_fog_2 : decode cX1_fog 2 = .ok (.bipush 6, 2) := dk_16 6 (dk_at dksX1_fog_0 2 rfl rfl)
theorem dX1_fog_4 : decode cX1_fog 4 = .ok (.invokestatic 85, 3) := dk_184 0 85 (dk_at dksX1_fog_0 4 rfl rfl)
theorem dX1_fog_7 : decode cX1_fog 7 = .ok (.invokestatic 122, 3) := dk_184 0 122 (dk_at dksX1_fog_0 7 rfl rfl)
theorem dX1_fog_10 : decode cX1_fog 10 = .ok (.iload_n 2, 1) := dk_28 (dk_at dksX1_fog_0 10 rfl rfl)
theorem dX1_fog_11 : decode cX1_fog 11 = .ok (.iconst 0, 1) := dk_3 (dk_at dksX1_fog_0 11 rfl rfl)
theorem dX1_fog_12 : decode cX1_fog 12 = .ok (.bipush 9, 2) := dk_16 9 (dk_at dksX1_fog_0 12 rfl rfl)
theorem dX1_fog_14 : decode cX1_fog 14 = .ok (.invokestatic 85, 3) := dk_184 0 85 (dk_at dksX1_fog_0 14 rfl rfl)
theorem dX1_fog_17 : decode cX1_fog 17 = .ok (.invokestatic 126, 3) := dk_184 0 126 (dk_at dksX1_fog_0 17 rfl rfl)
theorem dX1_fog_20 : decode cX1_fog 20 = .ok (.aload_n 0, 1) := dk_42 (dk_at dksX1_fog_0 20 rfl rfl)
theorem dX1_fog_21 : decode cX1_fog 21 = .ok (.invokevirtual 160, 3) := dk_182 0 160 (dk_at dksX1_fog_0 21 rfl rfl)
theorem dX1_fog_24 : decode cX1_fog 24 = .ok (.aload_n 0, 1) := dk_42 (dk_at dksX1_fog_1 0 rfl rfl)
theorem dX1_fog_25 : decode cX1_fog 25 = .ok (.getfield 10, 3) := dk_180 0 10 (dk_at dksX1_fog_1 1 rfl rfl)
theorem dX1_fog_28 : decode cX1_fog 28 = .ok (.getfield 246, 3) := dk_180 0 246 (dk_at dksX1_fog_1 4 rfl rfl)
theorem dX1_fog_31 : decode cX1_fog 31 = .ok (.iload_n 1, 1) := dk_27 (dk_at dksX1_fog_1 7 rfl rfl)
theorem dX1_fog_32 : decode cX1_fog 32 = .ok (.iaload, 1) := dk_46 (dk_at dksX1_fog_1 8 rfl rfl)
theorem dX1_fog_33 : decode cX1_fog 33 = .ok (.istore_n 3, 1) := dk_62 (dk_at dksX1_fog_1 9 rfl rfl)
theorem dX1_fog_34 : decode cX1_fog 34 = .ok (.aload_n 0, 1) := dk_42 (dk_at dksX1_fog_1 10 rfl rfl)
theorem dX1_fog_35 : decode cX1_fog 35 = .ok (.getfield 10, 3) := dk_180 0 10 (dk_at dksX1_fog_1 11 rfl rfl)
theorem dX1_fog_38 : decode cX1_fog 38 = .ok (.getfield 246, 3) := dk_180 0 246 (dk_at dksX1_fog_1 14 rfl rfl)
theorem dX1_fog_41 : decode cX1_fog 41 = .ok (.iload_n 1, 1) := dk_27 (dk_at dksX1_fog_1 17 rfl rfl)
theorem dX1_fog_42 : decode cX1_fog 42 = .ok (.iload_n 2, 1) := dk_28 (dk_at dksX1_fog_1 18 rfl rfl)
theorem dX1_fog_43 : decode cX1_fog 43 = .ok (.iastore, 1) := dk_79 (dk_at dksX1_fog_1 19 rfl rfl)
theorem dX1_fog_44 : decode cX1_fog 44 = .ok (.aload_n 0, 1) := dk_42 (dk_at dksX1_fog_1 20 rfl rfl)
theorem dX1_fog_45 : decode cX1_fog 45 = .ok (.getfield 10, 3) := dk_180 0 10 (dk_at dksX1_fog_1 21 rfl rfl)
theorem dX1_fog_48 : decode cX1_fog 48 = .ok (.invokevirtual 205, 3) := dk_182 0 205 (dk_at dksX1_fog_2 0 rfl rfl)
theorem dX1_fog_51 : decode cX1_fog 51 = .ok (.pop, 1) := dk_87 (dk_at dksX1_fog_2 3 rfl rfl)
theorem dX1_fog_52 : decode cX1_fog 52 = .ok (.iload_n 3, 1) := dk_29 (dk_at dksX1_fog_2 4 rfl rfl)
theorem dX1_fog_53 : decode cX1_fog 53 = .ok (.ireturn, 1) := dk_172 (dk_at dksX1_fog_2 5 rfl rfl)
abbrev cX1_nights : ByteArray := prog_1_method_26_code
def yX1_nights : MethodName := ⟨RX1, "nights", "(I)I"⟩
def dkwX1_nights_0 : List UInt8 := [27, 4, 16, 30, 184, 0, 85, 184, 0, 126, 42, 182, 0, 160, 42, 180, 0, 10, 27, 184, 1, 19, 172]
abbrev dktX1_nights_0 : List UInt8 := dkwX1_nights_0 ++ []
theorem dksX1_nights_0 : cX1_nights.data.toList.drop 0 = dktX1_nights_0 := by decide +kernel
theorem dX1_nights_0 : decode cX1_nights 0 = .ok (.iload_n 1, 1) := dk_27 (dk_at dksX1_nights_0 0 rfl rfl)
theorem dX1_nights_1 : decode cX1_nights 1 = .ok (.iconst 1, 1) := dk_4 (dk_at dksX1_nights_0 1 rfl rfl)
theorem dX1_nights_2 : decode cX1_nights 2 = .ok (.bipush 30, 2) := dk_16 30 (dk_at dksX1_nights_0 2 rfl rfl)
theorem dX1_nights_4 : decode cX1_nights 4 = .ok (.invokestatic 85, 3) := dk_184 0 85 (dk_at dksX1_nights_0 4 rfl rfl)
theorem dX1_nights_7 : decode cX1_nights 7 = .ok (.invokestatic 126, 3) := dk_184 0 126 (dk_at dksX1_nights_0 7 rfl rfl)
theorem dX1_nights_10 : decode cX1_nights 10 = .ok (.aload_n 0, 1) := dk_42 (dk_at dksX1_nights_0 10 rfl rfl)
theorem dX1_nights_11 : decode cX1_nights 11 = .ok (.invokevirtual 160, 3) := dk_182 0 160 (dk_at dksX1_nights_0 11 rfl rfl)
theorem dX1_nights_14 : decode cX1_nights 14 = .ok (.aload_n 0, 1) := dk_42 (dk_at dksX1_nights_0 14 rfl rfl)
theorem dX1_nights_15 : decode cX1_nights 15 = .ok (.getfield 10, 3) := dk_180 0 10 (dk_at dksX1_nights_0 15 rfl rfl)
theorem dX1_nights_18 : decode cX1_nights 18 = .ok (.iload_n 1, 1) := dk_27 (dk_at dksX1_nights_0 18 rfl rfl)
theorem dX1_nights_19 : decode cX1_nights 19 = .ok (.invokestatic 275, 3) := dk_184 1 19 (dk_at dksX1_nights_0 19 rfl rfl)
theorem dX1_nights_22 : decode cX1_nights 22 = .ok (.ireturn, 1) := dk_172 (dk_at dksX1_nights_0 22 rfl rfl)
abbrev cX1_pass : ByteArray := prog_1_method_25_code
def yX1_pass : MethodName := ⟨RX1, "pass", "(LSkerryLights$State;I)I"⟩
def dkwX1_pass_0 : List UInt8 := [3, 61, 3, 62, 29, 27, 162, 0, 16, 28, 42, 182, 1, 16, 96, 61, 132, 3, 1, 167, 255, 241, 28, 172]
abbrev dktX1_pass_0 : List UInt8 := dkwX1_pass_0 ++ []
theorem dksX1_pass_0 : cX1_pass.data.toList.drop 0 = dktX1_pass_0 := by decide +kernel
theorem dX1_pass_0 : decode cX1_pass 0 = .ok (.iconst 0, 1) := dk_3 (dk_at dksX1_pass_0 0 rfl rfl)
theorem dX1_pass_1 : decode cX1_pass 1 = .ok (.istore_n 2, 1) := dk_61 (dk_at dksX1_pass_0 1 rfl rfl)
theorem dX1_pass_2 : decode cX1_pass 2 = .ok (.iconst 0, 1) := dk_3 (dk_at dksX1_pass_0 2 rfl rfl)
theorem dX1_pass_3 : decode cX1_pass 3 = .ok (.istore_n 3, 1) := dk_62 (dk_at dksX1_pass_0 3 rfl rfl)
theorem dX1_pass_4 : decode cX1_pass 4 = .ok (.iload_n 3, 1) := dk_29 (dk_at dksX1_pass_0 4 rfl rfl)
theorem dX1_pass_5 : decode cX1_pass 5 = .ok (.iload_n 1, 1) := dk_27 (dk_at dksX1_pass_0 5 rfl rfl)
theorem dX1_pass_6 : decode cX1_pass 6 = .ok (.if_icmp .ge 16, 3) := dk_162 0 16 (dk_at dksX1_pass_0 6 rfl rfl)
theorem dX1_pass_9 : decode cX1_pass 9 = .ok (.iload_n 2, 1) := dk_28 (dk_at dksX1_pass_0 9 rfl rfl)
theorem dX1_pass_10 : decode cX1_pass 10 = .ok (.aload_n 0, 1) := dk_42 (dk_at dksX1_pass_0 10 rfl rfl)
theorem dX1_pass_11 : decode cX1_pass 11 = .ok (.invokevirtual 272, 3) := dk_182 1 16 (dk_at dksX1_pass_0 11 rfl rfl)
theorem dX1_pass_14 : decode cX1_pass 14 = .ok (.iadd, 1) := dk_96 (dk_at dksX1_pass_0 14 rfl rfl)
theorem dX1_pass_15 : decode cX1_pass 15 = .ok (.istore_n 2, 1) := dk_61 (dk_at dksX1_pass_0 15 rfl rfl)
theorem dX1_pass_16 : decode cX1_pass 16 = .ok (.iinc 3 1, 3) := dk_132 3 1 (dk_at dksX1_pass_0 16 rfl rfl)
theorem dX1_pass_19 : decode cX1_pass 19 = .ok (.goto (-15), 3) := dk_167 255 241 (dk_at dksX1_pass_0 19 rfl rfl)
theorem dX1_pass_22 : decode cX1_pass 22 = .ok (.iload_n 2, 1) := dk_28 (dk_at dksX1_pass_0 22 rfl rfl)
theorem dX1_pass_23 : decode cX1_pass 23 = .ok (.ireturn, 1) := dk_172 (dk_at dksX1_pass_0 23 rfl rfl)
abbrev cX1_cost : ByteArray := prog_1_method_27_code
def yX1_cost : MethodName := ⟨RX1, "cost", "(II)I"⟩
def dkwX1_cost_1 : List UInt8 := [180, 0, 10, 27, 28, 182, 1, 23, 172]
abbrev dktX1_cost_1 : List UInt8 := dkwX1_cost_1 ++ []
def dkwX1_cost_0 : List UInt8 := [27, 184, 0, 118, 153, 0, 14, 28, 184, 0, 118, 153, 0, 7, 4, 167, 0, 4, 3, 184, 0, 122, 42]
abbrev dktX1_cost_0 : List UInt8 := dkwX1_cost_0 ++ dktX1_cost_1
theorem dksX1_cost_0 : cX1_cost.data.toList.drop 0 = dktX1_cost_0 := by decide +kernel
theorem dksX1_cost_1 : cX1_cost.data.toList.drop 23 = dktX1_cost_1 := dk_seg dksX1_cost_0 23 rfl rfl
theorem dX1_cost_0 : decode cX1_cost 0 = .ok (.iload_n 1, 1) := dk_27 (dk_at dksX1_cost_0 0 rfl rfl)
theorem dX1_cost_1 : decode cX1_cost 1 = .ok (.invokestatic 118, 3) := dk_184 0 118 (dk_at dksX1_cost_0 1 rfl rfl)
theorem dX1_cost_4 : decode cX1_cost 4 = .ok (.ifCond .eq 14, 3) := dk_153 0 14 (dk_at dksX1_cost_0 4 rfl rfl)
theorem dX1_cost_7 : decode cX1_cost 7 = .ok (.iload_n 2, 1) := dk_28 (dk_at dksX1_cost_0 7 rfl rfl)
theorem dX1_cost_8 : decode cX1_cost 8 = .ok (.invokestatic 118, 3) := dk_184 0 118 (dk_at dksX1_cost_0 8 rfl rfl)
theorem dX1_cost_11 : decode cX1_cost 11 = .ok (.ifCond .eq 7, 3) := dk_153 0 7 (dk_at dksX1_cost_0 11 rfl rfl)
theorem dX1_cost_14 : decode cX1_cost 14 = .ok (.iconst 1, 1) := dk_4 (dk_at dksX1_cost_0 14 rfl rfl)
theorem dX1_cost_15 : decode cX1_cost 15 = .ok (.goto 4, 3) := dk_167 0 4 (dk_at dksX1_cost_0 15 rfl rfl)
theorem dX1_cost_18 : decode cX1_cost 18 = .ok (.iconst 0, 1) := dk_3 (dk_at dksX1_cost_0 18 rfl rfl)
theorem dX1_cost_19 : decode cX1_cost 19 = .ok (.invokestatic 122, 3) := dk_184 0 122 (dk_at dksX1_cost_0 19 rfl rfl)
theorem dX1_cost_22 : decode cX1_cost 22 = .ok (.aload_n 0, 1) := dk_42 (dk_at dksX1_cost_0 22 rfl rfl)
theorem dX1_cost_23 : decode cX1_cost 23 = .ok (.getfield 10, 3) := dk_180 0 10 (dk_at dksX1_cost_1 0 rfl rfl)
theorem dX1_cost_26 : decode cX1_cost 26 = .ok (.iload_n 1, 1) := dk_27 (dk_at dksX1_cost_1 3 rfl rfl)
theorem dX1_cost_27 : decode cX1_cost 27 = .ok (.iload_n 2, 1) := dk_28 (dk_at dksX1_cost_1 4 rfl rfl)
theorem dX1_cost_28 : decode cX1_cost 28 = .ok (.invokevirtual 279, 3) := dk_182 1 23 (dk_at dksX1_cost_1 5 rfl rfl)
theorem dX1_cost_31 : decode cX1_cost 31 = .ok (.ireturn, 1) := dk_172 (dk_at dksX1_cost_1 8 rfl rfl)
abbrev cX1_reaches : ByteArray := prog_1_method_28_code
def yX1_reaches : MethodName := ⟨RX1, "reaches", "(II)Z"⟩
def dkwX1_reaches_1 : List UInt8 := [180, 0, 10, 42, 27, 182, 0, 189, 28, 182, 1, 26, 172]
abbrev dktX1_reaches_1 : List UInt8 := dkwX1_reaches_1 ++ []
def dkwX1_reaches_0 : List UInt8 := [42, 27, 182, 0, 177, 153, 0, 14, 28, 184, 0, 118, 153, 0, 7, 4, 167, 0, 4, 3, 184, 0, 122, 42]
abbrev dktX1_reaches_0 : List UInt8 := dkwX1_reaches_0 ++ dktX1_reaches_1
theorem dksX1_reaches_0 : cX1_reaches.data.toList.drop 0 = dktX1_reaches_0 := by decide +kernel
theorem dksX1_reaches_1 : cX1_reaches.data.toList.drop 24 = dktX1_reaches_1 := dk_seg dksX1_reaches_0 24 rfl rfl
theorem dX1_reaches_0 : decode cX1_reaches 0 = .ok (.aload_n 0, 1) := dk_42 (dk_at dksX1_reaches_0 0 rfl rfl)
theorem dX1_reaches_1 : decode cX1_reaches 1 = .ok (.iload_n 1, 1) := dk_27 (dk_at dksX1_reaches_0 1 rfl rfl)
theorem dX1_reaches_2 : decode cX1_reaches 2 = .ok (.invokevirtual 177, 3) := dk_182 0 177 (dk_at dksX1_reaches_0 2 rfl rfl)
theorem dX1_reaches_5 : decode cX1_reaches 5 = .ok (.ifCond .eq 14, 3) := dk_153 0 14 (dk_at dksX1_reaches_0 5 rfl rfl)
theorem dX1_reaches_8 : decode cX1_reaches 8 = .ok (.iload_n 2, 1) := dk_28 (dk_at dksX1_reaches_0 8 rfl rfl)
theorem dX1_reaches_9 : decode cX1_reaches 9 = .ok (.invokestatic 118, 3) := dk_184 0 118 (dk_at dksX1_reaches_0 9 rfl rfl)
theorem dX1_reaches_12 : decode cX1_reaches 12 = .ok (.ifCond .eq 7, 3) := dk_153 0 7 (dk_at dksX1_reaches_0 12 rfl rfl)
theorem dX1_reaches_15 : decode cX1_reaches 15 = .ok (.iconst 1, 1) := dk_4 (dk_at dksX1_reaches_0 15 rfl rfl)
theorem dX1_reaches_16 : decode cX1_reaches 16 = .ok (.goto 4, 3) := dk_167 0 4 (dk_at dksX1_reaches_0 16 rfl rfl)
theorem dX1_reaches_19 : decode cX1_reaches 19 = .ok (.iconst 0, 1) := dk_3 (dk_at dksX1_reaches_0 19 rfl rfl)
theorem dX1_reaches_20 : decode cX1_reaches 20 = .ok (.invokestatic 122, 3) := dk_184 0 122 (dk_at dksX1_reaches_0 20 rfl rfl)
theorem dX1_reaches_23 : decode cX1_reaches 23 = .ok (.aload_n 0, 1) := dk_42 (dk_at dksX1_reaches_0 23 rfl rfl)
theorem dX1_reaches_24 : decode cX1_reaches 24 = .ok (.getfield 10, 3) := dk_180 0 10 (dk_at dksX1_reaches_1 0 rfl rfl)
theorem dX1_reaches_27 : decode cX1_reaches 27 = .ok (.aload_n 0, 1) := dk_42 (dk_at dksX1_reaches_1 3 rfl rfl)
theorem dX1_reaches_28 : decode cX1_reaches 28 = .ok (.iload_n 1, 1) := dk_27 (dk_at dksX1_reaches_1 4 rfl rfl)
theorem dX1_reaches_29 : decode cX1_reaches 29 = .ok (.invokevirtual 189, 3) := dk_182 0 189 (dk_at dksX1_reaches_1 5 rfl rfl)
theorem dX1_reaches_32 : decode cX1_reaches 32 = .ok (.iload_n 2, 1) := dk_28 (dk_at dksX1_reaches_1 8 rfl rfl)
theorem dX1_reaches_33 : decode cX1_reaches 33 = .ok (.invokevirtual 282, 3) := dk_182 1 26 (dk_at dksX1_reaches_1 9 rfl rfl)
theorem dX1_reaches_36 : decode cX1_reaches 36 = .ok (.ireturn, 1) := dk_172 (dk_at dksX1_reaches_1 12 rfl rfl)
abbrev cX1_farthest : ByteArray := prog_1_method_29_code
def yX1_farthest : MethodName := ⟨RX1, "farthest", "(IZ)I"⟩
def dkwX1_farthest_2 : List UInt8 := [4, 100, 167, 0, 8, 45, 3, 182, 1, 42, 172]
abbrev dktX1_farthest_2 : List UInt8 := dkwX1_farthest_2 ++ []
def dkwX1_farthest_1 : List UInt8 := [184, 1, 30, 42, 180, 0, 10, 42, 27, 182, 0, 189, 182, 1, 33, 78, 28, 153, 0, 12, 45, 182, 1, 37]
abbrev dktX1_farthest_1 : List UInt8 := dkwX1_farthest_1 ++ dktX1_farthest_2
def dkwX1_farthest_0 : List UInt8 := [42, 27, 182, 0, 177, 184, 0, 122, 42, 27, 182, 0, 189, 180, 0, 250, 198, 0, 7, 4, 167, 0, 4, 3]
abbrev dktX1_farthest_0 : List UInt8 := dkwX1_farthest_0 ++ dktX1_farthest_1
theorem dksX1_farthest_0 : cX1_farthest.data.toList.drop 0 = dktX1_farthest_0 := by decide +kernel
theorem dksX1_farthest_1 : cX1_farthest.data.toList.drop 24 = dktX1_farthest_1 := dk_seg dksX1_farthest_0 24 rfl rfl
theorem dksX1_farthest_2 : cX1_farthest.data.toList.drop 48 = dktX1_farthest_2 := dk_seg dksX1_farthest_1 24 rfl rfl
theorem dX1_farthest_0 : decode cX1_farthest 0 = .ok (.aload_n 0, 1) := dk_42 (dk_at dksX1_farthest_0 0 rfl rfl)
theorem dX1_farthest_1 : decode cX1_farthest 1 = .ok (.iload_n 1, 1) := dk_27 (dk_at dksX1_farthest_0 1 rfl rfl)
theorem dX1_farthest_2 : decode cX1_farthest 2 = .ok (.invokevirtual 177, 3) := dk_182 0 177 (dk_at dksX1_farthest_0 2 rfl rfl)
theorem dX1_farthest_5 : decode cX1_farthest 5 = .ok (.invokestatic 122, 3) := dk_184 0 122 (dk_at dksX1_farthest_0 5 rfl rfl)
theorem dX1_farthest_8 : decode cX1_farthest 8 = .ok (.aload_n 0, 1) := dk_42 (dk_at dksX1_farthest_0 8 rfl rfl)
theorem dX1_farthest_9 : decode cX1_farthest 9 = .ok (.iload_n 1, 1) := dk_27 (dk_at dksX1_farthest_0 9 rfl rfl)
theorem dX1_farthest_10 : decode cX1_farthest 10 = .ok (.invokevirtual 189, 3) := dk_182 0 189 (dk_at dksX1_farthest_0 10 rfl rfl)
theorem dX1_farthest_13 : decode cX1_farthest 13 = .ok (.getfield 250, 3) := dk_180 0 250 (dk_at dksX1_farthest_0 13 rfl rfl)
theorem dX1_farthest_16 : decode cX1_farthest 16 = .ok (.ifnull 7, 3) := dk_198 0 7 (dk_at dksX1_farthest_0 16 rfl rfl)
theorem dX1_farthest_19 : decode cX1_farthest 19 = .ok (.iconst 1, 1) := dk_4 (dk_at dksX1_farthest_0 19 rfl rfl)
theorem dX1_farthest_20 : decode cX1_farthest 20 = .ok (.goto 4, 3) := dk_167 0 4 (dk_at dksX1_farthest_0 20 rfl rfl)
theorem dX1_farthest_23 : decode cX1_farthest 23 = .ok (.iconst 0, 1) := dk_3 (dk_at dksX1_farthest_0 23 rfl rfl)
theorem dX1_farthest_24 : decode cX1_farthest 24 = .ok (.invokestatic 286, 3) := dk_184 1 30 (dk_at dksX1_farthest_1 0 rfl rfl)
theorem dX1_farthest_27 : decode cX1_farthest 27 = .ok (.aload_n 0, 1) := dk_42 (dk_at dksX1_farthest_1 3 rfl rfl)
theorem dX1_farthest_28 : decode cX1_farthest 28 = .ok (.getfield 10, 3) := dk_180 0 10 (dk_at dksX1_farthest_1 4 rfl rfl)
theorem dX1_farthest_31 : decode cX1_farthest 31 = .ok (.aload_n 0, 1) := dk_42 (dk_at dksX1_farthest_1 7 rfl rfl)
theorem dX1_farthest_32 : decode cX1_farthest 32 = .ok (.iload_n 1, 1) := dk_27 (dk_at dksX1_farthest_1 8 rfl rfl)
theorem dX1_farthest_33 : decode cX1_farthest 33 = .ok (.invokevirtual 189, 3) := dk_182 0 189 (dk_at dksX1_farthest_1 9 rfl rfl)
theorem dX1_farthest_36 : decode cX1_farthest 36 = .ok (.invokevirtual 289, 3) := dk_182 1 33 (dk_at dksX1_farthest_1 12 rfl rfl)
theorem dX1_farthest_39 : decode cX1_farthest 39 = .ok (.astore_n 3, 1) := dk_78 (dk_at dksX1_farthest_1 15 rfl rfl)
theorem dX1_farthest_40 : decode cX1_farthest 40 = .ok (.iload_n 2, 1) := dk_28 (dk_at dksX1_farthest_1 16 rfl rfl)
theorem dX1_farthest_41 : decode cX1_farthest 41 = .ok (.ifCond .eq 12, 3) := dk_153 0 12 (dk_at dksX1_farthest_1 17 rfl rfl)
theorem dX1_farthest_44 : decode cX1_farthest 44 = .ok (.aload_n 3, 1) := dk_45 (dk_at dksX1_farthest_1 20 rfl rfl)
theorem dX1_farthest_45 : decode cX1_farthest 45 = .ok (.invokevirtual 293, 3) := dk_182 1 37 (dk_at dksX1_farthest_1 21 rfl rfl)
theorem dX1_farthest_48 : decode cX1_farthest 48 = .ok (.iconst 1, 1) := dk_4 (dk_at dksX1_farthest_2 0 rfl rfl)
theorem dX1_farthest_49 : decode cX1_farthest 49 = .ok (.isub, 1) := dk_100 (dk_at dksX1_farthest_2 1 rfl rfl)
theorem dX1_farthest_50 : decode cX1_farthest 50 = .ok (.goto 8, 3) := dk_167 0 8 (dk_at dksX1_farthest_2 2 rfl rfl)
theorem dX1_farthest_53 : decode cX1_farthest 53 = .ok (.aload_n 3, 1) := dk_45 (dk_at dksX1_farthest_2 5 rfl rfl)
theorem dX1_farthest_54 : decode cX1_farthest 54 = .ok (.iconst 0, 1) := dk_3 (dk_at dksX1_farthest_2 6 rfl rfl)
theorem dX1_farthest_55 : decode cX1_farthest 55 = .ok (.invokevirtual 298, 3) := dk_182 1 42 (dk_at dksX1_farthest_2 7 rfl rfl)
theorem dX1_farthest_58 : decode cX1_farthest 58 = .ok (.ireturn, 1) := dk_172 (dk_at dksX1_farthest_2 10 rfl rfl)
abbrev cX1_checkElement : ByteArray := prog_1_method_5_code
def yX1_checkElement : MethodName := ⟨RX1, "checkElement", "(Z)V"⟩
def dkwX1_checkElement_0 : List UInt8 := [26, 154, 0, 11, 187, 0, 72, 89, 183, 0, 74, 191, 177]
abbrev dktX1_checkElement_0 : List UInt8 := dkwX1_checkElement_0 ++ []
theorem dksX1_checkElement_0 : cX1_checkElement.data.toList.drop 0 = dktX1_checkElement_0 := by decide +kernel
theorem dX1_checkElement_0 : decode cX1_checkElement 0 = .ok (.iload_n 0, 1) := dk_26 (dk_at dksX1_checkElement_0 0 rfl rfl)
theorem dX1_checkElement_1 : decode cX1_checkElement 1 = .ok (.ifCond .ne 11, 3) := dk_154 0 11 (dk_at dksX1_checkElement_0 1 rfl rfl)
theorem dX1_checkElement_4 : decode cX1_checkElement 4 = .ok (.new 72, 3) := dk_187 0 72 (dk_at dksX1_checkElement_0 4 rfl rfl)
theorem dX1_checkElement_7 : decode cX1_checkElement 7 = .ok (.dup, 1) := dk_89 (dk_at dksX1_checkElement_0 7 rfl rfl)
theorem dX1_checkElement_8 : decode cX1_checkElement 8 = .ok (.invokespecial 74, 3) := dk_183 0 74 (dk_at dksX1_checkElement_0 8 rfl rfl)
theorem dX1_checkElement_11 : decode cX1_checkElement 11 = .ok (.athrow, 1) := dk_191 (dk_at dksX1_checkElement_0 11 rfl rfl)
theorem dX1_checkElement_12 : decode cX1_checkElement 12 = .ok (.return_, 1) := dk_177 (dk_at dksX1_checkElement_0 12 rfl rfl)
abbrev cX1_areAlike : ByteArray := prog_1_method_30_code
def yX1_areAlike : MethodName := ⟨RX1, "areAlike", "(II)Z"⟩
def dkwX1_areAlike_1 : List UInt8 := [42, 27, 182, 0, 189, 42, 28, 182, 0, 189, 182, 1, 45, 172]
abbrev dktX1_areAlike_1 : List UInt8 := dkwX1_areAlike_1 ++ []
def dkwX1_areAlike_0 : List UInt8 := [42, 27, 182, 0, 177, 153, 0, 15, 42, 28, 182, 0, 177, 153, 0, 7, 4, 167, 0, 4, 3, 184, 0, 122]
abbrev dktX1_areAlike_0 : List UInt8 := dkwX1_areAlike_0 ++ dktX1_areAlike_1
theorem dksX1_areAlike_0 : cX1_areAlike.data.toList.drop 0 = dktX1_areAlike_0 := by decide +kernel
theorem dksX1_areAlike_1 : cX1_areAlike.data.toList.drop 24 = dktX1_areAlike_1 := dk_seg dksX1_areAlike_0 24 rfl rfl
theorem dX1_areAlike_0 : decode cX1_areAlike 0 = .ok (.aload_n 0, 1) := dk_42 (dk_at dksX1_areAlike_0 0 rfl rfl)
theorem dX1_areAlike_1 : decode cX1_areAlike 1 = .ok (.iload_n 1, 1) := dk_27 (dk_at dksX1_areAlike_0 1 rfl rfl)
theorem dX1_areAlike_2 : decode cX1_areAlike 2 = .ok (.invokevirtual 177, 3) := dk_182 0 177 (dk_at dksX1_areAlike_0 2 rfl rfl)
theorem dX1_areAlike_5 : decode cX1_areAlike 5 = .ok (.ifCond .eq 15, 3) := dk_153 0 15 (dk_at dksX1_areAlike_0 5 rfl rfl)
theorem dX1_areAlike_8 : decode cX1_areAlike 8 = .ok (.aload_n 0, 1) := dk_42 (dk_at dksX1_areAlike_0 8 rfl rfl)
theorem dX1_areAlike_9 : decode cX1_areAlike 9 = .ok (.iload_n 2, 1) := dk_28 (dk_at dksX1_areAlike_0 9 rfl rfl)
theorem dX1_areAlike_10 : decode cX1_areAlike 10 = .ok (.invokevirtual 177, 3) := dk_182 0 177 (dk_at dksX1_areAlike_0 10 rfl rfl)
theorem dX1_areAlike_13 : decode cX1_areAlike 13 = .ok (.ifCond .eq 7, 3) := dk_153 0 7 (dk_at dksX1_areAlike_0 13 rfl rfl)
theorem dX1_areAlike_16 : decode cX1_areAlike 16 = .ok (.iconst 1, 1) := dk_4 (dk_at dksX1_areAlike_0 16 rfl rfl)
theorem dX1_areAlike_17 : decode cX1_areAlike 17 = .ok (.goto 4, 3) := dk_167 0 4 (dk_at dksX1_areAlike_0 17 rfl rfl)
theorem dX1_areAlike_20 : decode cX1_areAlike 20 = .ok (.iconst 0, 1) := dk_3 (dk_at dksX1_areAlike_0 20 rfl rfl)
theorem dX1_areAlike_21 : decode cX1_areAlike 21 = .ok (.invokestatic 122, 3) := dk_184 0 122 (dk_at dksX1_areAlike_0 21 rfl rfl)
theorem dX1_areAlike_24 : decode cX1_areAlike 24 = .ok (.aload_n 0, 1) := dk_42 (dk_at dksX1_areAlike_1 0 rfl rfl)
theorem dX1_areAlike_25 : decode cX1_areAlike 25 = .ok (.iload_n 1, 1) := dk_27 (dk_at dksX1_areAlike_1 1 rfl rfl)
theorem dX1_areAlike_26 : decode cX1_areAlike 26 = .ok (.invokevirtual 189, 3) := dk_182 0 189 (dk_at dksX1_areAlike_1 2 rfl rfl)
theorem dX1_areAlike_29 : decode cX1_areAlike 29 = .ok (.aload_n 0, 1) := dk_42 (dk_at dksX1_areAlike_1 5 rfl rfl)
theorem dX1_areAlike_30 : decode cX1_areAlike 30 = .ok (.iload_n 2, 1) := dk_28 (dk_at dksX1_areAlike_1 6 rfl rfl)
theorem dX1_areAlike_31 : decode cX1_areAlike 31 = .ok (.invokevirtual 189, 3) := dk_182 0 189 (dk_at dksX1_areAlike_1 7 rfl rfl)
theorem dX1_areAlike_34 : decode cX1_areAlike 34 = .ok (.invokevirtual 301, 3) := dk_182 1 45 (dk_at dksX1_areAlike_1 10 rfl rfl)
theorem dX1_areAlike_37 : decode cX1_areAlike 37 = .ok (.ireturn, 1) := dk_172 (dk_at dksX1_areAlike_1 13 rfl rfl)
abbrev cX1_watcher : ByteArray := prog_1_method_33_code
def yX1_watcher : MethodName := ⟨RX1, "watcher", "(I)I"⟩
def dkwX1_watcher_1 : List UInt8 := [184, 1, 30, 44, 199, 0, 7, 2, 167, 0, 7, 44, 180, 0, 150, 172]
abbrev dktX1_watcher_1 : List UInt8 := dkwX1_watcher_1 ++ []
def dkwX1_watcher_0 : List UInt8 := [27, 184, 0, 118, 184, 0, 122, 42, 27, 182, 1, 53, 77, 44, 198, 0, 7, 4, 167, 0, 4, 3]
abbrev dktX1_watcher_0 : List UInt8 := dkwX1_watcher_0 ++ dktX1_watcher_1
theorem dksX1_watcher_0 : cX1_watcher.data.toList.drop 0 = dktX1_watcher_0 := by decide +kernel
theorem dksX1_watcher_1 : cX1_watcher.data.toList.drop 22 = dktX1_watcher_1 := dk_seg dksX1_watcher_0 22 rfl rfl
theorem dX1_watcher_0 : decode cX1_watcher 0 = .ok (.iload_n 1, 1) := dk_27 (dk_at dksX1_watcher_0 0 rfl rfl)
theorem dX1_watcher_1 : decode cX1_watcher 1 = .ok (.invokestatic 118, 3) := dk_184 0 118 (dk_at dksX1_watcher_0 1 rfl rfl)
theorem dX1_watcher_4 : decode cX1_watcher 4 = .ok (.invokestatic 122, 3) := dk_184 0 122 (dk_at dksX1_watcher_0 4 rfl rfl)
theorem dX1_watcher_7 : decode cX1_watcher 7 = .ok (.aload_n 0, 1) := dk_42 (dk_at dksX1_watcher_0 7 rfl rfl)
theorem dX1_watcher_8 : decode cX1_watcher 8 = .ok (.iload_n 1, 1) := dk_27 (dk_at dksX1_watcher_0 8 rfl rfl)
theorem dX1_watcher_9 : decode cX1_watcher 9 = .ok (.invokevirtual 309, 3) := dk_182 1 53 (dk_at dksX1_watcher_0 9 rfl rfl)
theorem dX1_watcher_12 : decode cX1_watcher 12 = .ok (.astore_n 2, 1) := dk_77 (dk_at dksX1_watcher_0 12 rfl rfl)
theorem dX1_watcher_13 : decode cX1_watcher 13 = .ok (.aload_n 2, 1) := dk_44 (dk_at dksX1_watcher_0 13 rfl rfl)
theorem dX1_watcher_14 : decode cX1_watcher 14 = .ok (.ifnull 7, 3) := dk_198 0 7 (dk_at dksX1_watcher_0 14 rfl rfl)
theorem dX1_watcher_17 : decode cX1_watcher 17 = .ok (.iconst 1, 1) := dk_4 (dk_at dksX1_watcher_0 17 rfl rfl)
theorem dX1_watcher_18 : decode cX1_watcher 18 = .ok (.goto 4, 3) := dk_167 0 4 (dk_at dksX1_watcher_0 18 rfl rfl)
theorem dX1_watcher_21 : decode cX1_watcher 21 = .ok (.iconst 0, 1) := dk_3 (dk_at dksX1_watcher_0 21 rfl rfl)
theorem dX1_watcher_22 : decode cX1_watcher 22 = .ok (.invokestatic 286, 3) := dk_184 1 30 (dk_at dksX1_watcher_1 0 rfl rfl)
theorem dX1_watcher_25 : decode cX1_watcher 25 = .ok (.aload_n 2, 1) := dk_44 (dk_at dksX1_watcher_1 3 rfl rfl)
theorem dX1_watcher_26 : decode cX1_watcher 26 = .ok (.ifnonnull 7, 3) := dk_199 0 7 (dk_at dksX1_watcher_1 4 rfl rfl)
theorem dX1_watcher_29 : decode cX1_watcher 29 = .ok (.iconst (-1), 1) := dk_2 (dk_at dksX1_watcher_1 7 rfl rfl)
theorem dX1_watcher_30 : decode cX1_watcher 30 = .ok (.goto 7, 3) := dk_167 0 7 (dk_at dksX1_watcher_1 8 rfl rfl)
theorem dX1_watcher_33 : decode cX1_watcher 33 = .ok (.aload_n 2, 1) := dk_44 (dk_at dksX1_watcher_1 11 rfl rfl)
theorem dX1_watcher_34 : decode cX1_watcher 34 = .ok (.getfield 150, 3) := dk_180 0 150 (dk_at dksX1_watcher_1 12 rfl rfl)
theorem dX1_watcher_37 : decode cX1_watcher 37 = .ok (.ireturn, 1) := dk_172 (dk_at dksX1_watcher_1 15 rfl rfl)
abbrev cX1_watched : ByteArray := prog_1_method_34_code
def yX1_watched : MethodName := ⟨RX1, "watched", "(I)I"⟩
def dkwX1_watched_1 : List UInt8 := [42, 27, 182, 0, 189, 166, 0, 7, 4, 167, 0, 4, 3, 96, 61, 132, 3, 1, 167, 255, 226, 28, 172]
abbrev dktX1_watched_1 : List UInt8 := dkwX1_watched_1 ++ []
def dkwX1_watched_0 : List UInt8 := [42, 27, 182, 0, 177, 184, 0, 122, 3, 61, 3, 62, 29, 16, 61, 162, 0, 30, 28, 42, 29, 182, 1, 53]
abbrev dktX1_watched_0 : List UInt8 := dkwX1_watched_0 ++ dktX1_watched_1
theorem dksX1_watched_0 : cX1_watched.data.toList.drop 0 = dktX1_watched_0 := by decide +kernel
theorem dksX1_watched_1 : cX1_watched.data.toList.drop 24 = dktX1_watched_1 := dk_seg dksX1_watched_0 24 rfl rfl
theorem dX1_watched_0 : decode cX1_watched 0 = .ok (.aload_n 0, 1) := dk_42 (dk_at dksX1_watched_0 0 rfl rfl)
theorem dX1_watched_1 : decode cX1_watched 1 = .ok (.iload_n 1, 1) := dk_27 (dk_at dksX1_watched_0 1 rfl rfl)
theorem dX1_watched_2 : decode cX1_watched 2 = .ok (.invokevirtual 177, 3) := dk_182 0 177 (dk_at dksX1_watched_0 2 rfl rfl)
theorem dX1_watched_5 : decode cX1_watched 5 = .ok (.invokestatic 122, 3) := dk_184 0 122 (dk_at dksX1_watched_0 5 rfl rfl)
theorem dX1_watched_8 : decode cX1_watched 8 = .ok (.iconst 0, 1) := dk_3 (dk_at dksX1_watched_0 8 rfl rfl)
theorem dX1_watched_9 : decode cX1_watched 9 = .ok (.istore_n 2, 1) := dk_61 (dk_at dksX1_watched_0 9 rfl rfl)
theorem dX1_watched_10 : decode cX1_watched 10 = .ok (.iconst 0, 1) := dk_3 (dk_at dksX1_watched_0 10 rfl rfl)
theorem dX1_watched_11 : decode cX1_watched 11 = .ok (.istore_n 3, 1) := dk_62 (dk_at dksX1_watched_0 11 rfl rfl)
theorem dX1_watched_12 : decode cX1_watched 12 = .ok (.iload_n 3, 1) := dk_29 (dk_at dksX1_watched_0 12 rfl rfl)
theorem dX1_watched_13 : decode cX1_watched 13 = .ok (.bipush 61, 2) := dk_16 61 (dk_at dksX1_watched_0 13 rfl rfl)
theorem dX1_watched_15 : decode cX1_watched 15 = .ok (.if_icmp .ge 30, 3) := dk_162 0 30 (dk_at dksX1_watched_0 15 rfl rfl)
theorem dX1_watched_18 : decode cX1_watched 18 = .ok (.iload_n 2, 1) := dk_28 (dk_at dksX1_watched_0 18 rfl rfl)
theorem dX1_watched_19 : decode cX1_watched 19 = .ok (.aload_n 0, 1) := dk_42 (dk_at dksX1_watched_0 19 rfl rfl)
theorem dX1_watched_20 : decode cX1_watched 20 = .ok (.iload_n 3, 1) := dk_29 (dk_at dksX1_watched_0 20 rfl rfl)
theorem dX1_watched_21 : decode cX1_watched 21 = .ok (.invokevirtual 309, 3) := dk_182 1 53 (dk_at dksX1_watched_0 21 rfl rfl)
theorem dX1_watched_24 : decode cX1_watched 24 = .ok (.aload_n 0, 1) := dk_42 (dk_at dksX1_watched_1 0 rfl rfl)
theorem dX1_watched_25 : decode cX1_watched 25 = .ok (.iload_n 1, 1) := dk_27 (dk_at dksX1_watched_1 1 rfl rfl)
theorem dX1_watched_26 : decode cX1_watched 26 = .ok (.invokevirtual 189, 3) := dk_182 0 189 (dk_at dksX1_watched_1 2 rfl rfl)
theorem dX1_watched_29 : decode cX1_watched 29 = .ok (.if_acmp .ne 7, 3) := dk_166 0 7 (dk_at dksX1_watched_1 5 rfl rfl)
theorem dX1_watched_32 : decode cX1_watched 32 = .ok (.iconst 1, 1) := dk_4 (dk_at dksX1_watched_1 8 rfl rfl)
theorem dX1_watched_33 : decode cX1_watched 33 = .ok (.goto 4, 3) := dk_167 0 4 (dk_at dksX1_watched_1 9 rfl rfl)
theorem dX1_watched_36 : decode cX1_watched 36 = .ok (.iconst 0, 1) := dk_3 (dk_at dksX1_watched_1 12 rfl rfl)
theorem dX1_watched_37 : decode cX1_watched 37 = .ok (.iadd, 1) := dk_96 (dk_at dksX1_watched_1 13 rfl rfl)
theorem dX1_watched_38 : decode cX1_watched 38 = .ok (.istore_n 2, 1) := dk_61 (dk_at dksX1_watched_1 14 rfl rfl)
theorem dX1_watched_39 : decode cX1_watched 39 = .ok (.iinc 3 1, 3) := dk_132 3 1 (dk_at dksX1_watched_1 15 rfl rfl)
theorem dX1_watched_42 : decode cX1_watched 42 = .ok (.goto (-30), 3) := dk_167 255 226 (dk_at dksX1_watched_1 18 rfl rfl)
theorem dX1_watched_45 : decode cX1_watched 45 = .ok (.iload_n 2, 1) := dk_28 (dk_at dksX1_watched_1 21 rfl rfl)
theorem dX1_watched_46 : decode cX1_watched 46 = .ok (.ireturn, 1) := dk_172 (dk_at dksX1_watched_1 22 rfl rfl)
abbrev cX1_margin : ByteArray := prog_1_method_38_code
def yX1_margin : MethodName := ⟨RX1, "margin", "(II)I"⟩
def dkwX1_margin_2 : List UInt8 := [184, 1, 30, 42, 180, 0, 10, 42, 27, 182, 0, 189, 42, 28, 182, 0, 189, 182, 1, 72, 172]
abbrev dktX1_margin_2 : List UInt8 := dkwX1_margin_2 ++ []
def dkwX1_margin_1 : List UInt8 := [167, 0, 4, 3, 184, 0, 122, 42, 180, 0, 10, 42, 27, 182, 0, 189, 42, 28, 182, 0, 189, 182, 1, 69]
abbrev dktX1_margin_1 : List UInt8 := dkwX1_margin_1 ++ dktX1_margin_2
def dkwX1_margin_0 : List UInt8 := [42, 27, 182, 0, 177, 153, 0, 20, 42, 28, 182, 0, 177, 153, 0, 12, 27, 28, 159, 0, 7, 4]
abbrev dktX1_margin_0 : List UInt8 := dkwX1_margin_0 ++ dktX1_margin_1
theorem dksX1_margin_0 : cX1_margin.data.toList.drop 0 = dktX1_margin_0 := by decide +kernel
theorem dksX1_margin_1 : cX1_margin.data.toList.drop 22 = dktX1_margin_1 := dk_seg dksX1_margin_0 22 rfl rfl
theorem dksX1_margin_2 : cX1_margin.data.toList.drop 46 = dktX1_margin_2 := dk_seg dksX1_margin_1 24 rfl rfl
theorem dX1_margin_0 : decode cX1_margin 0 = .ok (.aload_n 0, 1) := dk_42 (dk_at dksX1_margin_0 0 rfl rfl)
theorem dX1_margin_1 : decode cX1_margin 1 = .ok (.iload_n 1, 1) := dk_27 (dk_at dksX1_margin_0 1 rfl rfl)
theorem dX1_margin_2 : decode cX1_margin 2 = .ok (.invokevirtual 177, 3) := dk_182 0 177 (dk_at dksX1_margin_0 2 rfl rfl)
theorem dX1_margin_5 : decode cX1_margin 5 = .ok (.ifCond .eq 20, 3) := dk_153 0 20 (dk_at dksX1_margin_0 5 rfl rfl)
theorem dX1_margin_8 : decode cX1_margin 8 = .ok (.aload_n 0, 1) := dk_42 (dk_at dksX1_margin_0 8 rfl rfl)
theorem dX1_margin_9 : decode cX1_margin 9 = .ok (.iload_n 2, 1) := dk_28 (dk_at dksX1_margin_0 9 rfl rfl)
theorem dX1_margin_10 : decode cX1_margin 10 = .ok (.invokevirtual 177, 3) := dk_182 0 177 (dk_at dksX1_margin_0 10 rfl rfl)
theorem dX1_margin_13 : decode cX1_margin 13 = .ok (.ifCond .eq 12, 3) := dk_153 0 12 (dk_at dksX1_margin_0 13 rfl rfl)
theorem dX1_margin_16 : decode cX1_margin 16 = .ok (.iload_n 1, 1) := dk_27 (dk_at dksX1_margin_0 16 rfl rfl)
theorem dX1_margin_17 : decode cX1_margin 17 = .ok (.iload_n 2, 1) := dk_28 (dk_at dksX1_margin_0 17 rfl rfl)
theorem dX1_margin_18 : decode cX1_margin 18 = .ok (.if_icmp .eq 7, 3) := dk_159 0 7 (dk_at dksX1_margin_0 18 rfl rfl)
theorem dX1_margin_21 : decode cX1_margin 21 = .ok (.iconst 1, 1) := dk_4 (dk_at dksX1_margin_0 21 rfl rfl)
theorem dX1_margin_22 : decode cX1_margin 22 = .ok (.goto 4, 3) := dk_167 0 4 (dk_at dksX1_margin_1 0 rfl rfl)
theorem dX1_margin_25 : decode cX1_margin 25 = .ok (.iconst 0, 1) := dk_3 (dk_at dksX1_margin_1 3 rfl rfl)
theorem dX1_margin_26 : decode cX1_margin 26 = .ok (.invokestatic 122, 3) := dk_184 0 122 (dk_at dksX1_margin_1 4 rfl rfl)
theorem dX1_margin_29 : decode cX1_margin 29 = .ok (.aload_n 0, 1) := dk_42 (dk_at dksX1_margin_1 7 rfl rfl)
theorem dX1_margin_30 : decode cX1_margin 30 = .ok (.getfield 10, 3) := dk_180 0 10 (dk_at dksX1_margin_1 8 rfl rfl)
theorem dX1_margin_33 : decode cX1_margin 33 = .ok (.aload_n 0, 1) := dk_42 (dk_at dksX1_margin_1 11 rfl rfl)
theorem dX1_margin_34 : decode cX1_margin 34 = .ok (.iload_n 1, 1) := dk_27 (dk_at dksX1_margin_1 12 rfl rfl)
theorem dX1_margin_35 : decode cX1_margin 35 = .ok (.invokevirtual 189, 3) := dk_182 0 189 (dk_at dksX1_margin_1 13 rfl rfl)
theorem dX1_margin_38 : decode cX1_margin 38 = .ok (.aload_n 0, 1) := dk_42 (dk_at dksX1_margin_1 16 rfl rfl)
theorem dX1_margin_39 : decode cX1_margin 39 = .ok (.iload_n 2, 1) := dk_28 (dk_at dksX1_margin_1 17 rfl rfl)
theorem dX1_margin_40 : decode cX1_margin 40 = .ok (.invokevirtual 189, 3) := dk_182 0 189 (dk_at dksX1_margin_1 18 rfl rfl)
theorem dX1_margin_43 : decode cX1_margin 43 = .ok (.invokevirtual 325, 3) := dk_182 1 69 (dk_at dksX1_margin_1 21 rfl rfl)
theorem dX1_margin_46 : decode cX1_margin 46 = .ok (.invokestatic 286, 3) := dk_184 1 30 (dk_at dksX1_margin_2 0 rfl rfl)
theorem dX1_margin_49 : decode cX1_margin 49 = .ok (.aload_n 0, 1) := dk_42 (dk_at dksX1_margin_2 3 rfl rfl)
theorem dX1_margin_50 : decode cX1_margin 50 = .ok (.getfield 10, 3) := dk_180 0 10 (dk_at dksX1_margin_2 4 rfl rfl)
theorem dX1_margin_53 : decode cX1_margin 53 = .ok (.aload_n 0, 1) := dk_42 (dk_at dksX1_margin_2 7 rfl rfl)
theorem dX1_margin_54 : decode cX1_margin 54 = .ok (.iload_n 1, 1) := dk_27 (dk_at dksX1_margin_2 8 rfl rfl)
theorem dX1_margin_55 : decode cX1_margin 55 = .ok (.invokevirtual 189, 3) := dk_182 0 189 (dk_at dksX1_margin_2 9 rfl rfl)
theorem dX1_margin_58 : decode cX1_margin 58 = .ok (.aload_n 0, 1) := dk_42 (dk_at dksX1_margin_2 12 rfl rfl)
theorem dX1_margin_59 : decode cX1_margin 59 = .ok (.iload_n 2, 1) := dk_28 (dk_at dksX1_margin_2 13 rfl rfl)
theorem dX1_margin_60 : decode cX1_margin 60 = .ok (.invokevirtual 189, 3) := dk_182 0 189 (dk_at dksX1_margin_2 14 rfl rfl)
theorem dX1_margin_63 : decode cX1_margin 63 = .ok (.invokevirtual 328, 3) := dk_182 1 72 (dk_at dksX1_margin_2 17 rfl rfl)
theorem dX1_margin_66 : decode cX1_margin 66 = .ok (.ireturn, 1) := dk_172 (dk_at dksX1_margin_2 20 rfl rfl)
abbrev cX1_signals : ByteArray := prog_1_method_39_code
def yX1_signals : MethodName := ⟨RX1, "signals", "(II)I"⟩
def dkwX1_signals_2 : List UInt8 := [184, 1, 30, 29, 172]
abbrev dktX1_signals_2 : List UInt8 := dkwX1_signals_2 ++ []
def dkwX1_signals_1 : List UInt8 := [42, 180, 0, 10, 42, 28, 182, 0, 189, 182, 1, 76, 27, 46, 62, 29, 155, 0, 7, 4, 167, 0, 4, 3]
abbrev dktX1_signals_1 : List UInt8 := dkwX1_signals_1 ++ dktX1_signals_2
def dkwX1_signals_0 : List UInt8 := [42, 27, 182, 0, 177, 153, 0, 15, 42, 28, 182, 0, 177, 153, 0, 7, 4, 167, 0, 4, 3, 184, 0, 122]
abbrev dktX1_signals_0 : List UInt8 := dkwX1_signals_0 ++ dktX1_signals_1
theorem dksX1_signals_0 : cX1_signals.data.toList.drop 0 = dktX1_signals_0 := by decide +kernel
theorem dksX1_signals_1 : cX1_signals.data.toList.drop 24 = dktX1_signals_1 := dk_seg dksX1_signals_0 24 rfl rfl
theorem dksX1_signals_2 : cX1_signals.data.toList.drop 48 = dktX1_signals_2 := dk_seg dksX1_signals_1 24 rfl rfl
theorem dX1_signals_0 : decode cX1_signals 0 = .ok (.aload_n 0, 1) := dk_42 (dk_at dksX1_signals_0 0 rfl rfl)
theorem dX1_signals_1 : decode cX1_signals 1 = .ok (.iload_n 1, 1) := dk_27 (dk_at dksX1_signals_0 1 rfl rfl)
theorem dX1_signals_2 : decode cX1_signals 2 = .ok (.invokevirtual 177, 3) := dk_182 0 177 (dk_at dksX1_signals_0 2 rfl rfl)
theorem dX1_signals_5 : decode cX1_signals 5 = .ok (.ifCond .eq 15, 3) := dk_153 0 15 (dk_at dksX1_signals_0 5 rfl rfl)
theorem dX1_signals_8 : decode cX1_signals 8 = .ok (.aload_n 0, 1) := dk_42 (dk_at dksX1_signals_0 8 rfl rfl)
theorem dX1_signals_9 : decode cX1_signals 9 = .ok (.iload_n 2, 1) := dk_28 (dk_at dksX1_signals_0 9 rfl rfl)
theorem dX1_signals_10 : decode cX1_signals 10 = .ok (.invokevirtual 177, 3) := dk_182 0 177 (dk_at dksX1_signals_0 10 rfl rfl)
theorem dX1_signals_13 : decode cX1_signals 13 = .ok (.ifCond .eq 7, 3) := dk_153 0 7 (dk_at dksX1_signals_0 13 rfl rfl)
theorem dX1_signals_16 : decode cX1_signals 16 = .ok (.iconst 1, 1) := dk_4 (dk_at dksX1_signals_0 16 rfl rfl)
theorem dX1_signals_17 : decode cX1_signals 17 = .ok (.goto 4, 3) := dk_167 0 4 (dk_at dksX1_signals_0 17 rfl rfl)
theorem dX1_signals_20 : decode cX1_signals 20 = .ok (.iconst 0, 1) := dk_3 (dk_at dksX1_signals_0 20 rfl rfl)
theorem dX1_signals_21 : decode cX1_signals 21 = .ok (.invokestatic 122, 3) := dk_184 0 122 (dk_at dksX1_signals_0 21 rfl rfl)
theorem dX1_signals_24 : decode cX1_signals 24 = .ok (.aload_n 0, 1) := dk_42 (dk_at dksX1_signals_1 0 rfl rfl)
theorem dX1_signals_25 : decode cX1_signals 25 = .ok (.getfield 10, 3) := dk_180 0 10 (dk_at dksX1_signals_1 1 rfl rfl)
theorem dX1_signals_28 : decode cX1_signals 28 = .ok (.aload_n 0, 1) := dk_42 (dk_at dksX1_signals_1 4 rfl rfl)
theorem dX1_signals_29 : decode cX1_signals 29 = .ok (.iload_n 2, 1) := dk_28 (dk_at dksX1_signals_1 5 rfl rfl)
theorem dX1_signals_30 : decode cX1_signals 30 = .ok (.invokevirtual 189, 3) := dk_182 0 189 (dk_at dksX1_signals_1 6 rfl rfl)
theorem dX1_signals_33 : decode cX1_signals 33 = .ok (.invokevirtual 332, 3) := dk_182 1 76 (dk_at dksX1_signals_1 9 rfl rfl)
theorem dX1_signals_36 : decode cX1_signals 36 = .ok (.iload_n 1, 1) := dk_27 (dk_at dksX1_signals_1 12 rfl rfl)
theorem dX1_signals_37 : decode cX1_signals 37 = .ok (.iaload, 1) := dk_46 (dk_at dksX1_signals_1 13 rfl rfl)
theorem dX1_signals_38 : decode cX1_signals 38 = .ok (.istore_n 3, 1) := dk_62 (dk_at dksX1_signals_1 14 rfl rfl)
theorem dX1_signals_39 : decode cX1_signals 39 = .ok (.iload_n 3, 1) := dk_29 (dk_at dksX1_signals_1 15 rfl rfl)
theorem dX1_signals_40 : decode cX1_signals 40 = .ok (.ifCond .lt 7, 3) := dk_155 0 7 (dk_at dksX1_signals_1 16 rfl rfl)
theorem dX1_signals_43 : decode cX1_signals 43 = .ok (.iconst 1, 1) := dk_4 (dk_at dksX1_signals_1 19 rfl rfl)
theorem dX1_signals_44 : decode cX1_signals 44 = .ok (.goto 4, 3) := dk_167 0 4 (dk_at dksX1_signals_1 20 rfl rfl)
theorem dX1_signals_47 : decode cX1_signals 47 = .ok (.iconst 0, 1) := dk_3 (dk_at dksX1_signals_1 23 rfl rfl)
theorem dX1_signals_48 : decode cX1_signals 48 = .ok (.invokestatic 286, 3) := dk_184 1 30 (dk_at dksX1_signals_2 0 rfl rfl)
theorem dX1_signals_51 : decode cX1_signals 51 = .ok (.iload_n 3, 1) := dk_29 (dk_at dksX1_signals_2 3 rfl rfl)
theorem dX1_signals_52 : decode cX1_signals 52 = .ok (.ireturn, 1) := dk_172 (dk_at dksX1_signals_2 4 rfl rfl)
abbrev cX1_signalsAgain : ByteArray := prog_1_method_40_code
def yX1_signalsAgain : MethodName := ⟨RX1, "signalsAgain", "(II)I"⟩
def dkwX1_signalsAgain_2 : List UInt8 := [162, 0, 7, 4, 167, 0, 4, 3, 184, 1, 30, 29, 172]
abbrev dktX1_signalsAgain_2 : List UInt8 := dkwX1_signalsAgain_2 ++ []
def dkwX1_signalsAgain_1 : List UInt8 := [42, 180, 0, 10, 42, 27, 182, 0, 189, 42, 28, 182, 0, 189, 4, 27, 120, 182, 1, 80, 62, 29, 16, 8]
abbrev dktX1_signalsAgain_1 : List UInt8 := dkwX1_signalsAgain_1 ++ dktX1_signalsAgain_2
def dkwX1_signalsAgain_0 : List UInt8 := [42, 27, 182, 0, 177, 153, 0, 15, 42, 28, 182, 0, 177, 153, 0, 7, 4, 167, 0, 4, 3, 184, 0, 122]
abbrev dktX1_signalsAgain_0 : List UInt8 := dkwX1_signalsAgain_0 ++ dktX1_signalsAgain_1
theorem dksX1_signalsAgain_0 : cX1_signalsAgain.data.toList.drop 0 = dktX1_signalsAgain_0 := by decide +kernel
theorem dksX1_signalsAgain_1 : cX1_signalsAgain.data.toList.drop 24 = dktX1_signalsAgain_1 := dk_seg dksX1_signalsAgain_0 24 rfl rfl
theorem dksX1_signalsAgain_2 : cX1_signalsAgain.data.toList.drop 48 = dktX1_signalsAgain_2 := dk_seg dksX1_signalsAgain_1 24 rfl rfl
theorem dX1_signalsAgain_0 : decode cX1_signalsAgain 0 = .ok (.aload_n 0, 1) := dk_42 (dk_at dksX1_signalsAgain_0 0 rfl rfl)
theorem dX1_signalsAgain_1 : decode cX1_signalsAgain 1 = .ok (.iload_n 1, 1) := dk_27 (dk_at dksX1_signalsAgain_0 1 rfl rfl)
theorem dX1_signalsAgain_2 : decode cX1_signalsAgain 2 = .ok (.invokevirtual 177, 3) := dk_182 0 177 (dk_at dksX1_signalsAgain_0 2 rfl rfl)
theorem dX1_signalsAgain_5 : decode cX1_signalsAgain 5 = .ok (.ifCond .eq 15, 3) := dk_153 0 15 (dk_at dksX1_signalsAgain_0 5 rfl rfl)
theorem dX1_signalsAgain_8 : decode cX1_signalsAgain 8 = .ok (.aload_n 0, 1) := dk_42 (dk_at dksX1_signalsAgain_0 8 rfl rfl)
theorem dX1_signalsAgain_9 : decode cX1_signalsAgain 9 = .ok (.iload_n 2, 1) := dk_28 (dk_at dksX1_signalsAgain_0 9 rfl rfl)
theorem dX1_signalsAgain_10 : decode cX1_signalsAgain 10 = .ok (.invokevirtual 177, 3) := dk_182 0 177 (dk_at dksX1_signalsAgain_0 10 rfl rfl)
theorem dX1_signalsAgain_13 : decode cX1_signalsAgain 13 = .ok (.ifCond .eq 7, 3) := dk_153 0 7 (dk_at dksX1_signalsAgain_0 13 rfl rfl)
theorem dX1_signalsAgain_16 : decode cX1_signalsAgain 16 = .ok (.iconst 1, 1) := dk_4 (dk_at dksX1_signalsAgain_0 16 rfl rfl)
theorem dX1_signalsAgain_17 : decode cX1_signalsAgain 17 = .ok (.goto 4, 3) := dk_167 0 4 (dk_at dksX1_signalsAgain_0 17 rfl rfl)
theorem dX1_signalsAgain_20 : decode cX1_signalsAgain 20 = .ok (.iconst 0, 1) := dk_3 (dk_at dksX1_signalsAgain_0 20 rfl rfl)
theorem dX1_signalsAgain_21 : decode cX1_signalsAgain 21 = .ok (.invokestatic 122, 3) := dk_184 0 122 (dk_at dksX1_signalsAgain_0 21 rfl rfl)
theorem dX1_signalsAgain_24 : decode cX1_signalsAgain 24 = .ok (.aload_n 0, 1) := dk_42 (dk_at dksX1_signalsAgain_1 0 rfl rfl)
theorem dX1_signalsAgain_25 : decode cX1_signalsAgain 25 = .ok (.getfield 10, 3) := dk_180 0 10 (dk_at dksX1_signalsAgain_1 1 rfl rfl)
theorem dX1_signalsAgain_28 : decode cX1_signalsAgain 28 = .ok (.aload_n 0, 1) := dk_42 (dk_at dksX1_signalsAgain_1 4 rfl rfl)
theorem dX1_signalsAgain_29 : decode cX1_signalsAgain 29 = .ok (.iload_n 1, 1) := dk_27 (dk_at dksX1_signalsAgain_1 5 rfl rfl)
theorem dX1_signalsAgain_30 : decode cX1_signalsAgain 30 = .ok (.invokevirtual 189, 3) := dk_182 0 189 (dk_at dksX1_signalsAgain_1 6 rfl rfl)
theorem dX1_signalsAgain_33 : decode cX1_signalsAgain 33 = .ok (.aload_n 0, 1) := dk_42 (dk_at dksX1_signalsAgain_1 9 rfl rfl)
theorem dX1_signalsAgain_34 : decode cX1_signalsAgain 34 = .ok (.iload_n 2, 1) := dk_28 (dk_at dksX1_signalsAgain_1 10 rfl rfl)
theorem dX1_signalsAgain_35 : decode cX1_signalsAgain 35 = .ok (.invokevirtual 189, 3) := dk_182 0 189 (dk_at dksX1_signalsAgain_1 11 rfl rfl)
theorem dX1_signalsAgain_38 : decode cX1_signalsAgain 38 = .ok (.iconst 1, 1) := dk_4 (dk_at dksX1_signalsAgain_1 14 rfl rfl)
theorem dX1_signalsAgain_39 : decode cX1_signalsAgain 39 = .ok (.iload_n 1, 1) := dk_27 (dk_at dksX1_signalsAgain_1 15 rfl rfl)
theorem dX1_signalsAgain_40 : decode cX1_signalsAgain 40 = .ok (.ishl, 1) := dk_120 (dk_at dksX1_signalsAgain_1 16 rfl rfl)
theorem dX1_signalsAgain_41 : decode cX1_signalsAgain 41 = .ok (.invokevirtual 336, 3) := dk_182 1 80 (dk_at dksX1_signalsAgain_1 17 rfl rfl)
theorem dX1_signalsAgain_44 : decode cX1_signalsAgain 44 = .ok (.istore_n 3, 1) := dk_62 (dk_at dksX1_signalsAgain_1 20 rfl rfl)
theorem dX1_signalsAgain_45 : decode cX1_signalsAgain 45 = .ok (.iload_n 3, 1) := dk_29 (dk_at dksX1_signalsAgain_1 21 rfl rfl)
theorem dX1_signalsAgain_46 : decode cX1_signalsAgain 46 = .ok (.bipush 8, 2) := dk_16 8 (dk_at dksX1_signalsAgain_1 22 rfl rfl)
theorem dX1_signalsAgain_48 : decode cX1_signalsAgain 48 = .ok (.if_icmp .ge 7, 3) := dk_162 0 7 (dk_at dksX1_signalsAgain_2 0 rfl rfl)
theorem dX1_signalsAgain_51 : decode cX1_signalsAgain 51 = .ok (.iconst 1, 1) := dk_4 (dk_at dksX1_signalsAgain_2 3 rfl rfl)
theorem dX1_signalsAgain_52 : decode cX1_signalsAgain 52 = .ok (.goto 4, 3) := dk_167 0 4 (dk_at dksX1_signalsAgain_2 4 rfl rfl)
theorem dX1_signalsAgain_55 : decode cX1_signalsAgain 55 = .ok (.iconst 0, 1) := dk_3 (dk_at dksX1_signalsAgain_2 7 rfl rfl)
theorem dX1_signalsAgain_56 : decode cX1_signalsAgain 56 = .ok (.invokestatic 286, 3) := dk_184 1 30 (dk_at dksX1_signalsAgain_2 8 rfl rfl)
theorem dX1_signalsAgain_59 : decode cX1_signalsAgain 59 = .ok (.iload_n 3, 1) := dk_29 (dk_at dksX1_signalsAgain_2 11 rfl rfl)
theorem dX1_signalsAgain_60 : decode cX1_signalsAgain 60 = .ok (.ireturn, 1) := dk_172 (dk_at dksX1_signalsAgain_2 12 rfl rfl)
abbrev cX1_route : ByteArray := prog_1_method_41_code
def yX1_route : MethodName := ⟨RX1, "route", "(III)I"⟩
def dkwX1_route_2 : List UInt8 := [182, 0, 107, 4, 100, 184, 0, 85, 184, 1, 30, 25, 4, 29, 182, 1, 88, 192, 0, 116, 180, 0, 150, 172]
abbrev dktX1_route_2 : List UInt8 := dkwX1_route_2 ++ []
def dkwX1_route_1 : List UInt8 := [42, 180, 0, 10, 42, 27, 182, 0, 189, 42, 28, 182, 0, 189, 182, 1, 84, 58, 4, 29, 3, 25, 4]
abbrev dktX1_route_1 : List UInt8 := dkwX1_route_1 ++ dktX1_route_2
def dkwX1_route_0 : List UInt8 := [42, 27, 182, 0, 177, 153, 0, 15, 42, 28, 182, 0, 177, 153, 0, 7, 4, 167, 0, 4, 3, 184, 0, 122]
abbrev dktX1_route_0 : List UInt8 := dkwX1_route_0 ++ dktX1_route_1
theorem dksX1_route_0 : cX1_route.data.toList.drop 0 = dktX1_route_0 := by decide +kernel
theorem dksX1_route_1 : cX1_route.data.toList.drop 24 = dktX1_route_1 := dk_seg dksX1_route_0 24 rfl rfl
theorem dksX1_route_2 : cX1_route.data.toList.drop 47 = dktX1_route_2 := dk_seg dksX1_route_1 23 rfl rfl
theorem dX1_route_0 : decode cX1_route 0 = .ok (.aload_n 0, 1) := dk_42 (dk_at dksX1_route_0 0 rfl rfl)
theorem dX1_route_1 : decode cX1_route 1 = .ok (.iload_n 1, 1) := dk_27 (dk_at dksX1_route_0 1 rfl rfl)
theorem dX1_route_2 : decode cX1_route 2 = .ok (.invokevirtual 177, 3) := dk_182 0 177 (dk_at dksX1_route_0 2 rfl rfl)
theorem dX1_route_5 : decode cX1_route 5 = .ok (.ifCond .eq 15, 3) := dk_153 0 15 (dk_at dksX1_route_0 5 rfl rfl)
theorem dX1_route_8 : decode cX1_route 8 = .ok (.aload_n 0, 1) := dk_42 (dk_at dksX1_route_0 8 rfl rfl)
theorem dX1_route_9 : decode cX1_route 9 = .ok (.iload_n 2, 1) := dk_28 (dk_at dksX1_route_0 9 rfl rfl)
theorem dX1_route_10 : decode cX1_route 10 = .ok (.invokevirtual 177, 3) := dk_182 0 177 (dk_at dksX1_route_0 10 rfl rfl)
theorem dX1_route_13 : decode cX1_route 13 = .ok (.ifCond .eq 7, 3) := dk_153 0 7 (dk_at dksX1_route_0 13 rfl rfl)
theorem dX1_route_16 : decode cX1_route 16 = .ok (.iconst 1, 1) := dk_4 (dk_at dksX1_route_0 16 rfl rfl)
theorem dX1_route_17 : decode cX1_route 17 = .ok (.goto 4, 3) := dk_167 0 4 (dk_at dksX1_route_0 17 rfl rfl)
theorem dX1_route_20 : decode cX1_route 20 = .ok (.iconst 0, 1) := dk_3 (dk_at dksX1_route_0 20 rfl rfl)
theorem dX1_route_21 : decode cX1_route 21 = .ok (.invokestatic 122, 3) := dk_184 0 122 (dk_at dksX1_route_0 21 rfl rfl)
theorem dX1_route_24 : decode cX1_route 24 = .ok (.aload_n 0, 1) := dk_42 (dk_at dksX1_route_1 0 rfl rfl)
theorem dX1_route_25 : decode cX1_route 25 = .ok (.getfield 10, 3) := dk_180 0 10 (dk_at dksX1_route_1 1 rfl rfl)
theorem dX1_route_28 : decode cX1_route 28 = .ok (.aload_n 0, 1) := dk_42 (dk_at dksX1_route_1 4 rfl rfl)
theorem dX1_route_29 : decode cX1_route 29 = .ok (.iload_n 1, 1) := dk_27 (dk_at dksX1_route_1 5 rfl rfl)
theorem dX1_route_30 : decode cX1_route 30 = .ok (.invokevirtual 189, 3) := dk_182 0 189 (dk_at dksX1_route_1 6 rfl rfl)
theorem dX1_route_33 : decode cX1_route 33 = .ok (.aload_n 0, 1) := dk_42 (dk_at dksX1_route_1 9 rfl rfl)
theorem dX1_route_34 : decode cX1_route 34 = .ok (.iload_n 2, 1) := dk_28 (dk_at dksX1_route_1 10 rfl rfl)
theorem dX1_route_35 : decode cX1_route 35 = .ok (.invokevirtual 189, 3) := dk_182 0 189 (dk_at dksX1_route_1 11 rfl rfl)
theorem dX1_route_38 : decode cX1_route 38 = .ok (.invokevirtual 340, 3) := dk_182 1 84 (dk_at dksX1_route_1 14 rfl rfl)
theorem dX1_route_41 : decode cX1_route 41 = .ok (.astore 4, 2) := dk_58 4 (dk_at dksX1_route_1 17 rfl rfl)
theorem dX1_route_43 : decode cX1_route 43 = .ok (.iload_n 3, 1) := dk_29 (dk_at dksX1_route_1 19 rfl rfl)
theorem dX1_route_44 : decode cX1_route 44 = .ok (.iconst 0, 1) := dk_3 (dk_at dksX1_route_1 20 rfl rfl)
theorem dX1_route_45 : decode cX1_route 45 = .ok (.aload 4, 2) := dk_25 4 (dk_at dksX1_route_1 21 rfl rfl)
theorem dX1_route_47 : decode cX1_route 47 = .ok (.invokevirtual 107, 3) := dk_182 0 107 (dk_at dksX1_route_2 0 rfl rfl)
theorem dX1_route_50 : decode cX1_route 50 = .ok (.iconst 1, 1) := dk_4 (dk_at dksX1_route_2 3 rfl rfl)
theorem dX1_route_51 : decode cX1_route 51 = .ok (.isub, 1) := dk_100 (dk_at dksX1_route_2 4 rfl rfl)
theorem dX1_route_52 : decode cX1_route 52 = .ok (.invokestatic 85, 3) := dk_184 0 85 (dk_at dksX1_route_2 5 rfl rfl)
theorem dX1_route_55 : decode cX1_route 55 = .ok (.invokestatic 286, 3) := dk_184 1 30 (dk_at dksX1_route_2 8 rfl rfl)
theorem dX1_route_58 : decode cX1_route 58 = .ok (.aload 4, 2) := dk_25 4 (dk_at dksX1_route_2 11 rfl rfl)
theorem dX1_route_60 : decode cX1_route 60 = .ok (.iload_n 3, 1) := dk_29 (dk_at dksX1_route_2 13 rfl rfl)
theorem dX1_route_61 : decode cX1_route 61 = .ok (.invokevirtual 344, 3) := dk_182 1 88 (dk_at dksX1_route_2 14 rfl rfl)
theorem dX1_route_64 : decode cX1_route 64 = .ok (.checkcast 116, 3) := dk_192 0 116 (dk_at dksX1_route_2 17 rfl rfl)
theorem dX1_route_67 : decode cX1_route 67 = .ok (.getfield 150, 3) := dk_180 0 150 (dk_at dksX1_route_2 20 rfl rfl)
theorem dX1_route_70 : decode cX1_route 70 = .ok (.ireturn, 1) := dk_172 (dk_at dksX1_route_2 23 rfl rfl)
abbrev cX1_append : ByteArray := prog_1_method_42_code
def yX1_append : MethodName := ⟨RX1, "append", "(C)I"⟩
def dkwX1_append_1 : List UInt8 := [167, 0, 4, 3, 184, 0, 129, 42, 180, 0, 26, 27, 182, 1, 90, 87, 42, 180, 0, 26, 182, 1, 89, 172]
abbrev dktX1_append_1 : List UInt8 := dkwX1_append_1 ++ []
def dkwX1_append_0 : List UInt8 := [27, 16, 33, 16, 126, 184, 0, 85, 184, 0, 126, 42, 180, 0, 26, 182, 1, 89, 16, 60, 162, 0, 7, 4]
abbrev dktX1_append_0 : List UInt8 := dkwX1_append_0 ++ dktX1_append_1
theorem dksX1_append_0 : cX1_append.data.toList.drop 0 = dktX1_append_0 := by decide +kernel
theorem dksX1_append_1 : cX1_append.data.toList.drop 24 = dktX1_append_1 := dk_seg dksX1_append_0 24 rfl rfl
theorem dX1_append_0 : decode cX1_append 0 = .ok (.iload_n 1, 1) := dk_27 (dk_at dksX1_append_0 0 rfl rfl)
theorem dX1_append_1 : decode cX1_append 1 = .ok (.bipush 33, 2) := dk_16 33 (dk_at dksX1_append_0 1 rfl rfl)
theorem dX1_append_3 : decode cX1_append 3 = .ok (.bipush 126, 2) := dk_16 126 (dk_at dksX1_append_0 3 rfl rfl)
theorem dX1_append_5 : decode cX1_append 5 = .ok (.invokestatic 85, 3) := dk_184 0 85 (dk_at dksX1_append_0 5 rfl rfl)
theorem dX1_append_8 : decode cX1_append 8 = .ok (.invokestatic 126, 3) := dk_184 0 126 (dk_at dksX1_append_0 8 rfl rfl)
theorem dX1_append_11 : decode cX1_append 11 = .ok (.aload_n 0, 1) := dk_42 (dk_at dksX1_append_0 11 rfl rfl)
theorem dX1_append_12 : decode cX1_append 12 = .ok (.getfield 26, 3) := dk_180 0 26 (dk_at dksX1_append_0 12 rfl rfl)
theorem dX1_append_15 : decode cX1_append 15 = .ok (.invokevirtual 345, 3) := dk_182 1 89 (dk_at dksX1_append_0 15 rfl rfl)
theorem dX1_append_18 : decode cX1_append 18 = .ok (.bipush 60, 2) := dk_16 60 (dk_at dksX1_append_0 18 rfl rfl)
theorem dX1_append_20 : decode cX1_append 20 = .ok (.if_icmp .ge 7, 3) := dk_162 0 7 (dk_at dksX1_append_0 20 rfl rfl)
theorem dX1_append_23 : decode cX1_append 23 = .ok (.iconst 1, 1) := dk_4 (dk_at dksX1_append_0 23 rfl rfl)
theorem dX1_append_24 : decode cX1_append 24 = .ok (.goto 4, 3) := dk_167 0 4 (dk_at dksX1_append_1 0 rfl rfl)
theorem dX1_append_27 : decode cX1_append 27 = .ok (.iconst 0, 1) := dk_3 (dk_at dksX1_append_1 3 rfl rfl)
theorem dX1_append_28 : decode cX1_append 28 = .ok (.invokestatic 129, 3) := dk_184 0 129 (dk_at dksX1_append_1 4 rfl rfl)
theorem dX1_append_31 : decode cX1_append 31 = .ok (.aload_n 0, 1) := dk_42 (dk_at dksX1_append_1 7 rfl rfl)
theorem dX1_append_32 : decode cX1_append 32 = .ok (.getfield 26, 3) := dk_180 0 26 (dk_at dksX1_append_1 8 rfl rfl)
theorem dX1_append_35 : decode cX1_append 35 = .ok (.iload_n 1, 1) := dk_27 (dk_at dksX1_append_1 11 rfl rfl)
theorem dX1_append_36 : decode cX1_append 36 = .ok (.invokevirtual 346, 3) := dk_182 1 90 (dk_at dksX1_append_1 12 rfl rfl)
theorem dX1_append_39 : decode cX1_append 39 = .ok (.pop, 1) := dk_87 (dk_at dksX1_append_1 15 rfl rfl)
theorem dX1_append_40 : decode cX1_append 40 = .ok (.aload_n 0, 1) := dk_42 (dk_at dksX1_append_1 16 rfl rfl)
theorem dX1_append_41 : decode cX1_append 41 = .ok (.getfield 26, 3) := dk_180 0 26 (dk_at dksX1_append_1 17 rfl rfl)
theorem dX1_append_44 : decode cX1_append 44 = .ok (.invokevirtual 345, 3) := dk_182 1 89 (dk_at dksX1_append_1 20 rfl rfl)
theorem dX1_append_47 : decode cX1_append 47 = .ok (.ireturn, 1) := dk_172 (dk_at dksX1_append_1 23 rfl rfl)
abbrev cX1_send : ByteArray := prog_1_method_46_code
def yX1_send : MethodName := ⟨RX1, "send", "(II)I"⟩
def dkwX1_send_7 : List UInt8 := [181, 1, 129, 42, 180, 0, 30, 184, 1, 132, 172]
abbrev dktX1_send_7 : List UInt8 := dkwX1_send_7 ++ []
def dkwX1_send_6 : List UInt8 := [58, 5, 167, 255, 225, 42, 180, 0, 30, 3, 182, 1, 112, 42, 180, 0, 30, 45, 182, 1, 126, 87, 42, 4]
abbrev dktX1_send_6 : List UInt8 := dkwX1_send_6 ++ dktX1_send_7
def dkwX1_send_5 : List UInt8 := [154, 0, 29, 25, 4, 182, 0, 108, 192, 0, 116, 58, 6, 42, 45, 25, 5, 25, 6, 182, 1, 122, 25, 6]
abbrev dktX1_send_5 : List UInt8 := dkwX1_send_5 ++ dktX1_send_6
def dkwX1_send_4 : List UInt8 := [167, 0, 4, 1, 83, 182, 0, 156, 25, 4, 182, 0, 108, 192, 0, 116, 58, 5, 25, 4, 182, 1, 119]
abbrev dktX1_send_4 : List UInt8 := dkwX1_send_4 ++ dktX1_send_5
def dkwX1_send_3 : List UInt8 := [189, 0, 145, 89, 3, 25, 4, 182, 1, 119, 153, 0, 16, 187, 0, 145, 89, 16, 9, 3, 183, 0, 153]
abbrev dktX1_send_3 : List UInt8 := dkwX1_send_3 ++ dktX1_send_4
def dkwX1_send_2 : List UInt8 := [184, 0, 126, 42, 180, 0, 10, 42, 27, 182, 0, 189, 42, 28, 182, 0, 189, 182, 1, 84, 58, 4, 42, 4]
abbrev dktX1_send_2 : List UInt8 := dkwX1_send_2 ++ dktX1_send_3
def dkwX1_send_1 : List UInt8 := [187, 0, 23, 89, 42, 180, 0, 26, 183, 1, 109, 78, 42, 180, 0, 26, 3, 182, 1, 112, 45, 184, 1, 115]
abbrev dktX1_send_1 : List UInt8 := dkwX1_send_1 ++ dktX1_send_2
def dkwX1_send_0 : List UInt8 := [42, 27, 182, 0, 177, 153, 0, 15, 42, 28, 182, 0, 177, 153, 0, 7, 4, 167, 0, 4, 3, 184, 0, 122]
abbrev dktX1_send_0 : List UInt8 := dkwX1_send_0 ++ dktX1_send_1
theorem dksX1_send_0 : cX1_send.data.toList.drop 0 = dktX1_send_0 := by decide +kernel
theorem dksX1_send_1 : cX1_send.data.toList.drop 24 = dktX1_send_1 := dk_seg dksX1_send_0 24 rfl rfl
theorem dksX1_send_2 : cX1_send.data.toList.drop 48 = dktX1_send_2 := dk_seg dksX1_send_1 24 rfl rfl
theorem dksX1_send_3 : cX1_send.data.toList.drop 72 = dktX1_send_3 := dk_seg dksX1_send_2 24 rfl rfl
theorem dksX1_send_4 : cX1_send.data.toList.drop 95 = dktX1_send_4 := dk_seg dksX1_send_3 23 rfl rfl
theorem dksX1_send_5 : cX1_send.data.toList.drop 118 = dktX1_send_5 := dk_seg dksX1_send_4 23 rfl rfl
theorem dksX1_send_6 : cX1_send.data.toList.drop 142 = dktX1_send_6 := dk_seg dksX1_send_5 24 rfl rfl
theorem dksX1_send_7 : cX1_send.data.toList.drop 166 = dktX1_send_7 := dk_seg dksX1_send_6 24 rfl rfl
theorem dX1_send_0 : decode cX1_send 0 = .ok (.aload_n 0, 1) := dk_42 (dk_at dksX1_send_0 0 rfl rfl)
theorem dX1_send_1 : decode cX1_send 1 = .ok (.iload_n 1, 1) := dk_27 (dk_at dksX1_send_0 1 rfl rfl)
theorem dX1_send_2 : decode cX1_send 2 = .ok (.invokevirtual 177, 3) := dk_182 0 177 (dk_at dksX1_send_0 2 rfl rfl)
theorem dX1_send_5 : decode cX1_send 5 = .ok (.ifCond .eq 15, 3) := dk_153 0 15 (dk_at dksX1_send_0 5 rfl rfl)
theorem dX1_send_8 : decode cX1_send 8 = .ok (.aload_n 0, 1) := dk_42 (dk_at dksX1_send_0 8 rfl rfl)
theorem dX1_send_9 : decode cX1_send 9 = .ok (.iload_n 2, 1) := dk_28 (dk_at dksX1_send_0 9 rfl rfl)
theorem dX1_send_10 : decode cX1_send 10 = .ok (.invokevirtual 177, 3) := dk_182 0 177 (dk_at dksX1_send_0 10 rfl rfl)
theorem dX1_send_13 : decode cX1_send 13 = .ok (.ifCond .eq 7, 3) := dk_153 0 7 (dk_at dksX1_send_0 13 rfl rfl)
theorem dX1_send_16 : decode cX1_send 16 = .ok (.iconst 1, 1) := dk_4 (dk_at dksX1_send_0 16 rfl rfl)
theorem dX1_send_17 : decode cX1_send 17 = .ok (.goto 4, 3) := dk_167 0 4 (dk_at dksX1_send_0 17 rfl rfl)
theorem dX1_send_20 : decode cX1_send 20 = .ok (.iconst 0, 1) := dk_3 (dk_at dksX1_send_0 20 rfl rfl)
theorem dX1_send_21 : decode cX1_send 21 = .ok (.invokestatic 122, 3) := dk_184 0 122 (dk_at dksX1_send_0 21 rfl rfl)
theorem dX1_send_24 : decode cX1_send 24 = .ok (.new 23, 3) := dk_187 0 23 (dk_at dksX1_send_1 0 rfl rfl)
theorem dX1_send_27 : decode cX1_send 27 = .ok (.dup, 1) := dk_89 (dk_at dksX1_send_1 3 rfl rfl)
theorem dX1_send_28 : decode cX1_send 28 = .ok (.aload_n 0, 1) := dk_42 (dk_at dksX1_send_1 4 rfl rfl)
theorem dX1_send_29 : decode cX1_send 29 = .ok (.getfield 26, 3) := dk_180 0 26 (dk_at dksX1_send_1 5 rfl rfl)
theorem dX1_send_32 : decode cX1_send 32 = .ok (.invokespecial 365, 3) := dk_183 1 109 (dk_at dksX1_send_1 8 rfl rfl)
theorem dX1_send_35 : decode cX1_send 35 = .ok (.astore_n 3, 1) := dk_78 (dk_at dksX1_send_1 11 rfl rfl)
theorem dX1_send_36 : decode cX1_send 36 = .ok (.aload_n 0, 1) := dk_42 (dk_at dksX1_send_1 12 rfl rfl)
theorem dX1_send_37 : decode cX1_send 37 = .ok (.getfield 26, 3) := dk_180 0 26 (dk_at dksX1_send_1 13 rfl rfl)
theorem dX1_send_40 : decode cX1_send 40 = .ok (.iconst 0, 1) := dk_3 (dk_at dksX1_send_1 16 rfl rfl)
theorem dX1_send_41 : decode cX1_send 41 = .ok (.invokevirtual 368, 3) := dk_182 1 112 (dk_at dksX1_send_1 17 rfl rfl)
theorem dX1_send_44 : decode cX1_send 44 = .ok (.aload_n 3, 1) := dk_45 (dk_at dksX1_send_1 20 rfl rfl)
theorem dX1_send_45 : decode cX1_send 45 = .ok (.invokestatic 371, 3) := dk_184 1 115 (dk_at dksX1_send_1 21 rfl rfl)
theorem dX1_send_48 : decode cX1_send 48 = .ok (.invokestatic 126, 3) := dk_184 0 126 (dk_at dksX1_send_2 0 rfl rfl)
theorem dX1_send_51 : decode cX1_send 51 = .ok (.aload_n 0, 1) := dk_42 (dk_at dksX1_send_2 3 rfl rfl)
theorem dX1_send_52 : decode cX1_send 52 = .ok (.getfield 10, 3) := dk_180 0 10 (dk_at dksX1_send_2 4 rfl rfl)
theorem dX1_send_55 : decode cX1_send 55 = .ok (.aload_n 0, 1) := dk_42 (dk_at dksX1_send_2 7 rfl rfl)
theorem dX1_send_56 : decode cX1_send 56 = .ok (.iload_n 1, 1) := dk_27 (dk_at dksX1_send_2 8 rfl rfl)
theorem dX1_send_57 : decode cX1_send 57 = .ok (.invokevirtual 189, 3) := dk_182 0 189 (dk_at dksX1_send_2 9 rfl rfl)
theorem dX1_send_60 : decode cX1_send 60 = .ok (.aload_n 0, 1) := dk_42 (dk_at dksX1_send_2 12 rfl rfl)
theorem dX1_send_61 : decode cX1_send 61 = .ok (.iload_n 2, 1) := dk_28 (dk_at dksX1_send_2 13 rfl rfl)
theorem dX1_send_62 : decode cX1_send 62 = .ok (.invokevirtual 189, 3) := dk_182 0 189 (dk_at dksX1_send_2 14 rfl rfl)
theorem dX1_send_65 : decode cX1_send 65 = .ok (.invokevirtual 340, 3) := dk_182 1 84 (dk_at dksX1_send_2 17 rfl rfl)
theorem dX1_send_68 : decode cX1_send 68 = .ok (.astore 4, 2) := dk_58 4 (dk_at dksX1_send_2 20 rfl rfl)
theorem dX1_send_70 : decode cX1_send 70 = .ok (.aload_n 0, 1) := dk_42 (dk_at dksX1_send_2 22 rfl rfl)
theorem dX1_send_71 : decode cX1_send 71 = .ok (.iconst 1, 1) := dk_4 (dk_at dksX1_send_2 23 rfl rfl)
theorem dX1_send_72 : decode cX1_send 72 = .ok (.anewarray 145, 3) := dk_189 0 145 (dk_at dksX1_send_3 0 rfl rfl)
theorem dX1_send_75 : decode cX1_send 75 = .ok (.dup, 1) := dk_89 (dk_at dksX1_send_3 3 rfl rfl)
theorem dX1_send_76 : decode cX1_send 76 = .ok (.iconst 0, 1) := dk_3 (dk_at dksX1_send_3 4 rfl rfl)
theorem dX1_send_77 : decode cX1_send 77 = .ok (.aload 4, 2) := dk_25 4 (dk_at dksX1_send_3 5 rfl rfl)
theorem dX1_send_79 : decode cX1_send 79 = .ok (.invokevirtual 375, 3) := dk_182 1 119 (dk_at dksX1_send_3 7 rfl rfl)
theorem dX1_send_82 : decode cX1_send 82 = .ok (.ifCond .eq 16, 3) := dk_153 0 16 (dk_at dksX1_send_3 10 rfl rfl)
theorem dX1_send_85 : decode cX1_send 85 = .ok (.new 145, 3) := dk_187 0 145 (dk_at dksX1_send_3 13 rfl rfl)
theorem dX1_send_88 : decode cX1_send 88 = .ok (.dup, 1) := dk_89 (dk_at dksX1_send_3 16 rfl rfl)
theorem dX1_send_89 : decode cX1_send 89 = .ok (.bipush 9, 2) := dk_16 9 (dk_at dksX1_send_3 17 rfl rfl)
theorem dX1_send_91 : decode cX1_send 91 = .ok (.iconst 0, 1) := dk_3 (dk_at dksX1_send_3 19 rfl rfl)
theorem dX1_send_92 : decode cX1_send 92 = .ok (.invokespecial 153, 3) := dk_183 0 153 (dk_at dksX1_send_3 20 rfl rfl)
theorem dX1_send_95 : decode cX1_send 95 = .ok (.goto 4, 3) := dk_167 0 4 (dk_at dksX1_send_4 0 rfl rfl)
theorem dX1_send_98 : decode cX1_send 98 = .ok (.aconst_null, 1) := dk_1 (dk_at dksX1_send_4 3 rfl rfl)
theorem dX1_send_99 : decode cX1_send 99 = .ok (.aastore, 1) := dk_83 (dk_at dksX1_send_4 4 rfl rfl)
theorem dX1_send_100 : decode cX1_send 100 = .ok (.invokevirtual 156, 3) := dk_182 0 156 (dk_at dksX1_send_4 5 rfl rfl)
theorem dX1_send_103 : decode cX1_send 103 = .ok (.aload 4, 2) := dk_25 4 (dk_at dksX1_send_4 8 rfl rfl)
theorem dX1_send_105 : decode cX1_send 105 = .ok (.invokevirtual 108, 3) := dk_182 0 108 (dk_at dksX1_send_4 10 rfl rfl)
theorem dX1_send_108 : decode cX1_send 108 = .ok (.checkcast 116, 3) := dk_192 0 116 (dk_at dksX1_send_4 13 rfl rfl)
theorem dX1_send_111 : decode cX1_send 111 = .ok (.astore 5, 2) := dk_58 5 (dk_at dksX1_send_4 16 rfl rfl)
theorem dX1_send_113 : decode cX1_send 113 = .ok (.aload 4, 2) := dk_25 4 (dk_at dksX1_send_4 18 rfl rfl)
theorem dX1_send_115 : decode cX1_send 115 = .ok (.invokevirtual 375, 3) := dk_182 1 119 (dk_at dksX1_send_4 20 rfl rfl)
theorem dX1_send_118 : decode cX1_send 118 = .ok (.ifCond .ne 29, 3) := dk_154 0 29 (dk_at dksX1_send_5 0 rfl rfl)
theorem dX1_send_121 : decode cX1_send 121 = .ok (.aload 4, 2) := dk_25 4 (dk_at dksX1_send_5 3 rfl rfl)
theorem dX1_send_123 : decode cX1_send 123 = .ok (.invokevirtual 108, 3) := dk_182 0 108 (dk_at dksX1_send_5 5 rfl rfl)
theorem dX1_send_126 : decode cX1_send 126 = .ok (.checkcast 116, 3) := dk_192 0 116 (dk_at dksX1_send_5 8 rfl rfl)
theorem dX1_send_129 : decode cX1_send 129 = .ok (.astore 6, 2) := dk_58 6 (dk_at dksX1_send_5 11 rfl rfl)
theorem dX1_send_131 : decode cX1_send 131 = .ok (.aload_n 0, 1) := dk_42 (dk_at dksX1_send_5 13 rfl rfl)
theorem dX1_send_132 : decode cX1_send 132 = .ok (.aload_n 3, 1) := dk_45 (dk_at dksX1_send_5 14 rfl rfl)
theorem dX1_send_133 : decode cX1_send 133 = .ok (.aload 5, 2) := dk_25 5 (dk_at dksX1_send_5 15 rfl rfl)
theorem dX1_send_135 : decode cX1_send 135 = .ok (.aload 6, 2) := dk_25 6 (dk_at dksX1_send_5 17 rfl rfl)
theorem dX1_send_137 : decode cX1_send 137 = .ok (.invokevirtual 378, 3) := dk_182 1 122 (dk_at dksX1_send_5 19 rfl rfl)
theorem dX1_send_140 : decode cX1_send 140 = .ok (.aload 6, 2) := dk_25 6 (dk_at dksX1_send_5 22 rfl rfl)
theorem dX1_send_142 : decode cX1_send 142 = .ok (.astore 5, 2) := dk_58 5 (dk_at dksX1_send_6 0 rfl rfl)
theorem dX1_send_144 : decode cX1_send 144 = .ok (.goto (-31), 3) := dk_167 255 225 (dk_at dksX1_send_6 2 rfl rfl)
theorem dX1_send_147 : decode cX1_send 147 = .ok (.aload_n 0, 1) := dk_42 (dk_at dksX1_send_6 5 rfl rfl)
theorem dX1_send_148 : decode cX1_send 148 = .ok (.getfield 30, 3) := dk_180 0 30 (dk_at dksX1_send_6 6 rfl rfl)
theorem dX1_send_151 : decode cX1_send 151 = .ok (.iconst 0, 1) := dk_3 (dk_at dksX1_send_6 9 rfl rfl)
theorem dX1_send_152 : decode cX1_send 152 = .ok (.invokevirtual 368, 3) := dk_182 1 112 (dk_at dksX1_send_6 10 rfl rfl)
theorem dX1_send_155 : decode cX1_send 155 = .ok (.aload_n 0, 1) := dk_42 (dk_at dksX1_send_6 13 rfl rfl)
theorem dX1_send_156 : decode cX1_send 156 = .ok (.getfield 30, 3) := dk_180 0 30 (dk_at dksX1_send_6 14 rfl rfl)
theorem dX1_send_159 : decode cX1_send 159 = .ok (.aload_n 3, 1) := dk_45 (dk_at dksX1_send_6 17 rfl rfl)
theorem dX1_send_160 : decode cX1_send 160 = .ok (.invokevirtual 382, 3) := dk_182 1 126 (dk_at dksX1_send_6 18 rfl rfl)
theorem dX1_send_163 : decode cX1_send 163 = .ok (.pop, 1) := dk_87 (dk_at dksX1_send_6 21 rfl rfl)
theorem dX1_send_164 : decode cX1_send 164 = .ok (.aload_n 0, 1) := dk_42 (dk_at dksX1_send_6 22 rfl rfl)
theorem dX1_send_165 : decode cX1_send 165 = .ok (.iconst 1, 1) := dk_4 (dk_at dksX1_send_6 23 rfl rfl)
theorem dX1_send_166 : decode cX1_send 166 = .ok (.putfield 385, 3) := dk_181 1 129 (dk_at dksX1_send_7 0 rfl rfl)
theorem dX1_send_169 : decode cX1_send 169 = .ok (.aload_n 0, 1) := dk_42 (dk_at dksX1_send_7 3 rfl rfl)
theorem dX1_send_170 : decode cX1_send 170 = .ok (.getfield 30, 3) := dk_180 0 30 (dk_at dksX1_send_7 4 rfl rfl)
theorem dX1_send_173 : decode cX1_send 173 = .ok (.invokestatic 388, 3) := dk_184 1 132 (dk_at dksX1_send_7 7 rfl rfl)
theorem dX1_send_176 : decode cX1_send 176 = .ok (.ireturn, 1) := dk_172 (dk_at dksX1_send_7 10 rfl rfl)
abbrev cX1_isWord : ByteArray := prog_1_method_43_code
def yX1_isWord : MethodName := ⟨RX1, "isWord", "(Ljava/lang/CharSequence;)Z"⟩
def dkwX1_isWord_2 : List UInt8 := [184, 0, 85, 172]
abbrev dktX1_isWord_2 : List UInt8 := dkwX1_isWord_2 ++ []
def dkwX1_isWord_1 : List UInt8 := [184, 0, 85, 154, 0, 5, 3, 172, 132, 1, 1, 167, 255, 224, 42, 185, 1, 94, 1, 0, 4, 16, 24]
abbrev dktX1_isWord_1 : List UInt8 := dkwX1_isWord_1 ++ dktX1_isWord_2
def dkwX1_isWord_0 : List UInt8 := [3, 60, 27, 42, 185, 1, 94, 1, 0, 162, 0, 28, 42, 27, 185, 1, 97, 2, 0, 16, 97, 16, 122]
abbrev dktX1_isWord_0 : List UInt8 := dkwX1_isWord_0 ++ dktX1_isWord_1
theorem dksX1_isWord_0 : cX1_isWord.data.toList.drop 0 = dktX1_isWord_0 := by decide +kernel
theorem dksX1_isWord_1 : cX1_isWord.data.toList.drop 23 = dktX1_isWord_1 := dk_seg dksX1_isWord_0 23 rfl rfl
theorem dksX1_isWord_2 : cX1_isWord.data.toList.drop 46 = dktX1_isWord_2 := dk_seg dksX1_isWord_1 23 rfl rfl
theorem dX1_isWord_0 : decode cX1_isWord 0 = .ok (.iconst 0, 1) := dk_3 (dk_at dksX1_isWord_0 0 rfl rfl)
theorem dX1_isWord_1 : decode cX1_isWord 1 = .ok (.istore_n 1, 1) := dk_60 (dk_at dksX1_isWord_0 1 rfl rfl)
theorem dX1_isWord_2 : decode cX1_isWord 2 = .ok (.iload_n 1, 1) := dk_27 (dk_at dksX1_isWord_0 2 rfl rfl)
theorem dX1_isWord_3 : decode cX1_isWord 3 = .ok (.aload_n 0, 1) := dk_42 (dk_at dksX1_isWord_0 3 rfl rfl)
theorem dX1_isWord_4 : decode cX1_isWord 4 = .ok (.invokeinterface 350 1, 5) := by decide +kernel
theorem dX1_isWord_9 : decode cX1_isWord 9 = .ok (.if_icmp .ge 28, 3) := dk_162 0 28 (dk_at dksX1_isWord_0 9 rfl rfl)
theorem dX1_isWord_12 : decode cX1_isWord 12 = .ok (.aload_n 0, 1) := dk_42 (dk_at dksX1_isWord_0 12 rfl rfl)
theorem dX1_isWord_13 : decode cX1_isWord 13 = .ok (.iload_n 1, 1) := dk_27 (dk_at dksX1_isWord_0 13 rfl rfl)
theorem dX1_isWord_14 : decode cX1_isWord 14 = .ok (.invokeinterface 353 2, 5) := by decide +kernel
theorem dX1_isWord_19 : decode cX1_isWord 19 = .ok (.bipush 97, 2) := dk_16 97 (dk_at dksX1_isWord_0 19 rfl rfl)
theorem dX1_isWord_21 : decode cX1_isWord 21 = .ok (.bipush 122, 2) := dk_16 122 (dk_at dksX1_isWord_0 21 rfl rfl)
theorem dX1_isWord_23 : decode cX1_isWord 23 = .ok (.invokestatic 85, 3) := dk_184 0 85 (dk_at dksX1_isWord_1 0 rfl rfl)
theorem dX1_isWord_26 : decode cX1_isWord 26 = .ok (.ifCond .ne 5, 3) := dk_154 0 5 (dk_at dksX1_isWord_1 3 rfl rfl)
theorem dX1_isWord_29 : decode cX1_isWord 29 = .ok (.iconst 0, 1) := dk_3 (dk_at dksX1_isWord_1 6 rfl rfl)
theorem dX1_isWord_30 : decode cX1_isWord 30 = .ok (.ireturn, 1) := dk_172 (dk_at dksX1_isWord_1 7 rfl rfl)
theorem dX1_isWord_31 : decode cX1_isWord 31 = .ok (.iinc 1 1, 3) := dk_132 1 1 (dk_at dksX1_isWord_1 8 rfl rfl)
theorem dX1_isWord_34 : decode cX1_isWord 34 = .ok (.goto (-32), 3) := dk_167 255 224 (dk_at dksX1_isWord_1 11 rfl rfl)
theorem dX1_isWord_37 : decode cX1_isWord 37 = .ok (.aload_n 0, 1) := dk_42 (dk_at dksX1_isWord_1 14 rfl rfl)
theorem dX1_isWord_38 : decode cX1_isWord 38 = .ok (.invokeinterface 350 1, 5) := by decide +kernel
theorem dX1_isWord_43 : decode cX1_isWord 43 = .ok (.iconst 1, 1) := dk_4 (dk_at dksX1_isWord_1 20 rfl rfl)
theorem dX1_isWord_44 : decode cX1_isWord 44 = .ok (.bipush 24, 2) := dk_16 24 (dk_at dksX1_isWord_1 21 rfl rfl)
theorem dX1_isWord_46 : decode cX1_isWord 46 = .ok (.invokestatic 85, 3) := dk_184 0 85 (dk_at dksX1_isWord_2 0 rfl rfl)
theorem dX1_isWord_49 : decode cX1_isWord 49 = .ok (.ireturn, 1) := dk_172 (dk_at dksX1_isWord_2 3 rfl rfl)
abbrev cX1_signal : ByteArray := prog_1_method_44_code
def yX1_signal : MethodName := ⟨RX1, "signal", "(Ljava/lang/StringBuilder;LSkerryLights$Tower;LSkerryLights$Tower;)V"⟩
def dkwX1_signal_3 : List UInt8 := [182, 1, 105, 21, 6, 21, 4, 5, 96, 96, 54, 6, 167, 255, 205, 177]
abbrev dktX1_signal_3 : List UInt8 := dkwX1_signal_3 ++ []
def dkwX1_signal_2 : List UInt8 := [16, 63, 160, 0, 6, 167, 0, 22, 21, 5, 158, 0, 9, 132, 5, 255, 167, 0, 11, 43, 21, 6, 16, 63]
abbrev dktX1_signal_2 : List UInt8 := dkwX1_signal_2 ++ dktX1_signal_3
def dkwX1_signal_1 : List UInt8 := [54, 5, 21, 4, 4, 96, 54, 6, 21, 6, 43, 182, 1, 89, 162, 0, 48, 43, 21, 6, 182, 1, 104]
abbrev dktX1_signal_1 : List UInt8 := dkwX1_signal_1 ++ dktX1_signal_2
def dkwX1_signal_0 : List UInt8 := [42, 180, 0, 10, 44, 45, 182, 1, 72, 54, 4, 21, 4, 16, 10, 161, 0, 4, 177, 45, 180, 1, 101]
abbrev dktX1_signal_0 : List UInt8 := dkwX1_signal_0 ++ dktX1_signal_1
theorem dksX1_signal_0 : cX1_signal.data.toList.drop 0 = dktX1_signal_0 := by decide +kernel
theorem dksX1_signal_1 : cX1_signal.data.toList.drop 23 = dktX1_signal_1 := dk_seg dksX1_signal_0 23 rfl rfl
theorem dksX1_signal_2 : cX1_signal.data.toList.drop 46 = dktX1_signal_2 := dk_seg dksX1_signal_1 23 rfl rfl
theorem dksX1_signal_3 : cX1_signal.data.toList.drop 70 = dktX1_signal_3 := dk_seg dksX1_signal_2 24 rfl rfl
theorem dX1_signal_0 : decode cX1_signal 0 = .ok (.aload_n 0, 1) := dk_42 (dk_at dksX1_signal_0 0 rfl rfl)
theorem dX1_signal_1 : decode cX1_signal 1 = .ok (.getfield 10, 3) := dk_180 0 10 (dk_at dksX1_signal_0 1 rfl rfl)
theorem dX1_signal_4 : decode cX1_signal 4 = .ok (.aload_n 2, 1) := dk_44 (dk_at dksX1_signal_0 4 rfl rfl)
theorem dX1_signal_5 : decode cX1_signal 5 = .ok (.aload_n 3, 1) := dk_45 (dk_at dksX1_signal_0 5 rfl rfl)
theorem dX1_signal_6 : decode cX1_signal 6 = .ok (.invokevirtual 328, 3) := dk_182 1 72 (dk_at dksX1_signal_0 6 rfl rfl)
theorem dX1_signal_9 : decode cX1_signal 9 = .ok (.istore 4, 2) := dk_54 4 (dk_at dksX1_signal_0 9 rfl rfl)
theorem dX1_signal_11 : decode cX1_signal 11 = .ok (.iload 4, 2) := dk_21 4 (dk_at dksX1_signal_0 11 rfl rfl)
theorem dX1_signal_13 : decode cX1_signal 13 = .ok (.bipush 10, 2) := dk_16 10 (dk_at dksX1_signal_0 13 rfl rfl)
theorem dX1_signal_15 : decode cX1_signal 15 = .ok (.if_icmp .lt 4, 3) := dk_161 0 4 (dk_at dksX1_signal_0 15 rfl rfl)
theorem dX1_signal_18 : decode cX1_signal 18 = .ok (.return_, 1) := dk_177 (dk_at dksX1_signal_0 18 rfl rfl)
theorem dX1_signal_19 : decode cX1_signal 19 = .ok (.aload_n 3, 1) := dk_45 (dk_at dksX1_signal_0 19 rfl rfl)
theorem dX1_signal_20 : decode cX1_signal 20 = .ok (.getfield 357, 3) := dk_180 1 101 (dk_at dksX1_signal_0 20 rfl rfl)
theorem dX1_signal_23 : decode cX1_signal 23 = .ok (.istore 5, 2) := dk_54 5 (dk_at dksX1_signal_1 0 rfl rfl)
theorem dX1_signal_25 : decode cX1_signal 25 = .ok (.iload 4, 2) := dk_21 4 (dk_at dksX1_signal_1 2 rfl rfl)
theorem dX1_signal_27 : decode cX1_signal 27 = .ok (.iconst 1, 1) := dk_4 (dk_at dksX1_signal_1 4 rfl rfl)
theorem dX1_signal_28 : decode cX1_signal 28 = .ok (.iadd, 1) := dk_96 (dk_at dksX1_signal_1 5 rfl rfl)
theorem dX1_signal_29 : decode cX1_signal 29 = .ok (.istore 6, 2) := dk_54 6 (dk_at dksX1_signal_1 6 rfl rfl)
theorem dX1_signal_31 : decode cX1_signal 31 = .ok (.iload 6, 2) := dk_21 6 (dk_at dksX1_signal_1 8 rfl rfl)
theorem dX1_signal_33 : decode cX1_signal 33 = .ok (.aload_n 1, 1) := dk_43 (dk_at dksX1_signal_1 10 rfl rfl)
theorem dX1_signal_34 : decode cX1_signal 34 = .ok (.invokevirtual 345, 3) := dk_182 1 89 (dk_at dksX1_signal_1 11 rfl rfl)
theorem dX1_signal_37 : decode cX1_signal 37 = .ok (.if_icmp .ge 48, 3) := dk_162 0 48 (dk_at dksX1_signal_1 14 rfl rfl)
theorem dX1_signal_40 : decode cX1_signal 40 = .ok (.aload_n 1, 1) := dk_43 (dk_at dksX1_signal_1 17 rfl rfl)
theorem dX1_signal_41 : decode cX1_signal 41 = .ok (.iload 6, 2) := dk_21 6 (dk_at dksX1_signal_1 18 rfl rfl)
theorem dX1_signal_43 : decode cX1_signal 43 = .ok (.invokevirtual 360, 3) := dk_182 1 104 (dk_at dksX1_signal_1 20 rfl rfl)
theorem dX1_signal_46 : decode cX1_signal 46 = .ok (.bipush 63, 2) := dk_16 63 (dk_at dksX1_signal_2 0 rfl rfl)
theorem dX1_signal_48 : decode cX1_signal 48 = .ok (.if_icmp .ne 6, 3) := dk_160 0 6 (dk_at dksX1_signal_2 2 rfl rfl)
theorem dX1_signal_51 : decode cX1_signal 51 = .ok (.goto 22, 3) := dk_167 0 22 (dk_at dksX1_signal_2 5 rfl rfl)
theorem dX1_signal_54 : decode cX1_signal 54 = .ok (.iload 5, 2) := dk_21 5 (dk_at dksX1_signal_2 8 rfl rfl)
theorem dX1_signal_56 : decode cX1_signal 56 = .ok (.ifCond .le 9, 3) := dk_158 0 9 (dk_at dksX1_signal_2 10 rfl rfl)
theorem dX1_signal_59 : decode cX1_signal 59 = .ok (.iinc 5 (-1), 3) := dk_132 5 255 (dk_at dksX1_signal_2 13 rfl rfl)
theorem dX1_signal_62 : decode cX1_signal 62 = .ok (.goto 11, 3) := dk_167 0 11 (dk_at dksX1_signal_2 16 rfl rfl)
theorem dX1_signal_65 : decode cX1_signal 65 = .ok (.aload_n 1, 1) := dk_43 (dk_at dksX1_signal_2 19 rfl rfl)
theorem dX1_signal_66 : decode cX1_signal 66 = .ok (.iload 6, 2) := dk_21 6 (dk_at dksX1_signal_2 20 rfl rfl)
theorem dX1_signal_68 : decode cX1_signal 68 = .ok (.bipush 63, 2) := dk_16 63 (dk_at dksX1_signal_2 22 rfl rfl)
theorem dX1_signal_70 : decode cX1_signal 70 = .ok (.invokevirtual 361, 3) := dk_182 1 105 (dk_at dksX1_signal_3 0 rfl rfl)
theorem dX1_signal_73 : decode cX1_signal 73 = .ok (.iload 6, 2) := dk_21 6 (dk_at dksX1_signal_3 3 rfl rfl)
theorem dX1_signal_75 : decode cX1_signal 75 = .ok (.iload 4, 2) := dk_21 4 (dk_at dksX1_signal_3 5 rfl rfl)
theorem dX1_signal_77 : decode cX1_signal 77 = .ok (.iconst 2, 1) := dk_5 (dk_at dksX1_signal_3 7 rfl rfl)
theorem dX1_signal_78 : decode cX1_signal 78 = .ok (.iadd, 1) := dk_96 (dk_at dksX1_signal_3 8 rfl rfl)
theorem dX1_signal_79 : decode cX1_signal 79 = .ok (.iadd, 1) := dk_96 (dk_at dksX1_signal_3 9 rfl rfl)
theorem dX1_signal_80 : decode cX1_signal 80 = .ok (.istore 6, 2) := dk_54 6 (dk_at dksX1_signal_3 10 rfl rfl)
theorem dX1_signal_82 : decode cX1_signal 82 = .ok (.goto (-51), 3) := dk_167 255 205 (dk_at dksX1_signal_3 12 rfl rfl)
theorem dX1_signal_85 : decode cX1_signal 85 = .ok (.return_, 1) := dk_177 (dk_at dksX1_signal_3 15 rfl rfl)
abbrev cX1_lostOf : ByteArray := prog_1_method_45_code
def yX1_lostOf : MethodName := ⟨RX1, "lostOf", "(Ljava/lang/CharSequence;)I"⟩
def dkwX1_lostOf_1 : List UInt8 := [160, 0, 7, 4, 167, 0, 4, 3, 96, 60, 132, 2, 1, 167, 255, 223, 27, 172]
abbrev dktX1_lostOf_1 : List UInt8 := dkwX1_lostOf_1 ++ []
def dkwX1_lostOf_0 : List UInt8 := [3, 60, 3, 61, 28, 42, 185, 1, 94, 1, 0, 162, 0, 29, 27, 42, 28, 185, 1, 97, 2, 0, 16, 63]
abbrev dktX1_lostOf_0 : List UInt8 := dkwX1_lostOf_0 ++ dktX1_lostOf_1
theorem dksX1_lostOf_0 : cX1_lostOf.data.toList.drop 0 = dktX1_lostOf_0 := by decide +kernel
theorem dksX1_lostOf_1 : cX1_lostOf.data.toList.drop 24 = dktX1_lostOf_1 := dk_seg dksX1_lostOf_0 24 rfl rfl
theorem dX1_lostOf_0 : decode cX1_lostOf 0 = .ok (.iconst 0, 1) := dk_3 (dk_at dksX1_lostOf_0 0 rfl rfl)
theorem dX1_lostOf_1 : decode cX1_lostOf 1 = .ok (.istore_n 1, 1) := dk_60 (dk_at dksX1_lostOf_0 1 rfl rfl)
theorem dX1_lostOf_2 : decode cX1_lostOf 2 = .ok (.iconst 0, 1) := dk_3 (dk_at dksX1_lostOf_0 2 rfl rfl)
theorem dX1_lostOf_3 : decode cX1_lostOf 3 = .ok (.istore_n 2, 1) := dk_61 (dk_at dksX1_lostOf_0 3 rfl rfl)
theorem dX1_lostOf_4 : decode cX1_lostOf 4 = .ok (.iload_n 2, 1) := dk_28 (dk_at dksX1_lostOf_0 4 rfl rfl)
theorem dX1_lostOf_5 : decode cX1_lostOf 5 = .ok (.aload_n 0, 1) := dk_42 (dk_at dksX1_lostOf_0 5 rfl rfl)
theorem dX1_lostOf_6 : decode cX1_lostOf 6 = .ok (.invokeinterface 350 1, 5) := by decide +kernel
theorem dX1_lostOf_11 : decode cX1_lostOf 11 = .ok (.if_icmp .ge 29, 3) := dk_162 0 29 (dk_at dksX1_lostOf_0 11 rfl rfl)
theorem dX1_lostOf_14 : decode cX1_lostOf 14 = .ok (.iload_n 1, 1) := dk_27 (dk_at dksX1_lostOf_0 14 rfl rfl)
theorem dX1_lostOf_15 : decode cX1_lostOf 15 = .ok (.aload_n 0, 1) := dk_42 (dk_at dksX1_lostOf_0 15 rfl rfl)
theorem dX1_lostOf_16 : decode cX1_lostOf 16 = .ok (.iload_n 2, 1) := dk_28 (dk_at dksX1_lostOf_0 16 rfl rfl)
theorem dX1_lostOf_17 : decode cX1_lostOf 17 = .ok (.invokeinterface 353 2, 5) := by decide +kernel
theorem dX1_lostOf_22 : decode cX1_lostOf 22 = .ok (.bipush 63, 2) := dk_16 63 (dk_at dksX1_lostOf_0 22 rfl rfl)
theorem dX1_lostOf_24 : decode cX1_lostOf 24 = .ok (.if_icmp .ne 7, 3) := dk_160 0 7 (dk_at dksX1_lostOf_1 0 rfl rfl)
theorem dX1_lostOf_27 : decode cX1_lostOf 27 = .ok (.iconst 1, 1) := dk_4 (dk_at dksX1_lostOf_1 3 rfl rfl)
theorem dX1_lostOf_28 : decode cX1_lostOf 28 = .ok (.goto 4, 3) := dk_167 0 4 (dk_at dksX1_lostOf_1 4 rfl rfl)
theorem dX1_lostOf_31 : decode cX1_lostOf 31 = .ok (.iconst 0, 1) := dk_3 (dk_at dksX1_lostOf_1 7 rfl rfl)
theorem dX1_lostOf_32 : decode cX1_lostOf 32 = .ok (.iadd, 1) := dk_96 (dk_at dksX1_lostOf_1 8 rfl rfl)
theorem dX1_lostOf_33 : decode cX1_lostOf 33 = .ok (.istore_n 1, 1) := dk_60 (dk_at dksX1_lostOf_1 9 rfl rfl)
theorem dX1_lostOf_34 : decode cX1_lostOf 34 = .ok (.iinc 2 1, 3) := dk_132 2 1 (dk_at dksX1_lostOf_1 10 rfl rfl)
theorem dX1_lostOf_37 : decode cX1_lostOf 37 = .ok (.goto (-33), 3) := dk_167 255 223 (dk_at dksX1_lostOf_1 13 rfl rfl)
theorem dX1_lostOf_40 : decode cX1_lostOf 40 = .ok (.iload_n 1, 1) := dk_27 (dk_at dksX1_lostOf_1 16 rfl rfl)
theorem dX1_lostOf_41 : decode cX1_lostOf 41 = .ok (.ireturn, 1) := dk_172 (dk_at dksX1_lostOf_1 17 rfl rfl)
abbrev cX1_letter : ByteArray := prog_1_method_47_code
def yX1_letter : MethodName := ⟨RX1, "letter", "(I)C"⟩
def dkwX1_letter_1 : List UInt8 := [182, 1, 104, 172]
abbrev dktX1_letter_1 : List UInt8 := dkwX1_letter_1 ++ []
def dkwX1_letter_0 : List UInt8 := [27, 3, 42, 180, 0, 30, 182, 1, 89, 4, 100, 184, 0, 85, 184, 0, 122, 42, 180, 0, 30, 27]
abbrev dktX1_letter_0 : List UInt8 := dkwX1_letter_0 ++ dktX1_letter_1
theorem dksX1_letter_0 : cX1_letter.data.toList.drop 0 = dktX1_letter_0 := by decide +kernel
theorem dksX1_letter_1 : cX1_letter.data.toList.drop 22 = dktX1_letter_1 := dk_seg dksX1_letter_0 22 rfl rfl
theorem dX1_letter_0 : decode cX1_letter 0 = .ok (.iload_n 1, 1) := dk_27 (dk_at dksX1_letter_0 0 rfl rfl)
theorem dX1_letter_1 : decode cX1_letter 1 = .ok (.iconst 0, 1) := dk_3 (dk_at dksX1_letter_0 1 rfl rfl)
theorem dX1_letter_2 : decode cX1_letter 2 = .ok (.aload_n 0, 1) := dk_42 (dk_at dksX1_letter_0 2 rfl rfl)
theorem dX1_letter_3 : decode cX1_letter 3 = .ok (.getfield 30, 3) := dk_180 0 30 (dk_at dksX1_letter_0 3 rfl rfl)
theorem dX1_letter_6 : decode cX1_letter 6 = .ok (.invokevirtual 345, 3) := dk_182 1 89 (dk_at dksX1_letter_0 6 rfl rfl)
theorem dX1_letter_9 : decode cX1_letter 9 = .ok (.iconst 1, 1) := dk_4 (dk_at dksX1_letter_0 9 rfl rfl)
theorem dX1_letter_10 : decode cX1_letter 10 = .ok (.isub, 1) := dk_100 (dk_at dksX1_letter_0 10 rfl rfl)
theorem dX1_letter_11 : decode cX1_letter 11 = .ok (.invokestatic 85, 3) := dk_184 0 85 (dk_at dksX1_letter_0 11 rfl rfl)
theorem dX1_letter_14 : decode cX1_letter 14 = .ok (.invokestatic 122, 3) := dk_184 0 122 (dk_at dksX1_letter_0 14 rfl rfl)
theorem dX1_letter_17 : decode cX1_letter 17 = .ok (.aload_n 0, 1) := dk_42 (dk_at dksX1_letter_0 17 rfl rfl)
theorem dX1_letter_18 : decode cX1_letter 18 = .ok (.getfield 30, 3) := dk_180 0 30 (dk_at dksX1_letter_0 18 rfl rfl)
theorem dX1_letter_21 : decode cX1_letter 21 = .ok (.iload_n 1, 1) := dk_27 (dk_at dksX1_letter_0 21 rfl rfl)
theorem dX1_letter_22 : decode cX1_letter 22 = .ok (.invokevirtual 360, 3) := dk_182 1 104 (dk_at dksX1_letter_1 0 rfl rfl)
theorem dX1_letter_25 : decode cX1_letter 25 = .ok (.ireturn, 1) := dk_172 (dk_at dksX1_letter_1 3 rfl rfl)
abbrev cX1_isWhole : ByteArray := prog_1_method_48_code
def yX1_isWhole : MethodName := ⟨RX1, "isWhole", "()Z"⟩
def dkwX1_isWhole_0 : List UInt8 := [42, 180, 1, 129, 184, 1, 30, 42, 180, 0, 30, 184, 1, 132, 154, 0, 7, 4, 167, 0, 4, 3, 172]
abbrev dktX1_isWhole_0 : List UInt8 := dkwX1_isWhole_0 ++ []
theorem dksX1_isWhole_0 : cX1_isWhole.data.toList.drop 0 = dktX1_isWhole_0 := by decide +kernel
theorem dX1_isWhole_0 : decode cX1_isWhole 0 = .ok (.aload_n 0, 1) := dk_42 (dk_at dksX1_isWhole_0 0 rfl rfl)
theorem dX1_isWhole_1 : decode cX1_isWhole 1 = .ok (.getfield 385, 3) := dk_180 1 129 (dk_at dksX1_isWhole_0 1 rfl rfl)
theorem dX1_isWhole_4 : decode cX1_isWhole 4 = .ok (.invokestatic 286, 3) := dk_184 1 30 (dk_at dksX1_isWhole_0 4 rfl rfl)
theorem dX1_isWhole_7 : decode cX1_isWhole 7 = .ok (.aload_n 0, 1) := dk_42 (dk_at dksX1_isWhole_0 7 rfl rfl)
theorem dX1_isWhole_8 : decode cX1_isWhole 8 = .ok (.getfield 30, 3) := dk_180 0 30 (dk_at dksX1_isWhole_0 8 rfl rfl)
theorem dX1_isWhole_11 : decode cX1_isWhole 11 = .ok (.invokestatic 388, 3) := dk_184 1 132 (dk_at dksX1_isWhole_0 11 rfl rfl)
theorem dX1_isWhole_14 : decode cX1_isWhole 14 = .ok (.ifCond .ne 7, 3) := dk_154 0 7 (dk_at dksX1_isWhole_0 14 rfl rfl)
theorem dX1_isWhole_17 : decode cX1_isWhole 17 = .ok (.iconst 1, 1) := dk_4 (dk_at dksX1_isWhole_0 17 rfl rfl)
theorem dX1_isWhole_18 : decode cX1_isWhole 18 = .ok (.goto 4, 3) := dk_167 0 4 (dk_at dksX1_isWhole_0 18 rfl rfl)
theorem dX1_isWhole_21 : decode cX1_isWhole 21 = .ok (.iconst 0, 1) := dk_3 (dk_at dksX1_isWhole_0 21 rfl rfl)
theorem dX1_isWhole_22 : decode cX1_isWhole 22 = .ok (.ireturn, 1) := dk_172 (dk_at dksX1_isWhole_0 22 rfl rfl)
abbrev cX1_read : ByteArray := prog_1_method_52_code
def yX1_read : MethodName := ⟨RX1, "read", "()I"⟩
def dkwX1_read_6 : List UInt8 := [182, 0, 160, 42, 44, 181, 0, 10, 29, 172]
abbrev dktX1_read_6 : List UInt8 := dkwX1_read_6 ++ []
def dkwX1_read_5 : List UInt8 := [183, 0, 153, 83, 89, 4, 25, 6, 83, 182, 0, 156, 44, 182, 0, 205, 87, 132, 3, 1, 167, 255, 187, 42]
abbrev dktX1_read_5 : List UInt8 := dkwX1_read_5 ++ dktX1_read_6
def dkwX1_read_4 : List UInt8 := [184, 1, 171, 58, 6, 25, 6, 198, 0, 29, 42, 5, 189, 0, 145, 89, 3, 187, 0, 145, 89, 16, 10, 29]
abbrev dktX1_read_4 : List UInt8 := dkwX1_read_4 ++ dktX1_read_5
def dkwX1_read_3 : List UInt8 := [185, 0, 136, 1, 0, 153, 0, 65, 25, 4, 185, 0, 142, 1, 0, 192, 1, 137, 58, 5, 44, 25, 5]
abbrev dktX1_read_3 : List UInt8 := dkwX1_read_3 ++ dktX1_read_4
def dkwX1_read_2 : List UInt8 := [180, 0, 10, 182, 0, 99, 77, 3, 62, 43, 180, 1, 168, 182, 1, 6, 58, 4, 25, 4]
abbrev dktX1_read_2 : List UInt8 := dkwX1_read_2 ++ dktX1_read_3
def dkwX1_read_1 : List UInt8 := [180, 1, 163, 153, 0, 19, 42, 43, 180, 1, 166, 181, 0, 33, 187, 0, 66, 89, 183, 0, 68, 191, 42]
abbrev dktX1_read_1 : List UInt8 := dkwX1_read_1 ++ dktX1_read_2
def dkwX1_read_0 : List UInt8 := [187, 1, 156, 89, 42, 180, 0, 26, 182, 1, 158, 183, 1, 162, 76, 42, 180, 0, 26, 3, 182, 1, 112, 43]
abbrev dktX1_read_0 : List UInt8 := dkwX1_read_0 ++ dktX1_read_1
theorem dksX1_read_0 : cX1_read.data.toList.drop 0 = dktX1_read_0 := by decide +kernel
theorem dksX1_read_1 : cX1_read.data.toList.drop 24 = dktX1_read_1 := dk_seg dksX1_read_0 24 rfl rfl
theorem dksX1_read_2 : cX1_read.data.toList.drop 47 = dktX1_read_2 := dk_seg dksX1_read_1 23 rfl rfl
theorem dksX1_read_3 : cX1_read.data.toList.drop 67 = dktX1_read_3 := dk_seg dksX1_read_2 20 rfl rfl
theorem dksX1_read_4 : cX1_read.data.toList.drop 90 = dktX1_read_4 := dk_seg dksX1_read_3 23 rfl rfl
theorem dksX1_read_5 : cX1_read.data.toList.drop 114 = dktX1_read_5 := dk_seg dksX1_read_4 24 rfl rfl
theorem dksX1_read_6 : cX1_read.data.toList.drop 138 = dktX1_read_6 := dk_seg dksX1_read_5 24 rfl rfl
theorem dX1_read_0 : decode cX1_read 0 = .ok (.new 412, 3) := dk_187 1 156 (dk_at dksX1_read_0 0 rfl rfl)
theorem dX1_read_3 : decode cX1_read 3 = .ok (.dup, 1) := dk_89 (dk_at dksX1_read_0 3 rfl rfl)
theorem dX1_read_4 : decode cX1_read 4 = .ok (.aload_n 0, 1) := dk_42 (dk_at dksX1_read_0 4 rfl rfl)
theorem dX1_read_5 : decode cX1_read 5 = .ok (.getfield 26, 3) := dk_180 0 26 (dk_at dksX1_read_0 5 rfl rfl)
theorem dX1_read_8 : decode cX1_read 8 = .ok (.invokevirtual 414, 3) := dk_182 1 158 (dk_at dksX1_read_0 8 rfl rfl)
theorem dX1_read_11 : decode cX1_read 11 = .ok (.invokespecial 418, 3) := dk_183 1 162 (dk_at dksX1_read_0 11 rfl rfl)
theorem dX1_read_14 : decode cX1_read 14 = .ok (.astore_n 1, 1) := dk_76 (dk_at dksX1_read_0 14 rfl rfl)
theorem dX1_read_15 : decode cX1_read 15 = .ok (.aload_n 0, 1) := dk_42 (dk_at dksX1_read_0 15 rfl rfl)
theorem dX1_read_16 : decode cX1_read 16 = .ok (.getfield 26, 3) := dk_180 0 26 (dk_at dksX1_read_0 16 rfl rfl)
theorem dX1_read_19 : decode cX1_read 19 = .ok (.iconst 0, 1) := dk_3 (dk_at dksX1_read_0 19 rfl rfl)
theorem dX1_read_20 : decode cX1_read 20 = .ok (.invokevirtual 368, 3) := dk_182 1 112 (dk_at dksX1_read_0 20 rfl rfl)
theorem dX1_read_23 : decode cX1_read 23 = .ok (.aload_n 1, 1) := dk_43 (dk_at dksX1_read_0 23 rfl rfl)
theorem dX1_read_24 : decode cX1_read 24 = .ok (.getfield 419, 3) := dk_180 1 163 (dk_at dksX1_read_1 0 rfl rfl)
theorem dX1_read_27 : decode cX1_read 27 = .ok (.ifCond .eq 19, 3) := dk_153 0 19 (dk_at dksX1_read_1 3 rfl rfl)
theorem dX1_read_30 : decode cX1_read 30 = .ok (.aload_n 0, 1) := dk_42 (dk_at dksX1_read_1 6 rfl rfl)
theorem dX1_read_31 : decode cX1_read 31 = .ok (.aload_n 1, 1) := dk_43 (dk_at dksX1_read_1 7 rfl rfl)
theorem dX1_read_32 : decode cX1_read 32 = .ok (.getfield 422, 3) := dk_180 1 166 (dk_at dksX1_read_1 8 rfl rfl)
theorem dX1_read_35 : decode cX1_read 35 = .ok (.putfield 33, 3) := dk_181 0 33 (dk_at dksX1_read_1 11 rfl rfl)
theorem dX1_read_38 : decode cX1_read 38 = .ok (.new 66, 3) := dk_187 0 66 (dk_at dksX1_read_1 14 rfl rfl)
theorem dX1_read_41 : decode cX1_read 41 = .ok (.dup, 1) := dk_89 (dk_at dksX1_read_1 17 rfl rfl)
theorem dX1_read_42 : decode cX1_read 42 = .ok (.invokespecial 68, 3) := dk_183 0 68 (dk_at dksX1_read_1 18 rfl rfl)
theorem dX1_read_45 : decode cX1_read 45 = .ok (.athrow, 1) := dk_191 (dk_at dksX1_read_1 21 rfl rfl)
theorem dX1_read_46 : decode cX1_read 46 = .ok (.aload_n 0, 1) := dk_42 (dk_at dksX1_read_1 22 rfl rfl)
theorem dX1_read_47 : decode cX1_read 47 = .ok (.getfield 10, 3) := dk_180 0 10 (dk_at dksX1_read_2 0 rfl rfl)
theorem dX1_read_50 : decode cX1_read 50 = .ok (.invokevirtual 99, 3) := dk_182 0 99 (dk_at dksX1_read_2 3 rfl rfl)
theorem dX1_read_53 : decode cX1_read 53 = .ok (.astore_n 2, 1) := dk_77 (dk_at dksX1_read_2 6 rfl rfl)
theorem dX1_read_54 : decode cX1_read 54 = .ok (.iconst 0, 1) := dk_3 (dk_at dksX1_read_2 7 rfl rfl)
theorem dX1_read_55 : decode cX1_read 55 = .ok (.istore_n 3, 1) := dk_62 (dk_at dksX1_read_2 8 rfl rfl)
theorem dX1_read_56 : decode cX1_read 56 = .ok (.aload_n 1, 1) := dk_43 (dk_at dksX1_read_2 9 rfl rfl)
theorem dX1_read_57 : decode cX1_read 57 = .ok (.getfield 424, 3) := dk_180 1 168 (dk_at dksX1_read_2 10 rfl rfl)
theorem dX1_read_60 : decode cX1_read 60 = .ok (.invokevirtual 262, 3) := dk_182 1 6 (dk_at dksX1_read_2 13 rfl rfl)
theorem dX1_read_63 : decode cX1_read 63 = .ok (.astore 4, 2) := dk_58 4 (dk_at dksX1_read_2 16 rfl rfl)
theorem dX1_read_65 : decode cX1_read 65 = .ok (.aload 4, 2) := dk_25 4 (dk_at dksX1_read_2 18 rfl rfl)
theorem dX1_read_67 : decode cX1_read 67 = .ok (.invokeinterface 136 1, 5) := by decide +kernel
theorem dX1_read_72 : decode cX1_read 72 = .ok (.ifCond .eq 65, 3) := dk_153 0 65 (dk_at dksX1_read_3 5 rfl rfl)
theorem dX1_read_75 : decode cX1_read 75 = .ok (.aload 4, 2) := dk_25 4 (dk_at dksX1_read_3 8 rfl rfl)
theorem dX1_read_77 : decode cX1_read 77 = .ok (.invokeinterface 142 1, 5) := by decide +kernel
theorem dX1_read_82 : decode cX1_read 82 = .ok (.checkcast 393, 3) := dk_192 1 137 (dk_at dksX1_read_3 15 rfl rfl)
theorem dX1_read_85 : decode cX1_read 85 = .ok (.astore 5, 2) := dk_58 5 (dk_at dksX1_read_3 18 rfl rfl)
theorem dX1_read_87 : decode cX1_read 87 = .ok (.aload_n 2, 1) := dk_44 (dk_at dksX1_read_3 20 rfl rfl)
theorem dX1_read_88 : decode cX1_read 88 = .ok (.aload 5, 2) := dk_25 5 (dk_at dksX1_read_3 21 rfl rfl)
theorem dX1_read_90 : decode cX1_read 90 = .ok (.invokestatic 427, 3) := dk_184 1 171 (dk_at dksX1_read_4 0 rfl rfl)
theorem dX1_read_93 : decode cX1_read 93 = .ok (.astore 6, 2) := dk_58 6 (dk_at dksX1_read_4 3 rfl rfl)
theorem dX1_read_95 : decode cX1_read 95 = .ok (.aload 6, 2) := dk_25 6 (dk_at dksX1_read_4 5 rfl rfl)
theorem dX1_read_97 : decode cX1_read 97 = .ok (.ifnull 29, 3) := dk_198 0 29 (dk_at dksX1_read_4 7 rfl rfl)
theorem dX1_read_100 : decode cX1_read 100 = .ok (.aload_n 0, 1) := dk_42 (dk_at dksX1_read_4 10 rfl rfl)
theorem dX1_read_101 : decode cX1_read 101 = .ok (.iconst 2, 1) := dk_5 (dk_at dksX1_read_4 11 rfl rfl)
theorem dX1_read_102 : decode cX1_read 102 = .ok (.anewarray 145, 3) := dk_189 0 145 (dk_at dksX1_read_4 12 rfl rfl)
theorem dX1_read_105 : decode cX1_read 105 = .ok (.dup, 1) := dk_89 (dk_at dksX1_read_4 15 rfl rfl)
theorem dX1_read_106 : decode cX1_read 106 = .ok (.iconst 0, 1) := dk_3 (dk_at dksX1_read_4 16 rfl rfl)
theorem dX1_read_107 : decode cX1_read 107 = .ok (.new 145, 3) := dk_187 0 145 (dk_at dksX1_read_4 17 rfl rfl)
theorem dX1_read_110 : decode cX1_read 110 = .ok (.dup, 1) := dk_89 (dk_at dksX1_read_4 20 rfl rfl)
theorem dX1_read_111 : decode cX1_read 111 = .ok (.bipush 10, 2) := dk_16 10 (dk_at dksX1_read_4 21 rfl rfl)
theorem dX1_read_113 : decode cX1_read 113 = .ok (.iload_n 3, 1) := dk_29 (dk_at dksX1_read_4 23 rfl rfl)
theorem dX1_read_114 : decode cX1_read 114 = .ok (.invokespecial 153, 3) := dk_183 0 153 (dk_at dksX1_read_5 0 rfl rfl)
theorem dX1_read_117 : decode cX1_read 117 = .ok (.aastore, 1) := dk_83 (dk_at dksX1_read_5 3 rfl rfl)
theorem dX1_read_118 : decode cX1_read 118 = .ok (.dup, 1) := dk_89 (dk_at dksX1_read_5 4 rfl rfl)
theorem dX1_read_119 : decode cX1_read 119 = .ok (.iconst 1, 1) := dk_4 (dk_at dksX1_read_5 5 rfl rfl)
theorem dX1_read_120 : decode cX1_read 120 = .ok (.aload 6, 2) := dk_25 6 (dk_at dksX1_read_5 6 rfl rfl)
theorem dX1_read_122 : decode cX1_read 122 = .ok (.aastore, 1) := dk_83 (dk_at dksX1_read_5 8 rfl rfl)
theorem dX1_read_123 : decode cX1_read 123 = .ok (.invokevirtual 156, 3) := dk_182 0 156 (dk_at dksX1_read_5 9 rfl rfl)
theorem dX1_read_126 : decode cX1_read 126 = .ok (.aload_n 2, 1) := dk_44 (dk_at dksX1_read_5 12 rfl rfl)
theorem dX1_read_127 : decode cX1_read 127 = .ok (.invokevirtual 205, 3) := dk_182 0 205 (dk_at dksX1_read_5 13 rfl rfl)
theorem dX1_read_130 : decode cX1_read 130 = .ok (.pop, 1) := dk_87 (dk_at dksX1_read_5 16 rfl rfl)
theorem dX1_read_131 : decode cX1_read 131 = .ok (.iinc 3 1, 3) := dk_132 3 1 (dk_at dksX1_read_5 17 rfl rfl)
theorem dX1_read_134 : decode cX1_read 134 = .ok (.goto (-69), 3) := dk_167 255 187 (dk_at dksX1_read_5 20 rfl rfl)
theorem dX1_read_137 : decode cX1_read 137 = .ok (.aload_n 0, 1) := dk_42 (dk_at dksX1_read_5 23 rfl rfl)
theorem dX1_read_138 : decode cX1_read 138 = .ok (.invokevirtual 160, 3) := dk_182 0 160 (dk_at dksX1_read_6 0 rfl rfl)
theorem dX1_read_141 : decode cX1_read 141 = .ok (.aload_n 0, 1) := dk_42 (dk_at dksX1_read_6 3 rfl rfl)
theorem dX1_read_142 : decode cX1_read 142 = .ok (.aload_n 2, 1) := dk_44 (dk_at dksX1_read_6 4 rfl rfl)
theorem dX1_read_143 : decode cX1_read 143 = .ok (.putfield 10, 3) := dk_181 0 10 (dk_at dksX1_read_6 5 rfl rfl)
theorem dX1_read_146 : decode cX1_read 146 = .ok (.iload_n 3, 1) := dk_29 (dk_at dksX1_read_6 8 rfl rfl)
theorem dX1_read_147 : decode cX1_read 147 = .ok (.ireturn, 1) := dk_172 (dk_at dksX1_read_6 9 rfl rfl)
abbrev cX1_carryOut : ByteArray := prog_1_method_51_code
def yX1_carryOut : MethodName := ⟨RX1, "carryOut", "(LSkerryLights$State;LSkerryLights$Command;)LSkerryLights$Refusal;"⟩
def dkwX1_carryOut_6 : List UInt8 := [43, 180, 1, 155, 181, 0, 202, 1, 176]
abbrev dktX1_carryOut_6 : List UInt8 := dkwX1_carryOut_6 ++ []
def dkwX1_carryOut_5 : List UInt8 := [16, 80, 159, 0, 13, 42, 43, 180, 1, 136, 44, 184, 1, 151, 176, 44, 43, 180, 1, 148, 181, 0, 193, 44]
abbrev dktX1_carryOut_5 : List UInt8 := dkwX1_carryOut_5 ++ dktX1_carryOut_6
def dkwX1_carryOut_4 : List UInt8 := [184, 1, 145, 176, 42, 180, 0, 78, 43, 180, 1, 142, 182, 0, 112, 192, 0, 116, 77, 43, 180, 1, 136]
abbrev dktX1_carryOut_4 : List UInt8 := dkwX1_carryOut_4 ++ dktX1_carryOut_5
def dkwX1_carryOut_3 : List UInt8 := [182, 0, 81, 162, 0, 19, 43, 180, 1, 136, 16, 80, 160, 0, 14, 43, 180, 1, 148, 154, 0, 7]
abbrev dktX1_carryOut_3 : List UInt8 := dkwX1_carryOut_3 ++ dktX1_carryOut_4
def dkwX1_carryOut_2 : List UInt8 := [42, 180, 0, 246, 43, 180, 1, 142, 43, 180, 1, 148, 79, 1, 176, 43, 180, 1, 142, 42, 180, 0, 78]
abbrev dktX1_carryOut_2 : List UInt8 := dkwX1_carryOut_2 ++ dktX1_carryOut_3
def dkwX1_carryOut_1 : List UInt8 := [184, 1, 145, 176, 42, 43, 180, 1, 142, 184, 1, 19, 87, 1, 176, 43, 180, 1, 136, 16, 70, 160, 0, 18]
abbrev dktX1_carryOut_1 : List UInt8 := dkwX1_carryOut_1 ++ dktX1_carryOut_2
def dkwX1_carryOut_0 : List UInt8 := [43, 180, 1, 136, 16, 78, 160, 0, 31, 43, 180, 1, 142, 4, 16, 30, 184, 0, 85, 154, 0, 7]
abbrev dktX1_carryOut_0 : List UInt8 := dkwX1_carryOut_0 ++ dktX1_carryOut_1
theorem dksX1_carryOut_0 : cX1_carryOut.data.toList.drop 0 = dktX1_carryOut_0 := by decide +kernel
theorem dksX1_carryOut_1 : cX1_carryOut.data.toList.drop 22 = dktX1_carryOut_1 := dk_seg dksX1_carryOut_0 22 rfl rfl
theorem dksX1_carryOut_2 : cX1_carryOut.data.toList.drop 46 = dktX1_carryOut_2 := dk_seg dksX1_carryOut_1 24 rfl rfl
theorem dksX1_carryOut_3 : cX1_carryOut.data.toList.drop 69 = dktX1_carryOut_3 := dk_seg dksX1_carryOut_2 23 rfl rfl
theorem dksX1_carryOut_4 : cX1_carryOut.data.toList.drop 91 = dktX1_carryOut_4 := dk_seg dksX1_carryOut_3 22 rfl rfl
theorem dksX1_carryOut_5 : cX1_carryOut.data.toList.drop 114 = dktX1_carryOut_5 := dk_seg dksX1_carryOut_4 23 rfl rfl
theorem dksX1_carryOut_6 : cX1_carryOut.data.toList.drop 138 = dktX1_carryOut_6 := dk_seg dksX1_carryOut_5 24 rfl rfl
theorem dX1_carryOut_0 : decode cX1_carryOut 0 = .ok (.aload_n 1, 1) := dk_43 (dk_at dksX1_carryOut_0 0 rfl rfl)
theorem dX1_carryOut_1 : decode cX1_carryOut 1 = .ok (.getfield 392, 3) := dk_180 1 136 (dk_at dksX1_carryOut_0 1 rfl rfl)
theorem dX1_carryOut_4 : decode cX1_carryOut 4 = .ok (.bipush 78, 2) := dk_16 78 (dk_at dksX1_carryOut_0 4 rfl rfl)
theorem dX1_carryOut_6 : decode cX1_carryOut 6 = .ok (.if_icmp .ne 31, 3) := dk_160 0 31 (dk_at dksX1_carryOut_0 6 rfl rfl)
theorem dX1_carryOut_9 : decode cX1_carryOut 9 = .ok (.aload_n 1, 1) := dk_43 (dk_at dksX1_carryOut_0 9 rfl rfl)
theorem dX1_carryOut_10 : decode cX1_carryOut 10 = .ok (.getfield 398, 3) := dk_180 1 142 (dk_at dksX1_carryOut_0 10 rfl rfl)
theorem dX1_carryOut_13 : decode cX1_carryOut 13 = .ok (.iconst 1, 1) := dk_4 (dk_at dksX1_carryOut_0 13 rfl rfl)
theorem dX1_carryOut_14 : decode cX1_carryOut 14 = .ok (.bipush 30, 2) := dk_16 30 (dk_at dksX1_carryOut_0 14 rfl rfl)
theorem dX1_carryOut_16 : decode cX1_carryOut 16 = .ok (.invokestatic 85, 3) := dk_184 0 85 (dk_at dksX1_carryOut_0 16 rfl rfl)
theorem dX1_carryOut_19 : decode cX1_carryOut 19 = .ok (.ifCond .ne 7, 3) := dk_154 0 7 (dk_at dksX1_carryOut_0 19 rfl rfl)
theorem dX1_carryOut_22 : decode cX1_carryOut 22 = .ok (.invokestatic 401, 3) := dk_184 1 145 (dk_at dksX1_carryOut_1 0 rfl rfl)
theorem dX1_carryOut_25 : decode cX1_carryOut 25 = .ok (.areturn, 1) := dk_176 (dk_at dksX1_carryOut_1 3 rfl rfl)
theorem dX1_carryOut_26 : decode cX1_carryOut 26 = .ok (.aload_n 0, 1) := dk_42 (dk_at dksX1_carryOut_1 4 rfl rfl)
theorem dX1_carryOut_27 : decode cX1_carryOut 27 = .ok (.aload_n 1, 1) := dk_43 (dk_at dksX1_carryOut_1 5 rfl rfl)
theorem dX1_carryOut_28 : decode cX1_carryOut 28 = .ok (.getfield 398, 3) := dk_180 1 142 (dk_at dksX1_carryOut_1 6 rfl rfl)
theorem dX1_carryOut_31 : decode cX1_carryOut 31 = .ok (.invokestatic 275, 3) := dk_184 1 19 (dk_at dksX1_carryOut_1 9 rfl rfl)
theorem dX1_carryOut_34 : decode cX1_carryOut 34 = .ok (.pop, 1) := dk_87 (dk_at dksX1_carryOut_1 12 rfl rfl)
theorem dX1_carryOut_35 : decode cX1_carryOut 35 = .ok (.aconst_null, 1) := dk_1 (dk_at dksX1_carryOut_1 13 rfl rfl)
theorem dX1_carryOut_36 : decode cX1_carryOut 36 = .ok (.areturn, 1) := dk_176 (dk_at dksX1_carryOut_1 14 rfl rfl)
theorem dX1_carryOut_37 : decode cX1_carryOut 37 = .ok (.aload_n 1, 1) := dk_43 (dk_at dksX1_carryOut_1 15 rfl rfl)
theorem dX1_carryOut_38 : decode cX1_carryOut 38 = .ok (.getfield 392, 3) := dk_180 1 136 (dk_at dksX1_carryOut_1 16 rfl rfl)
theorem dX1_carryOut_41 : decode cX1_carryOut 41 = .ok (.bipush 70, 2) := dk_16 70 (dk_at dksX1_carryOut_1 19 rfl rfl)
theorem dX1_carryOut_43 : decode cX1_carryOut 43 = .ok (.if_icmp .ne 18, 3) := dk_160 0 18 (dk_at dksX1_carryOut_1 21 rfl rfl)
theorem dX1_carryOut_46 : decode cX1_carryOut 46 = .ok (.aload_n 0, 1) := dk_42 (dk_at dksX1_carryOut_2 0 rfl rfl)
theorem dX1_carryOut_47 : decode cX1_carryOut 47 = .ok (.getfield 246, 3) := dk_180 0 246 (dk_at dksX1_carryOut_2 1 rfl rfl)
theorem dX1_carryOut_50 : decode cX1_carryOut 50 = .ok (.aload_n 1, 1) := dk_43 (dk_at dksX1_carryOut_2 4 rfl rfl)
theorem dX1_carryOut_51 : decode cX1_carryOut 51 = .ok (.getfield 398, 3) := dk_180 1 142 (dk_at dksX1_carryOut_2 5 rfl rfl)
theorem dX1_carryOut_54 : decode cX1_carryOut 54 = .ok (.aload_n 1, 1) := dk_43 (dk_at dksX1_carryOut_2 8 rfl rfl)
theorem dX1_carryOut_55 : decode cX1_carryOut 55 = .ok (.getfield 404, 3) := dk_180 1 148 (dk_at dksX1_carryOut_2 9 rfl rfl)
theorem dX1_carryOut_58 : decode cX1_carryOut 58 = .ok (.iastore, 1) := dk_79 (dk_at dksX1_carryOut_2 12 rfl rfl)
theorem dX1_carryOut_59 : decode cX1_carryOut 59 = .ok (.aconst_null, 1) := dk_1 (dk_at dksX1_carryOut_2 13 rfl rfl)
theorem dX1_carryOut_60 : decode cX1_carryOut 60 = .ok (.areturn, 1) := dk_176 (dk_at dksX1_carryOut_2 14 rfl rfl)
theorem dX1_carryOut_61 : decode cX1_carryOut 61 = .ok (.aload_n 1, 1) := dk_43 (dk_at dksX1_carryOut_2 15 rfl rfl)
theorem dX1_carryOut_62 : decode cX1_carryOut 62 = .ok (.getfield 398, 3) := dk_180 1 142 (dk_at dksX1_carryOut_2 16 rfl rfl)
theorem dX1_carryOut_65 : decode cX1_carryOut 65 = .ok (.aload_n 0, 1) := dk_42 (dk_at dksX1_carryOut_2 19 rfl rfl)
theorem dX1_carryOut_66 : decode cX1_carryOut 66 = .ok (.getfield 78, 3) := dk_180 0 78 (dk_at dksX1_carryOut_2 20 rfl rfl)
theorem dX1_carryOut_69 : decode cX1_carryOut 69 = .ok (.invokevirtual 81, 3) := dk_182 0 81 (dk_at dksX1_carryOut_3 0 rfl rfl)
theorem dX1_carryOut_72 : decode cX1_carryOut 72 = .ok (.if_icmp .ge 19, 3) := dk_162 0 19 (dk_at dksX1_carryOut_3 3 rfl rfl)
theorem dX1_carryOut_75 : decode cX1_carryOut 75 = .ok (.aload_n 1, 1) := dk_43 (dk_at dksX1_carryOut_3 6 rfl rfl)
theorem dX1_carryOut_76 : decode cX1_carryOut 76 = .ok (.getfield 392, 3) := dk_180 1 136 (dk_at dksX1_carryOut_3 7 rfl rfl)
theorem dX1_carryOut_79 : decode cX1_carryOut 79 = .ok (.bipush 80, 2) := dk_16 80 (dk_at dksX1_carryOut_3 10 rfl rfl)
theorem dX1_carryOut_81 : decode cX1_carryOut 81 = .ok (.if_icmp .ne 14, 3) := dk_160 0 14 (dk_at dksX1_carryOut_3 12 rfl rfl)
theorem dX1_carryOut_84 : decode cX1_carryOut 84 = .ok (.aload_n 1, 1) := dk_43 (dk_at dksX1_carryOut_3 15 rfl rfl)
theorem dX1_carryOut_85 : decode cX1_carryOut 85 = .ok (.getfield 404, 3) := dk_180 1 148 (dk_at dksX1_carryOut_3 16 rfl rfl)
theorem dX1_carryOut_88 : decode cX1_carryOut 88 = .ok (.ifCond .ne 7, 3) := dk_154 0 7 (dk_at dksX1_carryOut_3 19 rfl rfl)
theorem dX1_carryOut_91 : decode cX1_carryOut 91 = .ok (.invokestatic 401, 3) := dk_184 1 145 (dk_at dksX1_carryOut_4 0 rfl rfl)
theorem dX1_carryOut_94 : decode cX1_carryOut 94 = .ok (.areturn, 1) := dk_176 (dk_at dksX1_carryOut_4 3 rfl rfl)
theorem dX1_carryOut_95 : decode cX1_carryOut 95 = .ok (.aload_n 0, 1) := dk_42 (dk_at dksX1_carryOut_4 4 rfl rfl)
theorem dX1_carryOut_96 : decode cX1_carryOut 96 = .ok (.getfield 78, 3) := dk_180 0 78 (dk_at dksX1_carryOut_4 5 rfl rfl)
theorem dX1_carryOut_99 : decode cX1_carryOut 99 = .ok (.aload_n 1, 1) := dk_43 (dk_at dksX1_carryOut_4 8 rfl rfl)
theorem dX1_carryOut_100 : decode cX1_carryOut 100 = .ok (.getfield 398, 3) := dk_180 1 142 (dk_at dksX1_carryOut_4 9 rfl rfl)
theorem dX1_carryOut_103 : decode cX1_carryOut 103 = .ok (.invokevirtual 112, 3) := dk_182 0 112 (dk_at dksX1_carryOut_4 12 rfl rfl)
theorem dX1_carryOut_106 : decode cX1_carryOut 106 = .ok (.checkcast 116, 3) := dk_192 0 116 (dk_at dksX1_carryOut_4 15 rfl rfl)
theorem dX1_carryOut_109 : decode cX1_carryOut 109 = .ok (.astore_n 2, 1) := dk_77 (dk_at dksX1_carryOut_4 18 rfl rfl)
theorem dX1_carryOut_110 : decode cX1_carryOut 110 = .ok (.aload_n 1, 1) := dk_43 (dk_at dksX1_carryOut_4 19 rfl rfl)
theorem dX1_carryOut_111 : decode cX1_carryOut 111 = .ok (.getfield 392, 3) := dk_180 1 136 (dk_at dksX1_carryOut_4 20 rfl rfl)
theorem dX1_carryOut_114 : decode cX1_carryOut 114 = .ok (.bipush 80, 2) := dk_16 80 (dk_at dksX1_carryOut_5 0 rfl rfl)
theorem dX1_carryOut_116 : decode cX1_carryOut 116 = .ok (.if_icmp .eq 13, 3) := dk_159 0 13 (dk_at dksX1_carryOut_5 2 rfl rfl)
theorem dX1_carryOut_119 : decode cX1_carryOut 119 = .ok (.aload_n 0, 1) := dk_42 (dk_at dksX1_carryOut_5 5 rfl rfl)
theorem dX1_carryOut_120 : decode cX1_carryOut 120 = .ok (.aload_n 1, 1) := dk_43 (dk_at dksX1_carryOut_5 6 rfl rfl)
theorem dX1_carryOut_121 : decode cX1_carryOut 121 = .ok (.getfield 392, 3) := dk_180 1 136 (dk_at dksX1_carryOut_5 7 rfl rfl)
theorem dX1_carryOut_124 : decode cX1_carryOut 124 = .ok (.aload_n 2, 1) := dk_44 (dk_at dksX1_carryOut_5 10 rfl rfl)
theorem dX1_carryOut_125 : decode cX1_carryOut 125 = .ok (.invokestatic 407, 3) := dk_184 1 151 (dk_at dksX1_carryOut_5 11 rfl rfl)
theorem dX1_carryOut_128 : decode cX1_carryOut 128 = .ok (.areturn, 1) := dk_176 (dk_at dksX1_carryOut_5 14 rfl rfl)
theorem dX1_carryOut_129 : decode cX1_carryOut 129 = .ok (.aload_n 2, 1) := dk_44 (dk_at dksX1_carryOut_5 15 rfl rfl)
theorem dX1_carryOut_130 : decode cX1_carryOut 130 = .ok (.aload_n 1, 1) := dk_43 (dk_at dksX1_carryOut_5 16 rfl rfl)
theorem dX1_carryOut_131 : decode cX1_carryOut 131 = .ok (.getfield 404, 3) := dk_180 1 148 (dk_at dksX1_carryOut_5 17 rfl rfl)
theorem dX1_carryOut_134 : decode cX1_carryOut 134 = .ok (.putfield 193, 3) := dk_181 0 193 (dk_at dksX1_carryOut_5 20 rfl rfl)
theorem dX1_carryOut_137 : decode cX1_carryOut 137 = .ok (.aload_n 2, 1) := dk_44 (dk_at dksX1_carryOut_5 23 rfl rfl)
theorem dX1_carryOut_138 : decode cX1_carryOut 138 = .ok (.aload_n 1, 1) := dk_43 (dk_at dksX1_carryOut_6 0 rfl rfl)
theorem dX1_carryOut_139 : decode cX1_carryOut 139 = .ok (.getfield 411, 3) := dk_180 1 155 (dk_at dksX1_carryOut_6 1 rfl rfl)
theorem dX1_carryOut_142 : decode cX1_carryOut 142 = .ok (.putfield 202, 3) := dk_181 0 202 (dk_at dksX1_carryOut_6 4 rfl rfl)
theorem dX1_carryOut_145 : decode cX1_carryOut 145 = .ok (.aconst_null, 1) := dk_1 (dk_at dksX1_carryOut_6 7 rfl rfl)
theorem dX1_carryOut_146 : decode cX1_carryOut 146 = .ok (.areturn, 1) := dk_176 (dk_at dksX1_carryOut_6 8 rfl rfl)
abbrev cX1_noSuch : ByteArray := prog_1_method_49_code
def yX1_noSuch : MethodName := ⟨RX1, "noSuch", "()LSkerryLights$Refusal;"⟩
def dkwX1_noSuch_0 : List UInt8 := [187, 0, 145, 89, 16, 11, 3, 183, 0, 153, 176]
abbrev dktX1_noSuch_0 : List UInt8 := dkwX1_noSuch_0 ++ []
theorem dksX1_noSuch_0 : cX1_noSuch.data.toList.drop 0 = dktX1_noSuch_0 := by decide +kernel
theorem dX1_noSuch_0 : decode cX1_noSuch 0 = .ok (.new 145, 3) := dk_187 0 145 (dk_at dksX1_noSuch_0 0 rfl rfl)
theorem dX1_noSuch_3 : decode cX1_noSuch 3 = .ok (.dup, 1) := dk_89 (dk_at dksX1_noSuch_0 3 rfl rfl)
theorem dX1_noSuch_4 : decode cX1_noSuch 4 = .ok (.bipush 11, 2) := dk_16 11 (dk_at dksX1_noSuch_0 4 rfl rfl)
theorem dX1_noSuch_6 : decode cX1_noSuch 6 = .ok (.iconst 0, 1) := dk_3 (dk_at dksX1_noSuch_0 6 rfl rfl)
theorem dX1_noSuch_7 : decode cX1_noSuch 7 = .ok (.invokespecial 153, 3) := dk_183 0 153 (dk_at dksX1_noSuch_0 7 rfl rfl)
theorem dX1_noSuch_10 : decode cX1_noSuch 10 = .ok (.areturn, 1) := dk_176 (dk_at dksX1_noSuch_0 10 rfl rfl)
abbrev cX1_carryOutAt : ByteArray := prog_1_method_50_code
def yX1_carryOutAt : MethodName := ⟨RX1, "carryOutAt", "(LSkerryLights$State;CLSkerryLights$Tower;)LSkerryLights$Refusal;"⟩
def dkwX1_carryOutAt_5 : List UInt8 := [182, 0, 208, 78, 45, 199, 0, 11, 42, 44, 182, 0, 212, 167, 0, 4, 2, 54, 4, 45, 176]
abbrev dktX1_carryOutAt_5 : List UInt8 := dkwX1_carryOutAt_5 ++ []
def dkwX1_carryOutAt_4 : List UInt8 := [44, 182, 0, 233, 167, 0, 37, 42, 44, 182, 0, 240, 78, 44, 3, 181, 0, 237, 167, 0, 23, 42]
abbrev dktX1_carryOutAt_4 : List UInt8 := dkwX1_carryOutAt_4 ++ dktX1_carryOutAt_5
def dkwX1_carryOutAt_3 : List UInt8 := [167, 0, 65, 42, 44, 182, 0, 227, 78, 44, 3, 181, 0, 220, 167, 0, 51, 42, 44, 182, 0, 230, 78, 42]
abbrev dktX1_carryOutAt_3 : List UInt8 := dkwX1_carryOutAt_3 ++ dktX1_carryOutAt_4
def dkwX1_carryOutAt_2 : List UInt8 := [42, 44, 182, 0, 216, 78, 44, 89, 180, 0, 220, 45, 199, 0, 7, 4, 167, 0, 4, 3, 128, 181, 0, 220]
abbrev dktX1_carryOutAt_2 : List UInt8 := dkwX1_carryOutAt_2 ++ dktX1_carryOutAt_3
def dkwX1_carryOutAt_1 : List UInt8 := [171, 0, 0, 0, 0, 0, 112, 0, 0, 0, 4, 0, 0, 0, 66, 0, 0, 0, 84, 0, 0, 0, 68, 0, 0, 0, 70, 0, 0, 0, 76, 0, 0, 0, 43, 0, 0, 0, 77, 0, 0, 0, 98]
abbrev dktX1_carryOutAt_1 : List UInt8 := dkwX1_carryOutAt_1 ++ dktX1_carryOutAt_2
def dkwX1_carryOutAt_0 : List UInt8 := [27]
abbrev dktX1_carryOutAt_0 : List UInt8 := dkwX1_carryOutAt_0 ++ dktX1_carryOutAt_1
theorem dksX1_carryOutAt_0 : cX1_carryOutAt.data.toList.drop 0 = dktX1_carryOutAt_0 := by decide +kernel
theorem dksX1_carryOutAt_1 : cX1_carryOutAt.data.toList.drop 1 = dktX1_carryOutAt_1 := dk_seg dksX1_carryOutAt_0 1 rfl rfl
theorem dksX1_carryOutAt_2 : cX1_carryOutAt.data.toList.drop 44 = dktX1_carryOutAt_2 := dk_seg dksX1_carryOutAt_1 43 rfl rfl
theorem dksX1_carryOutAt_3 : cX1_carryOutAt.data.toList.drop 68 = dktX1_carryOutAt_3 := dk_seg dksX1_carryOutAt_2 24 rfl rfl
theorem dksX1_carryOutAt_4 : cX1_carryOutAt.data.toList.drop 92 = dktX1_carryOutAt_4 := dk_seg dksX1_carryOutAt_3 24 rfl rfl
theorem dksX1_carryOutAt_5 : cX1_carryOutAt.data.toList.drop 114 = dktX1_carryOutAt_5 := dk_seg dksX1_carryOutAt_4 22 rfl rfl
theorem dX1_carryOutAt_0 : decode cX1_carryOutAt 0 = .ok (.iload_n 1, 1) := dk_27 (dk_at dksX1_carryOutAt_0 0 rfl rfl)
theorem dX1_carryOutAt_1 : decode cX1_carryOutAt 1 = .ok (.lookupswitch 112 #[(66, 84), (68, 70), (76, 43), (77, 98)], 43) := by decide +kernel
theorem dX1_carryOutAt_44 : decode cX1_carryOutAt 44 = .ok (.aload_n 0, 1) := dk_42 (dk_at dksX1_carryOutAt_2 0 rfl rfl)
theorem dX1_carryOutAt_45 : decode cX1_carryOutAt 45 = .ok (.aload_n 2, 1) := dk_44 (dk_at dksX1_carryOutAt_2 1 rfl rfl)
theorem dX1_carryOutAt_46 : decode cX1_carryOutAt 46 = .ok (.invokevirtual 216, 3) := dk_182 0 216 (dk_at dksX1_carryOutAt_2 2 rfl rfl)
theorem dX1_carryOutAt_49 : decode cX1_carryOutAt 49 = .ok (.astore_n 3, 1) := dk_78 (dk_at dksX1_carryOutAt_2 5 rfl rfl)
theorem dX1_carryOutAt_50 : decode cX1_carryOutAt 50 = .ok (.aload_n 2, 1) := dk_44 (dk_at dksX1_carryOutAt_2 6 rfl rfl)
theorem dX1_carryOutAt_51 : decode cX1_carryOutAt 51 = .ok (.dup, 1) := dk_89 (dk_at dksX1_carryOutAt_2 7 rfl rfl)
theorem dX1_carryOutAt_52 : decode cX1_carryOutAt 52 = .ok (.getfield 220, 3) := dk_180 0 220 (dk_at dksX1_carryOutAt_2 8 rfl rfl)
theorem dX1_carryOutAt_55 : decode cX1_carryOutAt 55 = .ok (.aload_n 3, 1) := dk_45 (dk_at dksX1_carryOutAt_2 11 rfl rfl)
theorem dX1_carryOutAt_56 : decode cX1_carryOutAt 56 = .ok (.ifnonnull 7, 3) := dk_199 0 7 (dk_at dksX1_carryOutAt_2 12 rfl rfl)
theorem dX1_carryOutAt_59 : decode cX1_carryOutAt 59 = .ok (.iconst 1, 1) := dk_4 (dk_at dksX1_carryOutAt_2 15 rfl rfl)
theorem dX1_carryOutAt_60 : decode cX1_carryOutAt 60 = .ok (.goto 4, 3) := dk_167 0 4 (dk_at dksX1_carryOutAt_2 16 rfl rfl)
theorem dX1_carryOutAt_63 : decode cX1_carryOutAt 63 = .ok (.iconst 0, 1) := dk_3 (dk_at dksX1_carryOutAt_2 19 rfl rfl)
theorem dX1_carryOutAt_64 : decode cX1_carryOutAt 64 = .ok (.ior, 1) := dk_128 (dk_at dksX1_carryOutAt_2 20 rfl rfl)
theorem dX1_carryOutAt_65 : decode cX1_carryOutAt 65 = .ok (.putfield 220, 3) := dk_181 0 220 (dk_at dksX1_carryOutAt_2 21 rfl rfl)
theorem dX1_carryOutAt_68 : decode cX1_carryOutAt 68 = .ok (.goto 65, 3) := dk_167 0 65 (dk_at dksX1_carryOutAt_3 0 rfl rfl)
theorem dX1_carryOutAt_71 : decode cX1_carryOutAt 71 = .ok (.aload_n 0, 1) := dk_42 (dk_at dksX1_carryOutAt_3 3 rfl rfl)
theorem dX1_carryOutAt_72 : decode cX1_carryOutAt 72 = .ok (.aload_n 2, 1) := dk_44 (dk_at dksX1_carryOutAt_3 4 rfl rfl)
theorem dX1_carryOutAt_73 : decode cX1_carryOutAt 73 = .ok (.invokevirtual 227, 3) := dk_182 0 227 (dk_at dksX1_carryOutAt_3 5 rfl rfl)
theorem dX1_carryOutAt_76 : decode cX1_carryOutAt 76 = .ok (.astore_n 3, 1) := dk_78 (dk_at dksX1_carryOutAt_3 8 rfl rfl)
theorem dX1_carryOutAt_77 : decode cX1_carryOutAt 77 = .ok (.aload_n 2, 1) := dk_44 (dk_at dksX1_carryOutAt_3 9 rfl rfl)
theorem dX1_carryOutAt_78 : decode cX1_carryOutAt 78 = .ok (.iconst 0, 1) := dk_3 (dk_at dksX1_carryOutAt_3 10 rfl rfl)
theorem dX1_carryOutAt_79 : decode cX1_carryOutAt 79 = .ok (.putfield 220, 3) := dk_181 0 220 (dk_at dksX1_carryOutAt_3 11 rfl rfl)
theorem dX1_carryOutAt_82 : decode cX1_carryOutAt 82 = .ok (.goto 51, 3) := dk_167 0 51 (dk_at dksX1_carryOutAt_3 14 rfl rfl)
theorem dX1_carryOutAt_85 : decode cX1_carryOutAt 85 = .ok (.aload_n 0, 1) := dk_42 (dk_at dksX1_carryOutAt_3 17 rfl rfl)
theorem dX1_carryOutAt_86 : decode cX1_carryOutAt 86 = .ok (.aload_n 2, 1) := dk_44 (dk_at dksX1_carryOutAt_3 18 rfl rfl)
theorem dX1_carryOutAt_87 : decode cX1_carryOutAt 87 = .ok (.invokevirtual 230, 3) := dk_182 0 230 (dk_at dksX1_carryOutAt_3 19 rfl rfl)
theorem dX1_carryOutAt_90 : decode cX1_carryOutAt 90 = .ok (.astore_n 3, 1) := dk_78 (dk_at dksX1_carryOutAt_3 22 rfl rfl)
theorem dX1_carryOutAt_91 : decode cX1_carryOutAt 91 = .ok (.aload_n 0, 1) := dk_42 (dk_at dksX1_carryOutAt_3 23 rfl rfl)
theorem dX1_carryOutAt_92 : decode cX1_carryOutAt 92 = .ok (.aload_n 2, 1) := dk_44 (dk_at dksX1_carryOutAt_4 0 rfl rfl)
theorem dX1_carryOutAt_93 : decode cX1_carryOutAt 93 = .ok (.invokevirtual 233, 3) := dk_182 0 233 (dk_at dksX1_carryOutAt_4 1 rfl rfl)
theorem dX1_carryOutAt_96 : decode cX1_carryOutAt 96 = .ok (.goto 37, 3) := dk_167 0 37 (dk_at dksX1_carryOutAt_4 4 rfl rfl)
theorem dX1_carryOutAt_99 : decode cX1_carryOutAt 99 = .ok (.aload_n 0, 1) := dk_42 (dk_at dksX1_carryOutAt_4 7 rfl rfl)
theorem dX1_carryOutAt_100 : decode cX1_carryOutAt 100 = .ok (.aload_n 2, 1) := dk_44 (dk_at dksX1_carryOutAt_4 8 rfl rfl)
theorem dX1_carryOutAt_101 : decode cX1_carryOutAt 101 = .ok (.invokevirtual 240, 3) := dk_182 0 240 (dk_at dksX1_carryOutAt_4 9 rfl rfl)
theorem dX1_carryOutAt_104 : decode cX1_carryOutAt 104 = .ok (.astore_n 3, 1) := dk_78 (dk_at dksX1_carryOutAt_4 12 rfl rfl)
theorem dX1_carryOutAt_105 : decode cX1_carryOutAt 105 = .ok (.aload_n 2, 1) := dk_44 (dk_at dksX1_carryOutAt_4 13 rfl rfl)
theorem dX1_carryOutAt_106 : decode cX1_carryOutAt 106 = .ok (.iconst 0, 1) := dk_3 (dk_at dksX1_carryOutAt_4 14 rfl rfl)
theorem dX1_carryOutAt_107 : decode cX1_carryOutAt 107 = .ok (.putfield 237, 3) := dk_181 0 237 (dk_at dksX1_carryOutAt_4 15 rfl rfl)
theorem dX1_carryOutAt_110 : decode cX1_carryOutAt 110 = .ok (.goto 23, 3) := dk_167 0 23 (dk_at dksX1_carryOutAt_4 18 rfl rfl)
theorem dX1_carryOutAt_113 : decode cX1_carryOutAt 113 = .ok (.aload_n 0, 1) := dk_42 (dk_at dksX1_carryOutAt_4 21 rfl rfl)
theorem dX1_carryOutAt_114 : decode cX1_carryOutAt 114 = .ok (.invokevirtual 208, 3) := dk_182 0 208 (dk_at dksX1_carryOutAt_5 0 rfl rfl)
theorem dX1_carryOutAt_117 : decode cX1_carryOutAt 117 = .ok (.astore_n 3, 1) := dk_78 (dk_at dksX1_carryOutAt_5 3 rfl rfl)
theorem dX1_carryOutAt_118 : decode cX1_carryOutAt 118 = .ok (.aload_n 3, 1) := dk_45 (dk_at dksX1_carryOutAt_5 4 rfl rfl)
theorem dX1_carryOutAt_119 : decode cX1_carryOutAt 119 = .ok (.ifnonnull 11, 3) := dk_199 0 11 (dk_at dksX1_carryOutAt_5 5 rfl rfl)
theorem dX1_carryOutAt_122 : decode cX1_carryOutAt 122 = .ok (.aload_n 0, 1) := dk_42 (dk_at dksX1_carryOutAt_5 8 rfl rfl)
theorem dX1_carryOutAt_123 : decode cX1_carryOutAt 123 = .ok (.aload_n 2, 1) := dk_44 (dk_at dksX1_carryOutAt_5 9 rfl rfl)
theorem dX1_carryOutAt_124 : decode cX1_carryOutAt 124 = .ok (.invokevirtual 212, 3) := dk_182 0 212 (dk_at dksX1_carryOutAt_5 10 rfl rfl)
theorem dX1_carryOutAt_127 : decode cX1_carryOutAt 127 = .ok (.goto 4, 3) := dk_167 0 4 (dk_at dksX1_carryOutAt_5 13 rfl rfl)
theorem dX1_carryOutAt_130 : decode cX1_carryOutAt 130 = .ok (.iconst (-1), 1) := dk_2 (dk_at dksX1_carryOutAt_5 16 rfl rfl)
theorem dX1_carryOutAt_131 : decode cX1_carryOutAt 131 = .ok (.istore 4, 2) := dk_54 4 (dk_at dksX1_carryOutAt_5 17 rfl rfl)
theorem dX1_carryOutAt_133 : decode cX1_carryOutAt 133 = .ok (.aload_n 3, 1) := dk_45 (dk_at dksX1_carryOutAt_5 19 rfl rfl)
theorem dX1_carryOutAt_134 : decode cX1_carryOutAt 134 = .ok (.areturn, 1) := dk_176 (dk_at dksX1_carryOutAt_5 20 rfl rfl)
abbrev cX1_faultPosition : ByteArray := prog_1_method_53_code
def yX1_faultPosition : MethodName := ⟨RX1, "faultPosition", "()I"⟩
def dkwX1_faultPosition_0 : List UInt8 := [42, 180, 0, 33, 155, 0, 7, 4, 167, 0, 4, 3, 184, 1, 30, 42, 180, 0, 33, 172]
abbrev dktX1_faultPosition_0 : List UInt8 := dkwX1_faultPosition_0 ++ []
theorem dksX1_faultPosition_0 : cX1_faultPosition.data.toList.drop 0 = dktX1_faultPosition_0 := by decide +kernel
theorem dX1_faultPosition_0 : decode cX1_faultPosition 0 = .ok (.aload_n 0, 1) := dk_42 (dk_at dksX1_faultPosition_0 0 rfl rfl)
theorem dX1_faultPosition_1 : decode cX1_faultPosition 1 = .ok (.getfield 33, 3) := dk_180 0 33 (dk_at dksX1_faultPosition_0 1 rfl rfl)
theorem dX1_faultPosition_4 : decode cX1_faultPosition 4 = .ok (.ifCond .lt 7, 3) := dk_155 0 7 (dk_at dksX1_faultPosition_0 4 rfl rfl)
theorem dX1_faultPosition_7 : decode cX1_faultPosition 7 = .ok (.iconst 1, 1) := dk_4 (dk_at dksX1_faultPosition_0 7 rfl rfl)
theorem dX1_faultPosition_8 : decode cX1_faultPosition 8 = .ok (.goto 4, 3) := dk_167 0 4 (dk_at dksX1_faultPosition_0 8 rfl rfl)
theorem dX1_faultPosition_11 : decode cX1_faultPosition 11 = .ok (.iconst 0, 1) := dk_3 (dk_at dksX1_faultPosition_0 11 rfl rfl)
theorem dX1_faultPosition_12 : decode cX1_faultPosition 12 = .ok (.invokestatic 286, 3) := dk_184 1 30 (dk_at dksX1_faultPosition_0 12 rfl rfl)
theorem dX1_faultPosition_15 : decode cX1_faultPosition 15 = .ok (.aload_n 0, 1) := dk_42 (dk_at dksX1_faultPosition_0 15 rfl rfl)
theorem dX1_faultPosition_16 : decode cX1_faultPosition 16 = .ok (.getfield 33, 3) := dk_180 0 33 (dk_at dksX1_faultPosition_0 16 rfl rfl)
theorem dX1_faultPosition_19 : decode cX1_faultPosition 19 = .ok (.ireturn, 1) := dk_172 (dk_at dksX1_faultPosition_0 19 rfl rfl)
abbrev cX1_reason : ByteArray := prog_1_method_54_code
def yX1_reason : MethodName := ⟨RX1, "reason", "(IZ)I"⟩
def dkwX1_reason_2 : List UInt8 := [180, 1, 175, 167, 0, 7, 45, 180, 1, 178, 172]
abbrev dktX1_reason_2 : List UInt8 := dkwX1_reason_2 ++ []
def dkwX1_reason_1 : List UInt8 := [167, 0, 4, 3, 184, 1, 30, 42, 180, 0, 40, 27, 182, 0, 112, 192, 0, 145, 78, 28, 153, 0, 10, 45]
abbrev dktX1_reason_1 : List UInt8 := dkwX1_reason_1 ++ dktX1_reason_2
def dkwX1_reason_0 : List UInt8 := [27, 155, 0, 7, 4, 167, 0, 4, 3, 184, 0, 126, 27, 42, 180, 0, 40, 182, 0, 81, 162, 0, 7, 4]
abbrev dktX1_reason_0 : List UInt8 := dkwX1_reason_0 ++ dktX1_reason_1
theorem dksX1_reason_0 : cX1_reason.data.toList.drop 0 = dktX1_reason_0 := by decide +kernel
theorem dksX1_reason_1 : cX1_reason.data.toList.drop 24 = dktX1_reason_1 := dk_seg dksX1_reason_0 24 rfl rfl
theorem dksX1_reason_2 : cX1_reason.data.toList.drop 48 = dktX1_reason_2 := dk_seg dksX1_reason_1 24 rfl rfl
theorem dX1_reason_0 : decode cX1_reason 0 = .ok (.iload_n 1, 1) := dk_27 (dk_at dksX1_reason_0 0 rfl rfl)
theorem dX1_reason_1 : decode cX1_reason 1 = .ok (.ifCond .lt 7, 3) := dk_155 0 7 (dk_at dksX1_reason_0 1 rfl rfl)
theorem dX1_reason_4 : decode cX1_reason 4 = .ok (.iconst 1, 1) := dk_4 (dk_at dksX1_reason_0 4 rfl rfl)
theorem dX1_reason_5 : decode cX1_reason 5 = .ok (.goto 4, 3) := dk_167 0 4 (dk_at dksX1_reason_0 5 rfl rfl)
theorem dX1_reason_8 : decode cX1_reason 8 = .ok (.iconst 0, 1) := dk_3 (dk_at dksX1_reason_0 8 rfl rfl)
theorem dX1_reason_9 : decode cX1_reason 9 = .ok (.invokestatic 126, 3) := dk_184 0 126 (dk_at dksX1_reason_0 9 rfl rfl)
theorem dX1_reason_12 : decode cX1_reason 12 = .ok (.iload_n 1, 1) := dk_27 (dk_at dksX1_reason_0 12 rfl rfl)
theorem dX1_reason_13 : decode cX1_reason 13 = .ok (.aload_n 0, 1) := dk_42 (dk_at dksX1_reason_0 13 rfl rfl)
theorem dX1_reason_14 : decode cX1_reason 14 = .ok (.getfield 40, 3) := dk_180 0 40 (dk_at dksX1_reason_0 14 rfl rfl)
theorem dX1_reason_17 : decode cX1_reason 17 = .ok (.invokevirtual 81, 3) := dk_182 0 81 (dk_at dksX1_reason_0 17 rfl rfl)
theorem dX1_reason_20 : decode cX1_reason 20 = .ok (.if_icmp .ge 7, 3) := dk_162 0 7 (dk_at dksX1_reason_0 20 rfl rfl)
theorem dX1_reason_23 : decode cX1_reason 23 = .ok (.iconst 1, 1) := dk_4 (dk_at dksX1_reason_0 23 rfl rfl)
theorem dX1_reason_24 : decode cX1_reason 24 = .ok (.goto 4, 3) := dk_167 0 4 (dk_at dksX1_reason_1 0 rfl rfl)
theorem dX1_reason_27 : decode cX1_reason 27 = .ok (.iconst 0, 1) := dk_3 (dk_at dksX1_reason_1 3 rfl rfl)
theorem dX1_reason_28 : decode cX1_reason 28 = .ok (.invokestatic 286, 3) := dk_184 1 30 (dk_at dksX1_reason_1 4 rfl rfl)
theorem dX1_reason_31 : decode cX1_reason 31 = .ok (.aload_n 0, 1) := dk_42 (dk_at dksX1_reason_1 7 rfl rfl)
theorem dX1_reason_32 : decode cX1_reason 32 = .ok (.getfield 40, 3) := dk_180 0 40 (dk_at dksX1_reason_1 8 rfl rfl)
theorem dX1_reason_35 : decode cX1_reason 35 = .ok (.iload_n 1, 1) := dk_27 (dk_at dksX1_reason_1 11 rfl rfl)
theorem dX1_reason_36 : decode cX1_reason 36 = .ok (.invokevirtual 112, 3) := dk_182 0 112 (dk_at dksX1_reason_1 12 rfl rfl)
theorem dX1_reason_39 : decode cX1_reason 39 = .ok (.checkcast 145, 3) := dk_192 0 145 (dk_at dksX1_reason_1 15 rfl rfl)
theorem dX1_reason_42 : decode cX1_reason 42 = .ok (.astore_n 3, 1) := dk_78 (dk_at dksX1_reason_1 18 rfl rfl)
theorem dX1_reason_43 : decode cX1_reason 43 = .ok (.iload_n 2, 1) := dk_28 (dk_at dksX1_reason_1 19 rfl rfl)
theorem dX1_reason_44 : decode cX1_reason 44 = .ok (.ifCond .eq 10, 3) := dk_153 0 10 (dk_at dksX1_reason_1 20 rfl rfl)
theorem dX1_reason_47 : decode cX1_reason 47 = .ok (.aload_n 3, 1) := dk_45 (dk_at dksX1_reason_1 23 rfl rfl)
theorem dX1_reason_48 : decode cX1_reason 48 = .ok (.getfield 431, 3) := dk_180 1 175 (dk_at dksX1_reason_2 0 rfl rfl)
theorem dX1_reason_51 : decode cX1_reason 51 = .ok (.goto 7, 3) := dk_167 0 7 (dk_at dksX1_reason_2 3 rfl rfl)
theorem dX1_reason_54 : decode cX1_reason 54 = .ok (.aload_n 3, 1) := dk_45 (dk_at dksX1_reason_2 6 rfl rfl)
theorem dX1_reason_55 : decode cX1_reason 55 = .ok (.getfield 434, 3) := dk_180 1 178 (dk_at dksX1_reason_2 7 rfl rfl)
theorem dX1_reason_58 : decode cX1_reason 58 = .ok (.ireturn, 1) := dk_172 (dk_at dksX1_reason_2 10 rfl rfl)
abbrev cX1_towerOf : ByteArray := prog_1_method_55_code
def yX1_towerOf : MethodName := ⟨RX1, "towerOf", "(II)I"⟩
def dkwX1_towerOf_6 : List UInt8 := [180, 0, 202, 172, 45, 180, 0, 193, 184, 0, 196, 172, 42, 180, 0, 10, 45, 182, 1, 33, 182, 1, 66, 172]
abbrev dktX1_towerOf_6 : List UInt8 := dkwX1_towerOf_6 ++ []
def dkwX1_towerOf_5 : List UInt8 := [153, 0, 7, 4, 167, 0, 4, 3, 172, 45, 180, 0, 237, 153, 0, 7, 4, 167, 0, 4, 3, 172, 45]
abbrev dktX1_towerOf_5 : List UInt8 := dkwX1_towerOf_5 ++ dktX1_towerOf_6
def dkwX1_towerOf_4 : List UInt8 := [45, 180, 0, 250, 199, 0, 7, 2, 167, 0, 10, 45, 180, 0, 250, 180, 0, 176, 172, 45, 180, 0, 220]
abbrev dktX1_towerOf_4 : List UInt8 := dkwX1_towerOf_4 ++ dktX1_towerOf_5
def dkwX1_towerOf_3 : List UInt8 := [45, 180, 0, 147, 172, 42, 180, 0, 62, 45, 180, 1, 181, 185, 1, 184, 2, 0, 172, 45, 180, 1, 101, 172]
abbrev dktX1_towerOf_3 : List UInt8 := dkwX1_towerOf_3 ++ dktX1_towerOf_4
def dkwX1_towerOf_2 : List UInt8 := [170, 0, 0, 0, 0, 0, 129, 0, 0, 0, 0, 0, 0, 0, 7, 0, 0, 0, 47, 0, 0, 0, 52, 0, 0, 0, 66, 0, 0, 0, 71, 0, 0, 0, 90, 0, 0, 0, 103, 0, 0, 0, 116, 0, 0, 0, 121]
abbrev dktX1_towerOf_2 : List UInt8 := dkwX1_towerOf_2 ++ dktX1_towerOf_3
def dkwX1_towerOf_1 : List UInt8 := [28]
abbrev dktX1_towerOf_1 : List UInt8 := dkwX1_towerOf_1 ++ dktX1_towerOf_2
def dkwX1_towerOf_0 : List UInt8 := [42, 27, 182, 0, 177, 184, 0, 122, 28, 3, 16, 8, 184, 0, 85, 184, 0, 126, 42, 27, 182, 0, 189, 78]
abbrev dktX1_towerOf_0 : List UInt8 := dkwX1_towerOf_0 ++ dktX1_towerOf_1
theorem dksX1_towerOf_0 : cX1_towerOf.data.toList.drop 0 = dktX1_towerOf_0 := by decide +kernel
theorem dksX1_towerOf_1 : cX1_towerOf.data.toList.drop 24 = dktX1_towerOf_1 := dk_seg dksX1_towerOf_0 24 rfl rfl
theorem dksX1_towerOf_2 : cX1_towerOf.data.toList.drop 25 = dktX1_towerOf_2 := dk_seg dksX1_towerOf_1 1 rfl rfl
theorem dksX1_towerOf_3 : cX1_towerOf.data.toList.drop 72 = dktX1_towerOf_3 := dk_seg dksX1_towerOf_2 47 rfl rfl
theorem dksX1_towerOf_4 : cX1_towerOf.data.toList.drop 96 = dktX1_towerOf_4 := dk_seg dksX1_towerOf_3 24 rfl rfl
theorem dksX1_towerOf_5 : cX1_towerOf.data.toList.drop 119 = dktX1_towerOf_5 := dk_seg dksX1_towerOf_4 23 rfl rfl
theorem dksX1_towerOf_6 : cX1_towerOf.data.toList.drop 142 = dktX1_towerOf_6 := dk_seg dksX1_towerOf_5 23 rfl rfl
theorem dX1_towerOf_0 : decode cX1_towerOf 0 = .ok (.aload_n 0, 1) := dk_42 (dk_at dksX1_towerOf_0 0 rfl rfl)
theorem dX1_towerOf_1 : decode cX1_towerOf 1 = .ok (.iload_n 1, 1) := dk_27 (dk_at dksX1_towerOf_0 1 rfl rfl)
theorem dX1_towerOf_2 : decode cX1_towerOf 2 = .ok (.invokevirtual 177, 3) := dk_182 0 177 (dk_at dksX1_towerOf_0 2 rfl rfl)
theorem dX1_towerOf_5 : decode cX1_towerOf 5 = .ok (.invokestatic 122, 3) := dk_184 0 122 (dk_at dksX1_towerOf_0 5 rfl rfl)
theorem dX1_towerOf_8 : decode cX1_towerOf 8 = .ok (.iload_n 2, 1) := dk_28 (dk_at dksX1_towerOf_0 8 rfl rfl)
theorem dX1_towerOf_9 : decode cX1_towerOf 9 = .ok (.iconst 0, 1) := dk_3 (dk_at dksX1_towerOf_0 9 rfl rfl)
theorem dX1_towerOf_10 : decode cX1_towerOf 10 = .ok (.bipush 8, 2) := dk_16 8 (dk_at dksX1_towerOf_0 10 rfl rfl)
theorem dX1_towerOf_12 : decode cX1_towerOf 12 = .ok (.invokestatic 85, 3) := dk_184 0 85 (dk_at dksX1_towerOf_0 12 rfl rfl)
theorem dX1_towerOf_15 : decode cX1_towerOf 15 = .ok (.invokestatic 126, 3) := dk_184 0 126 (dk_at dksX1_towerOf_0 15 rfl rfl)
theorem dX1_towerOf_18 : decode cX1_towerOf 18 = .ok (.aload_n 0, 1) := dk_42 (dk_at dksX1_towerOf_0 18 rfl rfl)
theorem dX1_towerOf_19 : decode cX1_towerOf 19 = .ok (.iload_n 1, 1) := dk_27 (dk_at dksX1_towerOf_0 19 rfl rfl)
theorem dX1_towerOf_20 : decode cX1_towerOf 20 = .ok (.invokevirtual 189, 3) := dk_182 0 189 (dk_at dksX1_towerOf_0 20 rfl rfl)
theorem dX1_towerOf_23 : decode cX1_towerOf 23 = .ok (.astore_n 3, 1) := dk_78 (dk_at dksX1_towerOf_0 23 rfl rfl)
theorem dX1_towerOf_24 : decode cX1_towerOf 24 = .ok (.iload_n 2, 1) := dk_28 (dk_at dksX1_towerOf_1 0 rfl rfl)
theorem dX1_towerOf_25 : decode cX1_towerOf 25 = .ok (.tableswitch 129 0 7 #[47, 52, 66, 71, 90, 103, 116, 121], 47) := by decide +kernel
theorem dX1_towerOf_72 : decode cX1_towerOf 72 = .ok (.aload_n 3, 1) := dk_45 (dk_at dksX1_towerOf_3 0 rfl rfl)
theorem dX1_towerOf_73 : decode cX1_towerOf 73 = .ok (.getfield 147, 3) := dk_180 0 147 (dk_at dksX1_towerOf_3 1 rfl rfl)
theorem dX1_towerOf_76 : decode cX1_towerOf 76 = .ok (.ireturn, 1) := dk_172 (dk_at dksX1_towerOf_3 4 rfl rfl)
theorem dX1_towerOf_77 : decode cX1_towerOf 77 = .ok (.aload_n 0, 1) := dk_42 (dk_at dksX1_towerOf_3 5 rfl rfl)
theorem dX1_towerOf_78 : decode cX1_towerOf 78 = .ok (.getfield 62, 3) := dk_180 0 62 (dk_at dksX1_towerOf_3 6 rfl rfl)
theorem dX1_towerOf_81 : decode cX1_towerOf 81 = .ok (.aload_n 3, 1) := dk_45 (dk_at dksX1_towerOf_3 9 rfl rfl)
theorem dX1_towerOf_82 : decode cX1_towerOf 82 = .ok (.getfield 437, 3) := dk_180 1 181 (dk_at dksX1_towerOf_3 10 rfl rfl)
theorem dX1_towerOf_85 : decode cX1_towerOf 85 = .ok (.invokeinterface 440 2, 5) := by decide +kernel
theorem dX1_towerOf_90 : decode cX1_towerOf 90 = .ok (.ireturn, 1) := dk_172 (dk_at dksX1_towerOf_3 18 rfl rfl)
theorem dX1_towerOf_91 : decode cX1_towerOf 91 = .ok (.aload_n 3, 1) := dk_45 (dk_at dksX1_towerOf_3 19 rfl rfl)
theorem dX1_towerOf_92 : decode cX1_towerOf 92 = .ok (.getfield 357, 3) := dk_180 1 101 (dk_at dksX1_towerOf_3 20 rfl rfl)
theorem dX1_towerOf_95 : decode cX1_towerOf 95 = .ok (.ireturn, 1) := dk_172 (dk_at dksX1_towerOf_3 23 rfl rfl)
theorem dX1_towerOf_96 : decode cX1_towerOf 96 = .ok (.aload_n 3, 1) := dk_45 (dk_at dksX1_towerOf_4 0 rfl rfl)
theorem dX1_towerOf_97 : decode cX1_towerOf 97 = .ok (.getfield 250, 3) := dk_180 0 250 (dk_at dksX1_towerOf_4 1 rfl rfl)
theorem dX1_towerOf_100 : decode cX1_towerOf 100 = .ok (.ifnonnull 7, 3) := dk_199 0 7 (dk_at dksX1_towerOf_4 4 rfl rfl)
theorem dX1_towerOf_103 : decode cX1_towerOf 103 = .ok (.iconst (-1), 1) := dk_2 (dk_at dksX1_towerOf_4 7 rfl rfl)
theorem dX1_towerOf_104 : decode cX1_towerOf 104 = .ok (.goto 10, 3) := dk_167 0 10 (dk_at dksX1_towerOf_4 8 rfl rfl)
theorem dX1_towerOf_107 : decode cX1_towerOf 107 = .ok (.aload_n 3, 1) := dk_45 (dk_at dksX1_towerOf_4 11 rfl rfl)
theorem dX1_towerOf_108 : decode cX1_towerOf 108 = .ok (.getfield 250, 3) := dk_180 0 250 (dk_at dksX1_towerOf_4 12 rfl rfl)
theorem dX1_towerOf_111 : decode cX1_towerOf 111 = .ok (.getfield 176, 3) := dk_180 0 176 (dk_at dksX1_towerOf_4 15 rfl rfl)
theorem dX1_towerOf_114 : decode cX1_towerOf 114 = .ok (.ireturn, 1) := dk_172 (dk_at dksX1_towerOf_4 18 rfl rfl)
theorem dX1_towerOf_115 : decode cX1_towerOf 115 = .ok (.aload_n 3, 1) := dk_45 (dk_at dksX1_towerOf_4 19 rfl rfl)
theorem dX1_towerOf_116 : decode cX1_towerOf 116 = .ok (.getfield 220, 3) := dk_180 0 220 (dk_at dksX1_towerOf_4 20 rfl rfl)
theorem dX1_towerOf_119 : decode cX1_towerOf 119 = .ok (.ifCond .eq 7, 3) := dk_153 0 7 (dk_at dksX1_towerOf_5 0 rfl rfl)
theorem dX1_towerOf_122 : decode cX1_towerOf 122 = .ok (.iconst 1, 1) := dk_4 (dk_at dksX1_towerOf_5 3 rfl rfl)
theorem dX1_towerOf_123 : decode cX1_towerOf 123 = .ok (.goto 4, 3) := dk_167 0 4 (dk_at dksX1_towerOf_5 4 rfl rfl)
theorem dX1_towerOf_126 : decode cX1_towerOf 126 = .ok (.iconst 0, 1) := dk_3 (dk_at dksX1_towerOf_5 7 rfl rfl)
theorem dX1_towerOf_127 : decode cX1_towerOf 127 = .ok (.ireturn, 1) := dk_172 (dk_at dksX1_towerOf_5 8 rfl rfl)
theorem dX1_towerOf_128 : decode cX1_towerOf 128 = .ok (.aload_n 3, 1) := dk_45 (dk_at dksX1_towerOf_5 9 rfl rfl)
theorem dX1_towerOf_129 : decode cX1_towerOf 129 = .ok (.getfield 237, 3) := dk_180 0 237 (dk_at dksX1_towerOf_5 10 rfl rfl)
theorem dX1_towerOf_132 : decode cX1_towerOf 132 = .ok (.ifCond .eq 7, 3) := dk_153 0 7 (dk_at dksX1_towerOf_5 13 rfl rfl)
theorem dX1_towerOf_135 : decode cX1_towerOf 135 = .ok (.iconst 1, 1) := dk_4 (dk_at dksX1_towerOf_5 16 rfl rfl)
theorem dX1_towerOf_136 : decode cX1_towerOf 136 = .ok (.goto 4, 3) := dk_167 0 4 (dk_at dksX1_towerOf_5 17 rfl rfl)
theorem dX1_towerOf_139 : decode cX1_towerOf 139 = .ok (.iconst 0, 1) := dk_3 (dk_at dksX1_towerOf_5 20 rfl rfl)
theorem dX1_towerOf_140 : decode cX1_towerOf 140 = .ok (.ireturn, 1) := dk_172 (dk_at dksX1_towerOf_5 21 rfl rfl)
theorem dX1_towerOf_141 : decode cX1_towerOf 141 = .ok (.aload_n 3, 1) := dk_45 (dk_at dksX1_towerOf_5 22 rfl rfl)
theorem dX1_towerOf_142 : decode cX1_towerOf 142 = .ok (.getfield 202, 3) := dk_180 0 202 (dk_at dksX1_towerOf_6 0 rfl rfl)
theorem dX1_towerOf_145 : decode cX1_towerOf 145 = .ok (.ireturn, 1) := dk_172 (dk_at dksX1_towerOf_6 3 rfl rfl)
theorem dX1_towerOf_146 : decode cX1_towerOf 146 = .ok (.aload_n 3, 1) := dk_45 (dk_at dksX1_towerOf_6 4 rfl rfl)
theorem dX1_towerOf_147 : decode cX1_towerOf 147 = .ok (.getfield 193, 3) := dk_180 0 193 (dk_at dksX1_towerOf_6 5 rfl rfl)
theorem dX1_towerOf_150 : decode cX1_towerOf 150 = .ok (.invokestatic 196, 3) := dk_184 0 196 (dk_at dksX1_towerOf_6 8 rfl rfl)
theorem dX1_towerOf_153 : decode cX1_towerOf 153 = .ok (.ireturn, 1) := dk_172 (dk_at dksX1_towerOf_6 11 rfl rfl)
theorem dX1_towerOf_154 : decode cX1_towerOf 154 = .ok (.aload_n 0, 1) := dk_42 (dk_at dksX1_towerOf_6 12 rfl rfl)
theorem dX1_towerOf_155 : decode cX1_towerOf 155 = .ok (.getfield 10, 3) := dk_180 0 10 (dk_at dksX1_towerOf_6 13 rfl rfl)
theorem dX1_towerOf_158 : decode cX1_towerOf 158 = .ok (.aload_n 3, 1) := dk_45 (dk_at dksX1_towerOf_6 16 rfl rfl)
theorem dX1_towerOf_159 : decode cX1_towerOf 159 = .ok (.invokevirtual 289, 3) := dk_182 1 33 (dk_at dksX1_towerOf_6 17 rfl rfl)
theorem dX1_towerOf_162 : decode cX1_towerOf 162 = .ok (.invokevirtual 322, 3) := dk_182 1 66 (dk_at dksX1_towerOf_6 20 rfl rfl)
theorem dX1_towerOf_165 : decode cX1_towerOf 165 = .ok (.ireturn, 1) := dk_172 (dk_at dksX1_towerOf_6 23 rfl rfl)
abbrev cX1_sign : ByteArray := prog_1_method_56_code
def yX1_sign : MethodName := ⟨RX1, "sign", "(II)C"⟩
def dkwX1_sign_2 : List UInt8 := [16, 42, 167, 0, 5, 16, 46, 172]
abbrev dktX1_sign_2 : List UInt8 := dkwX1_sign_2 ++ []
def dkwX1_sign_1 : List UInt8 := [153, 0, 7, 4, 167, 0, 4, 3, 184, 0, 122, 42, 27, 182, 0, 189, 28, 182, 1, 188, 153, 0, 8]
abbrev dktX1_sign_1 : List UInt8 := dkwX1_sign_1 ++ dktX1_sign_2
def dkwX1_sign_0 : List UInt8 := [42, 27, 182, 0, 177, 153, 0, 25, 28, 3, 42, 27, 182, 0, 189, 180, 0, 202, 4, 100, 184, 0, 85]
abbrev dktX1_sign_0 : List UInt8 := dkwX1_sign_0 ++ dktX1_sign_1
theorem dksX1_sign_0 : cX1_sign.data.toList.drop 0 = dktX1_sign_0 := by decide +kernel
theorem dksX1_sign_1 : cX1_sign.data.toList.drop 23 = dktX1_sign_1 := dk_seg dksX1_sign_0 23 rfl rfl
theorem dksX1_sign_2 : cX1_sign.data.toList.drop 46 = dktX1_sign_2 := dk_seg dksX1_sign_1 23 rfl rfl
theorem dX1_sign_0 : decode cX1_sign 0 = .ok (.aload_n 0, 1) := dk_42 (dk_at dksX1_sign_0 0 rfl rfl)
theorem dX1_sign_1 : decode cX1_sign 1 = .ok (.iload_n 1, 1) := dk_27 (dk_at dksX1_sign_0 1 rfl rfl)
theorem dX1_sign_2 : decode cX1_sign 2 = .ok (.invokevirtual 177, 3) := dk_182 0 177 (dk_at dksX1_sign_0 2 rfl rfl)
theorem dX1_sign_5 : decode cX1_sign 5 = .ok (.ifCond .eq 25, 3) := dk_153 0 25 (dk_at dksX1_sign_0 5 rfl rfl)
theorem dX1_sign_8 : decode cX1_sign 8 = .ok (.iload_n 2, 1) := dk_28 (dk_at dksX1_sign_0 8 rfl rfl)
theorem dX1_sign_9 : decode cX1_sign 9 = .ok (.iconst 0, 1) := dk_3 (dk_at dksX1_sign_0 9 rfl rfl)
theorem dX1_sign_10 : decode cX1_sign 10 = .ok (.aload_n 0, 1) := dk_42 (dk_at dksX1_sign_0 10 rfl rfl)
theorem dX1_sign_11 : decode cX1_sign 11 = .ok (.iload_n 1, 1) := dk_27 (dk_at dksX1_sign_0 11 rfl rfl)
theorem dX1_sign_12 : decode cX1_sign 12 = .ok (.invokevirtual 189, 3) := dk_182 0 189 (dk_at dksX1_sign_0 12 rfl rfl)
theorem dX1_sign_15 : decode cX1_sign 15 = .ok (.getfield 202, 3) := dk_180 0 202 (dk_at dksX1_sign_0 15 rfl rfl)
theorem dX1_sign_18 : decode cX1_sign 18 = .ok (.iconst 1, 1) := dk_4 (dk_at dksX1_sign_0 18 rfl rfl)
theorem dX1_sign_19 : decode cX1_sign 19 = .ok (.isub, 1) := dk_100 (dk_at dksX1_sign_0 19 rfl rfl)
theorem dX1_sign_20 : decode cX1_sign 20 = .ok (.invokestatic 85, 3) := dk_184 0 85 (dk_at dksX1_sign_0 20 rfl rfl)
theorem dX1_sign_23 : decode cX1_sign 23 = .ok (.ifCond .eq 7, 3) := dk_153 0 7 (dk_at dksX1_sign_1 0 rfl rfl)
theorem dX1_sign_26 : decode cX1_sign 26 = .ok (.iconst 1, 1) := dk_4 (dk_at dksX1_sign_1 3 rfl rfl)
theorem dX1_sign_27 : decode cX1_sign 27 = .ok (.goto 4, 3) := dk_167 0 4 (dk_at dksX1_sign_1 4 rfl rfl)
theorem dX1_sign_30 : decode cX1_sign 30 = .ok (.iconst 0, 1) := dk_3 (dk_at dksX1_sign_1 7 rfl rfl)
theorem dX1_sign_31 : decode cX1_sign 31 = .ok (.invokestatic 122, 3) := dk_184 0 122 (dk_at dksX1_sign_1 8 rfl rfl)
theorem dX1_sign_34 : decode cX1_sign 34 = .ok (.aload_n 0, 1) := dk_42 (dk_at dksX1_sign_1 11 rfl rfl)
theorem dX1_sign_35 : decode cX1_sign 35 = .ok (.iload_n 1, 1) := dk_27 (dk_at dksX1_sign_1 12 rfl rfl)
theorem dX1_sign_36 : decode cX1_sign 36 = .ok (.invokevirtual 189, 3) := dk_182 0 189 (dk_at dksX1_sign_1 13 rfl rfl)
theorem dX1_sign_39 : decode cX1_sign 39 = .ok (.iload_n 2, 1) := dk_28 (dk_at dksX1_sign_1 16 rfl rfl)
theorem dX1_sign_40 : decode cX1_sign 40 = .ok (.invokevirtual 444, 3) := dk_182 1 188 (dk_at dksX1_sign_1 17 rfl rfl)
theorem dX1_sign_43 : decode cX1_sign 43 = .ok (.ifCond .eq 8, 3) := dk_153 0 8 (dk_at dksX1_sign_1 20 rfl rfl)
theorem dX1_sign_46 : decode cX1_sign 46 = .ok (.bipush 42, 2) := dk_16 42 (dk_at dksX1_sign_2 0 rfl rfl)
theorem dX1_sign_48 : decode cX1_sign 48 = .ok (.goto 5, 3) := dk_167 0 5 (dk_at dksX1_sign_2 2 rfl rfl)
theorem dX1_sign_51 : decode cX1_sign 51 = .ok (.bipush 46, 2) := dk_16 46 (dk_at dksX1_sign_2 5 rfl rfl)
theorem dX1_sign_53 : decode cX1_sign 53 = .ok (.ireturn, 1) := dk_172 (dk_at dksX1_sign_2 7 rfl rfl)
abbrev cX1_lensOf : ByteArray := prog_1_method_58_code
def yX1_lensOf : MethodName := ⟨RX1, "lensOf", "(II)I"⟩
def dkwX1_lensOf_3 : List UInt8 := [160, 0, 11, 42, 45, 182, 1, 192, 167, 0, 14, 42, 180, 0, 10, 180, 0, 173, 45, 182, 1, 196, 172]
abbrev dktX1_lensOf_3 : List UInt8 := dkwX1_lensOf_3 ++ []
def dkwX1_lensOf_2 : List UInt8 := [154, 0, 10, 45, 180, 1, 7, 167, 0, 39, 28, 4, 160, 0, 10, 45, 180, 1, 191, 167, 0, 27, 28, 5]
abbrev dktX1_lensOf_2 : List UInt8 := dkwX1_lensOf_2 ++ dktX1_lensOf_3
def dkwX1_lensOf_1 : List UInt8 := [184, 0, 85, 184, 0, 126, 42, 180, 0, 10, 180, 0, 167, 27, 182, 0, 112, 192, 0, 170, 78, 28]
abbrev dktX1_lensOf_1 : List UInt8 := dkwX1_lensOf_1 ++ dktX1_lensOf_2
def dkwX1_lensOf_0 : List UInt8 := [27, 3, 42, 180, 0, 10, 180, 0, 167, 182, 0, 81, 4, 100, 184, 0, 85, 184, 0, 122, 28, 3, 6]
abbrev dktX1_lensOf_0 : List UInt8 := dkwX1_lensOf_0 ++ dktX1_lensOf_1
theorem dksX1_lensOf_0 : cX1_lensOf.data.toList.drop 0 = dktX1_lensOf_0 := by decide +kernel
theorem dksX1_lensOf_1 : cX1_lensOf.data.toList.drop 23 = dktX1_lensOf_1 := dk_seg dksX1_lensOf_0 23 rfl rfl
theorem dksX1_lensOf_2 : cX1_lensOf.data.toList.drop 45 = dktX1_lensOf_2 := dk_seg dksX1_lensOf_1 22 rfl rfl
theorem dksX1_lensOf_3 : cX1_lensOf.data.toList.drop 69 = dktX1_lensOf_3 := dk_seg dksX1_lensOf_2 24 rfl rfl
theorem dX1_lensOf_0 : decode cX1_lensOf 0 = .ok (.iload_n 1, 1) := dk_27 (dk_at dksX1_lensOf_0 0 rfl rfl)
theorem dX1_lensOf_1 : decode cX1_lensOf 1 = .ok (.iconst 0, 1) := dk_3 (dk_at dksX1_lensOf_0 1 rfl rfl)
theorem dX1_lensOf_2 : decode cX1_lensOf 2 = .ok (.aload_n 0, 1) := dk_42 (dk_at dksX1_lensOf_0 2 rfl rfl)
theorem dX1_lensOf_3 : decode cX1_lensOf 3 = .ok (.getfield 10, 3) := dk_180 0 10 (dk_at dksX1_lensOf_0 3 rfl rfl)
theorem dX1_lensOf_6 : decode cX1_lensOf 6 = .ok (.getfield 167, 3) := dk_180 0 167 (dk_at dksX1_lensOf_0 6 rfl rfl)
theorem dX1_lensOf_9 : decode cX1_lensOf 9 = .ok (.invokevirtual 81, 3) := dk_182 0 81 (dk_at dksX1_lensOf_0 9 rfl rfl)
theorem dX1_lensOf_12 : decode cX1_lensOf 12 = .ok (.iconst 1, 1) := dk_4 (dk_at dksX1_lensOf_0 12 rfl rfl)
theorem dX1_lensOf_13 : decode cX1_lensOf 13 = .ok (.isub, 1) := dk_100 (dk_at dksX1_lensOf_0 13 rfl rfl)
theorem dX1_lensOf_14 : decode cX1_lensOf 14 = .ok (.invokestatic 85, 3) := dk_184 0 85 (dk_at dksX1_lensOf_0 14 rfl rfl)
theorem dX1_lensOf_17 : decode cX1_lensOf 17 = .ok (.invokestatic 122, 3) := dk_184 0 122 (dk_at dksX1_lensOf_0 17 rfl rfl)
theorem dX1_lensOf_20 : decode cX1_lensOf 20 = .ok (.iload_n 2, 1) := dk_28 (dk_at dksX1_lensOf_0 20 rfl rfl)
theorem dX1_lensOf_21 : decode cX1_lensOf 21 = .ok (.iconst 0, 1) := dk_3 (dk_at dksX1_lensOf_0 21 rfl rfl)
theorem dX1_lensOf_22 : decode cX1_lensOf 22 = .ok (.iconst 3, 1) := dk_6 (dk_at dksX1_lensOf_0 22 rfl rfl)
theorem dX1_lensOf_23 : decode cX1_lensOf 23 = .ok (.invokestatic 85, 3) := dk_184 0 85 (dk_at dksX1_lensOf_1 0 rfl rfl)
theorem dX1_lensOf_26 : decode cX1_lensOf 26 = .ok (.invokestatic 126, 3) := dk_184 0 126 (dk_at dksX1_lensOf_1 3 rfl rfl)
theorem dX1_lensOf_29 : decode cX1_lensOf 29 = .ok (.aload_n 0, 1) := dk_42 (dk_at dksX1_lensOf_1 6 rfl rfl)
theorem dX1_lensOf_30 : decode cX1_lensOf 30 = .ok (.getfield 10, 3) := dk_180 0 10 (dk_at dksX1_lensOf_1 7 rfl rfl)
theorem dX1_lensOf_33 : decode cX1_lensOf 33 = .ok (.getfield 167, 3) := dk_180 0 167 (dk_at dksX1_lensOf_1 10 rfl rfl)
theorem dX1_lensOf_36 : decode cX1_lensOf 36 = .ok (.iload_n 1, 1) := dk_27 (dk_at dksX1_lensOf_1 13 rfl rfl)
theorem dX1_lensOf_37 : decode cX1_lensOf 37 = .ok (.invokevirtual 112, 3) := dk_182 0 112 (dk_at dksX1_lensOf_1 14 rfl rfl)
theorem dX1_lensOf_40 : decode cX1_lensOf 40 = .ok (.checkcast 170, 3) := dk_192 0 170 (dk_at dksX1_lensOf_1 17 rfl rfl)
theorem dX1_lensOf_43 : decode cX1_lensOf 43 = .ok (.astore_n 3, 1) := dk_78 (dk_at dksX1_lensOf_1 20 rfl rfl)
theorem dX1_lensOf_44 : decode cX1_lensOf 44 = .ok (.iload_n 2, 1) := dk_28 (dk_at dksX1_lensOf_1 21 rfl rfl)
theorem dX1_lensOf_45 : decode cX1_lensOf 45 = .ok (.ifCond .ne 10, 3) := dk_154 0 10 (dk_at dksX1_lensOf_2 0 rfl rfl)
theorem dX1_lensOf_48 : decode cX1_lensOf 48 = .ok (.aload_n 3, 1) := dk_45 (dk_at dksX1_lensOf_2 3 rfl rfl)
theorem dX1_lensOf_49 : decode cX1_lensOf 49 = .ok (.getfield 263, 3) := dk_180 1 7 (dk_at dksX1_lensOf_2 4 rfl rfl)
theorem dX1_lensOf_52 : decode cX1_lensOf 52 = .ok (.goto 39, 3) := dk_167 0 39 (dk_at dksX1_lensOf_2 7 rfl rfl)
theorem dX1_lensOf_55 : decode cX1_lensOf 55 = .ok (.iload_n 2, 1) := dk_28 (dk_at dksX1_lensOf_2 10 rfl rfl)
theorem dX1_lensOf_56 : decode cX1_lensOf 56 = .ok (.iconst 1, 1) := dk_4 (dk_at dksX1_lensOf_2 11 rfl rfl)
theorem dX1_lensOf_57 : decode cX1_lensOf 57 = .ok (.if_icmp .ne 10, 3) := dk_160 0 10 (dk_at dksX1_lensOf_2 12 rfl rfl)
theorem dX1_lensOf_60 : decode cX1_lensOf 60 = .ok (.aload_n 3, 1) := dk_45 (dk_at dksX1_lensOf_2 15 rfl rfl)
theorem dX1_lensOf_61 : decode cX1_lensOf 61 = .ok (.getfield 447, 3) := dk_180 1 191 (dk_at dksX1_lensOf_2 16 rfl rfl)
theorem dX1_lensOf_64 : decode cX1_lensOf 64 = .ok (.goto 27, 3) := dk_167 0 27 (dk_at dksX1_lensOf_2 19 rfl rfl)
theorem dX1_lensOf_67 : decode cX1_lensOf 67 = .ok (.iload_n 2, 1) := dk_28 (dk_at dksX1_lensOf_2 22 rfl rfl)
theorem dX1_lensOf_68 : decode cX1_lensOf 68 = .ok (.iconst 2, 1) := dk_5 (dk_at dksX1_lensOf_2 23 rfl rfl)
theorem dX1_lensOf_69 : decode cX1_lensOf 69 = .ok (.if_icmp .ne 11, 3) := dk_160 0 11 (dk_at dksX1_lensOf_3 0 rfl rfl)
theorem dX1_lensOf_72 : decode cX1_lensOf 72 = .ok (.aload_n 0, 1) := dk_42 (dk_at dksX1_lensOf_3 3 rfl rfl)
theorem dX1_lensOf_73 : decode cX1_lensOf 73 = .ok (.aload_n 3, 1) := dk_45 (dk_at dksX1_lensOf_3 4 rfl rfl)
theorem dX1_lensOf_74 : decode cX1_lensOf 74 = .ok (.invokevirtual 448, 3) := dk_182 1 192 (dk_at dksX1_lensOf_3 5 rfl rfl)
theorem dX1_lensOf_77 : decode cX1_lensOf 77 = .ok (.goto 14, 3) := dk_167 0 14 (dk_at dksX1_lensOf_3 8 rfl rfl)
theorem dX1_lensOf_80 : decode cX1_lensOf 80 = .ok (.aload_n 0, 1) := dk_42 (dk_at dksX1_lensOf_3 11 rfl rfl)
theorem dX1_lensOf_81 : decode cX1_lensOf 81 = .ok (.getfield 10, 3) := dk_180 0 10 (dk_at dksX1_lensOf_3 12 rfl rfl)
theorem dX1_lensOf_84 : decode cX1_lensOf 84 = .ok (.getfield 173, 3) := dk_180 0 173 (dk_at dksX1_lensOf_3 15 rfl rfl)
theorem dX1_lensOf_87 : decode cX1_lensOf 87 = .ok (.aload_n 3, 1) := dk_45 (dk_at dksX1_lensOf_3 18 rfl rfl)
theorem dX1_lensOf_88 : decode cX1_lensOf 88 = .ok (.invokevirtual 452, 3) := dk_182 1 196 (dk_at dksX1_lensOf_3 19 rfl rfl)
theorem dX1_lensOf_91 : decode cX1_lensOf 91 = .ok (.ireturn, 1) := dk_172 (dk_at dksX1_lensOf_3 22 rfl rfl)
abbrev cX1_towerWith : ByteArray := prog_1_method_57_code
def yX1_towerWith : MethodName := ⟨RX1, "towerWith", "(LSkerryLights$Lens;)I"⟩
def dkwX1_towerWith_2 : List UInt8 := [167, 255, 224, 43, 180, 1, 10, 153, 0, 8, 16, 254, 167, 0, 4, 2, 172]
abbrev dktX1_towerWith_2 : List UInt8 := dkwX1_towerWith_2 ++ []
def dkwX1_towerWith_1 : List UInt8 := [185, 0, 142, 1, 0, 192, 0, 116, 78, 45, 180, 0, 250, 43, 166, 0, 8, 45, 180, 0, 150, 172]
abbrev dktX1_towerWith_1 : List UInt8 := dkwX1_towerWith_1 ++ dktX1_towerWith_2
def dkwX1_towerWith_0 : List UInt8 := [42, 180, 0, 10, 180, 0, 78, 182, 0, 132, 77, 44, 185, 0, 136, 1, 0, 153, 0, 29, 44]
abbrev dktX1_towerWith_0 : List UInt8 := dkwX1_towerWith_0 ++ dktX1_towerWith_1
theorem dksX1_towerWith_0 : cX1_towerWith.data.toList.drop 0 = dktX1_towerWith_0 := by decide +kernel
theorem dksX1_towerWith_1 : cX1_towerWith.data.toList.drop 21 = dktX1_towerWith_1 := dk_seg dksX1_towerWith_0 21 rfl rfl
theorem dksX1_towerWith_2 : cX1_towerWith.data.toList.drop 43 = dktX1_towerWith_2 := dk_seg dksX1_towerWith_1 22 rfl rfl
theorem dX1_towerWith_0 : decode cX1_towerWith 0 = .ok (.aload_n 0, 1) := dk_42 (dk_at dksX1_towerWith_0 0 rfl rfl)
theorem dX1_towerWith_1 : decode cX1_towerWith 1 = .ok (.getfield 10, 3) := dk_180 0 10 (dk_at dksX1_towerWith_0 1 rfl rfl)
theorem dX1_towerWith_4 : decode cX1_towerWith 4 = .ok (.getfield 78, 3) := dk_180 0 78 (dk_at dksX1_towerWith_0 4 rfl rfl)
theorem dX1_towerWith_7 : decode cX1_towerWith 7 = .ok (.invokevirtual 132, 3) := dk_182 0 132 (dk_at dksX1_towerWith_0 7 rfl rfl)
theorem dX1_towerWith_10 : decode cX1_towerWith 10 = .ok (.astore_n 2, 1) := dk_77 (dk_at dksX1_towerWith_0 10 rfl rfl)
theorem dX1_towerWith_11 : decode cX1_towerWith 11 = .ok (.aload_n 2, 1) := dk_44 (dk_at dksX1_towerWith_0 11 rfl rfl)
theorem dX1_towerWith_12 : decode cX1_towerWith 12 = .ok (.invokeinterface 136 1, 5) := by decide +kernel
theorem dX1_towerWith_17 : decode cX1_towerWith 17 = .ok (.ifCond .eq 29, 3) := dk_153 0 29 (dk_at dksX1_towerWith_0 17 rfl rfl)
theorem dX1_towerWith_20 : decode cX1_towerWith 20 = .ok (.aload_n 2, 1) := dk_44 (dk_at dksX1_towerWith_0 20 rfl rfl)
theorem dX1_towerWith_21 : decode cX1_towerWith 21 = .ok (.invokeinterface 142 1, 5) := by decide +kernel
theorem dX1_towerWith_26 : decode cX1_towerWith 26 = .ok (.checkcast 116, 3) := dk_192 0 116 (dk_at dksX1_towerWith_1 5 rfl rfl)
theorem dX1_towerWith_29 : decode cX1_towerWith 29 = .ok (.astore_n 3, 1) := dk_78 (dk_at dksX1_towerWith_1 8 rfl rfl)
theorem dX1_towerWith_30 : decode cX1_towerWith 30 = .ok (.aload_n 3, 1) := dk_45 (dk_at dksX1_towerWith_1 9 rfl rfl)
theorem dX1_towerWith_31 : decode cX1_towerWith 31 = .ok (.getfield 250, 3) := dk_180 0 250 (dk_at dksX1_towerWith_1 10 rfl rfl)
theorem dX1_towerWith_34 : decode cX1_towerWith 34 = .ok (.aload_n 1, 1) := dk_43 (dk_at dksX1_towerWith_1 13 rfl rfl)
theorem dX1_towerWith_35 : decode cX1_towerWith 35 = .ok (.if_acmp .ne 8, 3) := dk_166 0 8 (dk_at dksX1_towerWith_1 14 rfl rfl)
theorem dX1_towerWith_38 : decode cX1_towerWith 38 = .ok (.aload_n 3, 1) := dk_45 (dk_at dksX1_towerWith_1 17 rfl rfl)
theorem dX1_towerWith_39 : decode cX1_towerWith 39 = .ok (.getfield 150, 3) := dk_180 0 150 (dk_at dksX1_towerWith_1 18 rfl rfl)
theorem dX1_towerWith_42 : decode cX1_towerWith 42 = .ok (.ireturn, 1) := dk_172 (dk_at dksX1_towerWith_1 21 rfl rfl)
theorem dX1_towerWith_43 : decode cX1_towerWith 43 = .ok (.goto (-32), 3) := dk_167 255 224 (dk_at dksX1_towerWith_2 0 rfl rfl)
theorem dX1_towerWith_46 : decode cX1_towerWith 46 = .ok (.aload_n 1, 1) := dk_43 (dk_at dksX1_towerWith_2 3 rfl rfl)
theorem dX1_towerWith_47 : decode cX1_towerWith 47 = .ok (.getfield 266, 3) := dk_180 1 10 (dk_at dksX1_towerWith_2 4 rfl rfl)
theorem dX1_towerWith_50 : decode cX1_towerWith 50 = .ok (.ifCond .eq 8, 3) := dk_153 0 8 (dk_at dksX1_towerWith_2 7 rfl rfl)
theorem dX1_towerWith_53 : decode cX1_towerWith 53 = .ok (.bipush (-2), 2) := dk_16 254 (dk_at dksX1_towerWith_2 10 rfl rfl)
theorem dX1_towerWith_55 : decode cX1_towerWith 55 = .ok (.goto 4, 3) := dk_167 0 4 (dk_at dksX1_towerWith_2 12 rfl rfl)
theorem dX1_towerWith_58 : decode cX1_towerWith 58 = .ok (.iconst (-1), 1) := dk_2 (dk_at dksX1_towerWith_2 15 rfl rfl)
theorem dX1_towerWith_59 : decode cX1_towerWith 59 = .ok (.ireturn, 1) := dk_172 (dk_at dksX1_towerWith_2 16 rfl rfl)
abbrev cX1_account : ByteArray := prog_1_method_62_code
def yX1_account : MethodName := ⟨RX1, "account", "(I)I"⟩
def dkwX1_account_6 : List UInt8 := [180, 0, 19, 182, 0, 107, 172]
abbrev dktX1_account_6 : List UInt8 := dkwX1_account_6 ++ []
def dkwX1_account_5 : List UInt8 := [180, 1, 206, 172, 42, 182, 1, 209, 172, 42, 182, 1, 211, 172, 42, 180, 0, 26, 182, 1, 89, 172, 42]
abbrev dktX1_account_5 : List UInt8 := dkwX1_account_5 ++ dktX1_account_6
def dkwX1_account_4 : List UInt8 := [182, 1, 197, 172, 42, 180, 0, 10, 180, 1, 200, 172, 42, 180, 0, 10, 180, 1, 203, 172, 42, 180, 0, 10]
abbrev dktX1_account_4 : List UInt8 := dkwX1_account_4 ++ dktX1_account_5
def dkwX1_account_3 : List UInt8 := [42, 180, 0, 10, 180, 0, 167, 182, 0, 81, 172, 42, 180, 0, 10, 180, 0, 173, 182, 0, 107, 172, 42]
abbrev dktX1_account_3 : List UInt8 := dkwX1_account_3 ++ dktX1_account_4
def dkwX1_account_2 : List UInt8 := [42, 180, 0, 10, 180, 0, 78, 182, 0, 81, 172, 42, 180, 0, 10, 182, 0, 224, 172, 42, 182, 0, 243, 172]
abbrev dktX1_account_2 : List UInt8 := dkwX1_account_2 ++ dktX1_account_3
def dkwX1_account_1 : List UInt8 := [170, 0, 0, 0, 154, 0, 0, 0, 0, 0, 0, 0, 11, 0, 0, 0, 61, 0, 0, 0, 72, 0, 0, 0, 80, 0, 0, 0, 85, 0, 0, 0, 96, 0, 0, 0, 107, 0, 0, 0, 112, 0, 0, 0, 120, 0, 0, 0, 128, 0, 0, 0, 136, 0, 0, 0, 141, 0, 0, 0, 146]
abbrev dktX1_account_1 : List UInt8 := dkwX1_account_1 ++ dktX1_account_2
def dkwX1_account_0 : List UInt8 := [27, 3, 16, 12, 184, 0, 85, 184, 0, 126, 27]
abbrev dktX1_account_0 : List UInt8 := dkwX1_account_0 ++ dktX1_account_1
theorem dksX1_account_0 : cX1_account.data.toList.drop 0 = dktX1_account_0 := by decide +kernel
theorem dksX1_account_1 : cX1_account.data.toList.drop 11 = dktX1_account_1 := dk_seg dksX1_account_0 11 rfl rfl
theorem dksX1_account_2 : cX1_account.data.toList.drop 72 = dktX1_account_2 := dk_seg dksX1_account_1 61 rfl rfl
theorem dksX1_account_3 : cX1_account.data.toList.drop 96 = dktX1_account_3 := dk_seg dksX1_account_2 24 rfl rfl
theorem dksX1_account_4 : cX1_account.data.toList.drop 119 = dktX1_account_4 := dk_seg dksX1_account_3 23 rfl rfl
theorem dksX1_account_5 : cX1_account.data.toList.drop 143 = dktX1_account_5 := dk_seg dksX1_account_4 24 rfl rfl
theorem dksX1_account_6 : cX1_account.data.toList.drop 166 = dktX1_account_6 := dk_seg dksX1_account_5 23 rfl rfl
theorem dX1_account_0 : decode cX1_account 0 = .ok (.iload_n 1, 1) := dk_27 (dk_at dksX1_account_0 0 rfl rfl)
theorem dX1_account_1 : decode cX1_account 1 = .ok (.iconst 0, 1) := dk_3 (dk_at dksX1_account_0 1 rfl rfl)
theorem dX1_account_2 : decode cX1_account 2 = .ok (.bipush 12, 2) := dk_16 12 (dk_at dksX1_account_0 2 rfl rfl)
theorem dX1_account_4 : decode cX1_account 4 = .ok (.invokestatic 85, 3) := dk_184 0 85 (dk_at dksX1_account_0 4 rfl rfl)
theorem dX1_account_7 : decode cX1_account 7 = .ok (.invokestatic 126, 3) := dk_184 0 126 (dk_at dksX1_account_0 7 rfl rfl)
theorem dX1_account_10 : decode cX1_account 10 = .ok (.iload_n 1, 1) := dk_27 (dk_at dksX1_account_0 10 rfl rfl)
theorem dX1_account_11 : decode cX1_account 11 = .ok (.tableswitch 154 0 11 #[61, 72, 80, 85, 96, 107, 112, 120, 128, 136, 141, 146], 61) := by decide +kernel
theorem dX1_account_72 : decode cX1_account 72 = .ok (.aload_n 0, 1) := dk_42 (dk_at dksX1_account_2 0 rfl rfl)
theorem dX1_account_73 : decode cX1_account 73 = .ok (.getfield 10, 3) := dk_180 0 10 (dk_at dksX1_account_2 1 rfl rfl)
theorem dX1_account_76 : decode cX1_account 76 = .ok (.getfield 78, 3) := dk_180 0 78 (dk_at dksX1_account_2 4 rfl rfl)
theorem dX1_account_79 : decode cX1_account 79 = .ok (.invokevirtual 81, 3) := dk_182 0 81 (dk_at dksX1_account_2 7 rfl rfl)
theorem dX1_account_82 : decode cX1_account 82 = .ok (.ireturn, 1) := dk_172 (dk_at dksX1_account_2 10 rfl rfl)
theorem dX1_account_83 : decode cX1_account 83 = .ok (.aload_n 0, 1) := dk_42 (dk_at dksX1_account_2 11 rfl rfl)
theorem dX1_account_84 : decode cX1_account 84 = .ok (.getfield 10, 3) := dk_180 0 10 (dk_at dksX1_account_2 12 rfl rfl)
theorem dX1_account_87 : decode cX1_account 87 = .ok (.invokevirtual 224, 3) := dk_182 0 224 (dk_at dksX1_account_2 15 rfl rfl)
theorem dX1_account_90 : decode cX1_account 90 = .ok (.ireturn, 1) := dk_172 (dk_at dksX1_account_2 18 rfl rfl)
theorem dX1_account_91 : decode cX1_account 91 = .ok (.aload_n 0, 1) := dk_42 (dk_at dksX1_account_2 19 rfl rfl)
theorem dX1_account_92 : decode cX1_account 92 = .ok (.invokevirtual 243, 3) := dk_182 0 243 (dk_at dksX1_account_2 20 rfl rfl)
theorem dX1_account_95 : decode cX1_account 95 = .ok (.ireturn, 1) := dk_172 (dk_at dksX1_account_2 23 rfl rfl)
theorem dX1_account_96 : decode cX1_account 96 = .ok (.aload_n 0, 1) := dk_42 (dk_at dksX1_account_3 0 rfl rfl)
theorem dX1_account_97 : decode cX1_account 97 = .ok (.getfield 10, 3) := dk_180 0 10 (dk_at dksX1_account_3 1 rfl rfl)
theorem dX1_account_100 : decode cX1_account 100 = .ok (.getfield 167, 3) := dk_180 0 167 (dk_at dksX1_account_3 4 rfl rfl)
theorem dX1_account_103 : decode cX1_account 103 = .ok (.invokevirtual 81, 3) := dk_182 0 81 (dk_at dksX1_account_3 7 rfl rfl)
theorem dX1_account_106 : decode cX1_account 106 = .ok (.ireturn, 1) := dk_172 (dk_at dksX1_account_3 10 rfl rfl)
theorem dX1_account_107 : decode cX1_account 107 = .ok (.aload_n 0, 1) := dk_42 (dk_at dksX1_account_3 11 rfl rfl)
theorem dX1_account_108 : decode cX1_account 108 = .ok (.getfield 10, 3) := dk_180 0 10 (dk_at dksX1_account_3 12 rfl rfl)
theorem dX1_account_111 : decode cX1_account 111 = .ok (.getfield 173, 3) := dk_180 0 173 (dk_at dksX1_account_3 15 rfl rfl)
theorem dX1_account_114 : decode cX1_account 114 = .ok (.invokevirtual 107, 3) := dk_182 0 107 (dk_at dksX1_account_3 18 rfl rfl)
theorem dX1_account_117 : decode cX1_account 117 = .ok (.ireturn, 1) := dk_172 (dk_at dksX1_account_3 21 rfl rfl)
theorem dX1_account_118 : decode cX1_account 118 = .ok (.aload_n 0, 1) := dk_42 (dk_at dksX1_account_3 22 rfl rfl)
theorem dX1_account_119 : decode cX1_account 119 = .ok (.invokevirtual 453, 3) := dk_182 1 197 (dk_at dksX1_account_4 0 rfl rfl)
theorem dX1_account_122 : decode cX1_account 122 = .ok (.ireturn, 1) := dk_172 (dk_at dksX1_account_4 3 rfl rfl)
theorem dX1_account_123 : decode cX1_account 123 = .ok (.aload_n 0, 1) := dk_42 (dk_at dksX1_account_4 4 rfl rfl)
theorem dX1_account_124 : decode cX1_account 124 = .ok (.getfield 10, 3) := dk_180 0 10 (dk_at dksX1_account_4 5 rfl rfl)
theorem dX1_account_127 : decode cX1_account 127 = .ok (.getfield 456, 3) := dk_180 1 200 (dk_at dksX1_account_4 8 rfl rfl)
theorem dX1_account_130 : decode cX1_account 130 = .ok (.ireturn, 1) := dk_172 (dk_at dksX1_account_4 11 rfl rfl)
theorem dX1_account_131 : decode cX1_account 131 = .ok (.aload_n 0, 1) := dk_42 (dk_at dksX1_account_4 12 rfl rfl)
theorem dX1_account_132 : decode cX1_account 132 = .ok (.getfield 10, 3) := dk_180 0 10 (dk_at dksX1_account_4 13 rfl rfl)
theorem dX1_account_135 : decode cX1_account 135 = .ok (.getfield 459, 3) := dk_180 1 203 (dk_at dksX1_account_4 16 rfl rfl)
theorem dX1_account_138 : decode cX1_account 138 = .ok (.ireturn, 1) := dk_172 (dk_at dksX1_account_4 19 rfl rfl)
theorem dX1_account_139 : decode cX1_account 139 = .ok (.aload_n 0, 1) := dk_42 (dk_at dksX1_account_4 20 rfl rfl)
theorem dX1_account_140 : decode cX1_account 140 = .ok (.getfield 10, 3) := dk_180 0 10 (dk_at dksX1_account_4 21 rfl rfl)
theorem dX1_account_143 : decode cX1_account 143 = .ok (.getfield 462, 3) := dk_180 1 206 (dk_at dksX1_account_5 0 rfl rfl)
theorem dX1_account_146 : decode cX1_account 146 = .ok (.ireturn, 1) := dk_172 (dk_at dksX1_account_5 3 rfl rfl)
theorem dX1_account_147 : decode cX1_account 147 = .ok (.aload_n 0, 1) := dk_42 (dk_at dksX1_account_5 4 rfl rfl)
theorem dX1_account_148 : decode cX1_account 148 = .ok (.invokevirtual 465, 3) := dk_182 1 209 (dk_at dksX1_account_5 5 rfl rfl)
theorem dX1_account_151 : decode cX1_account 151 = .ok (.ireturn, 1) := dk_172 (dk_at dksX1_account_5 8 rfl rfl)
theorem dX1_account_152 : decode cX1_account 152 = .ok (.aload_n 0, 1) := dk_42 (dk_at dksX1_account_5 9 rfl rfl)
theorem dX1_account_153 : decode cX1_account 153 = .ok (.invokevirtual 467, 3) := dk_182 1 211 (dk_at dksX1_account_5 10 rfl rfl)
theorem dX1_account_156 : decode cX1_account 156 = .ok (.ireturn, 1) := dk_172 (dk_at dksX1_account_5 13 rfl rfl)
theorem dX1_account_157 : decode cX1_account 157 = .ok (.aload_n 0, 1) := dk_42 (dk_at dksX1_account_5 14 rfl rfl)
theorem dX1_account_158 : decode cX1_account 158 = .ok (.getfield 26, 3) := dk_180 0 26 (dk_at dksX1_account_5 15 rfl rfl)
theorem dX1_account_161 : decode cX1_account 161 = .ok (.invokevirtual 345, 3) := dk_182 1 89 (dk_at dksX1_account_5 18 rfl rfl)
theorem dX1_account_164 : decode cX1_account 164 = .ok (.ireturn, 1) := dk_172 (dk_at dksX1_account_5 21 rfl rfl)
theorem dX1_account_165 : decode cX1_account 165 = .ok (.aload_n 0, 1) := dk_42 (dk_at dksX1_account_5 22 rfl rfl)
theorem dX1_account_166 : decode cX1_account 166 = .ok (.getfield 19, 3) := dk_180 0 19 (dk_at dksX1_account_6 0 rfl rfl)
theorem dX1_account_169 : decode cX1_account 169 = .ok (.invokevirtual 107, 3) := dk_182 0 107 (dk_at dksX1_account_6 3 rfl rfl)
theorem dX1_account_172 : decode cX1_account 172 = .ok (.ireturn, 1) := dk_172 (dk_at dksX1_account_6 6 rfl rfl)
abbrev cX1_scrapped : ByteArray := prog_1_method_59_code
def yX1_scrapped : MethodName := ⟨RX1, "scrapped", "()I"⟩
def dkwX1_scrapped_2 : List UInt8 := [167, 255, 222, 27, 172]
abbrev dktX1_scrapped_2 : List UInt8 := dkwX1_scrapped_2 ++ []
def dkwX1_scrapped_1 : List UInt8 := [185, 0, 142, 1, 0, 192, 0, 170, 78, 27, 45, 180, 1, 10, 153, 0, 7, 4, 167, 0, 4, 3, 96, 60]
abbrev dktX1_scrapped_1 : List UInt8 := dkwX1_scrapped_1 ++ dktX1_scrapped_2
def dkwX1_scrapped_0 : List UInt8 := [3, 60, 42, 180, 0, 10, 180, 0, 167, 182, 0, 132, 77, 44, 185, 0, 136, 1, 0, 153, 0, 31, 44]
abbrev dktX1_scrapped_0 : List UInt8 := dkwX1_scrapped_0 ++ dktX1_scrapped_1
theorem dksX1_scrapped_0 : cX1_scrapped.data.toList.drop 0 = dktX1_scrapped_0 := by decide +kernel
theorem dksX1_scrapped_1 : cX1_scrapped.data.toList.drop 23 = dktX1_scrapped_1 := dk_seg dksX1_scrapped_0 23 rfl rfl
theorem dksX1_scrapped_2 : cX1_scrapped.data.toList.drop 47 = dktX1_scrapped_2 := dk_seg dksX1_scrapped_1 24 rfl rfl
theorem dX1_scrapped_0 : decode cX1_scrapped 0 = .ok (.iconst 0, 1) := dk_3 (dk_at dksX1_scrapped_0 0 rfl rfl)
theorem dX1_scrapped_1 : decode cX1_scrapped 1 = .ok (.istore_n 1, 1) := dk_60 (dk_at dksX1_scrapped_0 1 rfl rfl)
theorem dX1_scrapped_2 : decode cX1_scrapped 2 = .ok (.aload_n 0, 1) := dk_42 (dk_at dksX1_scrapped_0 2 rfl rfl)
theorem dX1_scrapped_3 : decode cX1_scrapped 3 = .ok (.getfield 10, 3) := dk_180 0 10 (dk_at dksX1_scrapped_0 3 rfl rfl)
theorem dX1_scrapped_6 : decode cX1_scrapped 6 = .ok (.getfield 167, 3) := dk_180 0 167 (dk_at dksX1_scrapped_0 6 rfl rfl)
theorem dX1_scrapped_9 : decode cX1_scrapped 9 = .ok (.invokevirtual 132, 3) := dk_182 0 132 (dk_at dksX1_scrapped_0 9 rfl rfl)
theorem dX1_scrapped_12 : decode cX1_scrapped 12 = .ok (.astore_n 2, 1) := dk_77 (dk_at dksX1_scrapped_0 12 rfl rfl)
theorem dX1_scrapped_13 : decode cX1_scrapped 13 = .ok (.aload_n 2, 1) := dk_44 (dk_at dksX1_scrapped_0 13 rfl rfl)
theorem dX1_scrapped_14 : decode cX1_scrapped 14 = .ok (.invokeinterface 136 1, 5) := by decide +kernel
theorem dX1_scrapped_19 : decode cX1_scrapped 19 = .ok (.ifCond .eq 31, 3) := dk_153 0 31 (dk_at dksX1_scrapped_0 19 rfl rfl)
theorem dX1_scrapped_22 : decode cX1_scrapped 22 = .ok (.aload_n 2, 1) := dk_44 (dk_at dksX1_scrapped_0 22 rfl rfl)
theorem dX1_scrapped_23 : decode cX1_scrapped 23 = .ok (.invokeinterface 142 1, 5) := by decide +kernel
theorem dX1_scrapped_28 : decode cX1_scrapped 28 = .ok (.checkcast 170, 3) := dk_192 0 170 (dk_at dksX1_scrapped_1 5 rfl rfl)
theorem dX1_scrapped_31 : decode cX1_scrapped 31 = .ok (.astore_n 3, 1) := dk_78 (dk_at dksX1_scrapped_1 8 rfl rfl)
theorem dX1_scrapped_32 : decode cX1_scrapped 32 = .ok (.iload_n 1, 1) := dk_27 (dk_at dksX1_scrapped_1 9 rfl rfl)
theorem dX1_scrapped_33 : decode cX1_scrapped 33 = .ok (.aload_n 3, 1) := dk_45 (dk_at dksX1_scrapped_1 10 rfl rfl)
theorem dX1_scrapped_34 : decode cX1_scrapped 34 = .ok (.getfield 266, 3) := dk_180 1 10 (dk_at dksX1_scrapped_1 11 rfl rfl)
theorem dX1_scrapped_37 : decode cX1_scrapped 37 = .ok (.ifCond .eq 7, 3) := dk_153 0 7 (dk_at dksX1_scrapped_1 14 rfl rfl)
theorem dX1_scrapped_40 : decode cX1_scrapped 40 = .ok (.iconst 1, 1) := dk_4 (dk_at dksX1_scrapped_1 17 rfl rfl)
theorem dX1_scrapped_41 : decode cX1_scrapped 41 = .ok (.goto 4, 3) := dk_167 0 4 (dk_at dksX1_scrapped_1 18 rfl rfl)
theorem dX1_scrapped_44 : decode cX1_scrapped 44 = .ok (.iconst 0, 1) := dk_3 (dk_at dksX1_scrapped_1 21 rfl rfl)
theorem dX1_scrapped_45 : decode cX1_scrapped 45 = .ok (.iadd, 1) := dk_96 (dk_at dksX1_scrapped_1 22 rfl rfl)
theorem dX1_scrapped_46 : decode cX1_scrapped 46 = .ok (.istore_n 1, 1) := dk_60 (dk_at dksX1_scrapped_1 23 rfl rfl)
theorem dX1_scrapped_47 : decode cX1_scrapped 47 = .ok (.goto (-34), 3) := dk_167 255 222 (dk_at dksX1_scrapped_2 0 rfl rfl)
theorem dX1_scrapped_50 : decode cX1_scrapped 50 = .ok (.iload_n 1, 1) := dk_27 (dk_at dksX1_scrapped_2 3 rfl rfl)
theorem dX1_scrapped_51 : decode cX1_scrapped 51 = .ok (.ireturn, 1) := dk_172 (dk_at dksX1_scrapped_2 4 rfl rfl)
abbrev cX1_power : ByteArray := prog_1_method_60_code
def yX1_power : MethodName := ⟨RX1, "power", "()I"⟩
def dkwX1_power_2 : List UInt8 := [180, 1, 7, 96, 60, 167, 255, 219, 27, 172]
abbrev dktX1_power_2 : List UInt8 := dkwX1_power_2 ++ []
def dkwX1_power_1 : List UInt8 := [185, 0, 142, 1, 0, 192, 0, 170, 78, 27, 45, 180, 1, 10, 153, 0, 7, 3, 167, 0, 7, 45]
abbrev dktX1_power_1 : List UInt8 := dkwX1_power_1 ++ dktX1_power_2
def dkwX1_power_0 : List UInt8 := [3, 60, 42, 180, 0, 10, 180, 0, 167, 182, 0, 132, 77, 44, 185, 0, 136, 1, 0, 153, 0, 34, 44]
abbrev dktX1_power_0 : List UInt8 := dkwX1_power_0 ++ dktX1_power_1
theorem dksX1_power_0 : cX1_power.data.toList.drop 0 = dktX1_power_0 := by decide +kernel
theorem dksX1_power_1 : cX1_power.data.toList.drop 23 = dktX1_power_1 := dk_seg dksX1_power_0 23 rfl rfl
theorem dksX1_power_2 : cX1_power.data.toList.drop 45 = dktX1_power_2 := dk_seg dksX1_power_1 22 rfl rfl
theorem dX1_power_0 : decode cX1_power 0 = .ok (.iconst 0, 1) := dk_3 (dk_at dksX1_power_0 0 rfl rfl)
theorem dX1_power_1 : decode cX1_power 1 = .ok (.istore_n 1, 1) := dk_60 (dk_at dksX1_power_0 1 rfl rfl)
theorem dX1_power_2 : decode cX1_power 2 = .ok (.aload_n 0, 1) := dk_42 (dk_at dksX1_power_0 2 rfl rfl)
theorem dX1_power_3 : decode cX1_power 3 = .ok (.getfield 10, 3) := dk_180 0 10 (dk_at dksX1_power_0 3 rfl rfl)
theorem dX1_power_6 : decode cX1_power 6 = .ok (.getfield 167, 3) := dk_180 0 167 (dk_at dksX1_power_0 6 rfl rfl)
theorem dX1_power_9 : decode cX1_power 9 = .ok (.invokevirtual 132, 3) := dk_182 0 132 (dk_at dksX1_power_0 9 rfl rfl)
theorem dX1_power_12 : decode cX1_power 12 = .ok (.astore_n 2, 1) := dk_77 (dk_at dksX1_power_0 12 rfl rfl)
theorem dX1_power_13 : decode cX1_power 13 = .ok (.aload_n 2, 1) := dk_44 (dk_at dksX1_power_0 13 rfl rfl)
theorem dX1_power_14 : decode cX1_power 14 = .ok (.invokeinterface 136 1, 5) := by decide +kernel
theorem dX1_power_19 : decode cX1_power 19 = .ok (.ifCond .eq 34, 3) := dk_153 0 34 (dk_at dksX1_power_0 19 rfl rfl)
theorem dX1_power_22 : decode cX1_power 22 = .ok (.aload_n 2, 1) := dk_44 (dk_at dksX1_power_0 22 rfl rfl)
theorem dX1_power_23 : decode cX1_power 23 = .ok (.invokeinterface 142 1, 5) := by decide +kernel
theorem dX1_power_28 : decode cX1_power 28 = .ok (.checkcast 170, 3) := dk_192 0 170 (dk_at dksX1_power_1 5 rfl rfl)
theorem dX1_power_31 : decode cX1_power 31 = .ok (.astore_n 3, 1) := dk_78 (dk_at dksX1_power_1 8 rfl rfl)
theorem dX1_power_32 : decode cX1_power 32 = .ok (.iload_n 1, 1) := dk_27 (dk_at dksX1_power_1 9 rfl rfl)
theorem dX1_power_33 : decode cX1_power 33 = .ok (.aload_n 3, 1) := dk_45 (dk_at dksX1_power_1 10 rfl rfl)
theorem dX1_power_34 : decode cX1_power 34 = .ok (.getfield 266, 3) := dk_180 1 10 (dk_at dksX1_power_1 11 rfl rfl)
theorem dX1_power_37 : decode cX1_power 37 = .ok (.ifCond .eq 7, 3) := dk_153 0 7 (dk_at dksX1_power_1 14 rfl rfl)
theorem dX1_power_40 : decode cX1_power 40 = .ok (.iconst 0, 1) := dk_3 (dk_at dksX1_power_1 17 rfl rfl)
theorem dX1_power_41 : decode cX1_power 41 = .ok (.goto 7, 3) := dk_167 0 7 (dk_at dksX1_power_1 18 rfl rfl)
theorem dX1_power_44 : decode cX1_power 44 = .ok (.aload_n 3, 1) := dk_45 (dk_at dksX1_power_1 21 rfl rfl)
theorem dX1_power_45 : decode cX1_power 45 = .ok (.getfield 263, 3) := dk_180 1 7 (dk_at dksX1_power_2 0 rfl rfl)
theorem dX1_power_48 : decode cX1_power 48 = .ok (.iadd, 1) := dk_96 (dk_at dksX1_power_2 3 rfl rfl)
theorem dX1_power_49 : decode cX1_power 49 = .ok (.istore_n 1, 1) := dk_60 (dk_at dksX1_power_2 4 rfl rfl)
theorem dX1_power_50 : decode cX1_power 50 = .ok (.goto (-37), 3) := dk_167 255 219 (dk_at dksX1_power_2 5 rfl rfl)
theorem dX1_power_53 : decode cX1_power 53 = .ok (.iload_n 1, 1) := dk_27 (dk_at dksX1_power_2 8 rfl rfl)
theorem dX1_power_54 : decode cX1_power 54 = .ok (.ireturn, 1) := dk_172 (dk_at dksX1_power_2 9 rfl rfl)
abbrev cX1_fogs : ByteArray := prog_1_method_61_code
def yX1_fogs : MethodName := ⟨RX1, "fogs", "()I"⟩
def dkwX1_fogs_1 : List UInt8 := [21, 4, 46, 54, 5, 27, 21, 5, 96, 60, 132, 4, 1, 167, 255, 236, 27, 172]
abbrev dktX1_fogs_1 : List UInt8 := dkwX1_fogs_1 ++ []
def dkwX1_fogs_0 : List UInt8 := [3, 60, 42, 180, 0, 10, 180, 0, 246, 77, 44, 190, 62, 3, 54, 4, 21, 4, 29, 162, 0, 20, 44]
abbrev dktX1_fogs_0 : List UInt8 := dkwX1_fogs_0 ++ dktX1_fogs_1
theorem dksX1_fogs_0 : cX1_fogs.data.toList.drop 0 = dktX1_fogs_0 := by decide +kernel
theorem dksX1_fogs_1 : cX1_fogs.data.toList.drop 23 = dktX1_fogs_1 := dk_seg dksX1_fogs_0 23 rfl rfl
theorem dX1_fogs_0 : decode cX1_fogs 0 = .ok (.iconst 0, 1) := dk_3 (dk_at dksX1_fogs_0 0 rfl rfl)
theorem dX1_fogs_1 : decode cX1_fogs 1 = .ok (.istore_n 1, 1) := dk_60 (dk_at dksX1_fogs_0 1 rfl rfl)
theorem dX1_fogs_2 : decode cX1_fogs 2 = .ok (.aload_n 0, 1) := dk_42 (dk_at dksX1_fogs_0 2 rfl rfl)
theorem dX1_fogs_3 : decode cX1_fogs 3 = .ok (.getfield 10, 3) := dk_180 0 10 (dk_at dksX1_fogs_0 3 rfl rfl)
theorem dX1_fogs_6 : decode cX1_fogs 6 = .ok (.getfield 246, 3) := dk_180 0 246 (dk_at dksX1_fogs_0 6 rfl rfl)
theorem dX1_fogs_9 : decode cX1_fogs 9 = .ok (.astore_n 2, 1) := dk_77 (dk_at dksX1_fogs_0 9 rfl rfl)
theorem dX1_fogs_10 : decode cX1_fogs 10 = .ok (.aload_n 2, 1) := dk_44 (dk_at dksX1_fogs_0 10 rfl rfl)
theorem dX1_fogs_11 : decode cX1_fogs 11 = .ok (.arraylength, 1) := dk_190 (dk_at dksX1_fogs_0 11 rfl rfl)
theorem dX1_fogs_12 : decode cX1_fogs 12 = .ok (.istore_n 3, 1) := dk_62 (dk_at dksX1_fogs_0 12 rfl rfl)
theorem dX1_fogs_13 : decode cX1_fogs 13 = .ok (.iconst 0, 1) := dk_3 (dk_at dksX1_fogs_0 13 rfl rfl)
theorem dX1_fogs_14 : decode cX1_fogs 14 = .ok (.istore 4, 2) := dk_54 4 (dk_at dksX1_fogs_0 14 rfl rfl)
theorem dX1_fogs_16 : decode cX1_fogs 16 = .ok (.iload 4, 2) := dk_21 4 (dk_at dksX1_fogs_0 16 rfl rfl)
theorem dX1_fogs_18 : decode cX1_fogs 18 = .ok (.iload_n 3, 1) := dk_29 (dk_at dksX1_fogs_0 18 rfl rfl)
theorem dX1_fogs_19 : decode cX1_fogs 19 = .ok (.if_icmp .ge 20, 3) := dk_162 0 20 (dk_at dksX1_fogs_0 19 rfl rfl)
theorem dX1_fogs_22 : decode cX1_fogs 22 = .ok (.aload_n 2, 1) := dk_44 (dk_at dksX1_fogs_0 22 rfl rfl)
theorem dX1_fogs_23 : decode cX1_fogs 23 = .ok (.iload 4, 2) := dk_21 4 (dk_at dksX1_fogs_1 0 rfl rfl)
theorem dX1_fogs_25 : decode cX1_fogs 25 = .ok (.iaload, 1) := dk_46 (dk_at dksX1_fogs_1 2 rfl rfl)
theorem dX1_fogs_26 : decode cX1_fogs 26 = .ok (.istore 5, 2) := dk_54 5 (dk_at dksX1_fogs_1 3 rfl rfl)
theorem dX1_fogs_28 : decode cX1_fogs 28 = .ok (.iload_n 1, 1) := dk_27 (dk_at dksX1_fogs_1 5 rfl rfl)
theorem dX1_fogs_29 : decode cX1_fogs 29 = .ok (.iload 5, 2) := dk_21 5 (dk_at dksX1_fogs_1 6 rfl rfl)
theorem dX1_fogs_31 : decode cX1_fogs 31 = .ok (.iadd, 1) := dk_96 (dk_at dksX1_fogs_1 8 rfl rfl)
theorem dX1_fogs_32 : decode cX1_fogs 32 = .ok (.istore_n 1, 1) := dk_60 (dk_at dksX1_fogs_1 9 rfl rfl)
theorem dX1_fogs_33 : decode cX1_fogs 33 = .ok (.iinc 4 1, 3) := dk_132 4 1 (dk_at dksX1_fogs_1 10 rfl rfl)
theorem dX1_fogs_36 : decode cX1_fogs 36 = .ok (.goto (-20), 3) := dk_167 255 236 (dk_at dksX1_fogs_1 13 rfl rfl)
theorem dX1_fogs_39 : decode cX1_fogs 39 = .ok (.iload_n 1, 1) := dk_27 (dk_at dksX1_fogs_1 16 rfl rfl)
theorem dX1_fogs_40 : decode cX1_fogs 40 = .ok (.ireturn, 1) := dk_172 (dk_at dksX1_fogs_1 17 rfl rfl)
abbrev cX1_meanPower : ByteArray := prog_1_method_63_code
def yX1_meanPower : MethodName := ⟨RX1, "meanPower", "()D"⟩
def dkwX1_meanPower_3 : List UInt8 := [96, 61, 167, 255, 197, 28, 154, 0, 11, 187, 1, 214, 89, 183, 1, 216, 191, 27, 135, 28, 135, 111, 175]
abbrev dktX1_meanPower_3 : List UInt8 := dkwX1_meanPower_3 ++ []
def dkwX1_meanPower_2 : List UInt8 := [25, 4, 180, 0, 250, 180, 1, 7, 96, 60, 28, 25, 4, 180, 0, 250, 199, 0, 7, 3, 167, 0, 4, 4]
abbrev dktX1_meanPower_2 : List UInt8 := dkwX1_meanPower_2 ++ dktX1_meanPower_3
def dkwX1_meanPower_1 : List UInt8 := [45, 185, 0, 142, 1, 0, 192, 0, 116, 58, 4, 27, 25, 4, 180, 0, 250, 199, 0, 7, 3, 167, 0, 11]
abbrev dktX1_meanPower_1 : List UInt8 := dkwX1_meanPower_1 ++ dktX1_meanPower_2
def dkwX1_meanPower_0 : List UInt8 := [3, 60, 3, 61, 42, 180, 0, 10, 180, 0, 78, 182, 0, 132, 78, 45, 185, 0, 136, 1, 0, 153, 0, 56]
abbrev dktX1_meanPower_0 : List UInt8 := dkwX1_meanPower_0 ++ dktX1_meanPower_1
theorem dksX1_meanPower_0 : cX1_meanPower.data.toList.drop 0 = dktX1_meanPower_0 := by decide +kernel
theorem dksX1_meanPower_1 : cX1_meanPower.data.toList.drop 24 = dktX1_meanPower_1 := dk_seg dksX1_meanPower_0 24 rfl rfl
theorem dksX1_meanPower_2 : cX1_meanPower.data.toList.drop 48 = dktX1_meanPower_2 := dk_seg dksX1_meanPower_1 24 rfl rfl
theorem dksX1_meanPower_3 : cX1_meanPower.data.toList.drop 72 = dktX1_meanPower_3 := dk_seg dksX1_meanPower_2 24 rfl rfl
theorem dX1_meanPower_0 : decode cX1_meanPower 0 = .ok (.iconst 0, 1) := dk_3 (dk_at dksX1_meanPower_0 0 rfl rfl)
theorem dX1_meanPower_1 : decode cX1_meanPower 1 = .ok (.istore_n 1, 1) := dk_60 (dk_at dksX1_meanPower_0 1 rfl rfl)
theorem dX1_meanPower_2 : decode cX1_meanPower 2 = .ok (.iconst 0, 1) := dk_3 (dk_at dksX1_meanPower_0 2 rfl rfl)
theorem dX1_meanPower_3 : decode cX1_meanPower 3 = .ok (.istore_n 2, 1) := dk_61 (dk_at dksX1_meanPower_0 3 rfl rfl)
theorem dX1_meanPower_4 : decode cX1_meanPower 4 = .ok (.aload_n 0, 1) := dk_42 (dk_at dksX1_meanPower_0 4 rfl rfl)
theorem dX1_meanPower_5 : decode cX1_meanPower 5 = .ok (.getfield 10, 3) := dk_180 0 10 (dk_at dksX1_meanPower_0 5 rfl rfl)
theorem dX1_meanPower_8 : decode cX1_meanPower 8 = .ok (.getfield 78, 3) := dk_180 0 78 (dk_at dksX1_meanPower_0 8 rfl rfl)
theorem dX1_meanPower_11 : decode cX1_meanPower 11 = .ok (.invokevirtual 132, 3) := dk_182 0 132 (dk_at dksX1_meanPower_0 11 rfl rfl)
theorem dX1_meanPower_14 : decode cX1_meanPower 14 = .ok (.astore_n 3, 1) := dk_78 (dk_at dksX1_meanPower_0 14 rfl rfl)
theorem dX1_meanPower_15 : decode cX1_meanPower 15 = .ok (.aload_n 3, 1) := dk_45 (dk_at dksX1_meanPower_0 15 rfl rfl)
theorem dX1_meanPower_16 : decode cX1_meanPower 16 = .ok (.invokeinterface 136 1, 5) := by decide +kernel
theorem dX1_meanPower_21 : decode cX1_meanPower 21 = .ok (.ifCond .eq 56, 3) := dk_153 0 56 (dk_at dksX1_meanPower_0 21 rfl rfl)
theorem dX1_meanPower_24 : decode cX1_meanPower 24 = .ok (.aload_n 3, 1) := dk_45 (dk_at dksX1_meanPower_1 0 rfl rfl)
theorem dX1_meanPower_25 : decode cX1_meanPower 25 = .ok (.invokeinterface 142 1, 5) := by decide +kernel
theorem dX1_meanPower_30 : decode cX1_meanPower 30 = .ok (.checkcast 116, 3) := dk_192 0 116 (dk_at dksX1_meanPower_1 6 rfl rfl)
theorem dX1_meanPower_33 : decode cX1_meanPower 33 = .ok (.astore 4, 2) := dk_58 4 (dk_at dksX1_meanPower_1 9 rfl rfl)
theorem dX1_meanPower_35 : decode cX1_meanPower 35 = .ok (.iload_n 1, 1) := dk_27 (dk_at dksX1_meanPower_1 11 rfl rfl)
theorem dX1_meanPower_36 : decode cX1_meanPower 36 = .ok (.aload 4, 2) := dk_25 4 (dk_at dksX1_meanPower_1 12 rfl rfl)
theorem dX1_meanPower_38 : decode cX1_meanPower 38 = .ok (.getfield 250, 3) := dk_180 0 250 (dk_at dksX1_meanPower_1 14 rfl rfl)
theorem dX1_meanPower_41 : decode cX1_meanPower 41 = .ok (.ifnonnull 7, 3) := dk_199 0 7 (dk_at dksX1_meanPower_1 17 rfl rfl)
theorem dX1_meanPower_44 : decode cX1_meanPower 44 = .ok (.iconst 0, 1) := dk_3 (dk_at dksX1_meanPower_1 20 rfl rfl)
theorem dX1_meanPower_45 : decode cX1_meanPower 45 = .ok (.goto 11, 3) := dk_167 0 11 (dk_at dksX1_meanPower_1 21 rfl rfl)
theorem dX1_meanPower_48 : decode cX1_meanPower 48 = .ok (.aload 4, 2) := dk_25 4 (dk_at dksX1_meanPower_2 0 rfl rfl)
theorem dX1_meanPower_50 : decode cX1_meanPower 50 = .ok (.getfield 250, 3) := dk_180 0 250 (dk_at dksX1_meanPower_2 2 rfl rfl)
theorem dX1_meanPower_53 : decode cX1_meanPower 53 = .ok (.getfield 263, 3) := dk_180 1 7 (dk_at dksX1_meanPower_2 5 rfl rfl)
theorem dX1_meanPower_56 : decode cX1_meanPower 56 = .ok (.iadd, 1) := dk_96 (dk_at dksX1_meanPower_2 8 rfl rfl)
theorem dX1_meanPower_57 : decode cX1_meanPower 57 = .ok (.istore_n 1, 1) := dk_60 (dk_at dksX1_meanPower_2 9 rfl rfl)
theorem dX1_meanPower_58 : decode cX1_meanPower 58 = .ok (.iload_n 2, 1) := dk_28 (dk_at dksX1_meanPower_2 10 rfl rfl)
theorem dX1_meanPower_59 : decode cX1_meanPower 59 = .ok (.aload 4, 2) := dk_25 4 (dk_at dksX1_meanPower_2 11 rfl rfl)
theorem dX1_meanPower_61 : decode cX1_meanPower 61 = .ok (.getfield 250, 3) := dk_180 0 250 (dk_at dksX1_meanPower_2 13 rfl rfl)
theorem dX1_meanPower_64 : decode cX1_meanPower 64 = .ok (.ifnonnull 7, 3) := dk_199 0 7 (dk_at dksX1_meanPower_2 16 rfl rfl)
theorem dX1_meanPower_67 : decode cX1_meanPower 67 = .ok (.iconst 0, 1) := dk_3 (dk_at dksX1_meanPower_2 19 rfl rfl)
theorem dX1_meanPower_68 : decode cX1_meanPower 68 = .ok (.goto 4, 3) := dk_167 0 4 (dk_at dksX1_meanPower_2 20 rfl rfl)
theorem dX1_meanPower_71 : decode cX1_meanPower 71 = .ok (.iconst 1, 1) := dk_4 (dk_at dksX1_meanPower_2 23 rfl rfl)
theorem dX1_meanPower_72 : decode cX1_meanPower 72 = .ok (.iadd, 1) := dk_96 (dk_at dksX1_meanPower_3 0 rfl rfl)
theorem dX1_meanPower_73 : decode cX1_meanPower 73 = .ok (.istore_n 2, 1) := dk_61 (dk_at dksX1_meanPower_3 1 rfl rfl)
theorem dX1_meanPower_74 : decode cX1_meanPower 74 = .ok (.goto (-59), 3) := dk_167 255 197 (dk_at dksX1_meanPower_3 2 rfl rfl)
theorem dX1_meanPower_77 : decode cX1_meanPower 77 = .ok (.iload_n 2, 1) := dk_28 (dk_at dksX1_meanPower_3 5 rfl rfl)
theorem dX1_meanPower_78 : decode cX1_meanPower 78 = .ok (.ifCond .ne 11, 3) := dk_154 0 11 (dk_at dksX1_meanPower_3 6 rfl rfl)
theorem dX1_meanPower_81 : decode cX1_meanPower 81 = .ok (.new 470, 3) := dk_187 1 214 (dk_at dksX1_meanPower_3 9 rfl rfl)
theorem dX1_meanPower_84 : decode cX1_meanPower 84 = .ok (.dup, 1) := dk_89 (dk_at dksX1_meanPower_3 12 rfl rfl)
theorem dX1_meanPower_85 : decode cX1_meanPower 85 = .ok (.invokespecial 472, 3) := dk_183 1 216 (dk_at dksX1_meanPower_3 13 rfl rfl)
theorem dX1_meanPower_88 : decode cX1_meanPower 88 = .ok (.athrow, 1) := dk_191 (dk_at dksX1_meanPower_3 16 rfl rfl)
theorem dX1_meanPower_89 : decode cX1_meanPower 89 = .ok (.iload_n 1, 1) := dk_27 (dk_at dksX1_meanPower_3 17 rfl rfl)
theorem dX1_meanPower_90 : decode cX1_meanPower 90 = .ok (.i2d, 1) := dk_135 (dk_at dksX1_meanPower_3 18 rfl rfl)
theorem dX1_meanPower_91 : decode cX1_meanPower 91 = .ok (.iload_n 2, 1) := dk_28 (dk_at dksX1_meanPower_3 19 rfl rfl)
theorem dX1_meanPower_92 : decode cX1_meanPower 92 = .ok (.i2d, 1) := dk_135 (dk_at dksX1_meanPower_3 20 rfl rfl)
theorem dX1_meanPower_93 : decode cX1_meanPower 93 = .ok (.ddiv, 1) := dk_111 (dk_at dksX1_meanPower_3 21 rfl rfl)
theorem dX1_meanPower_94 : decode cX1_meanPower 94 = .ok (.dreturn, 1) := dk_175 (dk_at dksX1_meanPower_3 22 rfl rfl)
abbrev cX1_undo : ByteArray := prog_1_method_65_code
def yX1_undo : MethodName := ⟨RX1, "undo", "()I"⟩
def dkwX1_undo_1 : List UInt8 := [182, 1, 221, 192, 0, 7, 181, 0, 10, 42, 180, 0, 19, 182, 0, 107, 172]
abbrev dktX1_undo_1 : List UInt8 := dkwX1_undo_1 ++ []
def dkwX1_undo_0 : List UInt8 := [42, 180, 0, 19, 182, 1, 119, 154, 0, 7, 4, 167, 0, 4, 3, 184, 0, 129, 42, 42, 180, 0, 19]
abbrev dktX1_undo_0 : List UInt8 := dkwX1_undo_0 ++ dktX1_undo_1
theorem dksX1_undo_0 : cX1_undo.data.toList.drop 0 = dktX1_undo_0 := by decide +kernel
theorem dksX1_undo_1 : cX1_undo.data.toList.drop 23 = dktX1_undo_1 := dk_seg dksX1_undo_0 23 rfl rfl
theorem dX1_undo_0 : decode cX1_undo 0 = .ok (.aload_n 0, 1) := dk_42 (dk_at dksX1_undo_0 0 rfl rfl)
theorem dX1_undo_1 : decode cX1_undo 1 = .ok (.getfield 19, 3) := dk_180 0 19 (dk_at dksX1_undo_0 1 rfl rfl)
theorem dX1_undo_4 : decode cX1_undo 4 = .ok (.invokevirtual 375, 3) := dk_182 1 119 (dk_at dksX1_undo_0 4 rfl rfl)
theorem dX1_undo_7 : decode cX1_undo 7 = .ok (.ifCond .ne 7, 3) := dk_154 0 7 (dk_at dksX1_undo_0 7 rfl rfl)
theorem dX1_undo_10 : decode cX1_undo 10 = .ok (.iconst 1, 1) := dk_4 (dk_at dksX1_undo_0 10 rfl rfl)
theorem dX1_undo_11 : decode cX1_undo 11 = .ok (.goto 4, 3) := dk_167 0 4 (dk_at dksX1_undo_0 11 rfl rfl)
theorem dX1_undo_14 : decode cX1_undo 14 = .ok (.iconst 0, 1) := dk_3 (dk_at dksX1_undo_0 14 rfl rfl)
theorem dX1_undo_15 : decode cX1_undo 15 = .ok (.invokestatic 129, 3) := dk_184 0 129 (dk_at dksX1_undo_0 15 rfl rfl)
theorem dX1_undo_18 : decode cX1_undo 18 = .ok (.aload_n 0, 1) := dk_42 (dk_at dksX1_undo_0 18 rfl rfl)
theorem dX1_undo_19 : decode cX1_undo 19 = .ok (.aload_n 0, 1) := dk_42 (dk_at dksX1_undo_0 19 rfl rfl)
theorem dX1_undo_20 : decode cX1_undo 20 = .ok (.getfield 19, 3) := dk_180 0 19 (dk_at dksX1_undo_0 20 rfl rfl)
theorem dX1_undo_23 : decode cX1_undo 23 = .ok (.invokevirtual 477, 3) := dk_182 1 221 (dk_at dksX1_undo_1 0 rfl rfl)
theorem dX1_undo_26 : decode cX1_undo 26 = .ok (.checkcast 7, 3) := dk_192 0 7 (dk_at dksX1_undo_1 3 rfl rfl)
theorem dX1_undo_29 : decode cX1_undo 29 = .ok (.putfield 10, 3) := dk_181 0 10 (dk_at dksX1_undo_1 6 rfl rfl)
theorem dX1_undo_32 : decode cX1_undo 32 = .ok (.aload_n 0, 1) := dk_42 (dk_at dksX1_undo_1 9 rfl rfl)
theorem dX1_undo_33 : decode cX1_undo 33 = .ok (.getfield 19, 3) := dk_180 0 19 (dk_at dksX1_undo_1 10 rfl rfl)
theorem dX1_undo_36 : decode cX1_undo 36 = .ok (.invokevirtual 107, 3) := dk_182 0 107 (dk_at dksX1_undo_1 13 rfl rfl)
theorem dX1_undo_39 : decode cX1_undo 39 = .ok (.ireturn, 1) := dk_172 (dk_at dksX1_undo_1 16 rfl rfl)
abbrev cX1_restore : ByteArray := prog_1_method_67_code
def yX1_restore : MethodName := ⟨RX1, "restore", "()I"⟩
def dkwX1_restore_1 : List UInt8 := [181, 0, 10, 42, 180, 0, 19, 182, 1, 227, 42, 180, 0, 10, 182, 0, 224, 172]
abbrev dktX1_restore_1 : List UInt8 := dkwX1_restore_1 ++ []
def dkwX1_restore_0 : List UInt8 := [42, 180, 1, 224, 198, 0, 7, 4, 167, 0, 4, 3, 184, 0, 129, 42, 42, 180, 1, 224, 182, 0, 99]
abbrev dktX1_restore_0 : List UInt8 := dkwX1_restore_0 ++ dktX1_restore_1
theorem dksX1_restore_0 : cX1_restore.data.toList.drop 0 = dktX1_restore_0 := by decide +kernel
theorem dksX1_restore_1 : cX1_restore.data.toList.drop 23 = dktX1_restore_1 := dk_seg dksX1_restore_0 23 rfl rfl
theorem dX1_restore_0 : decode cX1_restore 0 = .ok (.aload_n 0, 1) := dk_42 (dk_at dksX1_restore_0 0 rfl rfl)
theorem dX1_restore_1 : decode cX1_restore 1 = .ok (.getfield 480, 3) := dk_180 1 224 (dk_at dksX1_restore_0 1 rfl rfl)
theorem dX1_restore_4 : decode cX1_restore 4 = .ok (.ifnull 7, 3) := dk_198 0 7 (dk_at dksX1_restore_0 4 rfl rfl)
theorem dX1_restore_7 : decode cX1_restore 7 = .ok (.iconst 1, 1) := dk_4 (dk_at dksX1_restore_0 7 rfl rfl)
theorem dX1_restore_8 : decode cX1_restore 8 = .ok (.goto 4, 3) := dk_167 0 4 (dk_at dksX1_restore_0 8 rfl rfl)
theorem dX1_restore_11 : decode cX1_restore 11 = .ok (.iconst 0, 1) := dk_3 (dk_at dksX1_restore_0 11 rfl rfl)
theorem dX1_restore_12 : decode cX1_restore 12 = .ok (.invokestatic 129, 3) := dk_184 0 129 (dk_at dksX1_restore_0 12 rfl rfl)
theorem dX1_restore_15 : decode cX1_restore 15 = .ok (.aload_n 0, 1) := dk_42 (dk_at dksX1_restore_0 15 rfl rfl)
theorem dX1_restore_16 : decode cX1_restore 16 = .ok (.aload_n 0, 1) := dk_42 (dk_at dksX1_restore_0 16 rfl rfl)
theorem dX1_restore_17 : decode cX1_restore 17 = .ok (.getfield 480, 3) := dk_180 1 224 (dk_at dksX1_restore_0 17 rfl rfl)
theorem dX1_restore_20 : decode cX1_restore 20 = .ok (.invokevirtual 99, 3) := dk_182 0 99 (dk_at dksX1_restore_0 20 rfl rfl)
theorem dX1_restore_23 : decode cX1_restore 23 = .ok (.putfield 10, 3) := dk_181 0 10 (dk_at dksX1_restore_1 0 rfl rfl)
theorem dX1_restore_26 : decode cX1_restore 26 = .ok (.aload_n 0, 1) := dk_42 (dk_at dksX1_restore_1 3 rfl rfl)
theorem dX1_restore_27 : decode cX1_restore 27 = .ok (.getfield 19, 3) := dk_180 0 19 (dk_at dksX1_restore_1 4 rfl rfl)
theorem dX1_restore_30 : decode cX1_restore 30 = .ok (.invokevirtual 483, 3) := dk_182 1 227 (dk_at dksX1_restore_1 7 rfl rfl)
theorem dX1_restore_33 : decode cX1_restore 33 = .ok (.aload_n 0, 1) := dk_42 (dk_at dksX1_restore_1 10 rfl rfl)
theorem dX1_restore_34 : decode cX1_restore 34 = .ok (.getfield 10, 3) := dk_180 0 10 (dk_at dksX1_restore_1 11 rfl rfl)
theorem dX1_restore_37 : decode cX1_restore 37 = .ok (.invokevirtual 224, 3) := dk_182 0 224 (dk_at dksX1_restore_1 14 rfl rfl)
theorem dX1_restore_40 : decode cX1_restore 40 = .ok (.ireturn, 1) := dk_172 (dk_at dksX1_restore_1 17 rfl rfl)
theorem q105 : (Jvm.Cond.initialized "SkerryLights") ∈ lw_all := lw_g (lw_at lw_m1 1 rfl) rfl
theorem q162 : (Jvm.Cond.instantiable "SkerryLights" (9 : Nat)) ∈ lw_all := lw_g (lw_at lw_m1 58 rfl) rfl
theorem q164 : (Jvm.Cond.instanceMethod ({ cls := "SkerryLights", name := "<init>", desc := "()V" } : Jvm.MethodName)) ∈ lw_all := lw_g (lw_at lw_m1 60 rfl) rfl
theorem q165 : (Jvm.Cond.code ({ cls := "SkerryLights", name := "<init>", desc := "()V" } : Jvm.MethodName) prog_1_method_1_code (1 : Nat) (Option.none : Option Jvm.ClassFile.FieldType)) ∈ lw_all := lw_g (lw_at lw_m1 61 rfl) rfl
theorem q166 : (Jvm.Cond.methodLink "SkerryLights" (1 : Nat) ({ cls := "java/lang/Object", name := "<init>", desc := "()V" } : Jvm.MethodName)) ∈ lw_all := lw_g (lw_at lw_m1 62 rfl) rfl
theorem q169 : (Jvm.Cond.classLink "SkerryLights" (7 : Nat) "SkerryLights$State") ∈ lw_all := lw_g (lw_at lw_m1 65 rfl) rfl
theorem q171 : (Jvm.Cond.methodLinkNest "SkerryLights" (9 : Nat) ({ cls := "SkerryLights$State", name := "<init>", desc := "()V" } : Jvm.MethodName) "SkerryLights") ∈ lw_tbl := lw_at lw_m1 67 rfl
theorem q230 : (Jvm.Cond.fieldLinkNest "SkerryLights" (78 : Nat) "SkerryLights$State" "towers" "Ljava/util/ArrayList;" "SkerryLights") ∈ lw_tbl := lw_at lw_m1 126 rfl
theorem q232 : (Jvm.Cond.fieldLinkNest "SkerryLights" (167 : Nat) "SkerryLights$State" "lenses" "Ljava/util/ArrayList;" "SkerryLights") ∈ lw_tbl := lw_at lw_m1 128 rfl
theorem q234 : (Jvm.Cond.fieldLinkNest "SkerryLights" (173 : Nat) "SkerryLights$State" "store" "Ljava/util/LinkedList;" "SkerryLights") ∈ lw_tbl := lw_at lw_m1 130 rfl
theorem q236 : (Jvm.Cond.fieldLinkNest "SkerryLights" (246 : Nat) "SkerryLights$State" "fog" "[I" "SkerryLights") ∈ lw_tbl := lw_at lw_m1 132 rfl
theorem q238 : (Jvm.Cond.fieldLinkNest "SkerryLights" (456 : Nat) "SkerryLights$State" "nights" "I" "SkerryLights") ∈ lw_tbl := lw_at lw_m1 134 rfl
theorem q240 : (Jvm.Cond.fieldLinkNest "SkerryLights" (459 : Nat) "SkerryLights$State" "mistaken" "I" "SkerryLights") ∈ lw_tbl := lw_at lw_m1 136 rfl
theorem q242 : (Jvm.Cond.fieldLinkNest "SkerryLights" (462 : Nat) "SkerryLights$State" "worn" "I" "SkerryLights") ∈ lw_tbl := lw_at lw_m1 138 rfl
theorem q259 : (Jvm.Cond.classLink "SkerryLights" (16 : Nat) "java/util/LinkedList") ∈ lw_all := lw_g (lw_at lw_m1 155 rfl) rfl
theorem q260 : (Jvm.Cond.methodLink "SkerryLights" (18 : Nat) ({ cls := "java/util/LinkedList", name := "<init>", desc := "()V" } : Jvm.MethodName)) ∈ lw_all := lw_g (lw_at lw_m1 156 rfl) rfl
theorem q261 : (Jvm.Cond.classLink "SkerryLights" (23 : Nat) "java/lang/StringBuilder") ∈ lw_all := lw_g (lw_at lw_m1 157 rfl) rfl
theorem q263 : (Jvm.Cond.methodLink "SkerryLights" (25 : Nat) ({ cls := "java/lang/StringBuilder", name := "<init>", desc := "()V" } : Jvm.MethodName)) ∈ lw_all := lw_g (lw_at lw_m1 159 rfl) rfl
theorem q294 : (Jvm.Cond.classLink "SkerryLights" (37 : Nat) "java/util/ArrayList") ∈ lw_all := lw_g (lw_at lw_m1 190 rfl) rfl
theorem q295 : (Jvm.Cond.methodLink "SkerryLights" (39 : Nat) ({ cls := "java/util/ArrayList", name := "<init>", desc := "()V" } : Jvm.MethodName)) ∈ lw_all := lw_g (lw_at lw_m1 191 rfl) rfl
theorem q296 : (Jvm.Cond.fieldLink "SkerryLights" (44 : Nat) "SkerryLights$Side" "BOTH" "LSkerryLights$Side;") ∈ lw_all := lw_g (lw_at lw_m1 192 rfl) rfl
theorem q298 : (Jvm.Cond.fieldLink "SkerryLights" (50 : Nat) "SkerryLights$Side" "LOWER" "LSkerryLights$Side;") ∈ lw_all := lw_g (lw_at lw_m1 194 rfl) rfl
theorem q300 : (Jvm.Cond.fieldLink "SkerryLights" (53 : Nat) "SkerryLights$Side" "HIGHER" "LSkerryLights$Side;") ∈ lw_all := lw_g (lw_at lw_m1 196 rfl) rfl
theorem q302 : (Jvm.Cond.methodLink "SkerryLights" (56 : Nat) ({ cls := "java/util/List", name := "of", desc := "(Ljava/lang/Object;Ljava/lang/Object;Ljava/lang/Object;)Ljava/util/List;" } : Jvm.MethodName)) ∈ lw_all := lw_g (lw_at lw_m1 198 rfl) rfl
theorem q315 : (Jvm.Cond.selects "SkerryLights" ({ cls := "java/lang/Object", name := "getClass", desc := "()Ljava/lang/Class;" } : Jvm.MethodName) ({ cls := "java/lang/Object", name := "getClass", desc := "()Ljava/lang/Class;" } : Jvm.MethodName)) ∈ lw_all := lw_g (lw_at lw_m1 211 rfl) rfl
theorem q393 : (Jvm.Cond.fieldLink "SkerryLights" (10 : Nat) "SkerryLights" "state" "LSkerryLights$State;") ∈ lw_all := lw_g (lw_at lw_m2 49 rfl) rfl
theorem q394 : (Jvm.Cond.fieldLink "SkerryLights" (480 : Nat) "SkerryLights" "saved" "LSkerryLights$State;") ∈ lw_all := lw_g (lw_at lw_m2 50 rfl) rfl
theorem q395 : (Jvm.Cond.fieldLink "SkerryLights" (19 : Nat) "SkerryLights" "history" "Ljava/util/LinkedList;") ∈ lw_all := lw_g (lw_at lw_m2 51 rfl) rfl
theorem q396 : (Jvm.Cond.fieldLink "SkerryLights" (26 : Nat) "SkerryLights" "input" "Ljava/lang/StringBuilder;") ∈ lw_all := lw_g (lw_at lw_m2 52 rfl) rfl
theorem q397 : (Jvm.Cond.fieldLink "SkerryLights" (30 : Nat) "SkerryLights" "word" "Ljava/lang/StringBuilder;") ∈ lw_all := lw_g (lw_at lw_m2 53 rfl) rfl
theorem q398 : (Jvm.Cond.fieldLink "SkerryLights" (385 : Nat) "SkerryLights" "hasCome" "Z") ∈ lw_all := lw_g (lw_at lw_m2 54 rfl) rfl
theorem q399 : (Jvm.Cond.fieldLink "SkerryLights" (33 : Nat) "SkerryLights" "faultPosition" "I") ∈ lw_all := lw_g (lw_at lw_m2 55 rfl) rfl
theorem q400 : (Jvm.Cond.fieldLink "SkerryLights" (40 : Nat) "SkerryLights" "latest" "Ljava/util/ArrayList;") ∈ lw_all := lw_g (lw_at lw_m2 56 rfl) rfl
theorem q401 : (Jvm.Cond.fieldLink "SkerryLights" (62 : Nat) "SkerryLights" "sides" "Ljava/util/List;") ∈ lw_all := lw_g (lw_at lw_m2 57 rfl) rfl
theorem q402 : (Jvm.Cond.lays "SkerryLights" "SkerryLights" "state" "LSkerryLights$State;") ∈ lw_all := lw_g (lw_at lw_m2 58 rfl) rfl
theorem q403 : (Jvm.Cond.soleField "SkerryLights" "state") ∈ lw_all := lw_g (lw_at lw_m2 59 rfl) rfl
theorem q404 : (Jvm.Cond.lays "SkerryLights" "SkerryLights" "saved" "LSkerryLights$State;") ∈ lw_all := lw_g (lw_at lw_m2 60 rfl) rfl
theorem q405 : (Jvm.Cond.soleField "SkerryLights" "saved") ∈ lw_all := lw_g (lw_at lw_m2 61 rfl) rfl
theorem q406 : (Jvm.Cond.laysFinal "SkerryLights" "SkerryLights" "history" "Ljava/util/LinkedList;") ∈ lw_all := lw_g (lw_at lw_m2 62 rfl) rfl
theorem q407 : (Jvm.Cond.soleField "SkerryLights" "history") ∈ lw_all := lw_g (lw_at lw_m2 63 rfl) rfl
theorem q408 : (Jvm.Cond.laysFinal "SkerryLights" "SkerryLights" "input" "Ljava/lang/StringBuilder;") ∈ lw_all := lw_g (lw_at lw_m2 64 rfl) rfl
theorem q409 : (Jvm.Cond.soleField "SkerryLights" "input") ∈ lw_all := lw_g (lw_at lw_m2 65 rfl) rfl
theorem q410 : (Jvm.Cond.laysFinal "SkerryLights" "SkerryLights" "word" "Ljava/lang/StringBuilder;") ∈ lw_all := lw_g (lw_at lw_m2 66 rfl) rfl
theorem q411 : (Jvm.Cond.soleField "SkerryLights" "word") ∈ lw_all := lw_g (lw_at lw_m2 67 rfl) rfl
theorem q412 : (Jvm.Cond.lays "SkerryLights" "SkerryLights" "hasCome" "Z") ∈ lw_all := lw_g (lw_at lw_m2 68 rfl) rfl
theorem q413 : (Jvm.Cond.soleField "SkerryLights" "hasCome") ∈ lw_all := lw_g (lw_at lw_m2 69 rfl) rfl
theorem q414 : (Jvm.Cond.lays "SkerryLights" "SkerryLights" "faultPosition" "I") ∈ lw_all := lw_g (lw_at lw_m2 70 rfl) rfl
theorem q415 : (Jvm.Cond.soleField "SkerryLights" "faultPosition") ∈ lw_all := lw_g (lw_at lw_m2 71 rfl) rfl
theorem q416 : (Jvm.Cond.laysFinal "SkerryLights" "SkerryLights" "latest" "Ljava/util/ArrayList;") ∈ lw_all := lw_g (lw_at lw_m2 72 rfl) rfl
theorem q417 : (Jvm.Cond.soleField "SkerryLights" "latest") ∈ lw_all := lw_g (lw_at lw_m2 73 rfl) rfl
theorem q418 : (Jvm.Cond.laysFinal "SkerryLights" "SkerryLights" "sides" "Ljava/util/List;") ∈ lw_all := lw_g (lw_at lw_m2 74 rfl) rfl
theorem q419 : (Jvm.Cond.soleField "SkerryLights" "sides") ∈ lw_all := lw_g (lw_at lw_m2 75 rfl) rfl
theorem q420 : (Jvm.Cond.superclass "SkerryLights" "java/lang/Object") ∈ lw_all := lw_g (lw_at lw_m2 76 rfl) rfl
theorem q422 : (Jvm.Cond.instanceMethod ({ cls := "SkerryLights", name := "handOn", desc := "()I" } : Jvm.MethodName)) ∈ lw_all := lw_g (lw_at lw_m2 78 rfl) rfl
theorem q423 : (Jvm.Cond.selects "SkerryLights" ({ cls := "SkerryLights", name := "handOn", desc := "()I" } : Jvm.MethodName) ({ cls := "SkerryLights", name := "handOn", desc := "()I" } : Jvm.MethodName)) ∈ lw_all := lw_g (lw_at lw_m2 79 rfl) rfl
theorem q424 : (Jvm.Cond.code ({ cls := "SkerryLights", name := "handOn", desc := "()I" } : Jvm.MethodName) prog_1_method_23_code (6 : Nat) (Option.some Jvm.ClassFile.FieldType.int)) ∈ lw_all := lw_g (lw_at lw_m2 80 rfl) rfl
theorem q425 : (Jvm.Cond.methodLink "SkerryLights" (160 : Nat) ({ cls := "SkerryLights", name := "change", desc := "()V" } : Jvm.MethodName)) ∈ lw_all := lw_g (lw_at lw_m2 81 rfl) rfl
theorem q426 : (Jvm.Cond.privateMethod ({ cls := "SkerryLights", name := "change", desc := "()V" } : Jvm.MethodName)) ∈ lw_tbl := lw_at lw_m2 82 rfl
theorem q427 : (Jvm.Cond.instanceMethod ({ cls := "SkerryLights", name := "change", desc := "()V" } : Jvm.MethodName)) ∈ lw_all := lw_g (lw_at lw_m2 83 rfl) rfl
theorem q428 : (Jvm.Cond.code ({ cls := "SkerryLights", name := "change", desc := "()V" } : Jvm.MethodName) prog_1_method_10_code (1 : Nat) (Option.none : Option Jvm.ClassFile.FieldType)) ∈ lw_all := lw_g (lw_at lw_m2 84 rfl) rfl
theorem q429 : (Jvm.Cond.methodLink "SkerryLights" (99 : Nat) ({ cls := "SkerryLights$State", name := "copy", desc := "()LSkerryLights$State;" } : Jvm.MethodName)) ∈ lw_all := lw_g (lw_at lw_m2 85 rfl) rfl
theorem q962 : (Jvm.Cond.fieldLinkNest "SkerryLights" (176 : Nat) "SkerryLights$Lens" "number" "I" "SkerryLights") ∈ lw_tbl := lw_at lw_m4 138 rfl
theorem q964 : (Jvm.Cond.fieldLinkNest "SkerryLights" (447 : Nat) "SkerryLights$Lens" "first" "I" "SkerryLights") ∈ lw_tbl := lw_at lw_m4 140 rfl
theorem q968 : (Jvm.Cond.fieldLinkNest "SkerryLights" (263 : Nat) "SkerryLights$Lens" "power" "I" "SkerryLights") ∈ lw_tbl := lw_at lw_m4 144 rfl
theorem q970 : (Jvm.Cond.fieldLinkNest "SkerryLights" (266 : Nat) "SkerryLights$Lens" "isScrapped" "Z" "SkerryLights") ∈ lw_tbl := lw_at lw_m4 146 rfl
theorem q1021 : (Jvm.Cond.fieldLinkNest "SkerryLights" (150 : Nat) "SkerryLights$Tower" "number" "I" "SkerryLights") ∈ lw_tbl := lw_at lw_m4 197 rfl
theorem q1024 : (Jvm.Cond.fieldLinkNest "SkerryLights" (147 : Nat) "SkerryLights$Tower" "place" "I" "SkerryLights") ∈ lw_tbl := lw_at lw_m4 200 rfl
theorem q1027 : (Jvm.Cond.fieldLinkNest "SkerryLights" (437 : Nat) "SkerryLights$Tower" "side" "LSkerryLights$Side;" "SkerryLights") ∈ lw_tbl := lw_at lw_m4 203 rfl
theorem q1029 : (Jvm.Cond.fieldLinkNest "SkerryLights" (357 : Nat) "SkerryLights$Tower" "skill" "I" "SkerryLights") ∈ lw_tbl := lw_at lw_m4 205 rfl
theorem q1031 : (Jvm.Cond.fieldLinkNest "SkerryLights" (193 : Nat) "SkerryLights$Tower" "signs" "I" "SkerryLights") ∈ lw_tbl := lw_at lw_m4 207 rfl
theorem q1033 : (Jvm.Cond.fieldLinkNest "SkerryLights" (202 : Nat) "SkerryLights$Tower" "many" "I" "SkerryLights") ∈ lw_tbl := lw_at lw_m4 209 rfl
theorem q1036 : (Jvm.Cond.fieldLinkNest "SkerryLights" (250 : Nat) "SkerryLights$Tower" "lens" "LSkerryLights$Lens;" "SkerryLights") ∈ lw_tbl := lw_at lw_m4 212 rfl
theorem q1039 : (Jvm.Cond.fieldLinkNest "SkerryLights" (220 : Nat) "SkerryLights$Tower" "isLit" "Z" "SkerryLights") ∈ lw_tbl := lw_at lw_m4 215 rfl
theorem q1042 : (Jvm.Cond.fieldLinkNest "SkerryLights" (237 : Nat) "SkerryLights$Tower" "isBroken" "Z" "SkerryLights") ∈ lw_tbl := lw_at lw_m4 218 rfl
theorem q1176 : (Jvm.Cond.methodLink "SkerryLights" (103 : Nat) ({ cls := "java/util/LinkedList", name := "addLast", desc := "(Ljava/lang/Object;)V" } : Jvm.MethodName)) ∈ lw_all := lw_g (lw_at lw_m5 112 rfl) rfl
theorem q1180 : (Jvm.Cond.methodLink "SkerryLights" (107 : Nat) ({ cls := "java/util/LinkedList", name := "size", desc := "()I" } : Jvm.MethodName)) ∈ lw_all := lw_g (lw_at lw_m5 116 rfl) rfl
theorem q1181 : (Jvm.Cond.methodLink "SkerryLights" (108 : Nat) ({ cls := "java/util/LinkedList", name := "removeFirst", desc := "()Ljava/lang/Object;" } : Jvm.MethodName)) ∈ lw_all := lw_g (lw_at lw_m5 117 rfl) rfl
theorem q1191 : (Jvm.Cond.methodLink "SkerryLights" (255 : Nat) ({ cls := "SkerryLights", name := "fitted", desc := "()Ljava/util/LinkedList;" } : Jvm.MethodName)) ∈ lw_all := lw_g (lw_at lw_m5 127 rfl) rfl
theorem q1192 : (Jvm.Cond.privateMethod ({ cls := "SkerryLights", name := "fitted", desc := "()Ljava/util/LinkedList;" } : Jvm.MethodName)) ∈ lw_tbl := lw_at lw_m5 128 rfl
theorem q1193 : (Jvm.Cond.instanceMethod ({ cls := "SkerryLights", name := "fitted", desc := "()Ljava/util/LinkedList;" } : Jvm.MethodName)) ∈ lw_all := lw_g (lw_at lw_m5 129 rfl) rfl
theorem q1194 : (Jvm.Cond.code ({ cls := "SkerryLights", name := "fitted", desc := "()Ljava/util/LinkedList;" } : Jvm.MethodName) prog_1_method_22_code (5 : Nat) (Option.some (Jvm.ClassFile.FieldType.object "java/util/LinkedList"))) ∈ lw_all := lw_g (lw_at lw_m5 130 rfl) rfl
theorem q1195 : (Jvm.Cond.methodLink "SkerryLights" (132 : Nat) ({ cls := "java/util/ArrayList", name := "iterator", desc := "()Ljava/util/Iterator;" } : Jvm.MethodName)) ∈ lw_all := lw_g (lw_at lw_m5 131 rfl) rfl
theorem q1196 : (Jvm.Cond.interfaceEntry "SkerryLights" (136 : Nat)) ∈ lw_tbl := lw_at lw_m5 132 rfl
theorem q1197 : (Jvm.Cond.methodLink "SkerryLights" (136 : Nat) ({ cls := "java/util/Iterator", name := "hasNext", desc := "()Z" } : Jvm.MethodName)) ∈ lw_all := lw_g (lw_at lw_m5 133 rfl) rfl
theorem q1198 : (Jvm.Cond.interfaceEntry "SkerryLights" (142 : Nat)) ∈ lw_tbl := lw_at lw_m5 134 rfl
theorem q1199 : (Jvm.Cond.methodLink "SkerryLights" (142 : Nat) ({ cls := "java/util/Iterator", name := "next", desc := "()Ljava/lang/Object;" } : Jvm.MethodName)) ∈ lw_all := lw_g (lw_at lw_m5 135 rfl) rfl
theorem q1200 : (Jvm.Cond.classLink "SkerryLights" (116 : Nat) "SkerryLights$Tower") ∈ lw_all := lw_g (lw_at lw_m5 136 rfl) rfl
theorem q1201 : (Jvm.Cond.methodLink "SkerryLights" (254 : Nat) ({ cls := "java/util/LinkedList", name := "add", desc := "(Ljava/lang/Object;)Z" } : Jvm.MethodName)) ∈ lw_all := lw_g (lw_at lw_m5 137 rfl) rfl
theorem q1202 : (Jvm.Cond.methodLink "SkerryLights" (259 : Nat) ({ cls := "java/util/LinkedList", name := "getLast", desc := "()Ljava/lang/Object;" } : Jvm.MethodName)) ∈ lw_all := lw_g (lw_at lw_m5 138 rfl) rfl
theorem q1206 : (Jvm.Cond.methodLink "SkerryLights" (262 : Nat) ({ cls := "java/util/LinkedList", name := "iterator", desc := "()Ljava/util/Iterator;" } : Jvm.MethodName)) ∈ lw_all := lw_g (lw_at lw_m5 142 rfl) rfl
theorem q1207 : (Jvm.Cond.methodLink "SkerryLights" (205 : Nat) ({ cls := "SkerryLights$State", name := "look", desc := "()I" } : Jvm.MethodName)) ∈ lw_all := lw_g (lw_at lw_m5 143 rfl) rfl
theorem q1324 : (Jvm.Cond.instanceMethod ({ cls := "SkerryLights", name := "scrap", desc := "()I" } : Jvm.MethodName)) ∈ lw_all := lw_g (lw_at lw_m6 20 rfl) rfl
theorem q1325 : (Jvm.Cond.selects "SkerryLights" ({ cls := "SkerryLights", name := "scrap", desc := "()I" } : Jvm.MethodName) ({ cls := "SkerryLights", name := "scrap", desc := "()I" } : Jvm.MethodName)) ∈ lw_all := lw_g (lw_at lw_m6 21 rfl) rfl
theorem q1326 : (Jvm.Cond.code ({ cls := "SkerryLights", name := "scrap", desc := "()I" } : Jvm.MethodName) prog_1_method_24_code (4 : Nat) (Option.some Jvm.ClassFile.FieldType.int)) ∈ lw_all := lw_g (lw_at lw_m6 22 rfl) rfl
theorem q1327 : (Jvm.Cond.classLink "SkerryLights" (170 : Nat) "SkerryLights$Lens") ∈ lw_all := lw_g (lw_at lw_m6 23 rfl) rfl
theorem q1328 : (Jvm.Cond.interfaceEntry "SkerryLights" (269 : Nat)) ∈ lw_tbl := lw_at lw_m6 24 rfl
theorem q1329 : (Jvm.Cond.methodLink "SkerryLights" (269 : Nat) ({ cls := "java/util/Iterator", name := "remove", desc := "()V" } : Jvm.MethodName)) ∈ lw_all := lw_g (lw_at lw_m6 25 rfl) rfl
theorem q1407 : (Jvm.Cond.instanceMethod ({ cls := "SkerryLights", name := "mistakes", desc := "()I" } : Jvm.MethodName)) ∈ lw_all := lw_g (lw_at lw_m6 103 rfl) rfl
theorem q1408 : (Jvm.Cond.selects "SkerryLights" ({ cls := "SkerryLights", name := "mistakes", desc := "()I" } : Jvm.MethodName) ({ cls := "SkerryLights", name := "mistakes", desc := "()I" } : Jvm.MethodName)) ∈ lw_all := lw_g (lw_at lw_m6 104 rfl) rfl
theorem q1409 : (Jvm.Cond.code ({ cls := "SkerryLights", name := "mistakes", desc := "()I" } : Jvm.MethodName) prog_1_method_31_code (6 : Nat) (Option.some Jvm.ClassFile.FieldType.int)) ∈ lw_all := lw_g (lw_at lw_m6 105 rfl) rfl
theorem q1410 : (Jvm.Cond.methodLink "SkerryLights" (305 : Nat) ({ cls := "SkerryLights$State", name := "areMistaken", desc := "(LSkerryLights$Tower;LSkerryLights$Tower;)Z" } : Jvm.MethodName)) ∈ lw_all := lw_g (lw_at lw_m6 106 rfl) rfl
theorem q1412 : (Jvm.Cond.instanceMethod ({ cls := "SkerryLights", name := "unwatched", desc := "()I" } : Jvm.MethodName)) ∈ lw_all := lw_g (lw_at lw_m6 108 rfl) rfl
theorem q1413 : (Jvm.Cond.selects "SkerryLights" ({ cls := "SkerryLights", name := "unwatched", desc := "()I" } : Jvm.MethodName) ({ cls := "SkerryLights", name := "unwatched", desc := "()I" } : Jvm.MethodName)) ∈ lw_all := lw_g (lw_at lw_m6 109 rfl) rfl
theorem q1414 : (Jvm.Cond.code ({ cls := "SkerryLights", name := "unwatched", desc := "()I" } : Jvm.MethodName) prog_1_method_35_code (3 : Nat) (Option.some Jvm.ClassFile.FieldType.int)) ∈ lw_all := lw_g (lw_at lw_m6 110 rfl) rfl
theorem q1415 : (Jvm.Cond.methodLink "SkerryLights" (309 : Nat) ({ cls := "SkerryLights", name := "watcherOf", desc := "(I)LSkerryLights$Tower;" } : Jvm.MethodName)) ∈ lw_all := lw_g (lw_at lw_m6 111 rfl) rfl
theorem q1416 : (Jvm.Cond.privateMethod ({ cls := "SkerryLights", name := "watcherOf", desc := "(I)LSkerryLights$Tower;" } : Jvm.MethodName)) ∈ lw_tbl := lw_at lw_m6 112 rfl
theorem q1417 : (Jvm.Cond.instanceMethod ({ cls := "SkerryLights", name := "watcherOf", desc := "(I)LSkerryLights$Tower;" } : Jvm.MethodName)) ∈ lw_all := lw_g (lw_at lw_m6 113 rfl) rfl
theorem q1418 : (Jvm.Cond.code ({ cls := "SkerryLights", name := "watcherOf", desc := "(I)LSkerryLights$Tower;" } : Jvm.MethodName) prog_1_method_32_code (5 : Nat) (Option.some (Jvm.ClassFile.FieldType.object "SkerryLights$Tower"))) ∈ lw_all := lw_g (lw_at lw_m6 114 rfl) rfl
theorem q1419 : (Jvm.Cond.methodLink "SkerryLights" (282 : Nat) ({ cls := "SkerryLights$State", name := "reaches", desc := "(LSkerryLights$Tower;I)Z" } : Jvm.MethodName)) ∈ lw_all := lw_g (lw_at lw_m6 115 rfl) rfl
theorem q1420 : (Jvm.Cond.methodLink "SkerryLights" (279 : Nat) ({ cls := "SkerryLights$State", name := "cost", desc := "(II)I" } : Jvm.MethodName)) ∈ lw_all := lw_g (lw_at lw_m6 116 rfl) rfl
theorem q1422 : (Jvm.Cond.instanceMethod ({ cls := "SkerryLights", name := "unwatchedAgain", desc := "()I" } : Jvm.MethodName)) ∈ lw_all := lw_g (lw_at lw_m6 118 rfl) rfl
theorem q1423 : (Jvm.Cond.selects "SkerryLights" ({ cls := "SkerryLights", name := "unwatchedAgain", desc := "()I" } : Jvm.MethodName) ({ cls := "SkerryLights", name := "unwatchedAgain", desc := "()I" } : Jvm.MethodName)) ∈ lw_all := lw_g (lw_at lw_m6 119 rfl) rfl
theorem q1424 : (Jvm.Cond.code ({ cls := "SkerryLights", name := "unwatchedAgain", desc := "()I" } : Jvm.MethodName) prog_1_method_37_code (4 : Nat) (Option.some Jvm.ClassFile.FieldType.int)) ∈ lw_all := lw_g (lw_at lw_m6 120 rfl) rfl
theorem q1425 : (Jvm.Cond.classLink "SkerryLights" (294 : Nat) "java/util/BitSet") ∈ lw_all := lw_g (lw_at lw_m6 121 rfl) rfl
theorem q1426 : (Jvm.Cond.methodLink "SkerryLights" (312 : Nat) ({ cls := "java/util/BitSet", name := "<init>", desc := "(I)V" } : Jvm.MethodName)) ∈ lw_all := lw_g (lw_at lw_m6 122 rfl) rfl
theorem q1427 : (Jvm.Cond.methodLink "SkerryLights" (315 : Nat) ({ cls := "SkerryLights", name := "endOf", desc := "(LSkerryLights$Tower;I)I" } : Jvm.MethodName)) ∈ lw_all := lw_g (lw_at lw_m6 123 rfl) rfl
theorem q1428 : (Jvm.Cond.privateMethod ({ cls := "SkerryLights", name := "endOf", desc := "(LSkerryLights$Tower;I)I" } : Jvm.MethodName)) ∈ lw_tbl := lw_at lw_m6 124 rfl
theorem q1429 : (Jvm.Cond.instanceMethod ({ cls := "SkerryLights", name := "endOf", desc := "(LSkerryLights$Tower;I)I" } : Jvm.MethodName)) ∈ lw_all := lw_g (lw_at lw_m6 125 rfl) rfl
theorem q1430 : (Jvm.Cond.code ({ cls := "SkerryLights", name := "endOf", desc := "(LSkerryLights$Tower;I)I" } : Jvm.MethodName) prog_1_method_36_code (4 : Nat) (Option.some Jvm.ClassFile.FieldType.int)) ∈ lw_all := lw_g (lw_at lw_m6 126 rfl) rfl
theorem q1431 : (Jvm.Cond.methodLink "SkerryLights" (118 : Nat) ({ cls := "SkerryLights", name := "isPlace", desc := "(I)Z" } : Jvm.MethodName)) ∈ lw_all := lw_g (lw_at lw_m6 127 rfl) rfl
theorem q1432 : (Jvm.Cond.static ({ cls := "SkerryLights", name := "isPlace", desc := "(I)Z" } : Jvm.MethodName)) ∈ lw_all := lw_g (lw_at lw_m6 128 rfl) rfl
theorem q1433 : (Jvm.Cond.code ({ cls := "SkerryLights", name := "isPlace", desc := "(I)Z" } : Jvm.MethodName) prog_1_method_8_code (1 : Nat) (Option.some Jvm.ClassFile.FieldType.boolean)) ∈ lw_all := lw_g (lw_at lw_m6 129 rfl) rfl
theorem q1434 : (Jvm.Cond.methodLink "SkerryLights" (85 : Nat) ({ cls := "SkerryLights", name := "isBetween", desc := "(III)Z" } : Jvm.MethodName)) ∈ lw_all := lw_g (lw_at lw_m6 130 rfl) rfl
theorem q1435 : (Jvm.Cond.static ({ cls := "SkerryLights", name := "isBetween", desc := "(III)Z" } : Jvm.MethodName)) ∈ lw_all := lw_g (lw_at lw_m6 131 rfl) rfl
theorem q1436 : (Jvm.Cond.code ({ cls := "SkerryLights", name := "isBetween", desc := "(III)Z" } : Jvm.MethodName) prog_1_method_2_code (3 : Nat) (Option.some Jvm.ClassFile.FieldType.boolean)) ∈ lw_all := lw_g (lw_at lw_m6 132 rfl) rfl
theorem q1437 : (Jvm.Cond.methodLink "SkerryLights" (319 : Nat) ({ cls := "java/util/BitSet", name := "set", desc := "(II)V" } : Jvm.MethodName)) ∈ lw_all := lw_g (lw_at lw_m6 133 rfl) rfl
theorem q1449 : (Jvm.Cond.methodLink "SkerryLights" (322 : Nat) ({ cls := "java/util/BitSet", name := "cardinality", desc := "()I" } : Jvm.MethodName)) ∈ lw_all := lw_g (lw_at lw_m6 145 rfl) rfl
theorem q1460 : (Jvm.Cond.instanceMethod ({ cls := "SkerryLights", name := "watchedShare", desc := "()F" } : Jvm.MethodName)) ∈ lw_all := lw_g (lw_at lw_m6 156 rfl) rfl
theorem q1461 : (Jvm.Cond.selects "SkerryLights" ({ cls := "SkerryLights", name := "watchedShare", desc := "()F" } : Jvm.MethodName) ({ cls := "SkerryLights", name := "watchedShare", desc := "()F" } : Jvm.MethodName)) ∈ lw_all := lw_g (lw_at lw_m6 157 rfl) rfl
theorem q1462 : (Jvm.Cond.code ({ cls := "SkerryLights", name := "watchedShare", desc := "()F" } : Jvm.MethodName) prog_1_method_64_code (1 : Nat) (Option.some Jvm.ClassFile.FieldType.float)) ∈ lw_all := lw_g (lw_at lw_m6 158 rfl) rfl
theorem q1463 : (Jvm.Cond.methodLink "SkerryLights" (473 : Nat) ({ cls := "SkerryLights", name := "unwatched", desc := "()I" } : Jvm.MethodName)) ∈ lw_all := lw_g (lw_at lw_m6 159 rfl) rfl
theorem q1464 : (Jvm.Cond.constantFloat "SkerryLights" (476 : Nat) (1114898432 : UInt32)) ∈ lw_all := lw_g (lw_at lw_m6 160 rfl) rfl
theorem q1466 : (Jvm.Cond.instanceMethod ({ cls := "SkerryLights", name := "save", desc := "()I" } : Jvm.MethodName)) ∈ lw_all := lw_g (lw_at lw_m6 162 rfl) rfl
theorem q1467 : (Jvm.Cond.selects "SkerryLights" ({ cls := "SkerryLights", name := "save", desc := "()I" } : Jvm.MethodName) ({ cls := "SkerryLights", name := "save", desc := "()I" } : Jvm.MethodName)) ∈ lw_all := lw_g (lw_at lw_m6 163 rfl) rfl
theorem q1468 : (Jvm.Cond.code ({ cls := "SkerryLights", name := "save", desc := "()I" } : Jvm.MethodName) prog_1_method_66_code (1 : Nat) (Option.some Jvm.ClassFile.FieldType.int)) ∈ lw_all := lw_g (lw_at lw_m6 164 rfl) rfl
theorem q1469 : (Jvm.Cond.methodLink "SkerryLights" (224 : Nat) ({ cls := "SkerryLights$State", name := "lit", desc := "()I" } : Jvm.MethodName)) ∈ lw_all := lw_g (lw_at lw_m6 165 rfl) rfl
theorem q1496 : (Jvm.Cond.instanceMethod ({ cls := "SkerryLights", name := "tower", desc := "(III)I" } : Jvm.MethodName)) ∈ lw_all := lw_g (lw_at lw_m6 192 rfl) rfl
theorem q1497 : (Jvm.Cond.selects "SkerryLights" ({ cls := "SkerryLights", name := "tower", desc := "(III)I" } : Jvm.MethodName) ({ cls := "SkerryLights", name := "tower", desc := "(III)I" } : Jvm.MethodName)) ∈ lw_all := lw_g (lw_at lw_m6 193 rfl) rfl
theorem q1498 : (Jvm.Cond.code ({ cls := "SkerryLights", name := "tower", desc := "(III)I" } : Jvm.MethodName) prog_1_method_12_code (6 : Nat) (Option.some Jvm.ClassFile.FieldType.int)) ∈ lw_all := lw_g (lw_at lw_m6 194 rfl) rfl
theorem q1499 : (Jvm.Cond.methodLink "SkerryLights" (122 : Nat) ({ cls := "SkerryLights", name := "checkIndex", desc := "(Z)V" } : Jvm.MethodName)) ∈ lw_all := lw_g (lw_at lw_m6 195 rfl) rfl
theorem q1500 : (Jvm.Cond.static ({ cls := "SkerryLights", name := "checkIndex", desc := "(Z)V" } : Jvm.MethodName)) ∈ lw_all := lw_g (lw_at lw_m6 196 rfl) rfl
theorem q1501 : (Jvm.Cond.code ({ cls := "SkerryLights", name := "checkIndex", desc := "(Z)V" } : Jvm.MethodName) prog_1_method_4_code (1 : Nat) (Option.none : Option Jvm.ClassFile.FieldType)) ∈ lw_all := lw_g (lw_at lw_m6 197 rfl) rfl
theorem q1502 : (Jvm.Cond.classLink "SkerryLights" (69 : Nat) "java/lang/IndexOutOfBoundsException") ∈ lw_all := lw_g (lw_at lw_m6 198 rfl) rfl
theorem q1503 : (Jvm.Cond.methodLink "SkerryLights" (71 : Nat) ({ cls := "java/lang/IndexOutOfBoundsException", name := "<init>", desc := "()V" } : Jvm.MethodName)) ∈ lw_all := lw_g (lw_at lw_m6 199 rfl) rfl
theorem q1507 : (Jvm.Cond.methodLink "SkerryLights" (126 : Nat) ({ cls := "SkerryLights", name := "check", desc := "(Z)V" } : Jvm.MethodName)) ∈ lw_all := lw_g (lw_at lw_m6 203 rfl) rfl
theorem q1508 : (Jvm.Cond.static ({ cls := "SkerryLights", name := "check", desc := "(Z)V" } : Jvm.MethodName)) ∈ lw_all := lw_g (lw_at lw_m6 204 rfl) rfl
theorem q1509 : (Jvm.Cond.code ({ cls := "SkerryLights", name := "check", desc := "(Z)V" } : Jvm.MethodName) prog_1_method_3_code (1 : Nat) (Option.none : Option Jvm.ClassFile.FieldType)) ∈ lw_all := lw_g (lw_at lw_m6 205 rfl) rfl
theorem q1510 : (Jvm.Cond.classLink "SkerryLights" (66 : Nat) "java/lang/IllegalArgumentException") ∈ lw_all := lw_g (lw_at lw_m6 206 rfl) rfl
theorem q1511 : (Jvm.Cond.methodLink "SkerryLights" (68 : Nat) ({ cls := "java/lang/IllegalArgumentException", name := "<init>", desc := "()V" } : Jvm.MethodName)) ∈ lw_all := lw_g (lw_at lw_m6 207 rfl) rfl
theorem q1515 : (Jvm.Cond.methodLink "SkerryLights" (81 : Nat) ({ cls := "java/util/ArrayList", name := "size", desc := "()I" } : Jvm.MethodName)) ∈ lw_all := lw_g (lw_at lw_m6 211 rfl) rfl
theorem q1516 : (Jvm.Cond.methodLink "SkerryLights" (129 : Nat) ({ cls := "SkerryLights", name := "checkState", desc := "(Z)V" } : Jvm.MethodName)) ∈ lw_all := lw_g (lw_at lw_m6 212 rfl) rfl
theorem q1517 : (Jvm.Cond.static ({ cls := "SkerryLights", name := "checkState", desc := "(Z)V" } : Jvm.MethodName)) ∈ lw_all := lw_g (lw_at lw_m6 213 rfl) rfl
theorem q1518 : (Jvm.Cond.code ({ cls := "SkerryLights", name := "checkState", desc := "(Z)V" } : Jvm.MethodName) prog_1_method_6_code (1 : Nat) (Option.none : Option Jvm.ClassFile.FieldType)) ∈ lw_all := lw_g (lw_at lw_m6 214 rfl) rfl
theorem q1519 : (Jvm.Cond.classLink "SkerryLights" (75 : Nat) "java/lang/IllegalStateException") ∈ lw_all := lw_g (lw_at lw_m6 215 rfl) rfl
theorem q1520 : (Jvm.Cond.methodLink "SkerryLights" (77 : Nat) ({ cls := "java/lang/IllegalStateException", name := "<init>", desc := "()V" } : Jvm.MethodName)) ∈ lw_all := lw_g (lw_at lw_m6 216 rfl) rfl
theorem q1521 : (Jvm.Cond.classLink "SkerryLights" (145 : Nat) "SkerryLights$Refusal") ∈ lw_all := lw_g (lw_at lw_m6 217 rfl) rfl
theorem q1524 : (Jvm.Cond.methodLink "SkerryLights" (153 : Nat) ({ cls := "SkerryLights$Refusal", name := "<init>", desc := "(II)V" } : Jvm.MethodName)) ∈ lw_all := lw_g (lw_at lw_m6 220 rfl) rfl
theorem q1529 : (Jvm.Cond.fieldLinkNest "SkerryLights" (434 : Nat) "SkerryLights$Refusal" "reason" "I" "SkerryLights") ∈ lw_tbl := lw_at lw_m6 225 rfl
theorem q1531 : (Jvm.Cond.fieldLinkNest "SkerryLights" (431 : Nat) "SkerryLights$Refusal" "detail" "I" "SkerryLights") ∈ lw_tbl := lw_at lw_m6 227 rfl
theorem q1537 : (Jvm.Cond.methodLink "SkerryLights" (156 : Nat) ({ cls := "SkerryLights", name := "refuse", desc := "([LSkerryLights$Refusal;)V" } : Jvm.MethodName)) ∈ lw_all := lw_g (lw_at lw_m6 233 rfl) rfl
theorem q1538 : (Jvm.Cond.privateMethod ({ cls := "SkerryLights", name := "refuse", desc := "([LSkerryLights$Refusal;)V" } : Jvm.MethodName)) ∈ lw_tbl := lw_at lw_m6 234 rfl
theorem q1539 : (Jvm.Cond.instanceMethod ({ cls := "SkerryLights", name := "refuse", desc := "([LSkerryLights$Refusal;)V" } : Jvm.MethodName)) ∈ lw_all := lw_g (lw_at lw_m6 235 rfl) rfl
theorem q1540 : (Jvm.Cond.code ({ cls := "SkerryLights", name := "refuse", desc := "([LSkerryLights$Refusal;)V" } : Jvm.MethodName) prog_1_method_9_code (6 : Nat) (Option.none : Option Jvm.ClassFile.FieldType)) ∈ lw_all := lw_g (lw_at lw_m6 236 rfl) rfl
theorem q1541 : (Jvm.Cond.methodLink "SkerryLights" (89 : Nat) ({ cls := "java/util/ArrayList", name := "clear", desc := "()V" } : Jvm.MethodName)) ∈ lw_all := lw_g (lw_at lw_m6 237 rfl) rfl
theorem q1545 : (Jvm.Cond.methodLink "SkerryLights" (92 : Nat) ({ cls := "java/util/ArrayList", name := "add", desc := "(Ljava/lang/Object;)Z" } : Jvm.MethodName)) ∈ lw_all := lw_g (lw_at lw_m7 1 rfl) rfl
theorem q1546 : (Jvm.Cond.classLink "SkerryLights" (96 : Nat) "java/lang/UnsupportedOperationException") ∈ lw_all := lw_g (lw_at lw_m7 2 rfl) rfl
theorem q1555 : (Jvm.Cond.methodLink "SkerryLights" (98 : Nat) ({ cls := "java/lang/UnsupportedOperationException", name := "<init>", desc := "()V" } : Jvm.MethodName)) ∈ lw_all := lw_g (lw_at lw_m7 11 rfl) rfl
theorem q1561 : (Jvm.Cond.interfaceEntry "SkerryLights" (163 : Nat)) ∈ lw_tbl := lw_at lw_m7 17 rfl
theorem q1562 : (Jvm.Cond.methodLink "SkerryLights" (163 : Nat) ({ cls := "java/util/List", name := "get", desc := "(I)Ljava/lang/Object;" } : Jvm.MethodName)) ∈ lw_all := lw_g (lw_at lw_m7 18 rfl) rfl
theorem q1608 : (Jvm.Cond.classLink "SkerryLights" (45 : Nat) "SkerryLights$Side") ∈ lw_all := lw_g (lw_at lw_m7 64 rfl) rfl
theorem q1609 : (Jvm.Cond.methodLink "SkerryLights" (164 : Nat) ({ cls := "SkerryLights$Tower", name := "<init>", desc := "(IILSkerryLights$Side;I)V" } : Jvm.MethodName)) ∈ lw_all := lw_g (lw_at lw_m7 65 rfl) rfl
theorem q1614 : (Jvm.Cond.instanceMethod ({ cls := "SkerryLights", name := "lens", desc := "(I)I" } : Jvm.MethodName)) ∈ lw_all := lw_g (lw_at lw_m7 70 rfl) rfl
theorem q1615 : (Jvm.Cond.selects "SkerryLights" ({ cls := "SkerryLights", name := "lens", desc := "(I)I" } : Jvm.MethodName) ({ cls := "SkerryLights", name := "lens", desc := "(I)I" } : Jvm.MethodName)) ∈ lw_all := lw_g (lw_at lw_m7 71 rfl) rfl
theorem q1616 : (Jvm.Cond.code ({ cls := "SkerryLights", name := "lens", desc := "(I)I" } : Jvm.MethodName) prog_1_method_13_code (3 : Nat) (Option.some Jvm.ClassFile.FieldType.int)) ∈ lw_all := lw_g (lw_at lw_m7 72 rfl) rfl
theorem q1617 : (Jvm.Cond.methodLink "SkerryLights" (172 : Nat) ({ cls := "SkerryLights$Lens", name := "<init>", desc := "(II)V" } : Jvm.MethodName)) ∈ lw_all := lw_g (lw_at lw_m7 73 rfl) rfl
theorem q1622 : (Jvm.Cond.instanceMethod ({ cls := "SkerryLights", name := "pattern", desc := "(III)I" } : Jvm.MethodName)) ∈ lw_all := lw_g (lw_at lw_m7 78 rfl) rfl
theorem q1623 : (Jvm.Cond.selects "SkerryLights" ({ cls := "SkerryLights", name := "pattern", desc := "(III)I" } : Jvm.MethodName) ({ cls := "SkerryLights", name := "pattern", desc := "(III)I" } : Jvm.MethodName)) ∈ lw_all := lw_g (lw_at lw_m7 79 rfl) rfl
theorem q1624 : (Jvm.Cond.code ({ cls := "SkerryLights", name := "pattern", desc := "(III)I" } : Jvm.MethodName) prog_1_method_14_code (5 : Nat) (Option.some Jvm.ClassFile.FieldType.int)) ∈ lw_all := lw_g (lw_at lw_m7 80 rfl) rfl
theorem q1625 : (Jvm.Cond.methodLink "SkerryLights" (177 : Nat) ({ cls := "SkerryLights", name := "isTower", desc := "(I)Z" } : Jvm.MethodName)) ∈ lw_all := lw_g (lw_at lw_m7 81 rfl) rfl
theorem q1626 : (Jvm.Cond.privateMethod ({ cls := "SkerryLights", name := "isTower", desc := "(I)Z" } : Jvm.MethodName)) ∈ lw_tbl := lw_at lw_m7 82 rfl
theorem q1627 : (Jvm.Cond.instanceMethod ({ cls := "SkerryLights", name := "isTower", desc := "(I)Z" } : Jvm.MethodName)) ∈ lw_all := lw_g (lw_at lw_m7 83 rfl) rfl
theorem q1628 : (Jvm.Cond.code ({ cls := "SkerryLights", name := "isTower", desc := "(I)Z" } : Jvm.MethodName) prog_1_method_7_code (2 : Nat) (Option.some Jvm.ClassFile.FieldType.boolean)) ∈ lw_all := lw_g (lw_at lw_m7 84 rfl) rfl
theorem q1629 : (Jvm.Cond.methodLink "SkerryLights" (180 : Nat) ({ cls := "java/lang/Math", name := "max", desc := "(II)I" } : Jvm.MethodName)) ∈ lw_all := lw_g (lw_at lw_m7 85 rfl) rfl
theorem q1630 : (Jvm.Cond.methodLink "SkerryLights" (186 : Nat) ({ cls := "java/lang/Math", name := "min", desc := "(II)I" } : Jvm.MethodName)) ∈ lw_all := lw_g (lw_at lw_m7 86 rfl) rfl
theorem q1631 : (Jvm.Cond.methodLink "SkerryLights" (189 : Nat) ({ cls := "SkerryLights", name := "at", desc := "(I)LSkerryLights$Tower;" } : Jvm.MethodName)) ∈ lw_all := lw_g (lw_at lw_m7 87 rfl) rfl
theorem q1632 : (Jvm.Cond.privateMethod ({ cls := "SkerryLights", name := "at", desc := "(I)LSkerryLights$Tower;" } : Jvm.MethodName)) ∈ lw_tbl := lw_at lw_m7 88 rfl
theorem q1633 : (Jvm.Cond.instanceMethod ({ cls := "SkerryLights", name := "at", desc := "(I)LSkerryLights$Tower;" } : Jvm.MethodName)) ∈ lw_all := lw_g (lw_at lw_m7 89 rfl) rfl
theorem q1634 : (Jvm.Cond.code ({ cls := "SkerryLights", name := "at", desc := "(I)LSkerryLights$Tower;" } : Jvm.MethodName) prog_1_method_11_code (2 : Nat) (Option.some (Jvm.ClassFile.FieldType.object "SkerryLights$Tower"))) ∈ lw_all := lw_g (lw_at lw_m7 90 rfl) rfl
theorem q1635 : (Jvm.Cond.methodLink "SkerryLights" (112 : Nat) ({ cls := "java/util/ArrayList", name := "get", desc := "(I)Ljava/lang/Object;" } : Jvm.MethodName)) ∈ lw_all := lw_g (lw_at lw_m7 91 rfl) rfl
theorem q1636 : (Jvm.Cond.methodLink "SkerryLights" (196 : Nat) ({ cls := "java/lang/Integer", name := "bitCount", desc := "(I)I" } : Jvm.MethodName)) ∈ lw_all := lw_g (lw_at lw_m7 92 rfl) rfl
theorem q1646 : (Jvm.Cond.instanceMethod ({ cls := "SkerryLights", name := "fit", desc := "(I)I" } : Jvm.MethodName)) ∈ lw_all := lw_g (lw_at lw_m7 102 rfl) rfl
theorem q1647 : (Jvm.Cond.selects "SkerryLights" ({ cls := "SkerryLights", name := "fit", desc := "(I)I" } : Jvm.MethodName) ({ cls := "SkerryLights", name := "fit", desc := "(I)I" } : Jvm.MethodName)) ∈ lw_all := lw_g (lw_at lw_m7 103 rfl) rfl
theorem q1648 : (Jvm.Cond.code ({ cls := "SkerryLights", name := "fit", desc := "(I)I" } : Jvm.MethodName) prog_1_method_15_code (3 : Nat) (Option.some Jvm.ClassFile.FieldType.int)) ∈ lw_all := lw_g (lw_at lw_m7 104 rfl) rfl
theorem q1649 : (Jvm.Cond.methodLink "SkerryLights" (208 : Nat) ({ cls := "SkerryLights$State", name := "whyNotFitted", desc := "()LSkerryLights$Refusal;" } : Jvm.MethodName)) ∈ lw_all := lw_g (lw_at lw_m7 105 rfl) rfl
theorem q1667 : (Jvm.Cond.methodLink "SkerryLights" (212 : Nat) ({ cls := "SkerryLights$State", name := "fit", desc := "(LSkerryLights$Tower;)I" } : Jvm.MethodName)) ∈ lw_all := lw_g (lw_at lw_m7 123 rfl) rfl
theorem q1677 : (Jvm.Cond.instanceMethod ({ cls := "SkerryLights", name := "light", desc := "(I)I" } : Jvm.MethodName)) ∈ lw_all := lw_g (lw_at lw_m7 133 rfl) rfl
theorem q1678 : (Jvm.Cond.selects "SkerryLights" ({ cls := "SkerryLights", name := "light", desc := "(I)I" } : Jvm.MethodName) ({ cls := "SkerryLights", name := "light", desc := "(I)I" } : Jvm.MethodName)) ∈ lw_all := lw_g (lw_at lw_m7 134 rfl) rfl
theorem q1679 : (Jvm.Cond.code ({ cls := "SkerryLights", name := "light", desc := "(I)I" } : Jvm.MethodName) prog_1_method_16_code (2 : Nat) (Option.some Jvm.ClassFile.FieldType.int)) ∈ lw_all := lw_g (lw_at lw_m7 135 rfl) rfl
theorem q1680 : (Jvm.Cond.methodLink "SkerryLights" (216 : Nat) ({ cls := "SkerryLights$State", name := "whyNotLit", desc := "(LSkerryLights$Tower;)LSkerryLights$Refusal;" } : Jvm.MethodName)) ∈ lw_all := lw_g (lw_at lw_m7 136 rfl) rfl
theorem q1688 : (Jvm.Cond.instanceMethod ({ cls := "SkerryLights", name := "darken", desc := "(I)I" } : Jvm.MethodName)) ∈ lw_all := lw_g (lw_at lw_m7 144 rfl) rfl
theorem q1689 : (Jvm.Cond.selects "SkerryLights" ({ cls := "SkerryLights", name := "darken", desc := "(I)I" } : Jvm.MethodName) ({ cls := "SkerryLights", name := "darken", desc := "(I)I" } : Jvm.MethodName)) ∈ lw_all := lw_g (lw_at lw_m7 145 rfl) rfl
theorem q1690 : (Jvm.Cond.code ({ cls := "SkerryLights", name := "darken", desc := "(I)I" } : Jvm.MethodName) prog_1_method_17_code (2 : Nat) (Option.some Jvm.ClassFile.FieldType.int)) ∈ lw_all := lw_g (lw_at lw_m7 146 rfl) rfl
theorem q1691 : (Jvm.Cond.methodLink "SkerryLights" (227 : Nat) ({ cls := "SkerryLights$State", name := "whyNotDark", desc := "(LSkerryLights$Tower;)LSkerryLights$Refusal;" } : Jvm.MethodName)) ∈ lw_all := lw_g (lw_at lw_m7 147 rfl) rfl
theorem q1699 : (Jvm.Cond.instanceMethod ({ cls := "SkerryLights", name := "breakDown", desc := "(I)I" } : Jvm.MethodName)) ∈ lw_all := lw_g (lw_at lw_m7 155 rfl) rfl
theorem q1700 : (Jvm.Cond.selects "SkerryLights" ({ cls := "SkerryLights", name := "breakDown", desc := "(I)I" } : Jvm.MethodName) ({ cls := "SkerryLights", name := "breakDown", desc := "(I)I" } : Jvm.MethodName)) ∈ lw_all := lw_g (lw_at lw_m7 156 rfl) rfl
theorem q1701 : (Jvm.Cond.code ({ cls := "SkerryLights", name := "breakDown", desc := "(I)I" } : Jvm.MethodName) prog_1_method_18_code (2 : Nat) (Option.some Jvm.ClassFile.FieldType.int)) ∈ lw_all := lw_g (lw_at lw_m7 157 rfl) rfl
theorem q1702 : (Jvm.Cond.methodLink "SkerryLights" (230 : Nat) ({ cls := "SkerryLights$State", name := "whyNotBroken", desc := "(LSkerryLights$Tower;)LSkerryLights$Refusal;" } : Jvm.MethodName)) ∈ lw_all := lw_g (lw_at lw_m7 158 rfl) rfl
theorem q1706 : (Jvm.Cond.methodLink "SkerryLights" (233 : Nat) ({ cls := "SkerryLights$State", name := "breakDown", desc := "(LSkerryLights$Tower;)V" } : Jvm.MethodName)) ∈ lw_all := lw_g (lw_at lw_m7 162 rfl) rfl
theorem q1714 : (Jvm.Cond.instanceMethod ({ cls := "SkerryLights", name := "mend", desc := "(I)I" } : Jvm.MethodName)) ∈ lw_all := lw_g (lw_at lw_m7 170 rfl) rfl
theorem q1715 : (Jvm.Cond.selects "SkerryLights" ({ cls := "SkerryLights", name := "mend", desc := "(I)I" } : Jvm.MethodName) ({ cls := "SkerryLights", name := "mend", desc := "(I)I" } : Jvm.MethodName)) ∈ lw_all := lw_g (lw_at lw_m7 171 rfl) rfl
theorem q1716 : (Jvm.Cond.code ({ cls := "SkerryLights", name := "mend", desc := "(I)I" } : Jvm.MethodName) prog_1_method_20_code (2 : Nat) (Option.some Jvm.ClassFile.FieldType.int)) ∈ lw_all := lw_g (lw_at lw_m7 172 rfl) rfl
theorem q1717 : (Jvm.Cond.methodLink "SkerryLights" (240 : Nat) ({ cls := "SkerryLights$State", name := "whyNotMended", desc := "(LSkerryLights$Tower;)LSkerryLights$Refusal;" } : Jvm.MethodName)) ∈ lw_all := lw_g (lw_at lw_m7 173 rfl) rfl
theorem q1721 : (Jvm.Cond.methodLink "SkerryLights" (243 : Nat) ({ cls := "SkerryLights", name := "broken", desc := "()I" } : Jvm.MethodName)) ∈ lw_all := lw_g (lw_at lw_m7 177 rfl) rfl
theorem q1722 : (Jvm.Cond.privateMethod ({ cls := "SkerryLights", name := "broken", desc := "()I" } : Jvm.MethodName)) ∈ lw_tbl := lw_at lw_m7 178 rfl
theorem q1723 : (Jvm.Cond.instanceMethod ({ cls := "SkerryLights", name := "broken", desc := "()I" } : Jvm.MethodName)) ∈ lw_all := lw_g (lw_at lw_m7 179 rfl) rfl
theorem q1724 : (Jvm.Cond.code ({ cls := "SkerryLights", name := "broken", desc := "()I" } : Jvm.MethodName) prog_1_method_19_code (4 : Nat) (Option.some Jvm.ClassFile.FieldType.int)) ∈ lw_all := lw_g (lw_at lw_m7 180 rfl) rfl
theorem q1729 : (Jvm.Cond.instanceMethod ({ cls := "SkerryLights", name := "fog", desc := "(II)I" } : Jvm.MethodName)) ∈ lw_all := lw_g (lw_at lw_m7 185 rfl) rfl
theorem q1730 : (Jvm.Cond.selects "SkerryLights" ({ cls := "SkerryLights", name := "fog", desc := "(II)I" } : Jvm.MethodName) ({ cls := "SkerryLights", name := "fog", desc := "(II)I" } : Jvm.MethodName)) ∈ lw_all := lw_g (lw_at lw_m7 186 rfl) rfl
theorem q1731 : (Jvm.Cond.code ({ cls := "SkerryLights", name := "fog", desc := "(II)I" } : Jvm.MethodName) prog_1_method_21_code (4 : Nat) (Option.some Jvm.ClassFile.FieldType.int)) ∈ lw_all := lw_g (lw_at lw_m7 187 rfl) rfl
theorem q1736 : (Jvm.Cond.instanceMethod ({ cls := "SkerryLights", name := "nights", desc := "(I)I" } : Jvm.MethodName)) ∈ lw_all := lw_g (lw_at lw_m7 192 rfl) rfl
theorem q1737 : (Jvm.Cond.selects "SkerryLights" ({ cls := "SkerryLights", name := "nights", desc := "(I)I" } : Jvm.MethodName) ({ cls := "SkerryLights", name := "nights", desc := "(I)I" } : Jvm.MethodName)) ∈ lw_all := lw_g (lw_at lw_m7 193 rfl) rfl
theorem q1738 : (Jvm.Cond.code ({ cls := "SkerryLights", name := "nights", desc := "(I)I" } : Jvm.MethodName) prog_1_method_26_code (2 : Nat) (Option.some Jvm.ClassFile.FieldType.int)) ∈ lw_all := lw_g (lw_at lw_m7 194 rfl) rfl
theorem q1739 : (Jvm.Cond.methodLink "SkerryLights" (275 : Nat) ({ cls := "SkerryLights", name := "pass", desc := "(LSkerryLights$State;I)I" } : Jvm.MethodName)) ∈ lw_all := lw_g (lw_at lw_m7 195 rfl) rfl
theorem q1740 : (Jvm.Cond.static ({ cls := "SkerryLights", name := "pass", desc := "(LSkerryLights$State;I)I" } : Jvm.MethodName)) ∈ lw_all := lw_g (lw_at lw_m7 196 rfl) rfl
theorem q1741 : (Jvm.Cond.code ({ cls := "SkerryLights", name := "pass", desc := "(LSkerryLights$State;I)I" } : Jvm.MethodName) prog_1_method_25_code (4 : Nat) (Option.some Jvm.ClassFile.FieldType.int)) ∈ lw_all := lw_g (lw_at lw_m7 197 rfl) rfl
theorem q1742 : (Jvm.Cond.methodLink "SkerryLights" (272 : Nat) ({ cls := "SkerryLights$State", name := "night", desc := "()I" } : Jvm.MethodName)) ∈ lw_all := lw_g (lw_at lw_m7 198 rfl) rfl
theorem q1765 : (Jvm.Cond.instanceMethod ({ cls := "SkerryLights", name := "cost", desc := "(II)I" } : Jvm.MethodName)) ∈ lw_all := lw_g (lw_at lw_m7 221 rfl) rfl
theorem q1766 : (Jvm.Cond.selects "SkerryLights" ({ cls := "SkerryLights", name := "cost", desc := "(II)I" } : Jvm.MethodName) ({ cls := "SkerryLights", name := "cost", desc := "(II)I" } : Jvm.MethodName)) ∈ lw_all := lw_g (lw_at lw_m7 222 rfl) rfl
theorem q1767 : (Jvm.Cond.code ({ cls := "SkerryLights", name := "cost", desc := "(II)I" } : Jvm.MethodName) prog_1_method_27_code (3 : Nat) (Option.some Jvm.ClassFile.FieldType.int)) ∈ lw_all := lw_g (lw_at lw_m7 223 rfl) rfl
theorem q1772 : (Jvm.Cond.instanceMethod ({ cls := "SkerryLights", name := "reaches", desc := "(II)Z" } : Jvm.MethodName)) ∈ lw_all := lw_g (lw_at lw_m7 228 rfl) rfl
theorem q1773 : (Jvm.Cond.selects "SkerryLights" ({ cls := "SkerryLights", name := "reaches", desc := "(II)Z" } : Jvm.MethodName) ({ cls := "SkerryLights", name := "reaches", desc := "(II)Z" } : Jvm.MethodName)) ∈ lw_all := lw_g (lw_at lw_m7 229 rfl) rfl
theorem q1774 : (Jvm.Cond.code ({ cls := "SkerryLights", name := "reaches", desc := "(II)Z" } : Jvm.MethodName) prog_1_method_28_code (3 : Nat) (Option.some Jvm.ClassFile.FieldType.boolean)) ∈ lw_all := lw_g (lw_at lw_m7 230 rfl) rfl
theorem q1780 : (Jvm.Cond.instanceMethod ({ cls := "SkerryLights", name := "farthest", desc := "(IZ)I" } : Jvm.MethodName)) ∈ lw_all := lw_g (lw_at lw_m7 236 rfl) rfl
theorem q1781 : (Jvm.Cond.selects "SkerryLights" ({ cls := "SkerryLights", name := "farthest", desc := "(IZ)I" } : Jvm.MethodName) ({ cls := "SkerryLights", name := "farthest", desc := "(IZ)I" } : Jvm.MethodName)) ∈ lw_all := lw_g (lw_at lw_m7 237 rfl) rfl
theorem q1782 : (Jvm.Cond.code ({ cls := "SkerryLights", name := "farthest", desc := "(IZ)I" } : Jvm.MethodName) prog_1_method_29_code (4 : Nat) (Option.some Jvm.ClassFile.FieldType.int)) ∈ lw_all := lw_g (lw_at lw_m7 238 rfl) rfl
theorem q1783 : (Jvm.Cond.methodLink "SkerryLights" (286 : Nat) ({ cls := "SkerryLights", name := "checkElement", desc := "(Z)V" } : Jvm.MethodName)) ∈ lw_all := lw_g (lw_at lw_m7 239 rfl) rfl
theorem q1784 : (Jvm.Cond.static ({ cls := "SkerryLights", name := "checkElement", desc := "(Z)V" } : Jvm.MethodName)) ∈ lw_all := lw_g (lw_at lw_m8 0 rfl) rfl
theorem q1785 : (Jvm.Cond.code ({ cls := "SkerryLights", name := "checkElement", desc := "(Z)V" } : Jvm.MethodName) prog_1_method_5_code (1 : Nat) (Option.none : Option Jvm.ClassFile.FieldType)) ∈ lw_all := lw_g (lw_at lw_m8 1 rfl) rfl
theorem q1786 : (Jvm.Cond.classLink "SkerryLights" (72 : Nat) "java/util/NoSuchElementException") ∈ lw_all := lw_g (lw_at lw_m8 2 rfl) rfl
theorem q1787 : (Jvm.Cond.methodLink "SkerryLights" (74 : Nat) ({ cls := "java/util/NoSuchElementException", name := "<init>", desc := "()V" } : Jvm.MethodName)) ∈ lw_all := lw_g (lw_at lw_m8 3 rfl) rfl
theorem q1788 : (Jvm.Cond.methodLink "SkerryLights" (289 : Nat) ({ cls := "SkerryLights$State", name := "reached", desc := "(LSkerryLights$Tower;)Ljava/util/BitSet;" } : Jvm.MethodName)) ∈ lw_all := lw_g (lw_at lw_m8 4 rfl) rfl
theorem q1789 : (Jvm.Cond.methodLink "SkerryLights" (293 : Nat) ({ cls := "java/util/BitSet", name := "length", desc := "()I" } : Jvm.MethodName)) ∈ lw_all := lw_g (lw_at lw_m8 5 rfl) rfl
theorem q1800 : (Jvm.Cond.methodLink "SkerryLights" (298 : Nat) ({ cls := "java/util/BitSet", name := "nextSetBit", desc := "(I)I" } : Jvm.MethodName)) ∈ lw_all := lw_g (lw_at lw_m8 16 rfl) rfl
theorem q1814 : (Jvm.Cond.instanceMethod ({ cls := "SkerryLights", name := "areAlike", desc := "(II)Z" } : Jvm.MethodName)) ∈ lw_all := lw_g (lw_at lw_m8 30 rfl) rfl
theorem q1815 : (Jvm.Cond.selects "SkerryLights" ({ cls := "SkerryLights", name := "areAlike", desc := "(II)Z" } : Jvm.MethodName) ({ cls := "SkerryLights", name := "areAlike", desc := "(II)Z" } : Jvm.MethodName)) ∈ lw_all := lw_g (lw_at lw_m8 31 rfl) rfl
theorem q1816 : (Jvm.Cond.code ({ cls := "SkerryLights", name := "areAlike", desc := "(II)Z" } : Jvm.MethodName) prog_1_method_30_code (3 : Nat) (Option.some Jvm.ClassFile.FieldType.boolean)) ∈ lw_all := lw_g (lw_at lw_m8 32 rfl) rfl
theorem q1817 : (Jvm.Cond.methodLink "SkerryLights" (301 : Nat) ({ cls := "SkerryLights$Tower", name := "isLike", desc := "(LSkerryLights$Tower;)Z" } : Jvm.MethodName)) ∈ lw_all := lw_g (lw_at lw_m8 33 rfl) rfl
theorem q1822 : (Jvm.Cond.instanceMethod ({ cls := "SkerryLights", name := "watcher", desc := "(I)I" } : Jvm.MethodName)) ∈ lw_all := lw_g (lw_at lw_m8 38 rfl) rfl
theorem q1823 : (Jvm.Cond.selects "SkerryLights" ({ cls := "SkerryLights", name := "watcher", desc := "(I)I" } : Jvm.MethodName) ({ cls := "SkerryLights", name := "watcher", desc := "(I)I" } : Jvm.MethodName)) ∈ lw_all := lw_g (lw_at lw_m8 39 rfl) rfl
theorem q1824 : (Jvm.Cond.code ({ cls := "SkerryLights", name := "watcher", desc := "(I)I" } : Jvm.MethodName) prog_1_method_33_code (3 : Nat) (Option.some Jvm.ClassFile.FieldType.int)) ∈ lw_all := lw_g (lw_at lw_m8 40 rfl) rfl
theorem q1829 : (Jvm.Cond.instanceMethod ({ cls := "SkerryLights", name := "watched", desc := "(I)I" } : Jvm.MethodName)) ∈ lw_all := lw_g (lw_at lw_m8 45 rfl) rfl
theorem q1830 : (Jvm.Cond.selects "SkerryLights" ({ cls := "SkerryLights", name := "watched", desc := "(I)I" } : Jvm.MethodName) ({ cls := "SkerryLights", name := "watched", desc := "(I)I" } : Jvm.MethodName)) ∈ lw_all := lw_g (lw_at lw_m8 46 rfl) rfl
theorem q1831 : (Jvm.Cond.code ({ cls := "SkerryLights", name := "watched", desc := "(I)I" } : Jvm.MethodName) prog_1_method_34_code (4 : Nat) (Option.some Jvm.ClassFile.FieldType.int)) ∈ lw_all := lw_g (lw_at lw_m8 47 rfl) rfl
theorem q1836 : (Jvm.Cond.instanceMethod ({ cls := "SkerryLights", name := "margin", desc := "(II)I" } : Jvm.MethodName)) ∈ lw_all := lw_g (lw_at lw_m8 52 rfl) rfl
theorem q1837 : (Jvm.Cond.selects "SkerryLights" ({ cls := "SkerryLights", name := "margin", desc := "(II)I" } : Jvm.MethodName) ({ cls := "SkerryLights", name := "margin", desc := "(II)I" } : Jvm.MethodName)) ∈ lw_all := lw_g (lw_at lw_m8 53 rfl) rfl
theorem q1838 : (Jvm.Cond.code ({ cls := "SkerryLights", name := "margin", desc := "(II)I" } : Jvm.MethodName) prog_1_method_38_code (3 : Nat) (Option.some Jvm.ClassFile.FieldType.int)) ∈ lw_all := lw_g (lw_at lw_m8 54 rfl) rfl
theorem q1839 : (Jvm.Cond.methodLink "SkerryLights" (325 : Nat) ({ cls := "SkerryLights$State", name := "canSignal", desc := "(LSkerryLights$Tower;LSkerryLights$Tower;)Z" } : Jvm.MethodName)) ∈ lw_all := lw_g (lw_at lw_m8 55 rfl) rfl
theorem q1843 : (Jvm.Cond.methodLink "SkerryLights" (328 : Nat) ({ cls := "SkerryLights$State", name := "margin", desc := "(LSkerryLights$Tower;LSkerryLights$Tower;)I" } : Jvm.MethodName)) ∈ lw_all := lw_g (lw_at lw_m8 59 rfl) rfl
theorem q1851 : (Jvm.Cond.instanceMethod ({ cls := "SkerryLights", name := "signals", desc := "(II)I" } : Jvm.MethodName)) ∈ lw_all := lw_g (lw_at lw_m8 67 rfl) rfl
theorem q1852 : (Jvm.Cond.selects "SkerryLights" ({ cls := "SkerryLights", name := "signals", desc := "(II)I" } : Jvm.MethodName) ({ cls := "SkerryLights", name := "signals", desc := "(II)I" } : Jvm.MethodName)) ∈ lw_all := lw_g (lw_at lw_m8 68 rfl) rfl
theorem q1853 : (Jvm.Cond.code ({ cls := "SkerryLights", name := "signals", desc := "(II)I" } : Jvm.MethodName) prog_1_method_39_code (4 : Nat) (Option.some Jvm.ClassFile.FieldType.int)) ∈ lw_all := lw_g (lw_at lw_m8 69 rfl) rfl
theorem q1854 : (Jvm.Cond.methodLink "SkerryLights" (332 : Nat) ({ cls := "SkerryLights$State", name := "signalsTo", desc := "(LSkerryLights$Tower;)[I" } : Jvm.MethodName)) ∈ lw_all := lw_g (lw_at lw_m8 70 rfl) rfl
theorem q1924 : (Jvm.Cond.instanceMethod ({ cls := "SkerryLights", name := "signalsAgain", desc := "(II)I" } : Jvm.MethodName)) ∈ lw_all := lw_g (lw_at lw_m8 140 rfl) rfl
theorem q1925 : (Jvm.Cond.selects "SkerryLights" ({ cls := "SkerryLights", name := "signalsAgain", desc := "(II)I" } : Jvm.MethodName) ({ cls := "SkerryLights", name := "signalsAgain", desc := "(II)I" } : Jvm.MethodName)) ∈ lw_all := lw_g (lw_at lw_m8 141 rfl) rfl
theorem q1926 : (Jvm.Cond.code ({ cls := "SkerryLights", name := "signalsAgain", desc := "(II)I" } : Jvm.MethodName) prog_1_method_40_code (4 : Nat) (Option.some Jvm.ClassFile.FieldType.int)) ∈ lw_all := lw_g (lw_at lw_m8 142 rfl) rfl
theorem q1927 : (Jvm.Cond.methodLink "SkerryLights" (336 : Nat) ({ cls := "SkerryLights$State", name := "fewest", desc := "(LSkerryLights$Tower;LSkerryLights$Tower;I)I" } : Jvm.MethodName)) ∈ lw_all := lw_g (lw_at lw_m8 143 rfl) rfl
theorem q1937 : (Jvm.Cond.instanceMethod ({ cls := "SkerryLights", name := "route", desc := "(III)I" } : Jvm.MethodName)) ∈ lw_all := lw_g (lw_at lw_m8 153 rfl) rfl
theorem q1938 : (Jvm.Cond.selects "SkerryLights" ({ cls := "SkerryLights", name := "route", desc := "(III)I" } : Jvm.MethodName) ({ cls := "SkerryLights", name := "route", desc := "(III)I" } : Jvm.MethodName)) ∈ lw_all := lw_g (lw_at lw_m8 154 rfl) rfl
theorem q1939 : (Jvm.Cond.code ({ cls := "SkerryLights", name := "route", desc := "(III)I" } : Jvm.MethodName) prog_1_method_41_code (5 : Nat) (Option.some Jvm.ClassFile.FieldType.int)) ∈ lw_all := lw_g (lw_at lw_m8 155 rfl) rfl
theorem q1940 : (Jvm.Cond.methodLink "SkerryLights" (340 : Nat) ({ cls := "SkerryLights$State", name := "route", desc := "(LSkerryLights$Tower;LSkerryLights$Tower;)Ljava/util/LinkedList;" } : Jvm.MethodName)) ∈ lw_all := lw_g (lw_at lw_m8 156 rfl) rfl
theorem q1950 : (Jvm.Cond.methodLink "SkerryLights" (344 : Nat) ({ cls := "java/util/LinkedList", name := "get", desc := "(I)Ljava/lang/Object;" } : Jvm.MethodName)) ∈ lw_all := lw_g (lw_at lw_m8 166 rfl) rfl
theorem q1955 : (Jvm.Cond.instanceMethod ({ cls := "SkerryLights", name := "append", desc := "(C)I" } : Jvm.MethodName)) ∈ lw_all := lw_g (lw_at lw_m8 171 rfl) rfl
theorem q1956 : (Jvm.Cond.selects "SkerryLights" ({ cls := "SkerryLights", name := "append", desc := "(C)I" } : Jvm.MethodName) ({ cls := "SkerryLights", name := "append", desc := "(C)I" } : Jvm.MethodName)) ∈ lw_all := lw_g (lw_at lw_m8 172 rfl) rfl
theorem q1957 : (Jvm.Cond.code ({ cls := "SkerryLights", name := "append", desc := "(C)I" } : Jvm.MethodName) prog_1_method_42_code (2 : Nat) (Option.some Jvm.ClassFile.FieldType.int)) ∈ lw_all := lw_g (lw_at lw_m8 173 rfl) rfl
theorem q1958 : (Jvm.Cond.methodLink "SkerryLights" (345 : Nat) ({ cls := "java/lang/StringBuilder", name := "length", desc := "()I" } : Jvm.MethodName)) ∈ lw_all := lw_g (lw_at lw_m8 174 rfl) rfl
theorem q1959 : (Jvm.Cond.methodLink "SkerryLights" (346 : Nat) ({ cls := "java/lang/StringBuilder", name := "append", desc := "(C)Ljava/lang/StringBuilder;" } : Jvm.MethodName)) ∈ lw_all := lw_g (lw_at lw_m8 175 rfl) rfl
theorem q1983 : (Jvm.Cond.instanceMethod ({ cls := "SkerryLights", name := "send", desc := "(II)I" } : Jvm.MethodName)) ∈ lw_all := lw_g (lw_at lw_m8 199 rfl) rfl
theorem q1984 : (Jvm.Cond.selects "SkerryLights" ({ cls := "SkerryLights", name := "send", desc := "(II)I" } : Jvm.MethodName) ({ cls := "SkerryLights", name := "send", desc := "(II)I" } : Jvm.MethodName)) ∈ lw_all := lw_g (lw_at lw_m8 200 rfl) rfl
theorem q1985 : (Jvm.Cond.code ({ cls := "SkerryLights", name := "send", desc := "(II)I" } : Jvm.MethodName) prog_1_method_46_code (7 : Nat) (Option.some Jvm.ClassFile.FieldType.int)) ∈ lw_all := lw_g (lw_at lw_m8 201 rfl) rfl
theorem q1986 : (Jvm.Cond.methodLink "SkerryLights" (365 : Nat) ({ cls := "java/lang/StringBuilder", name := "<init>", desc := "(Ljava/lang/CharSequence;)V" } : Jvm.MethodName)) ∈ lw_all := lw_g (lw_at lw_m8 202 rfl) rfl
theorem q2111 : (Jvm.Cond.methodLink "SkerryLights" (368 : Nat) ({ cls := "java/lang/StringBuilder", name := "setLength", desc := "(I)V" } : Jvm.MethodName)) ∈ lw_all := lw_g (lw_at lw_m9 87 rfl) rfl
theorem q2163 : (Jvm.Cond.methodLink "SkerryLights" (371 : Nat) ({ cls := "SkerryLights", name := "isWord", desc := "(Ljava/lang/CharSequence;)Z" } : Jvm.MethodName)) ∈ lw_all := lw_g (lw_at lw_m9 139 rfl) rfl
theorem q2164 : (Jvm.Cond.static ({ cls := "SkerryLights", name := "isWord", desc := "(Ljava/lang/CharSequence;)Z" } : Jvm.MethodName)) ∈ lw_all := lw_g (lw_at lw_m9 140 rfl) rfl
theorem q2165 : (Jvm.Cond.code ({ cls := "SkerryLights", name := "isWord", desc := "(Ljava/lang/CharSequence;)Z" } : Jvm.MethodName) prog_1_method_43_code (2 : Nat) (Option.some Jvm.ClassFile.FieldType.boolean)) ∈ lw_all := lw_g (lw_at lw_m9 141 rfl) rfl
theorem q2166 : (Jvm.Cond.interfaceEntry "SkerryLights" (350 : Nat)) ∈ lw_tbl := lw_at lw_m9 142 rfl
theorem q2167 : (Jvm.Cond.methodLink "SkerryLights" (350 : Nat) ({ cls := "java/lang/CharSequence", name := "length", desc := "()I" } : Jvm.MethodName)) ∈ lw_all := lw_g (lw_at lw_m9 143 rfl) rfl
theorem q2168 : (Jvm.Cond.interfaceEntry "SkerryLights" (353 : Nat)) ∈ lw_tbl := lw_at lw_m9 144 rfl
theorem q2169 : (Jvm.Cond.methodLink "SkerryLights" (353 : Nat) ({ cls := "java/lang/CharSequence", name := "charAt", desc := "(I)C" } : Jvm.MethodName)) ∈ lw_all := lw_g (lw_at lw_m9 145 rfl) rfl
theorem q2170 : (Jvm.Cond.methodLink "SkerryLights" (375 : Nat) ({ cls := "java/util/LinkedList", name := "isEmpty", desc := "()Z" } : Jvm.MethodName)) ∈ lw_all := lw_g (lw_at lw_m9 146 rfl) rfl
theorem q2171 : (Jvm.Cond.methodLink "SkerryLights" (378 : Nat) ({ cls := "SkerryLights", name := "signal", desc := "(Ljava/lang/StringBuilder;LSkerryLights$Tower;LSkerryLights$Tower;)V" } : Jvm.MethodName)) ∈ lw_all := lw_g (lw_at lw_m9 147 rfl) rfl
theorem q2172 : (Jvm.Cond.privateMethod ({ cls := "SkerryLights", name := "signal", desc := "(Ljava/lang/StringBuilder;LSkerryLights$Tower;LSkerryLights$Tower;)V" } : Jvm.MethodName)) ∈ lw_tbl := lw_at lw_m9 148 rfl
theorem q2173 : (Jvm.Cond.instanceMethod ({ cls := "SkerryLights", name := "signal", desc := "(Ljava/lang/StringBuilder;LSkerryLights$Tower;LSkerryLights$Tower;)V" } : Jvm.MethodName)) ∈ lw_all := lw_g (lw_at lw_m9 149 rfl) rfl
theorem q2174 : (Jvm.Cond.code ({ cls := "SkerryLights", name := "signal", desc := "(Ljava/lang/StringBuilder;LSkerryLights$Tower;LSkerryLights$Tower;)V" } : Jvm.MethodName) prog_1_method_44_code (7 : Nat) (Option.none : Option Jvm.ClassFile.FieldType)) ∈ lw_all := lw_g (lw_at lw_m9 150 rfl) rfl
theorem q2175 : (Jvm.Cond.methodLink "SkerryLights" (360 : Nat) ({ cls := "java/lang/StringBuilder", name := "charAt", desc := "(I)C" } : Jvm.MethodName)) ∈ lw_all := lw_g (lw_at lw_m9 151 rfl) rfl
theorem q2176 : (Jvm.Cond.methodLink "SkerryLights" (361 : Nat) ({ cls := "java/lang/StringBuilder", name := "setCharAt", desc := "(IC)V" } : Jvm.MethodName)) ∈ lw_all := lw_g (lw_at lw_m9 152 rfl) rfl
theorem q2183 : (Jvm.Cond.methodLink "SkerryLights" (382 : Nat) ({ cls := "java/lang/StringBuilder", name := "append", desc := "(Ljava/lang/CharSequence;)Ljava/lang/StringBuilder;" } : Jvm.MethodName)) ∈ lw_all := lw_g (lw_at lw_m9 159 rfl) rfl
theorem q2184 : (Jvm.Cond.methodLink "SkerryLights" (388 : Nat) ({ cls := "SkerryLights", name := "lostOf", desc := "(Ljava/lang/CharSequence;)I" } : Jvm.MethodName)) ∈ lw_all := lw_g (lw_at lw_m9 160 rfl) rfl
theorem q2185 : (Jvm.Cond.static ({ cls := "SkerryLights", name := "lostOf", desc := "(Ljava/lang/CharSequence;)I" } : Jvm.MethodName)) ∈ lw_all := lw_g (lw_at lw_m9 161 rfl) rfl
theorem q2186 : (Jvm.Cond.code ({ cls := "SkerryLights", name := "lostOf", desc := "(Ljava/lang/CharSequence;)I" } : Jvm.MethodName) prog_1_method_45_code (3 : Nat) (Option.some Jvm.ClassFile.FieldType.int)) ∈ lw_all := lw_g (lw_at lw_m9 162 rfl) rfl
theorem q2191 : (Jvm.Cond.instanceMethod ({ cls := "SkerryLights", name := "letter", desc := "(I)C" } : Jvm.MethodName)) ∈ lw_all := lw_g (lw_at lw_m9 167 rfl) rfl
theorem q2192 : (Jvm.Cond.selects "SkerryLights" ({ cls := "SkerryLights", name := "letter", desc := "(I)C" } : Jvm.MethodName) ({ cls := "SkerryLights", name := "letter", desc := "(I)C" } : Jvm.MethodName)) ∈ lw_all := lw_g (lw_at lw_m9 168 rfl) rfl
theorem q2193 : (Jvm.Cond.code ({ cls := "SkerryLights", name := "letter", desc := "(I)C" } : Jvm.MethodName) prog_1_method_47_code (2 : Nat) (Option.some Jvm.ClassFile.FieldType.char)) ∈ lw_all := lw_g (lw_at lw_m9 169 rfl) rfl
theorem q2198 : (Jvm.Cond.instanceMethod ({ cls := "SkerryLights", name := "isWhole", desc := "()Z" } : Jvm.MethodName)) ∈ lw_all := lw_g (lw_at lw_m9 174 rfl) rfl
theorem q2199 : (Jvm.Cond.selects "SkerryLights" ({ cls := "SkerryLights", name := "isWhole", desc := "()Z" } : Jvm.MethodName) ({ cls := "SkerryLights", name := "isWhole", desc := "()Z" } : Jvm.MethodName)) ∈ lw_all := lw_g (lw_at lw_m9 175 rfl) rfl
theorem q2200 : (Jvm.Cond.code ({ cls := "SkerryLights", name := "isWhole", desc := "()Z" } : Jvm.MethodName) prog_1_method_48_code (1 : Nat) (Option.some Jvm.ClassFile.FieldType.boolean)) ∈ lw_all := lw_g (lw_at lw_m9 176 rfl) rfl
theorem q2205 : (Jvm.Cond.instanceMethod ({ cls := "SkerryLights", name := "read", desc := "()I" } : Jvm.MethodName)) ∈ lw_all := lw_g (lw_at lw_m9 181 rfl) rfl
theorem q2206 : (Jvm.Cond.selects "SkerryLights" ({ cls := "SkerryLights", name := "read", desc := "()I" } : Jvm.MethodName) ({ cls := "SkerryLights", name := "read", desc := "()I" } : Jvm.MethodName)) ∈ lw_all := lw_g (lw_at lw_m9 182 rfl) rfl
theorem q2207 : (Jvm.Cond.code ({ cls := "SkerryLights", name := "read", desc := "()I" } : Jvm.MethodName) prog_1_method_52_code (7 : Nat) (Option.some Jvm.ClassFile.FieldType.int)) ∈ lw_all := lw_g (lw_at lw_m9 183 rfl) rfl
theorem q2208 : (Jvm.Cond.classLink "SkerryLights" (412 : Nat) "SkerryLights$Reader") ∈ lw_all := lw_g (lw_at lw_m9 184 rfl) rfl
theorem q2210 : (Jvm.Cond.methodLink "SkerryLights" (414 : Nat) ({ cls := "java/lang/StringBuilder", name := "toString", desc := "()Ljava/lang/String;" } : Jvm.MethodName)) ∈ lw_all := lw_g (lw_at lw_m9 186 rfl) rfl
theorem q2211 : (Jvm.Cond.methodLink "SkerryLights" (418 : Nat) ({ cls := "SkerryLights$Reader", name := "<init>", desc := "(Ljava/lang/CharSequence;)V" } : Jvm.MethodName)) ∈ lw_all := lw_g (lw_at lw_m9 187 rfl) rfl
theorem q2291 : (Jvm.Cond.fieldLinkNest "SkerryLights" (392 : Nat) "SkerryLights$Command" "does" "C" "SkerryLights") ∈ lw_tbl := lw_at lw_m10 27 rfl
theorem q2293 : (Jvm.Cond.fieldLinkNest "SkerryLights" (398 : Nat) "SkerryLights$Command" "first" "I" "SkerryLights") ∈ lw_tbl := lw_at lw_m10 29 rfl
theorem q2295 : (Jvm.Cond.fieldLinkNest "SkerryLights" (404 : Nat) "SkerryLights$Command" "second" "I" "SkerryLights") ∈ lw_tbl := lw_at lw_m10 31 rfl
theorem q2297 : (Jvm.Cond.fieldLinkNest "SkerryLights" (411 : Nat) "SkerryLights$Command" "many" "I" "SkerryLights") ∈ lw_tbl := lw_at lw_m10 33 rfl
theorem q2322 : (Jvm.Cond.fieldLinkNest "SkerryLights" (424 : Nat) "SkerryLights$Reader" "commands" "Ljava/util/LinkedList;" "SkerryLights") ∈ lw_tbl := lw_at lw_m10 58 rfl
theorem q2324 : (Jvm.Cond.fieldLinkNest "SkerryLights" (422 : Nat) "SkerryLights$Reader" "at" "I" "SkerryLights") ∈ lw_tbl := lw_at lw_m10 60 rfl
theorem q2326 : (Jvm.Cond.fieldLinkNest "SkerryLights" (419 : Nat) "SkerryLights$Reader" "isFaulty" "Z" "SkerryLights") ∈ lw_tbl := lw_at lw_m10 62 rfl
theorem q2336 : (Jvm.Cond.classLink "SkerryLights" (393 : Nat) "SkerryLights$Command") ∈ lw_all := lw_g (lw_at lw_m10 72 rfl) rfl
theorem q2337 : (Jvm.Cond.methodLink "SkerryLights" (427 : Nat) ({ cls := "SkerryLights", name := "carryOut", desc := "(LSkerryLights$State;LSkerryLights$Command;)LSkerryLights$Refusal;" } : Jvm.MethodName)) ∈ lw_all := lw_g (lw_at lw_m10 73 rfl) rfl
theorem q2338 : (Jvm.Cond.static ({ cls := "SkerryLights", name := "carryOut", desc := "(LSkerryLights$State;LSkerryLights$Command;)LSkerryLights$Refusal;" } : Jvm.MethodName)) ∈ lw_all := lw_g (lw_at lw_m10 74 rfl) rfl
theorem q2339 : (Jvm.Cond.code ({ cls := "SkerryLights", name := "carryOut", desc := "(LSkerryLights$State;LSkerryLights$Command;)LSkerryLights$Refusal;" } : Jvm.MethodName) prog_1_method_51_code (3 : Nat) (Option.some (Jvm.ClassFile.FieldType.object "SkerryLights$Refusal"))) ∈ lw_all := lw_g (lw_at lw_m10 75 rfl) rfl
theorem q2340 : (Jvm.Cond.methodLink "SkerryLights" (401 : Nat) ({ cls := "SkerryLights", name := "noSuch", desc := "()LSkerryLights$Refusal;" } : Jvm.MethodName)) ∈ lw_all := lw_g (lw_at lw_m10 76 rfl) rfl
theorem q2341 : (Jvm.Cond.static ({ cls := "SkerryLights", name := "noSuch", desc := "()LSkerryLights$Refusal;" } : Jvm.MethodName)) ∈ lw_all := lw_g (lw_at lw_m10 77 rfl) rfl
theorem q2342 : (Jvm.Cond.code ({ cls := "SkerryLights", name := "noSuch", desc := "()LSkerryLights$Refusal;" } : Jvm.MethodName) prog_1_method_49_code (0 : Nat) (Option.some (Jvm.ClassFile.FieldType.object "SkerryLights$Refusal"))) ∈ lw_all := lw_g (lw_at lw_m10 78 rfl) rfl
theorem q2343 : (Jvm.Cond.methodLink "SkerryLights" (407 : Nat) ({ cls := "SkerryLights", name := "carryOutAt", desc := "(LSkerryLights$State;CLSkerryLights$Tower;)LSkerryLights$Refusal;" } : Jvm.MethodName)) ∈ lw_all := lw_g (lw_at lw_m10 79 rfl) rfl
theorem q2344 : (Jvm.Cond.static ({ cls := "SkerryLights", name := "carryOutAt", desc := "(LSkerryLights$State;CLSkerryLights$Tower;)LSkerryLights$Refusal;" } : Jvm.MethodName)) ∈ lw_all := lw_g (lw_at lw_m10 80 rfl) rfl
theorem q2345 : (Jvm.Cond.code ({ cls := "SkerryLights", name := "carryOutAt", desc := "(LSkerryLights$State;CLSkerryLights$Tower;)LSkerryLights$Refusal;" } : Jvm.MethodName) prog_1_method_50_code (5 : Nat) (Option.some (Jvm.ClassFile.FieldType.object "SkerryLights$Refusal"))) ∈ lw_all := lw_g (lw_at lw_m10 81 rfl) rfl
theorem q2350 : (Jvm.Cond.instanceMethod ({ cls := "SkerryLights", name := "faultPosition", desc := "()I" } : Jvm.MethodName)) ∈ lw_all := lw_g (lw_at lw_m10 86 rfl) rfl
theorem q2351 : (Jvm.Cond.selects "SkerryLights" ({ cls := "SkerryLights", name := "faultPosition", desc := "()I" } : Jvm.MethodName) ({ cls := "SkerryLights", name := "faultPosition", desc := "()I" } : Jvm.MethodName)) ∈ lw_all := lw_g (lw_at lw_m10 87 rfl) rfl
theorem q2352 : (Jvm.Cond.code ({ cls := "SkerryLights", name := "faultPosition", desc := "()I" } : Jvm.MethodName) prog_1_method_53_code (1 : Nat) (Option.some Jvm.ClassFile.FieldType.int)) ∈ lw_all := lw_g (lw_at lw_m10 88 rfl) rfl
theorem q2357 : (Jvm.Cond.instanceMethod ({ cls := "SkerryLights", name := "reason", desc := "(IZ)I" } : Jvm.MethodName)) ∈ lw_all := lw_g (lw_at lw_m10 93 rfl) rfl
theorem q2358 : (Jvm.Cond.selects "SkerryLights" ({ cls := "SkerryLights", name := "reason", desc := "(IZ)I" } : Jvm.MethodName) ({ cls := "SkerryLights", name := "reason", desc := "(IZ)I" } : Jvm.MethodName)) ∈ lw_all := lw_g (lw_at lw_m10 94 rfl) rfl
theorem q2359 : (Jvm.Cond.code ({ cls := "SkerryLights", name := "reason", desc := "(IZ)I" } : Jvm.MethodName) prog_1_method_54_code (4 : Nat) (Option.some Jvm.ClassFile.FieldType.int)) ∈ lw_all := lw_g (lw_at lw_m10 95 rfl) rfl
theorem q2364 : (Jvm.Cond.instanceMethod ({ cls := "SkerryLights", name := "towerOf", desc := "(II)I" } : Jvm.MethodName)) ∈ lw_all := lw_g (lw_at lw_m10 100 rfl) rfl
theorem q2365 : (Jvm.Cond.selects "SkerryLights" ({ cls := "SkerryLights", name := "towerOf", desc := "(II)I" } : Jvm.MethodName) ({ cls := "SkerryLights", name := "towerOf", desc := "(II)I" } : Jvm.MethodName)) ∈ lw_all := lw_g (lw_at lw_m10 101 rfl) rfl
theorem q2366 : (Jvm.Cond.code ({ cls := "SkerryLights", name := "towerOf", desc := "(II)I" } : Jvm.MethodName) prog_1_method_55_code (4 : Nat) (Option.some Jvm.ClassFile.FieldType.int)) ∈ lw_all := lw_g (lw_at lw_m10 102 rfl) rfl
theorem q2367 : (Jvm.Cond.interfaceEntry "SkerryLights" (440 : Nat)) ∈ lw_tbl := lw_at lw_m10 103 rfl
theorem q2368 : (Jvm.Cond.methodLink "SkerryLights" (440 : Nat) ({ cls := "java/util/List", name := "indexOf", desc := "(Ljava/lang/Object;)I" } : Jvm.MethodName)) ∈ lw_all := lw_g (lw_at lw_m10 104 rfl) rfl
theorem q2384 : (Jvm.Cond.selects "SkerryLights" ({ cls := "java/lang/Object", name := "equals", desc := "(Ljava/lang/Object;)Z" } : Jvm.MethodName) ({ cls := "java/lang/Object", name := "equals", desc := "(Ljava/lang/Object;)Z" } : Jvm.MethodName)) ∈ lw_all := lw_g (lw_at lw_m10 120 rfl) rfl
theorem q2438 : (Jvm.Cond.instanceMethod ({ cls := "SkerryLights", name := "sign", desc := "(II)C" } : Jvm.MethodName)) ∈ lw_all := lw_g (lw_at lw_m10 174 rfl) rfl
theorem q2439 : (Jvm.Cond.selects "SkerryLights" ({ cls := "SkerryLights", name := "sign", desc := "(II)C" } : Jvm.MethodName) ({ cls := "SkerryLights", name := "sign", desc := "(II)C" } : Jvm.MethodName)) ∈ lw_all := lw_g (lw_at lw_m10 175 rfl) rfl
theorem q2440 : (Jvm.Cond.code ({ cls := "SkerryLights", name := "sign", desc := "(II)C" } : Jvm.MethodName) prog_1_method_56_code (3 : Nat) (Option.some Jvm.ClassFile.FieldType.char)) ∈ lw_all := lw_g (lw_at lw_m10 176 rfl) rfl
theorem q2441 : (Jvm.Cond.methodLink "SkerryLights" (444 : Nat) ({ cls := "SkerryLights$Tower", name := "isFlash", desc := "(I)Z" } : Jvm.MethodName)) ∈ lw_all := lw_g (lw_at lw_m10 177 rfl) rfl
theorem q2446 : (Jvm.Cond.instanceMethod ({ cls := "SkerryLights", name := "lensOf", desc := "(II)I" } : Jvm.MethodName)) ∈ lw_all := lw_g (lw_at lw_m10 182 rfl) rfl
theorem q2447 : (Jvm.Cond.selects "SkerryLights" ({ cls := "SkerryLights", name := "lensOf", desc := "(II)I" } : Jvm.MethodName) ({ cls := "SkerryLights", name := "lensOf", desc := "(II)I" } : Jvm.MethodName)) ∈ lw_all := lw_g (lw_at lw_m10 183 rfl) rfl
theorem q2448 : (Jvm.Cond.code ({ cls := "SkerryLights", name := "lensOf", desc := "(II)I" } : Jvm.MethodName) prog_1_method_58_code (4 : Nat) (Option.some Jvm.ClassFile.FieldType.int)) ∈ lw_all := lw_g (lw_at lw_m10 184 rfl) rfl
theorem q2449 : (Jvm.Cond.methodLink "SkerryLights" (448 : Nat) ({ cls := "SkerryLights", name := "towerWith", desc := "(LSkerryLights$Lens;)I" } : Jvm.MethodName)) ∈ lw_all := lw_g (lw_at lw_m10 185 rfl) rfl
theorem q2450 : (Jvm.Cond.privateMethod ({ cls := "SkerryLights", name := "towerWith", desc := "(LSkerryLights$Lens;)I" } : Jvm.MethodName)) ∈ lw_tbl := lw_at lw_m10 186 rfl
theorem q2451 : (Jvm.Cond.instanceMethod ({ cls := "SkerryLights", name := "towerWith", desc := "(LSkerryLights$Lens;)I" } : Jvm.MethodName)) ∈ lw_all := lw_g (lw_at lw_m10 187 rfl) rfl
theorem q2452 : (Jvm.Cond.code ({ cls := "SkerryLights", name := "towerWith", desc := "(LSkerryLights$Lens;)I" } : Jvm.MethodName) prog_1_method_57_code (4 : Nat) (Option.some Jvm.ClassFile.FieldType.int)) ∈ lw_all := lw_g (lw_at lw_m10 188 rfl) rfl
theorem q2453 : (Jvm.Cond.methodLink "SkerryLights" (452 : Nat) ({ cls := "java/util/LinkedList", name := "indexOf", desc := "(Ljava/lang/Object;)I" } : Jvm.MethodName)) ∈ lw_all := lw_g (lw_at lw_m10 189 rfl) rfl
theorem q2458 : (Jvm.Cond.instanceMethod ({ cls := "SkerryLights", name := "account", desc := "(I)I" } : Jvm.MethodName)) ∈ lw_all := lw_g (lw_at lw_m10 194 rfl) rfl
theorem q2459 : (Jvm.Cond.selects "SkerryLights" ({ cls := "SkerryLights", name := "account", desc := "(I)I" } : Jvm.MethodName) ({ cls := "SkerryLights", name := "account", desc := "(I)I" } : Jvm.MethodName)) ∈ lw_all := lw_g (lw_at lw_m10 195 rfl) rfl
theorem q2460 : (Jvm.Cond.code ({ cls := "SkerryLights", name := "account", desc := "(I)I" } : Jvm.MethodName) prog_1_method_62_code (2 : Nat) (Option.some Jvm.ClassFile.FieldType.int)) ∈ lw_all := lw_g (lw_at lw_m10 196 rfl) rfl
theorem q2461 : (Jvm.Cond.methodLink "SkerryLights" (453 : Nat) ({ cls := "SkerryLights", name := "scrapped", desc := "()I" } : Jvm.MethodName)) ∈ lw_all := lw_g (lw_at lw_m10 197 rfl) rfl
theorem q2462 : (Jvm.Cond.privateMethod ({ cls := "SkerryLights", name := "scrapped", desc := "()I" } : Jvm.MethodName)) ∈ lw_tbl := lw_at lw_m10 198 rfl
theorem q2463 : (Jvm.Cond.instanceMethod ({ cls := "SkerryLights", name := "scrapped", desc := "()I" } : Jvm.MethodName)) ∈ lw_all := lw_g (lw_at lw_m10 199 rfl) rfl
theorem q2464 : (Jvm.Cond.code ({ cls := "SkerryLights", name := "scrapped", desc := "()I" } : Jvm.MethodName) prog_1_method_59_code (4 : Nat) (Option.some Jvm.ClassFile.FieldType.int)) ∈ lw_all := lw_g (lw_at lw_m10 200 rfl) rfl
theorem q2465 : (Jvm.Cond.methodLink "SkerryLights" (465 : Nat) ({ cls := "SkerryLights", name := "power", desc := "()I" } : Jvm.MethodName)) ∈ lw_all := lw_g (lw_at lw_m10 201 rfl) rfl
theorem q2466 : (Jvm.Cond.privateMethod ({ cls := "SkerryLights", name := "power", desc := "()I" } : Jvm.MethodName)) ∈ lw_tbl := lw_at lw_m10 202 rfl
theorem q2467 : (Jvm.Cond.instanceMethod ({ cls := "SkerryLights", name := "power", desc := "()I" } : Jvm.MethodName)) ∈ lw_all := lw_g (lw_at lw_m10 203 rfl) rfl
theorem q2468 : (Jvm.Cond.code ({ cls := "SkerryLights", name := "power", desc := "()I" } : Jvm.MethodName) prog_1_method_60_code (4 : Nat) (Option.some Jvm.ClassFile.FieldType.int)) ∈ lw_all := lw_g (lw_at lw_m10 204 rfl) rfl
theorem q2469 : (Jvm.Cond.methodLink "SkerryLights" (467 : Nat) ({ cls := "SkerryLights", name := "fogs", desc := "()I" } : Jvm.MethodName)) ∈ lw_all := lw_g (lw_at lw_m10 205 rfl) rfl
theorem q2470 : (Jvm.Cond.privateMethod ({ cls := "SkerryLights", name := "fogs", desc := "()I" } : Jvm.MethodName)) ∈ lw_tbl := lw_at lw_m10 206 rfl
theorem q2471 : (Jvm.Cond.instanceMethod ({ cls := "SkerryLights", name := "fogs", desc := "()I" } : Jvm.MethodName)) ∈ lw_all := lw_g (lw_at lw_m10 207 rfl) rfl
theorem q2472 : (Jvm.Cond.code ({ cls := "SkerryLights", name := "fogs", desc := "()I" } : Jvm.MethodName) prog_1_method_61_code (6 : Nat) (Option.some Jvm.ClassFile.FieldType.int)) ∈ lw_all := lw_g (lw_at lw_m10 208 rfl) rfl
theorem q2491 : (Jvm.Cond.instanceMethod ({ cls := "SkerryLights", name := "meanPower", desc := "()D" } : Jvm.MethodName)) ∈ lw_all := lw_g (lw_at lw_m10 227 rfl) rfl
theorem q2492 : (Jvm.Cond.selects "SkerryLights" ({ cls := "SkerryLights", name := "meanPower", desc := "()D" } : Jvm.MethodName) ({ cls := "SkerryLights", name := "meanPower", desc := "()D" } : Jvm.MethodName)) ∈ lw_all := lw_g (lw_at lw_m10 228 rfl) rfl
theorem q2493 : (Jvm.Cond.code ({ cls := "SkerryLights", name := "meanPower", desc := "()D" } : Jvm.MethodName) prog_1_method_63_code (5 : Nat) (Option.some Jvm.ClassFile.FieldType.double)) ∈ lw_all := lw_g (lw_at lw_m10 229 rfl) rfl
theorem q2494 : (Jvm.Cond.classLink "SkerryLights" (470 : Nat) "java/lang/ArithmeticException") ∈ lw_all := lw_g (lw_at lw_m10 230 rfl) rfl
theorem q2495 : (Jvm.Cond.methodLink "SkerryLights" (472 : Nat) ({ cls := "java/lang/ArithmeticException", name := "<init>", desc := "()V" } : Jvm.MethodName)) ∈ lw_all := lw_g (lw_at lw_m10 231 rfl) rfl
theorem q2503 : (Jvm.Cond.instanceMethod ({ cls := "SkerryLights", name := "undo", desc := "()I" } : Jvm.MethodName)) ∈ lw_all := lw_g (lw_at lw_m10 239 rfl) rfl
theorem q2504 : (Jvm.Cond.selects "SkerryLights" ({ cls := "SkerryLights", name := "undo", desc := "()I" } : Jvm.MethodName) ({ cls := "SkerryLights", name := "undo", desc := "()I" } : Jvm.MethodName)) ∈ lw_all := lw_g (lw_at lw_m11 0 rfl) rfl
theorem q2505 : (Jvm.Cond.code ({ cls := "SkerryLights", name := "undo", desc := "()I" } : Jvm.MethodName) prog_1_method_65_code (1 : Nat) (Option.some Jvm.ClassFile.FieldType.int)) ∈ lw_all := lw_g (lw_at lw_m11 1 rfl) rfl
theorem q2506 : (Jvm.Cond.methodLink "SkerryLights" (477 : Nat) ({ cls := "java/util/LinkedList", name := "removeLast", desc := "()Ljava/lang/Object;" } : Jvm.MethodName)) ∈ lw_all := lw_g (lw_at lw_m11 2 rfl) rfl
theorem q2518 : (Jvm.Cond.instanceMethod ({ cls := "SkerryLights", name := "restore", desc := "()I" } : Jvm.MethodName)) ∈ lw_all := lw_g (lw_at lw_m11 14 rfl) rfl
theorem q2519 : (Jvm.Cond.selects "SkerryLights" ({ cls := "SkerryLights", name := "restore", desc := "()I" } : Jvm.MethodName) ({ cls := "SkerryLights", name := "restore", desc := "()I" } : Jvm.MethodName)) ∈ lw_all := lw_g (lw_at lw_m11 15 rfl) rfl
theorem q2520 : (Jvm.Cond.code ({ cls := "SkerryLights", name := "restore", desc := "()I" } : Jvm.MethodName) prog_1_method_67_code (1 : Nat) (Option.some Jvm.ClassFile.FieldType.int)) ∈ lw_all := lw_g (lw_at lw_m11 16 rfl) rfl
theorem q2521 : (Jvm.Cond.methodLink "SkerryLights" (483 : Nat) ({ cls := "java/util/LinkedList", name := "clear", desc := "()V" } : Jvm.MethodName)) ∈ lw_all := lw_g (lw_at lw_m11 17 rfl) rfl
theorem q3093 : (Jvm.Cond.castable "SkerryLights" "java/lang/Object") ∈ lw_tbl := lw_at lw_m13 109 rfl
theorem in_X1 : ∀ w ∈ wsX10, w ∈ lw_all := lw_in wsX10 [402, 404, 406, 408, 410, 412, 414, 416, 418] (by decide +kernel) (by decide +kernel)
