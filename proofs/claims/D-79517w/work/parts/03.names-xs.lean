/-! SkerryLights$Refusal -/
set_option maxRecDepth 100000
def RX4 : String := "SkerryLights$Refusal"
def TX4 : u_T := fun k => match k with
  | 0 => ("SkerryLights$Refusal", "reason", "I", true)
  | _ => ("SkerryLights$Refusal", "detail", "I", true)
def tyX4 : Nat → FieldType := fun k => match k with
  | 0 => .int
  | _ => .int
abbrev wsX40 : List Cond := u_ws RX4 TX4 2
theorem nmX4 : ∀ a, a < 2 → ∀ b, b < 2 → a ≠ b → (TX4 a).2.1 ≠ (TX4 b).2.1 := by decide +kernel
theorem tyX4_ok : ∀ k, k < 2 → parseFieldDescriptor (TX4 k).2.2.1 = some (tyX4 k) := by decide +kernel
abbrev cX4_init : ByteArray := prog_5_method_1_code
def yX4_init : MethodName := ⟨RX4, "<init>", "(II)V"⟩
def dkwX4_init_0 : List UInt8 := [42, 183, 0, 1, 42, 27, 181, 0, 7, 42, 28, 181, 0, 13, 177]
abbrev dktX4_init_0 : List UInt8 := dkwX4_init_0 ++ []
theorem dksX4_init_0 : cX4_init.data.toList.drop 0 = dktX4_init_0 := by decide +kernel
theorem dX4_init_0 : decode cX4_init 0 = .ok (.aload_n 0, 1) := dk_42 (dk_at dksX4_init_0 0 rfl rfl)
theorem dX4_init_1 : decode cX4_init 1 = .ok (.invokespecial 1, 3) := dk_183 0 1 (dk_at dksX4_init_0 1 rfl rfl)
theorem dX4_init_4 : decode cX4_init 4 = .ok (.aload_n 0, 1) := dk_42 (dk_at dksX4_init_0 4 rfl rfl)
theorem dX4_init_5 : decode cX4_init 5 = .ok (.iload_n 1, 1) := dk_27 (dk_at dksX4_init_0 5 rfl rfl)
theorem dX4_init_6 : decode cX4_init 6 = .ok (.putfield 7, 3) := dk_181 0 7 (dk_at dksX4_init_0 6 rfl rfl)
theorem dX4_init_9 : decode cX4_init 9 = .ok (.aload_n 0, 1) := dk_42 (dk_at dksX4_init_0 9 rfl rfl)
theorem dX4_init_10 : decode cX4_init 10 = .ok (.iload_n 2, 1) := dk_28 (dk_at dksX4_init_0 10 rfl rfl)
theorem dX4_init_11 : decode cX4_init 11 = .ok (.putfield 13, 3) := dk_181 0 13 (dk_at dksX4_init_0 11 rfl rfl)
theorem dX4_init_14 : decode cX4_init 14 = .ok (.return_, 1) := dk_177 (dk_at dksX4_init_0 14 rfl rfl)
theorem q143 : (Jvm.Cond.initialized "SkerryLights$Refusal") ∈ lw_all := lw_g (lw_at lw_m1 39 rfl) rfl
theorem q319 : (Jvm.Cond.selects "SkerryLights$Refusal" ({ cls := "java/lang/Object", name := "getClass", desc := "()Ljava/lang/Class;" } : Jvm.MethodName) ({ cls := "java/lang/Object", name := "getClass", desc := "()Ljava/lang/Class;" } : Jvm.MethodName)) ∈ lw_all := lw_g (lw_at lw_m1 215 rfl) rfl
theorem q1523 : (Jvm.Cond.instantiable "SkerryLights$Refusal" (2 : Nat)) ∈ lw_all := lw_g (lw_at lw_m6 219 rfl) rfl
theorem q1525 : (Jvm.Cond.instanceMethod ({ cls := "SkerryLights$Refusal", name := "<init>", desc := "(II)V" } : Jvm.MethodName)) ∈ lw_all := lw_g (lw_at lw_m6 221 rfl) rfl
theorem q1526 : (Jvm.Cond.code ({ cls := "SkerryLights$Refusal", name := "<init>", desc := "(II)V" } : Jvm.MethodName) prog_5_method_1_code (3 : Nat) (Option.none : Option Jvm.ClassFile.FieldType)) ∈ lw_all := lw_g (lw_at lw_m6 222 rfl) rfl
theorem q1527 : (Jvm.Cond.methodLink "SkerryLights$Refusal" (1 : Nat) ({ cls := "java/lang/Object", name := "<init>", desc := "()V" } : Jvm.MethodName)) ∈ lw_all := lw_g (lw_at lw_m6 223 rfl) rfl
theorem q1528 : (Jvm.Cond.fieldLink "SkerryLights$Refusal" (7 : Nat) "SkerryLights$Refusal" "reason" "I") ∈ lw_all := lw_g (lw_at lw_m6 224 rfl) rfl
theorem q1530 : (Jvm.Cond.fieldLink "SkerryLights$Refusal" (13 : Nat) "SkerryLights$Refusal" "detail" "I") ∈ lw_all := lw_g (lw_at lw_m6 226 rfl) rfl
theorem q1532 : (Jvm.Cond.laysFinal "SkerryLights$Refusal" "SkerryLights$Refusal" "reason" "I") ∈ lw_all := lw_g (lw_at lw_m6 228 rfl) rfl
theorem q1533 : (Jvm.Cond.soleField "SkerryLights$Refusal" "reason") ∈ lw_all := lw_g (lw_at lw_m6 229 rfl) rfl
theorem q1534 : (Jvm.Cond.laysFinal "SkerryLights$Refusal" "SkerryLights$Refusal" "detail" "I") ∈ lw_all := lw_g (lw_at lw_m6 230 rfl) rfl
theorem q1535 : (Jvm.Cond.soleField "SkerryLights$Refusal" "detail") ∈ lw_all := lw_g (lw_at lw_m6 231 rfl) rfl
theorem q1536 : (Jvm.Cond.superclass "SkerryLights$Refusal" "java/lang/Object") ∈ lw_all := lw_g (lw_at lw_m6 232 rfl) rfl
theorem q2388 : (Jvm.Cond.selects "SkerryLights$Refusal" ({ cls := "java/lang/Object", name := "equals", desc := "(Ljava/lang/Object;)Z" } : Jvm.MethodName) ({ cls := "java/lang/Object", name := "equals", desc := "(Ljava/lang/Object;)Z" } : Jvm.MethodName)) ∈ lw_all := lw_g (lw_at lw_m10 124 rfl) rfl
theorem q3092 : (Jvm.Cond.castable "SkerryLights$Refusal" "java/lang/Object") ∈ lw_tbl := lw_at lw_m13 108 rfl
theorem in_X4 : ∀ w ∈ wsX40, w ∈ lw_all := lw_in wsX40 [1532, 1534] (by decide +kernel) (by decide +kernel)

/-! SkerryLights$Lens -/
set_option maxRecDepth 100000
def RX5 : String := "SkerryLights$Lens"
def TX5 : u_T := fun k => match k with
  | 0 => ("SkerryLights$Lens", "number", "I", true)
  | 1 => ("SkerryLights$Lens", "first", "I", true)
  | 2 => ("SkerryLights$Lens", "power", "I", false)
  | _ => ("SkerryLights$Lens", "isScrapped", "Z", false)
def tyX5 : Nat → FieldType := fun k => match k with
  | 0 => .int
  | 1 => .int
  | 2 => .int
  | _ => .boolean
abbrev wsX50 : List Cond := u_ws RX5 TX5 4
theorem nmX5 : ∀ a, a < 4 → ∀ b, b < 4 → a ≠ b → (TX5 a).2.1 ≠ (TX5 b).2.1 := by decide +kernel
theorem tyX5_ok : ∀ k, k < 4 → parseFieldDescriptor (TX5 k).2.2.1 = some (tyX5 k) := by decide +kernel
abbrev cX5_copy : ByteArray := prog_3_method_2_code
def yX5_copy : MethodName := ⟨RX5, "copy", "()LSkerryLights$Lens;"⟩
def dkwX5_copy_1 : List UInt8 := [43, 42, 180, 0, 22, 181, 0, 22, 43, 176]
abbrev dktX5_copy_1 : List UInt8 := dkwX5_copy_1 ++ []
def dkwX5_copy_0 : List UInt8 := [187, 0, 8, 89, 42, 180, 0, 7, 42, 180, 0, 13, 183, 0, 19, 76, 43, 42, 180, 0, 16, 181, 0, 16]
abbrev dktX5_copy_0 : List UInt8 := dkwX5_copy_0 ++ dktX5_copy_1
theorem dksX5_copy_0 : cX5_copy.data.toList.drop 0 = dktX5_copy_0 := by decide +kernel
theorem dksX5_copy_1 : cX5_copy.data.toList.drop 24 = dktX5_copy_1 := dk_seg dksX5_copy_0 24 rfl rfl
theorem dX5_copy_0 : decode cX5_copy 0 = .ok (.new 8, 3) := dk_187 0 8 (dk_at dksX5_copy_0 0 rfl rfl)
theorem dX5_copy_3 : decode cX5_copy 3 = .ok (.dup, 1) := dk_89 (dk_at dksX5_copy_0 3 rfl rfl)
theorem dX5_copy_4 : decode cX5_copy 4 = .ok (.aload_n 0, 1) := dk_42 (dk_at dksX5_copy_0 4 rfl rfl)
theorem dX5_copy_5 : decode cX5_copy 5 = .ok (.getfield 7, 3) := dk_180 0 7 (dk_at dksX5_copy_0 5 rfl rfl)
theorem dX5_copy_8 : decode cX5_copy 8 = .ok (.aload_n 0, 1) := dk_42 (dk_at dksX5_copy_0 8 rfl rfl)
theorem dX5_copy_9 : decode cX5_copy 9 = .ok (.getfield 13, 3) := dk_180 0 13 (dk_at dksX5_copy_0 9 rfl rfl)
theorem dX5_copy_12 : decode cX5_copy 12 = .ok (.invokespecial 19, 3) := dk_183 0 19 (dk_at dksX5_copy_0 12 rfl rfl)
theorem dX5_copy_15 : decode cX5_copy 15 = .ok (.astore_n 1, 1) := dk_76 (dk_at dksX5_copy_0 15 rfl rfl)
theorem dX5_copy_16 : decode cX5_copy 16 = .ok (.aload_n 1, 1) := dk_43 (dk_at dksX5_copy_0 16 rfl rfl)
theorem dX5_copy_17 : decode cX5_copy 17 = .ok (.aload_n 0, 1) := dk_42 (dk_at dksX5_copy_0 17 rfl rfl)
theorem dX5_copy_18 : decode cX5_copy 18 = .ok (.getfield 16, 3) := dk_180 0 16 (dk_at dksX5_copy_0 18 rfl rfl)
theorem dX5_copy_21 : decode cX5_copy 21 = .ok (.putfield 16, 3) := dk_181 0 16 (dk_at dksX5_copy_0 21 rfl rfl)
theorem dX5_copy_24 : decode cX5_copy 24 = .ok (.aload_n 1, 1) := dk_43 (dk_at dksX5_copy_1 0 rfl rfl)
theorem dX5_copy_25 : decode cX5_copy 25 = .ok (.aload_n 0, 1) := dk_42 (dk_at dksX5_copy_1 1 rfl rfl)
theorem dX5_copy_26 : decode cX5_copy 26 = .ok (.getfield 22, 3) := dk_180 0 22 (dk_at dksX5_copy_1 2 rfl rfl)
theorem dX5_copy_29 : decode cX5_copy 29 = .ok (.putfield 22, 3) := dk_181 0 22 (dk_at dksX5_copy_1 5 rfl rfl)
theorem dX5_copy_32 : decode cX5_copy 32 = .ok (.aload_n 1, 1) := dk_43 (dk_at dksX5_copy_1 8 rfl rfl)
theorem dX5_copy_33 : decode cX5_copy 33 = .ok (.areturn, 1) := dk_176 (dk_at dksX5_copy_1 9 rfl rfl)
abbrev cX5_init : ByteArray := prog_3_method_1_code
def yX5_init : MethodName := ⟨RX5, "<init>", "(II)V"⟩
def dkwX5_init_0 : List UInt8 := [42, 183, 0, 1, 42, 27, 181, 0, 7, 42, 28, 181, 0, 13, 42, 28, 181, 0, 16, 177]
abbrev dktX5_init_0 : List UInt8 := dkwX5_init_0 ++ []
theorem dksX5_init_0 : cX5_init.data.toList.drop 0 = dktX5_init_0 := by decide +kernel
theorem dX5_init_0 : decode cX5_init 0 = .ok (.aload_n 0, 1) := dk_42 (dk_at dksX5_init_0 0 rfl rfl)
theorem dX5_init_1 : decode cX5_init 1 = .ok (.invokespecial 1, 3) := dk_183 0 1 (dk_at dksX5_init_0 1 rfl rfl)
theorem dX5_init_4 : decode cX5_init 4 = .ok (.aload_n 0, 1) := dk_42 (dk_at dksX5_init_0 4 rfl rfl)
theorem dX5_init_5 : decode cX5_init 5 = .ok (.iload_n 1, 1) := dk_27 (dk_at dksX5_init_0 5 rfl rfl)
theorem dX5_init_6 : decode cX5_init 6 = .ok (.putfield 7, 3) := dk_181 0 7 (dk_at dksX5_init_0 6 rfl rfl)
theorem dX5_init_9 : decode cX5_init 9 = .ok (.aload_n 0, 1) := dk_42 (dk_at dksX5_init_0 9 rfl rfl)
theorem dX5_init_10 : decode cX5_init 10 = .ok (.iload_n 2, 1) := dk_28 (dk_at dksX5_init_0 10 rfl rfl)
theorem dX5_init_11 : decode cX5_init 11 = .ok (.putfield 13, 3) := dk_181 0 13 (dk_at dksX5_init_0 11 rfl rfl)
theorem dX5_init_14 : decode cX5_init 14 = .ok (.aload_n 0, 1) := dk_42 (dk_at dksX5_init_0 14 rfl rfl)
theorem dX5_init_15 : decode cX5_init 15 = .ok (.iload_n 2, 1) := dk_28 (dk_at dksX5_init_0 15 rfl rfl)
theorem dX5_init_16 : decode cX5_init 16 = .ok (.putfield 16, 3) := dk_181 0 16 (dk_at dksX5_init_0 16 rfl rfl)
theorem dX5_init_19 : decode cX5_init 19 = .ok (.return_, 1) := dk_177 (dk_at dksX5_init_0 19 rfl rfl)
abbrev cX5_wear : ByteArray := prog_3_method_3_code
def yX5_wear : MethodName := ⟨RX5, "wear", "(I)V"⟩
def dkwX5_wear_0 : List UInt8 := [42, 3, 42, 180, 0, 16, 27, 100, 184, 0, 26, 181, 0, 16, 177]
abbrev dktX5_wear_0 : List UInt8 := dkwX5_wear_0 ++ []
theorem dksX5_wear_0 : cX5_wear.data.toList.drop 0 = dktX5_wear_0 := by decide +kernel
theorem dX5_wear_0 : decode cX5_wear 0 = .ok (.aload_n 0, 1) := dk_42 (dk_at dksX5_wear_0 0 rfl rfl)
theorem dX5_wear_1 : decode cX5_wear 1 = .ok (.iconst 0, 1) := dk_3 (dk_at dksX5_wear_0 1 rfl rfl)
theorem dX5_wear_2 : decode cX5_wear 2 = .ok (.aload_n 0, 1) := dk_42 (dk_at dksX5_wear_0 2 rfl rfl)
theorem dX5_wear_3 : decode cX5_wear 3 = .ok (.getfield 16, 3) := dk_180 0 16 (dk_at dksX5_wear_0 3 rfl rfl)
theorem dX5_wear_6 : decode cX5_wear 6 = .ok (.iload_n 1, 1) := dk_27 (dk_at dksX5_wear_0 6 rfl rfl)
theorem dX5_wear_7 : decode cX5_wear 7 = .ok (.isub, 1) := dk_100 (dk_at dksX5_wear_0 7 rfl rfl)
theorem dX5_wear_8 : decode cX5_wear 8 = .ok (.invokestatic 26, 3) := dk_184 0 26 (dk_at dksX5_wear_0 8 rfl rfl)
theorem dX5_wear_11 : decode cX5_wear 11 = .ok (.putfield 16, 3) := dk_181 0 16 (dk_at dksX5_wear_0 11 rfl rfl)
theorem dX5_wear_14 : decode cX5_wear 14 = .ok (.return_, 1) := dk_177 (dk_at dksX5_wear_0 14 rfl rfl)
abbrev cX5_rest : ByteArray := prog_3_method_4_code
def yX5_rest : MethodName := ⟨RX5, "rest", "()V"⟩
def dkwX5_rest_0 : List UInt8 := [42, 42, 180, 0, 13, 42, 180, 0, 16, 4, 96, 184, 0, 32, 181, 0, 16, 177]
abbrev dktX5_rest_0 : List UInt8 := dkwX5_rest_0 ++ []
theorem dksX5_rest_0 : cX5_rest.data.toList.drop 0 = dktX5_rest_0 := by decide +kernel
theorem dX5_rest_0 : decode cX5_rest 0 = .ok (.aload_n 0, 1) := dk_42 (dk_at dksX5_rest_0 0 rfl rfl)
theorem dX5_rest_1 : decode cX5_rest 1 = .ok (.aload_n 0, 1) := dk_42 (dk_at dksX5_rest_0 1 rfl rfl)
theorem dX5_rest_2 : decode cX5_rest 2 = .ok (.getfield 13, 3) := dk_180 0 13 (dk_at dksX5_rest_0 2 rfl rfl)
theorem dX5_rest_5 : decode cX5_rest 5 = .ok (.aload_n 0, 1) := dk_42 (dk_at dksX5_rest_0 5 rfl rfl)
theorem dX5_rest_6 : decode cX5_rest 6 = .ok (.getfield 16, 3) := dk_180 0 16 (dk_at dksX5_rest_0 6 rfl rfl)
theorem dX5_rest_9 : decode cX5_rest 9 = .ok (.iconst 1, 1) := dk_4 (dk_at dksX5_rest_0 9 rfl rfl)
theorem dX5_rest_10 : decode cX5_rest 10 = .ok (.iadd, 1) := dk_96 (dk_at dksX5_rest_0 10 rfl rfl)
theorem dX5_rest_11 : decode cX5_rest 11 = .ok (.invokestatic 32, 3) := dk_184 0 32 (dk_at dksX5_rest_0 11 rfl rfl)
theorem dX5_rest_14 : decode cX5_rest 14 = .ok (.putfield 16, 3) := dk_181 0 16 (dk_at dksX5_rest_0 14 rfl rfl)
theorem dX5_rest_17 : decode cX5_rest 17 = .ok (.return_, 1) := dk_177 (dk_at dksX5_rest_0 17 rfl rfl)
theorem q145 : (Jvm.Cond.initialized "SkerryLights$Lens") ∈ lw_all := lw_g (lw_at lw_m1 41 rfl) rfl
theorem q317 : (Jvm.Cond.selects "SkerryLights$Lens" ({ cls := "java/lang/Object", name := "getClass", desc := "()Ljava/lang/Class;" } : Jvm.MethodName) ({ cls := "java/lang/Object", name := "getClass", desc := "()Ljava/lang/Class;" } : Jvm.MethodName)) ∈ lw_all := lw_g (lw_at lw_m1 213 rfl) rfl
theorem q951 : (Jvm.Cond.instanceMethod ({ cls := "SkerryLights$Lens", name := "copy", desc := "()LSkerryLights$Lens;" } : Jvm.MethodName)) ∈ lw_all := lw_g (lw_at lw_m4 127 rfl) rfl
theorem q952 : (Jvm.Cond.selects "SkerryLights$Lens" ({ cls := "SkerryLights$Lens", name := "copy", desc := "()LSkerryLights$Lens;" } : Jvm.MethodName) ({ cls := "SkerryLights$Lens", name := "copy", desc := "()LSkerryLights$Lens;" } : Jvm.MethodName)) ∈ lw_all := lw_g (lw_at lw_m4 128 rfl) rfl
theorem q953 : (Jvm.Cond.code ({ cls := "SkerryLights$Lens", name := "copy", desc := "()LSkerryLights$Lens;" } : Jvm.MethodName) prog_3_method_2_code (2 : Nat) (Option.some (Jvm.ClassFile.FieldType.object "SkerryLights$Lens"))) ∈ lw_all := lw_g (lw_at lw_m4 129 rfl) rfl
theorem q954 : (Jvm.Cond.classLink "SkerryLights$Lens" (8 : Nat) "SkerryLights$Lens") ∈ lw_all := lw_g (lw_at lw_m4 130 rfl) rfl
theorem q955 : (Jvm.Cond.instantiable "SkerryLights$Lens" (4 : Nat)) ∈ lw_all := lw_g (lw_at lw_m4 131 rfl) rfl
theorem q956 : (Jvm.Cond.methodLink "SkerryLights$Lens" (19 : Nat) ({ cls := "SkerryLights$Lens", name := "<init>", desc := "(II)V" } : Jvm.MethodName)) ∈ lw_all := lw_g (lw_at lw_m4 132 rfl) rfl
theorem q957 : (Jvm.Cond.instanceMethod ({ cls := "SkerryLights$Lens", name := "<init>", desc := "(II)V" } : Jvm.MethodName)) ∈ lw_all := lw_g (lw_at lw_m4 133 rfl) rfl
theorem q958 : (Jvm.Cond.code ({ cls := "SkerryLights$Lens", name := "<init>", desc := "(II)V" } : Jvm.MethodName) prog_3_method_1_code (3 : Nat) (Option.none : Option Jvm.ClassFile.FieldType)) ∈ lw_all := lw_g (lw_at lw_m4 134 rfl) rfl
theorem q959 : (Jvm.Cond.methodLink "SkerryLights$Lens" (1 : Nat) ({ cls := "java/lang/Object", name := "<init>", desc := "()V" } : Jvm.MethodName)) ∈ lw_all := lw_g (lw_at lw_m4 135 rfl) rfl
theorem q960 : (Jvm.Cond.fieldLink "SkerryLights$Lens" (7 : Nat) "SkerryLights$Lens" "number" "I") ∈ lw_all := lw_g (lw_at lw_m4 136 rfl) rfl
theorem q963 : (Jvm.Cond.fieldLink "SkerryLights$Lens" (13 : Nat) "SkerryLights$Lens" "first" "I") ∈ lw_all := lw_g (lw_at lw_m4 139 rfl) rfl
theorem q965 : (Jvm.Cond.fieldLink "SkerryLights$Lens" (16 : Nat) "SkerryLights$Lens" "power" "I") ∈ lw_all := lw_g (lw_at lw_m4 141 rfl) rfl
theorem q969 : (Jvm.Cond.fieldLink "SkerryLights$Lens" (22 : Nat) "SkerryLights$Lens" "isScrapped" "Z") ∈ lw_all := lw_g (lw_at lw_m4 145 rfl) rfl
theorem q971 : (Jvm.Cond.laysFinal "SkerryLights$Lens" "SkerryLights$Lens" "number" "I") ∈ lw_all := lw_g (lw_at lw_m4 147 rfl) rfl
theorem q972 : (Jvm.Cond.soleField "SkerryLights$Lens" "number") ∈ lw_all := lw_g (lw_at lw_m4 148 rfl) rfl
theorem q973 : (Jvm.Cond.laysFinal "SkerryLights$Lens" "SkerryLights$Lens" "first" "I") ∈ lw_all := lw_g (lw_at lw_m4 149 rfl) rfl
theorem q974 : (Jvm.Cond.soleField "SkerryLights$Lens" "first") ∈ lw_all := lw_g (lw_at lw_m4 150 rfl) rfl
theorem q975 : (Jvm.Cond.lays "SkerryLights$Lens" "SkerryLights$Lens" "power" "I") ∈ lw_all := lw_g (lw_at lw_m4 151 rfl) rfl
theorem q976 : (Jvm.Cond.soleField "SkerryLights$Lens" "power") ∈ lw_all := lw_g (lw_at lw_m4 152 rfl) rfl
theorem q977 : (Jvm.Cond.lays "SkerryLights$Lens" "SkerryLights$Lens" "isScrapped" "Z") ∈ lw_all := lw_g (lw_at lw_m4 153 rfl) rfl
theorem q978 : (Jvm.Cond.soleField "SkerryLights$Lens" "isScrapped") ∈ lw_all := lw_g (lw_at lw_m4 154 rfl) rfl
theorem q979 : (Jvm.Cond.superclass "SkerryLights$Lens" "java/lang/Object") ∈ lw_all := lw_g (lw_at lw_m4 155 rfl) rfl
theorem q1751 : (Jvm.Cond.instanceMethod ({ cls := "SkerryLights$Lens", name := "wear", desc := "(I)V" } : Jvm.MethodName)) ∈ lw_all := lw_g (lw_at lw_m7 207 rfl) rfl
theorem q1752 : (Jvm.Cond.selects "SkerryLights$Lens" ({ cls := "SkerryLights$Lens", name := "wear", desc := "(I)V" } : Jvm.MethodName) ({ cls := "SkerryLights$Lens", name := "wear", desc := "(I)V" } : Jvm.MethodName)) ∈ lw_all := lw_g (lw_at lw_m7 208 rfl) rfl
theorem q1753 : (Jvm.Cond.code ({ cls := "SkerryLights$Lens", name := "wear", desc := "(I)V" } : Jvm.MethodName) prog_3_method_3_code (2 : Nat) (Option.none : Option Jvm.ClassFile.FieldType)) ∈ lw_all := lw_g (lw_at lw_m7 209 rfl) rfl
theorem q1754 : (Jvm.Cond.methodLink "SkerryLights$Lens" (26 : Nat) ({ cls := "java/lang/Math", name := "max", desc := "(II)I" } : Jvm.MethodName)) ∈ lw_all := lw_g (lw_at lw_m7 210 rfl) rfl
theorem q1756 : (Jvm.Cond.instanceMethod ({ cls := "SkerryLights$Lens", name := "rest", desc := "()V" } : Jvm.MethodName)) ∈ lw_all := lw_g (lw_at lw_m7 212 rfl) rfl
theorem q1757 : (Jvm.Cond.selects "SkerryLights$Lens" ({ cls := "SkerryLights$Lens", name := "rest", desc := "()V" } : Jvm.MethodName) ({ cls := "SkerryLights$Lens", name := "rest", desc := "()V" } : Jvm.MethodName)) ∈ lw_all := lw_g (lw_at lw_m7 213 rfl) rfl
theorem q1758 : (Jvm.Cond.code ({ cls := "SkerryLights$Lens", name := "rest", desc := "()V" } : Jvm.MethodName) prog_3_method_4_code (1 : Nat) (Option.none : Option Jvm.ClassFile.FieldType)) ∈ lw_all := lw_g (lw_at lw_m7 214 rfl) rfl
theorem q1759 : (Jvm.Cond.methodLink "SkerryLights$Lens" (32 : Nat) ({ cls := "java/lang/Math", name := "min", desc := "(II)I" } : Jvm.MethodName)) ∈ lw_all := lw_g (lw_at lw_m7 215 rfl) rfl
theorem q2386 : (Jvm.Cond.selects "SkerryLights$Lens" ({ cls := "java/lang/Object", name := "equals", desc := "(Ljava/lang/Object;)Z" } : Jvm.MethodName) ({ cls := "java/lang/Object", name := "equals", desc := "(Ljava/lang/Object;)Z" } : Jvm.MethodName)) ∈ lw_all := lw_g (lw_at lw_m10 122 rfl) rfl
theorem q3111 : (Jvm.Cond.castable "SkerryLights$Lens" "java/lang/Object") ∈ lw_tbl := lw_at lw_m13 127 rfl
theorem in_X5 : ∀ w ∈ wsX50, w ∈ lw_all := lw_in wsX50 [971, 973, 975, 977] (by decide +kernel) (by decide +kernel)

/-! SkerryLights$Tower -/
set_option maxRecDepth 100000
def RX6 : String := "SkerryLights$Tower"
def TX6 : u_T := fun k => match k with
  | 0 => ("SkerryLights$Tower", "number", "I", true)
  | 1 => ("SkerryLights$Tower", "place", "I", true)
  | 2 => ("SkerryLights$Tower", "side", "LSkerryLights$Side;", true)
  | 3 => ("SkerryLights$Tower", "skill", "I", true)
  | 4 => ("SkerryLights$Tower", "signs", "I", false)
  | 5 => ("SkerryLights$Tower", "many", "I", false)
  | 6 => ("SkerryLights$Tower", "lens", "LSkerryLights$Lens;", false)
  | 7 => ("SkerryLights$Tower", "isLit", "Z", false)
  | _ => ("SkerryLights$Tower", "isBroken", "Z", false)
def tyX6 : Nat → FieldType := fun k => match k with
  | 0 => .int
  | 1 => .int
  | 2 => .object "SkerryLights$Side"
  | 3 => .int
  | 4 => .int
  | 5 => .int
  | 6 => .object "SkerryLights$Lens"
  | 7 => .boolean
  | _ => .boolean
abbrev wsX60 : List Cond := u_ws RX6 TX6 9
theorem nmX6 : ∀ a, a < 9 → ∀ b, b < 9 → a ≠ b → (TX6 a).2.1 ≠ (TX6 b).2.1 := by decide +kernel
theorem tyX6_ok : ∀ k, k < 9 → parseFieldDescriptor (TX6 k).2.2.1 = some (tyX6 k) := by decide +kernel
abbrev cX6_copy : ByteArray := prog_11_method_2_code
def yX6_copy : MethodName := ⟨RX6, "copy", "()LSkerryLights$Tower;"⟩
def dkwX6_copy_2 : List UInt8 := [43, 42, 180, 0, 38, 181, 0, 38, 43, 176]
abbrev dktX6_copy_2 : List UInt8 := dkwX6_copy_2 ++ []
def dkwX6_copy_1 : List UInt8 := [43, 42, 180, 0, 9, 181, 0, 9, 43, 42, 180, 0, 15, 181, 0, 15, 43, 42, 180, 0, 34, 181, 0, 34]
abbrev dktX6_copy_1 : List UInt8 := dkwX6_copy_1 ++ dktX6_copy_2
def dkwX6_copy_0 : List UInt8 := [187, 0, 10, 89, 42, 180, 0, 18, 42, 180, 0, 21, 42, 180, 0, 24, 42, 180, 0, 28, 183, 0, 31, 76]
abbrev dktX6_copy_0 : List UInt8 := dkwX6_copy_0 ++ dktX6_copy_1
theorem dksX6_copy_0 : cX6_copy.data.toList.drop 0 = dktX6_copy_0 := by decide +kernel
theorem dksX6_copy_1 : cX6_copy.data.toList.drop 24 = dktX6_copy_1 := dk_seg dksX6_copy_0 24 rfl rfl
theorem dksX6_copy_2 : cX6_copy.data.toList.drop 48 = dktX6_copy_2 := dk_seg dksX6_copy_1 24 rfl rfl
theorem dX6_copy_0 : decode cX6_copy 0 = .ok (.new 10, 3) := dk_187 0 10 (dk_at dksX6_copy_0 0 rfl rfl)
theorem dX6_copy_3 : decode cX6_copy 3 = .ok (.dup, 1) := dk_89 (dk_at dksX6_copy_0 3 rfl rfl)
theorem dX6_copy_4 : decode cX6_copy 4 = .ok (.aload_n 0, 1) := dk_42 (dk_at dksX6_copy_0 4 rfl rfl)
theorem dX6_copy_5 : decode cX6_copy 5 = .ok (.getfield 18, 3) := dk_180 0 18 (dk_at dksX6_copy_0 5 rfl rfl)
theorem dX6_copy_8 : decode cX6_copy 8 = .ok (.aload_n 0, 1) := dk_42 (dk_at dksX6_copy_0 8 rfl rfl)
theorem dX6_copy_9 : decode cX6_copy 9 = .ok (.getfield 21, 3) := dk_180 0 21 (dk_at dksX6_copy_0 9 rfl rfl)
theorem dX6_copy_12 : decode cX6_copy 12 = .ok (.aload_n 0, 1) := dk_42 (dk_at dksX6_copy_0 12 rfl rfl)
theorem dX6_copy_13 : decode cX6_copy 13 = .ok (.getfield 24, 3) := dk_180 0 24 (dk_at dksX6_copy_0 13 rfl rfl)
theorem dX6_copy_16 : decode cX6_copy 16 = .ok (.aload_n 0, 1) := dk_42 (dk_at dksX6_copy_0 16 rfl rfl)
theorem dX6_copy_17 : decode cX6_copy 17 = .ok (.getfield 28, 3) := dk_180 0 28 (dk_at dksX6_copy_0 17 rfl rfl)
theorem dX6_copy_20 : decode cX6_copy 20 = .ok (.invokespecial 31, 3) := dk_183 0 31 (dk_at dksX6_copy_0 20 rfl rfl)
theorem dX6_copy_23 : decode cX6_copy 23 = .ok (.astore_n 1, 1) := dk_76 (dk_at dksX6_copy_0 23 rfl rfl)
theorem dX6_copy_24 : decode cX6_copy 24 = .ok (.aload_n 1, 1) := dk_43 (dk_at dksX6_copy_1 0 rfl rfl)
theorem dX6_copy_25 : decode cX6_copy 25 = .ok (.aload_n 0, 1) := dk_42 (dk_at dksX6_copy_1 1 rfl rfl)
theorem dX6_copy_26 : decode cX6_copy 26 = .ok (.getfield 9, 3) := dk_180 0 9 (dk_at dksX6_copy_1 2 rfl rfl)
theorem dX6_copy_29 : decode cX6_copy 29 = .ok (.putfield 9, 3) := dk_181 0 9 (dk_at dksX6_copy_1 5 rfl rfl)
theorem dX6_copy_32 : decode cX6_copy 32 = .ok (.aload_n 1, 1) := dk_43 (dk_at dksX6_copy_1 8 rfl rfl)
theorem dX6_copy_33 : decode cX6_copy 33 = .ok (.aload_n 0, 1) := dk_42 (dk_at dksX6_copy_1 9 rfl rfl)
theorem dX6_copy_34 : decode cX6_copy 34 = .ok (.getfield 15, 3) := dk_180 0 15 (dk_at dksX6_copy_1 10 rfl rfl)
theorem dX6_copy_37 : decode cX6_copy 37 = .ok (.putfield 15, 3) := dk_181 0 15 (dk_at dksX6_copy_1 13 rfl rfl)
theorem dX6_copy_40 : decode cX6_copy 40 = .ok (.aload_n 1, 1) := dk_43 (dk_at dksX6_copy_1 16 rfl rfl)
theorem dX6_copy_41 : decode cX6_copy 41 = .ok (.aload_n 0, 1) := dk_42 (dk_at dksX6_copy_1 17 rfl rfl)
theorem dX6_copy_42 : decode cX6_copy 42 = .ok (.getfield 34, 3) := dk_180 0 34 (dk_at dksX6_copy_1 18 rfl rfl)
theorem dX6_copy_45 : decode cX6_copy 45 = .ok (.putfield 34, 3) := dk_181 0 34 (dk_at dksX6_copy_1 21 rfl rfl)
theorem dX6_copy_48 : decode cX6_copy 48 = .ok (.aload_n 1, 1) := dk_43 (dk_at dksX6_copy_2 0 rfl rfl)
theorem dX6_copy_49 : decode cX6_copy 49 = .ok (.aload_n 0, 1) := dk_42 (dk_at dksX6_copy_2 1 rfl rfl)
theorem dX6_copy_50 : decode cX6_copy 50 = .ok (.getfield 38, 3) := dk_180 0 38 (dk_at dksX6_copy_2 2 rfl rfl)
theorem dX6_copy_53 : decode cX6_copy 53 = .ok (.putfield 38, 3) := dk_181 0 38 (dk_at dksX6_copy_2 5 rfl rfl)
theorem dX6_copy_56 : decode cX6_copy 56 = .ok (.aload_n 1, 1) := dk_43 (dk_at dksX6_copy_2 8 rfl rfl)
theorem dX6_copy_57 : decode cX6_copy 57 = .ok (.areturn, 1) := dk_176 (dk_at dksX6_copy_2 9 rfl rfl)
abbrev cX6_init : ByteArray := prog_11_method_1_code
def yX6_init : MethodName := ⟨RX6, "<init>", "(IILSkerryLights$Side;I)V"⟩
def dkwX6_init_1 : List UInt8 := [42, 45, 181, 0, 24, 42, 21, 4, 181, 0, 28, 177]
abbrev dktX6_init_1 : List UInt8 := dkwX6_init_1 ++ []
def dkwX6_init_0 : List UInt8 := [42, 183, 0, 3, 42, 5, 181, 0, 9, 42, 5, 181, 0, 15, 42, 27, 181, 0, 18, 42, 28, 181, 0, 21]
abbrev dktX6_init_0 : List UInt8 := dkwX6_init_0 ++ dktX6_init_1
theorem dksX6_init_0 : cX6_init.data.toList.drop 0 = dktX6_init_0 := by decide +kernel
theorem dksX6_init_1 : cX6_init.data.toList.drop 24 = dktX6_init_1 := dk_seg dksX6_init_0 24 rfl rfl
theorem dX6_init_0 : decode cX6_init 0 = .ok (.aload_n 0, 1) := dk_42 (dk_at dksX6_init_0 0 rfl rfl)
theorem dX6_init_1 : decode cX6_init 1 = .ok (.invokespecial 3, 3) := dk_183 0 3 (dk_at dksX6_init_0 1 rfl rfl)
theorem dX6_init_4 : decode cX6_init 4 = .ok (.aload_n 0, 1) := dk_42 (dk_at dksX6_init_0 4 rfl rfl)
theorem dX6_init_5 : decode cX6_init 5 = .ok (.iconst 2, 1) := dk_5 (dk_at dksX6_init_0 5 rfl rfl)
theorem dX6_init_6 : decode cX6_init 6 = .ok (.putfield 9, 3) := dk_181 0 9 (dk_at dksX6_init_0 6 rfl rfl)
theorem dX6_init_9 : decode cX6_init 9 = .ok (.aload_n 0, 1) := dk_42 (dk_at dksX6_init_0 9 rfl rfl)
theorem dX6_init_10 : decode cX6_init 10 = .ok (.iconst 2, 1) := dk_5 (dk_at dksX6_init_0 10 rfl rfl)
theorem dX6_init_11 : decode cX6_init 11 = .ok (.putfield 15, 3) := dk_181 0 15 (dk_at dksX6_init_0 11 rfl rfl)
theorem dX6_init_14 : decode cX6_init 14 = .ok (.aload_n 0, 1) := dk_42 (dk_at dksX6_init_0 14 rfl rfl)
theorem dX6_init_15 : decode cX6_init 15 = .ok (.iload_n 1, 1) := dk_27 (dk_at dksX6_init_0 15 rfl rfl)
theorem dX6_init_16 : decode cX6_init 16 = .ok (.putfield 18, 3) := dk_181 0 18 (dk_at dksX6_init_0 16 rfl rfl)
theorem dX6_init_19 : decode cX6_init 19 = .ok (.aload_n 0, 1) := dk_42 (dk_at dksX6_init_0 19 rfl rfl)
theorem dX6_init_20 : decode cX6_init 20 = .ok (.iload_n 2, 1) := dk_28 (dk_at dksX6_init_0 20 rfl rfl)
theorem dX6_init_21 : decode cX6_init 21 = .ok (.putfield 21, 3) := dk_181 0 21 (dk_at dksX6_init_0 21 rfl rfl)
theorem dX6_init_24 : decode cX6_init 24 = .ok (.aload_n 0, 1) := dk_42 (dk_at dksX6_init_1 0 rfl rfl)
theorem dX6_init_25 : decode cX6_init 25 = .ok (.aload_n 3, 1) := dk_45 (dk_at dksX6_init_1 1 rfl rfl)
theorem dX6_init_26 : decode cX6_init 26 = .ok (.putfield 24, 3) := dk_181 0 24 (dk_at dksX6_init_1 2 rfl rfl)
theorem dX6_init_29 : decode cX6_init 29 = .ok (.aload_n 0, 1) := dk_42 (dk_at dksX6_init_1 5 rfl rfl)
theorem dX6_init_30 : decode cX6_init 30 = .ok (.iload 4, 2) := dk_21 4 (dk_at dksX6_init_1 6 rfl rfl)
theorem dX6_init_32 : decode cX6_init 32 = .ok (.putfield 28, 3) := dk_181 0 28 (dk_at dksX6_init_1 8 rfl rfl)
theorem dX6_init_35 : decode cX6_init 35 = .ok (.return_, 1) := dk_177 (dk_at dksX6_init_1 11 rfl rfl)
abbrev cX6_isWeak : ByteArray := prog_11_method_5_code
def yX6_isWeak : MethodName := ⟨RX6, "isWeak", "()Z"⟩
def dkwX6_isWeak_0 : List UInt8 := [42, 180, 0, 45, 198, 0, 14, 42, 180, 0, 45, 180, 0, 49, 8, 162, 0, 7, 4, 167, 0, 4, 3, 172]
abbrev dktX6_isWeak_0 : List UInt8 := dkwX6_isWeak_0 ++ []
theorem dksX6_isWeak_0 : cX6_isWeak.data.toList.drop 0 = dktX6_isWeak_0 := by decide +kernel
theorem dX6_isWeak_0 : decode cX6_isWeak 0 = .ok (.aload_n 0, 1) := dk_42 (dk_at dksX6_isWeak_0 0 rfl rfl)
theorem dX6_isWeak_1 : decode cX6_isWeak 1 = .ok (.getfield 45, 3) := dk_180 0 45 (dk_at dksX6_isWeak_0 1 rfl rfl)
theorem dX6_isWeak_4 : decode cX6_isWeak 4 = .ok (.ifnull 14, 3) := dk_198 0 14 (dk_at dksX6_isWeak_0 4 rfl rfl)
theorem dX6_isWeak_7 : decode cX6_isWeak 7 = .ok (.aload_n 0, 1) := dk_42 (dk_at dksX6_isWeak_0 7 rfl rfl)
theorem dX6_isWeak_8 : decode cX6_isWeak 8 = .ok (.getfield 45, 3) := dk_180 0 45 (dk_at dksX6_isWeak_0 8 rfl rfl)
theorem dX6_isWeak_11 : decode cX6_isWeak 11 = .ok (.getfield 49, 3) := dk_180 0 49 (dk_at dksX6_isWeak_0 11 rfl rfl)
theorem dX6_isWeak_14 : decode cX6_isWeak 14 = .ok (.iconst 5, 1) := dk_8 (dk_at dksX6_isWeak_0 14 rfl rfl)
theorem dX6_isWeak_15 : decode cX6_isWeak 15 = .ok (.if_icmp .ge 7, 3) := dk_162 0 7 (dk_at dksX6_isWeak_0 15 rfl rfl)
theorem dX6_isWeak_18 : decode cX6_isWeak 18 = .ok (.iconst 1, 1) := dk_4 (dk_at dksX6_isWeak_0 18 rfl rfl)
theorem dX6_isWeak_19 : decode cX6_isWeak 19 = .ok (.goto 4, 3) := dk_167 0 4 (dk_at dksX6_isWeak_0 19 rfl rfl)
theorem dX6_isWeak_22 : decode cX6_isWeak 22 = .ok (.iconst 0, 1) := dk_3 (dk_at dksX6_isWeak_0 22 rfl rfl)
theorem dX6_isWeak_23 : decode cX6_isWeak 23 = .ok (.ireturn, 1) := dk_172 (dk_at dksX6_isWeak_0 23 rfl rfl)
abbrev cX6_isLike : ByteArray := prog_11_method_4_code
def yX6_isLike : MethodName := ⟨RX6, "isLike", "(LSkerryLights$Tower;)Z"⟩
def dkwX6_isLike_5 : List UInt8 := [132, 2, 1, 167, 255, 152, 3, 172]
abbrev dktX6_isLike_5 : List UInt8 := dkwX6_isLike_5 ++ []
def dkwX6_isLike_4 : List UInt8 := [167, 0, 4, 3, 126, 54, 4, 132, 5, 1, 167, 255, 185, 29, 154, 0, 8, 21, 4, 153, 0, 5, 4, 172]
abbrev dktX6_isLike_4 : List UInt8 := dkwX6_isLike_4 ++ dktX6_isLike_5
def dkwX6_isLike_3 : List UInt8 := [180, 0, 15, 96, 4, 100, 21, 5, 100, 182, 0, 41, 43, 21, 5, 182, 0, 41, 160, 0, 7, 4]
abbrev dktX6_isLike_3 : List UInt8 := dkwX6_isLike_3 ++ dktX6_isLike_4
def dkwX6_isLike_2 : List UInt8 := [182, 0, 41, 43, 21, 5, 182, 0, 41, 160, 0, 7, 4, 167, 0, 4, 3, 126, 62, 21, 4, 42, 28, 42]
abbrev dktX6_isLike_2 : List UInt8 := dkwX6_isLike_2 ++ dktX6_isLike_3
def dkwX6_isLike_1 : List UInt8 := [62, 4, 54, 4, 3, 54, 5, 21, 5, 42, 180, 0, 15, 162, 0, 68, 29, 42, 28, 21, 5, 96]
abbrev dktX6_isLike_1 : List UInt8 := dkwX6_isLike_1 ++ dktX6_isLike_2
def dkwX6_isLike_0 : List UInt8 := [42, 180, 0, 15, 43, 180, 0, 15, 159, 0, 5, 3, 172, 3, 61, 28, 42, 180, 0, 15, 162, 0, 102, 4]
abbrev dktX6_isLike_0 : List UInt8 := dkwX6_isLike_0 ++ dktX6_isLike_1
theorem dksX6_isLike_0 : cX6_isLike.data.toList.drop 0 = dktX6_isLike_0 := by decide +kernel
theorem dksX6_isLike_1 : cX6_isLike.data.toList.drop 24 = dktX6_isLike_1 := dk_seg dksX6_isLike_0 24 rfl rfl
theorem dksX6_isLike_2 : cX6_isLike.data.toList.drop 46 = dktX6_isLike_2 := dk_seg dksX6_isLike_1 22 rfl rfl
theorem dksX6_isLike_3 : cX6_isLike.data.toList.drop 70 = dktX6_isLike_3 := dk_seg dksX6_isLike_2 24 rfl rfl
theorem dksX6_isLike_4 : cX6_isLike.data.toList.drop 92 = dktX6_isLike_4 := dk_seg dksX6_isLike_3 22 rfl rfl
theorem dksX6_isLike_5 : cX6_isLike.data.toList.drop 116 = dktX6_isLike_5 := dk_seg dksX6_isLike_4 24 rfl rfl
theorem dX6_isLike_0 : decode cX6_isLike 0 = .ok (.aload_n 0, 1) := dk_42 (dk_at dksX6_isLike_0 0 rfl rfl)
theorem dX6_isLike_1 : decode cX6_isLike 1 = .ok (.getfield 15, 3) := dk_180 0 15 (dk_at dksX6_isLike_0 1 rfl rfl)
theorem dX6_isLike_4 : decode cX6_isLike 4 = .ok (.aload_n 1, 1) := dk_43 (dk_at dksX6_isLike_0 4 rfl rfl)
theorem dX6_isLike_5 : decode cX6_isLike 5 = .ok (.getfield 15, 3) := dk_180 0 15 (dk_at dksX6_isLike_0 5 rfl rfl)
theorem dX6_isLike_8 : decode cX6_isLike 8 = .ok (.if_icmp .eq 5, 3) := dk_159 0 5 (dk_at dksX6_isLike_0 8 rfl rfl)
theorem dX6_isLike_11 : decode cX6_isLike 11 = .ok (.iconst 0, 1) := dk_3 (dk_at dksX6_isLike_0 11 rfl rfl)
theorem dX6_isLike_12 : decode cX6_isLike 12 = .ok (.ireturn, 1) := dk_172 (dk_at dksX6_isLike_0 12 rfl rfl)
theorem dX6_isLike_13 : decode cX6_isLike 13 = .ok (.iconst 0, 1) := dk_3 (dk_at dksX6_isLike_0 13 rfl rfl)
theorem dX6_isLike_14 : decode cX6_isLike 14 = .ok (.istore_n 2, 1) := dk_61 (dk_at dksX6_isLike_0 14 rfl rfl)
theorem dX6_isLike_15 : decode cX6_isLike 15 = .ok (.iload_n 2, 1) := dk_28 (dk_at dksX6_isLike_0 15 rfl rfl)
theorem dX6_isLike_16 : decode cX6_isLike 16 = .ok (.aload_n 0, 1) := dk_42 (dk_at dksX6_isLike_0 16 rfl rfl)
theorem dX6_isLike_17 : decode cX6_isLike 17 = .ok (.getfield 15, 3) := dk_180 0 15 (dk_at dksX6_isLike_0 17 rfl rfl)
theorem dX6_isLike_20 : decode cX6_isLike 20 = .ok (.if_icmp .ge 102, 3) := dk_162 0 102 (dk_at dksX6_isLike_0 20 rfl rfl)
theorem dX6_isLike_23 : decode cX6_isLike 23 = .ok (.iconst 1, 1) := dk_4 (dk_at dksX6_isLike_0 23 rfl rfl)
theorem dX6_isLike_24 : decode cX6_isLike 24 = .ok (.istore_n 3, 1) := dk_62 (dk_at dksX6_isLike_1 0 rfl rfl)
theorem dX6_isLike_25 : decode cX6_isLike 25 = .ok (.iconst 1, 1) := dk_4 (dk_at dksX6_isLike_1 1 rfl rfl)
theorem dX6_isLike_26 : decode cX6_isLike 26 = .ok (.istore 4, 2) := dk_54 4 (dk_at dksX6_isLike_1 2 rfl rfl)
theorem dX6_isLike_28 : decode cX6_isLike 28 = .ok (.iconst 0, 1) := dk_3 (dk_at dksX6_isLike_1 4 rfl rfl)
theorem dX6_isLike_29 : decode cX6_isLike 29 = .ok (.istore 5, 2) := dk_54 5 (dk_at dksX6_isLike_1 5 rfl rfl)
theorem dX6_isLike_31 : decode cX6_isLike 31 = .ok (.iload 5, 2) := dk_21 5 (dk_at dksX6_isLike_1 7 rfl rfl)
theorem dX6_isLike_33 : decode cX6_isLike 33 = .ok (.aload_n 0, 1) := dk_42 (dk_at dksX6_isLike_1 9 rfl rfl)
theorem dX6_isLike_34 : decode cX6_isLike 34 = .ok (.getfield 15, 3) := dk_180 0 15 (dk_at dksX6_isLike_1 10 rfl rfl)
theorem dX6_isLike_37 : decode cX6_isLike 37 = .ok (.if_icmp .ge 68, 3) := dk_162 0 68 (dk_at dksX6_isLike_1 13 rfl rfl)
theorem dX6_isLike_40 : decode cX6_isLike 40 = .ok (.iload_n 3, 1) := dk_29 (dk_at dksX6_isLike_1 16 rfl rfl)
theorem dX6_isLike_41 : decode cX6_isLike 41 = .ok (.aload_n 0, 1) := dk_42 (dk_at dksX6_isLike_1 17 rfl rfl)
theorem dX6_isLike_42 : decode cX6_isLike 42 = .ok (.iload_n 2, 1) := dk_28 (dk_at dksX6_isLike_1 18 rfl rfl)
theorem dX6_isLike_43 : decode cX6_isLike 43 = .ok (.iload 5, 2) := dk_21 5 (dk_at dksX6_isLike_1 19 rfl rfl)
theorem dX6_isLike_45 : decode cX6_isLike 45 = .ok (.iadd, 1) := dk_96 (dk_at dksX6_isLike_1 21 rfl rfl)
theorem dX6_isLike_46 : decode cX6_isLike 46 = .ok (.invokevirtual 41, 3) := dk_182 0 41 (dk_at dksX6_isLike_2 0 rfl rfl)
theorem dX6_isLike_49 : decode cX6_isLike 49 = .ok (.aload_n 1, 1) := dk_43 (dk_at dksX6_isLike_2 3 rfl rfl)
theorem dX6_isLike_50 : decode cX6_isLike 50 = .ok (.iload 5, 2) := dk_21 5 (dk_at dksX6_isLike_2 4 rfl rfl)
theorem dX6_isLike_52 : decode cX6_isLike 52 = .ok (.invokevirtual 41, 3) := dk_182 0 41 (dk_at dksX6_isLike_2 6 rfl rfl)
theorem dX6_isLike_55 : decode cX6_isLike 55 = .ok (.if_icmp .ne 7, 3) := dk_160 0 7 (dk_at dksX6_isLike_2 9 rfl rfl)
theorem dX6_isLike_58 : decode cX6_isLike 58 = .ok (.iconst 1, 1) := dk_4 (dk_at dksX6_isLike_2 12 rfl rfl)
theorem dX6_isLike_59 : decode cX6_isLike 59 = .ok (.goto 4, 3) := dk_167 0 4 (dk_at dksX6_isLike_2 13 rfl rfl)
theorem dX6_isLike_62 : decode cX6_isLike 62 = .ok (.iconst 0, 1) := dk_3 (dk_at dksX6_isLike_2 16 rfl rfl)
theorem dX6_isLike_63 : decode cX6_isLike 63 = .ok (.iand, 1) := dk_126 (dk_at dksX6_isLike_2 17 rfl rfl)
theorem dX6_isLike_64 : decode cX6_isLike 64 = .ok (.istore_n 3, 1) := dk_62 (dk_at dksX6_isLike_2 18 rfl rfl)
theorem dX6_isLike_65 : decode cX6_isLike 65 = .ok (.iload 4, 2) := dk_21 4 (dk_at dksX6_isLike_2 19 rfl rfl)
theorem dX6_isLike_67 : decode cX6_isLike 67 = .ok (.aload_n 0, 1) := dk_42 (dk_at dksX6_isLike_2 21 rfl rfl)
theorem dX6_isLike_68 : decode cX6_isLike 68 = .ok (.iload_n 2, 1) := dk_28 (dk_at dksX6_isLike_2 22 rfl rfl)
theorem dX6_isLike_69 : decode cX6_isLike 69 = .ok (.aload_n 0, 1) := dk_42 (dk_at dksX6_isLike_2 23 rfl rfl)
theorem dX6_isLike_70 : decode cX6_isLike 70 = .ok (.getfield 15, 3) := dk_180 0 15 (dk_at dksX6_isLike_3 0 rfl rfl)
theorem dX6_isLike_73 : decode cX6_isLike 73 = .ok (.iadd, 1) := dk_96 (dk_at dksX6_isLike_3 3 rfl rfl)
theorem dX6_isLike_74 : decode cX6_isLike 74 = .ok (.iconst 1, 1) := dk_4 (dk_at dksX6_isLike_3 4 rfl rfl)
theorem dX6_isLike_75 : decode cX6_isLike 75 = .ok (.isub, 1) := dk_100 (dk_at dksX6_isLike_3 5 rfl rfl)
theorem dX6_isLike_76 : decode cX6_isLike 76 = .ok (.iload 5, 2) := dk_21 5 (dk_at dksX6_isLike_3 6 rfl rfl)
theorem dX6_isLike_78 : decode cX6_isLike 78 = .ok (.isub, 1) := dk_100 (dk_at dksX6_isLike_3 8 rfl rfl)
theorem dX6_isLike_79 : decode cX6_isLike 79 = .ok (.invokevirtual 41, 3) := dk_182 0 41 (dk_at dksX6_isLike_3 9 rfl rfl)
theorem dX6_isLike_82 : decode cX6_isLike 82 = .ok (.aload_n 1, 1) := dk_43 (dk_at dksX6_isLike_3 12 rfl rfl)
theorem dX6_isLike_83 : decode cX6_isLike 83 = .ok (.iload 5, 2) := dk_21 5 (dk_at dksX6_isLike_3 13 rfl rfl)
theorem dX6_isLike_85 : decode cX6_isLike 85 = .ok (.invokevirtual 41, 3) := dk_182 0 41 (dk_at dksX6_isLike_3 15 rfl rfl)
theorem dX6_isLike_88 : decode cX6_isLike 88 = .ok (.if_icmp .ne 7, 3) := dk_160 0 7 (dk_at dksX6_isLike_3 18 rfl rfl)
theorem dX6_isLike_91 : decode cX6_isLike 91 = .ok (.iconst 1, 1) := dk_4 (dk_at dksX6_isLike_3 21 rfl rfl)
theorem dX6_isLike_92 : decode cX6_isLike 92 = .ok (.goto 4, 3) := dk_167 0 4 (dk_at dksX6_isLike_4 0 rfl rfl)
theorem dX6_isLike_95 : decode cX6_isLike 95 = .ok (.iconst 0, 1) := dk_3 (dk_at dksX6_isLike_4 3 rfl rfl)
theorem dX6_isLike_96 : decode cX6_isLike 96 = .ok (.iand, 1) := dk_126 (dk_at dksX6_isLike_4 4 rfl rfl)
theorem dX6_isLike_97 : decode cX6_isLike 97 = .ok (.istore 4, 2) := dk_54 4 (dk_at dksX6_isLike_4 5 rfl rfl)
theorem dX6_isLike_99 : decode cX6_isLike 99 = .ok (.iinc 5 1, 3) := dk_132 5 1 (dk_at dksX6_isLike_4 7 rfl rfl)
theorem dX6_isLike_102 : decode cX6_isLike 102 = .ok (.goto (-71), 3) := dk_167 255 185 (dk_at dksX6_isLike_4 10 rfl rfl)
theorem dX6_isLike_105 : decode cX6_isLike 105 = .ok (.iload_n 3, 1) := dk_29 (dk_at dksX6_isLike_4 13 rfl rfl)
theorem dX6_isLike_106 : decode cX6_isLike 106 = .ok (.ifCond .ne 8, 3) := dk_154 0 8 (dk_at dksX6_isLike_4 14 rfl rfl)
theorem dX6_isLike_109 : decode cX6_isLike 109 = .ok (.iload 4, 2) := dk_21 4 (dk_at dksX6_isLike_4 17 rfl rfl)
theorem dX6_isLike_111 : decode cX6_isLike 111 = .ok (.ifCond .eq 5, 3) := dk_153 0 5 (dk_at dksX6_isLike_4 19 rfl rfl)
theorem dX6_isLike_114 : decode cX6_isLike 114 = .ok (.iconst 1, 1) := dk_4 (dk_at dksX6_isLike_4 22 rfl rfl)
theorem dX6_isLike_115 : decode cX6_isLike 115 = .ok (.ireturn, 1) := dk_172 (dk_at dksX6_isLike_4 23 rfl rfl)
theorem dX6_isLike_116 : decode cX6_isLike 116 = .ok (.iinc 2 1, 3) := dk_132 2 1 (dk_at dksX6_isLike_5 0 rfl rfl)
theorem dX6_isLike_119 : decode cX6_isLike 119 = .ok (.goto (-104), 3) := dk_167 255 152 (dk_at dksX6_isLike_5 3 rfl rfl)
theorem dX6_isLike_122 : decode cX6_isLike 122 = .ok (.iconst 0, 1) := dk_3 (dk_at dksX6_isLike_5 6 rfl rfl)
theorem dX6_isLike_123 : decode cX6_isLike 123 = .ok (.ireturn, 1) := dk_172 (dk_at dksX6_isLike_5 7 rfl rfl)
abbrev cX6_isFlash : ByteArray := prog_11_method_3_code
def yX6_isFlash : MethodName := ⟨RX6, "isFlash", "(I)Z"⟩
def dkwX6_isFlash_1 : List UInt8 := [4, 167, 0, 4, 3, 172]
abbrev dktX6_isFlash_1 : List UInt8 := dkwX6_isFlash_1 ++ []
def dkwX6_isFlash_0 : List UInt8 := [42, 180, 0, 9, 42, 180, 0, 15, 4, 100, 27, 42, 180, 0, 15, 112, 100, 122, 4, 126, 4, 160, 0, 7]
abbrev dktX6_isFlash_0 : List UInt8 := dkwX6_isFlash_0 ++ dktX6_isFlash_1
theorem dksX6_isFlash_0 : cX6_isFlash.data.toList.drop 0 = dktX6_isFlash_0 := by decide +kernel
theorem dksX6_isFlash_1 : cX6_isFlash.data.toList.drop 24 = dktX6_isFlash_1 := dk_seg dksX6_isFlash_0 24 rfl rfl
theorem dX6_isFlash_0 : decode cX6_isFlash 0 = .ok (.aload_n 0, 1) := dk_42 (dk_at dksX6_isFlash_0 0 rfl rfl)
theorem dX6_isFlash_1 : decode cX6_isFlash 1 = .ok (.getfield 9, 3) := dk_180 0 9 (dk_at dksX6_isFlash_0 1 rfl rfl)
theorem dX6_isFlash_4 : decode cX6_isFlash 4 = .ok (.aload_n 0, 1) := dk_42 (dk_at dksX6_isFlash_0 4 rfl rfl)
theorem dX6_isFlash_5 : decode cX6_isFlash 5 = .ok (.getfield 15, 3) := dk_180 0 15 (dk_at dksX6_isFlash_0 5 rfl rfl)
theorem dX6_isFlash_8 : decode cX6_isFlash 8 = .ok (.iconst 1, 1) := dk_4 (dk_at dksX6_isFlash_0 8 rfl rfl)
theorem dX6_isFlash_9 : decode cX6_isFlash 9 = .ok (.isub, 1) := dk_100 (dk_at dksX6_isFlash_0 9 rfl rfl)
theorem dX6_isFlash_10 : decode cX6_isFlash 10 = .ok (.iload_n 1, 1) := dk_27 (dk_at dksX6_isFlash_0 10 rfl rfl)
theorem dX6_isFlash_11 : decode cX6_isFlash 11 = .ok (.aload_n 0, 1) := dk_42 (dk_at dksX6_isFlash_0 11 rfl rfl)
theorem dX6_isFlash_12 : decode cX6_isFlash 12 = .ok (.getfield 15, 3) := dk_180 0 15 (dk_at dksX6_isFlash_0 12 rfl rfl)
theorem dX6_isFlash_15 : decode cX6_isFlash 15 = .ok (.irem, 1) := dk_112 (dk_at dksX6_isFlash_0 15 rfl rfl)
theorem dX6_isFlash_16 : decode cX6_isFlash 16 = .ok (.isub, 1) := dk_100 (dk_at dksX6_isFlash_0 16 rfl rfl)
theorem dX6_isFlash_17 : decode cX6_isFlash 17 = .ok (.ishr, 1) := dk_122 (dk_at dksX6_isFlash_0 17 rfl rfl)
theorem dX6_isFlash_18 : decode cX6_isFlash 18 = .ok (.iconst 1, 1) := dk_4 (dk_at dksX6_isFlash_0 18 rfl rfl)
theorem dX6_isFlash_19 : decode cX6_isFlash 19 = .ok (.iand, 1) := dk_126 (dk_at dksX6_isFlash_0 19 rfl rfl)
theorem dX6_isFlash_20 : decode cX6_isFlash 20 = .ok (.iconst 1, 1) := dk_4 (dk_at dksX6_isFlash_0 20 rfl rfl)
theorem dX6_isFlash_21 : decode cX6_isFlash 21 = .ok (.if_icmp .ne 7, 3) := dk_160 0 7 (dk_at dksX6_isFlash_0 21 rfl rfl)
theorem dX6_isFlash_24 : decode cX6_isFlash 24 = .ok (.iconst 1, 1) := dk_4 (dk_at dksX6_isFlash_1 0 rfl rfl)
theorem dX6_isFlash_25 : decode cX6_isFlash 25 = .ok (.goto 4, 3) := dk_167 0 4 (dk_at dksX6_isFlash_1 1 rfl rfl)
theorem dX6_isFlash_28 : decode cX6_isFlash 28 = .ok (.iconst 0, 1) := dk_3 (dk_at dksX6_isFlash_1 4 rfl rfl)
theorem dX6_isFlash_29 : decode cX6_isFlash 29 = .ok (.ireturn, 1) := dk_172 (dk_at dksX6_isFlash_1 5 rfl rfl)
theorem q146 : (Jvm.Cond.initialized "SkerryLights$Tower") ∈ lw_all := lw_g (lw_at lw_m1 42 rfl) rfl
theorem q324 : (Jvm.Cond.selects "SkerryLights$Tower" ({ cls := "java/lang/Object", name := "getClass", desc := "()Ljava/lang/Class;" } : Jvm.MethodName) ({ cls := "java/lang/Object", name := "getClass", desc := "()Ljava/lang/Class;" } : Jvm.MethodName)) ∈ lw_all := lw_g (lw_at lw_m1 220 rfl) rfl
theorem q966 : (Jvm.Cond.fieldLinkNest "SkerryLights$Tower" (49 : Nat) "SkerryLights$Lens" "power" "I" "SkerryLights") ∈ lw_tbl := lw_at lw_m4 142 rfl
theorem q1010 : (Jvm.Cond.instanceMethod ({ cls := "SkerryLights$Tower", name := "copy", desc := "()LSkerryLights$Tower;" } : Jvm.MethodName)) ∈ lw_all := lw_g (lw_at lw_m4 186 rfl) rfl
theorem q1011 : (Jvm.Cond.selects "SkerryLights$Tower" ({ cls := "SkerryLights$Tower", name := "copy", desc := "()LSkerryLights$Tower;" } : Jvm.MethodName) ({ cls := "SkerryLights$Tower", name := "copy", desc := "()LSkerryLights$Tower;" } : Jvm.MethodName)) ∈ lw_all := lw_g (lw_at lw_m4 187 rfl) rfl
theorem q1012 : (Jvm.Cond.code ({ cls := "SkerryLights$Tower", name := "copy", desc := "()LSkerryLights$Tower;" } : Jvm.MethodName) prog_11_method_2_code (2 : Nat) (Option.some (Jvm.ClassFile.FieldType.object "SkerryLights$Tower"))) ∈ lw_all := lw_g (lw_at lw_m4 188 rfl) rfl
theorem q1013 : (Jvm.Cond.classLink "SkerryLights$Tower" (10 : Nat) "SkerryLights$Tower") ∈ lw_all := lw_g (lw_at lw_m4 189 rfl) rfl
theorem q1014 : (Jvm.Cond.instantiable "SkerryLights$Tower" (9 : Nat)) ∈ lw_all := lw_g (lw_at lw_m4 190 rfl) rfl
theorem q1015 : (Jvm.Cond.methodLink "SkerryLights$Tower" (31 : Nat) ({ cls := "SkerryLights$Tower", name := "<init>", desc := "(IILSkerryLights$Side;I)V" } : Jvm.MethodName)) ∈ lw_all := lw_g (lw_at lw_m4 191 rfl) rfl
theorem q1016 : (Jvm.Cond.instanceMethod ({ cls := "SkerryLights$Tower", name := "<init>", desc := "(IILSkerryLights$Side;I)V" } : Jvm.MethodName)) ∈ lw_all := lw_g (lw_at lw_m4 192 rfl) rfl
theorem q1017 : (Jvm.Cond.code ({ cls := "SkerryLights$Tower", name := "<init>", desc := "(IILSkerryLights$Side;I)V" } : Jvm.MethodName) prog_11_method_1_code (5 : Nat) (Option.none : Option Jvm.ClassFile.FieldType)) ∈ lw_all := lw_g (lw_at lw_m4 193 rfl) rfl
theorem q1018 : (Jvm.Cond.methodLink "SkerryLights$Tower" (3 : Nat) ({ cls := "java/lang/Object", name := "<init>", desc := "()V" } : Jvm.MethodName)) ∈ lw_all := lw_g (lw_at lw_m4 194 rfl) rfl
theorem q1019 : (Jvm.Cond.fieldLink "SkerryLights$Tower" (18 : Nat) "SkerryLights$Tower" "number" "I") ∈ lw_all := lw_g (lw_at lw_m4 195 rfl) rfl
theorem q1022 : (Jvm.Cond.fieldLink "SkerryLights$Tower" (21 : Nat) "SkerryLights$Tower" "place" "I") ∈ lw_all := lw_g (lw_at lw_m4 198 rfl) rfl
theorem q1025 : (Jvm.Cond.fieldLink "SkerryLights$Tower" (24 : Nat) "SkerryLights$Tower" "side" "LSkerryLights$Side;") ∈ lw_all := lw_g (lw_at lw_m4 201 rfl) rfl
theorem q1028 : (Jvm.Cond.fieldLink "SkerryLights$Tower" (28 : Nat) "SkerryLights$Tower" "skill" "I") ∈ lw_all := lw_g (lw_at lw_m4 204 rfl) rfl
theorem q1030 : (Jvm.Cond.fieldLink "SkerryLights$Tower" (9 : Nat) "SkerryLights$Tower" "signs" "I") ∈ lw_all := lw_g (lw_at lw_m4 206 rfl) rfl
theorem q1032 : (Jvm.Cond.fieldLink "SkerryLights$Tower" (15 : Nat) "SkerryLights$Tower" "many" "I") ∈ lw_all := lw_g (lw_at lw_m4 208 rfl) rfl
theorem q1035 : (Jvm.Cond.fieldLink "SkerryLights$Tower" (45 : Nat) "SkerryLights$Tower" "lens" "LSkerryLights$Lens;") ∈ lw_all := lw_g (lw_at lw_m4 211 rfl) rfl
theorem q1037 : (Jvm.Cond.fieldLink "SkerryLights$Tower" (34 : Nat) "SkerryLights$Tower" "isLit" "Z") ∈ lw_all := lw_g (lw_at lw_m4 213 rfl) rfl
theorem q1040 : (Jvm.Cond.fieldLink "SkerryLights$Tower" (38 : Nat) "SkerryLights$Tower" "isBroken" "Z") ∈ lw_all := lw_g (lw_at lw_m4 216 rfl) rfl
theorem q1043 : (Jvm.Cond.laysFinal "SkerryLights$Tower" "SkerryLights$Tower" "number" "I") ∈ lw_all := lw_g (lw_at lw_m4 219 rfl) rfl
theorem q1044 : (Jvm.Cond.soleField "SkerryLights$Tower" "number") ∈ lw_all := lw_g (lw_at lw_m4 220 rfl) rfl
theorem q1045 : (Jvm.Cond.laysFinal "SkerryLights$Tower" "SkerryLights$Tower" "place" "I") ∈ lw_all := lw_g (lw_at lw_m4 221 rfl) rfl
theorem q1046 : (Jvm.Cond.soleField "SkerryLights$Tower" "place") ∈ lw_all := lw_g (lw_at lw_m4 222 rfl) rfl
theorem q1047 : (Jvm.Cond.laysFinal "SkerryLights$Tower" "SkerryLights$Tower" "side" "LSkerryLights$Side;") ∈ lw_all := lw_g (lw_at lw_m4 223 rfl) rfl
theorem q1048 : (Jvm.Cond.soleField "SkerryLights$Tower" "side") ∈ lw_all := lw_g (lw_at lw_m4 224 rfl) rfl
theorem q1049 : (Jvm.Cond.laysFinal "SkerryLights$Tower" "SkerryLights$Tower" "skill" "I") ∈ lw_all := lw_g (lw_at lw_m4 225 rfl) rfl
theorem q1050 : (Jvm.Cond.soleField "SkerryLights$Tower" "skill") ∈ lw_all := lw_g (lw_at lw_m4 226 rfl) rfl
theorem q1051 : (Jvm.Cond.lays "SkerryLights$Tower" "SkerryLights$Tower" "signs" "I") ∈ lw_all := lw_g (lw_at lw_m4 227 rfl) rfl
theorem q1052 : (Jvm.Cond.soleField "SkerryLights$Tower" "signs") ∈ lw_all := lw_g (lw_at lw_m4 228 rfl) rfl
theorem q1053 : (Jvm.Cond.lays "SkerryLights$Tower" "SkerryLights$Tower" "many" "I") ∈ lw_all := lw_g (lw_at lw_m4 229 rfl) rfl
theorem q1054 : (Jvm.Cond.soleField "SkerryLights$Tower" "many") ∈ lw_all := lw_g (lw_at lw_m4 230 rfl) rfl
theorem q1055 : (Jvm.Cond.lays "SkerryLights$Tower" "SkerryLights$Tower" "lens" "LSkerryLights$Lens;") ∈ lw_all := lw_g (lw_at lw_m4 231 rfl) rfl
theorem q1056 : (Jvm.Cond.soleField "SkerryLights$Tower" "lens") ∈ lw_all := lw_g (lw_at lw_m4 232 rfl) rfl
theorem q1057 : (Jvm.Cond.lays "SkerryLights$Tower" "SkerryLights$Tower" "isLit" "Z") ∈ lw_all := lw_g (lw_at lw_m4 233 rfl) rfl
theorem q1058 : (Jvm.Cond.soleField "SkerryLights$Tower" "isLit") ∈ lw_all := lw_g (lw_at lw_m4 234 rfl) rfl
theorem q1059 : (Jvm.Cond.lays "SkerryLights$Tower" "SkerryLights$Tower" "isBroken" "Z") ∈ lw_all := lw_g (lw_at lw_m4 235 rfl) rfl
theorem q1060 : (Jvm.Cond.soleField "SkerryLights$Tower" "isBroken") ∈ lw_all := lw_g (lw_at lw_m4 236 rfl) rfl
theorem q1061 : (Jvm.Cond.superclass "SkerryLights$Tower" "java/lang/Object") ∈ lw_all := lw_g (lw_at lw_m4 237 rfl) rfl
theorem q1212 : (Jvm.Cond.instanceMethod ({ cls := "SkerryLights$Tower", name := "isWeak", desc := "()Z" } : Jvm.MethodName)) ∈ lw_all := lw_g (lw_at lw_m5 148 rfl) rfl
theorem q1213 : (Jvm.Cond.selects "SkerryLights$Tower" ({ cls := "SkerryLights$Tower", name := "isWeak", desc := "()Z" } : Jvm.MethodName) ({ cls := "SkerryLights$Tower", name := "isWeak", desc := "()Z" } : Jvm.MethodName)) ∈ lw_all := lw_g (lw_at lw_m5 149 rfl) rfl
theorem q1214 : (Jvm.Cond.code ({ cls := "SkerryLights$Tower", name := "isWeak", desc := "()Z" } : Jvm.MethodName) prog_11_method_5_code (1 : Nat) (Option.some Jvm.ClassFile.FieldType.boolean)) ∈ lw_all := lw_g (lw_at lw_m5 150 rfl) rfl
theorem q1224 : (Jvm.Cond.instanceMethod ({ cls := "SkerryLights$Tower", name := "isLike", desc := "(LSkerryLights$Tower;)Z" } : Jvm.MethodName)) ∈ lw_all := lw_g (lw_at lw_m5 160 rfl) rfl
theorem q1225 : (Jvm.Cond.selects "SkerryLights$Tower" ({ cls := "SkerryLights$Tower", name := "isLike", desc := "(LSkerryLights$Tower;)Z" } : Jvm.MethodName) ({ cls := "SkerryLights$Tower", name := "isLike", desc := "(LSkerryLights$Tower;)Z" } : Jvm.MethodName)) ∈ lw_all := lw_g (lw_at lw_m5 161 rfl) rfl
theorem q1226 : (Jvm.Cond.code ({ cls := "SkerryLights$Tower", name := "isLike", desc := "(LSkerryLights$Tower;)Z" } : Jvm.MethodName) prog_11_method_4_code (6 : Nat) (Option.some Jvm.ClassFile.FieldType.boolean)) ∈ lw_all := lw_g (lw_at lw_m5 162 rfl) rfl
theorem q1227 : (Jvm.Cond.methodLink "SkerryLights$Tower" (41 : Nat) ({ cls := "SkerryLights$Tower", name := "isFlash", desc := "(I)Z" } : Jvm.MethodName)) ∈ lw_all := lw_g (lw_at lw_m5 163 rfl) rfl
theorem q1228 : (Jvm.Cond.instanceMethod ({ cls := "SkerryLights$Tower", name := "isFlash", desc := "(I)Z" } : Jvm.MethodName)) ∈ lw_all := lw_g (lw_at lw_m5 164 rfl) rfl
theorem q1229 : (Jvm.Cond.selects "SkerryLights$Tower" ({ cls := "SkerryLights$Tower", name := "isFlash", desc := "(I)Z" } : Jvm.MethodName) ({ cls := "SkerryLights$Tower", name := "isFlash", desc := "(I)Z" } : Jvm.MethodName)) ∈ lw_all := lw_g (lw_at lw_m5 165 rfl) rfl
theorem q1230 : (Jvm.Cond.code ({ cls := "SkerryLights$Tower", name := "isFlash", desc := "(I)Z" } : Jvm.MethodName) prog_11_method_3_code (2 : Nat) (Option.some Jvm.ClassFile.FieldType.boolean)) ∈ lw_all := lw_g (lw_at lw_m5 166 rfl) rfl
theorem q2395 : (Jvm.Cond.selects "SkerryLights$Tower" ({ cls := "java/lang/Object", name := "equals", desc := "(Ljava/lang/Object;)Z" } : Jvm.MethodName) ({ cls := "java/lang/Object", name := "equals", desc := "(Ljava/lang/Object;)Z" } : Jvm.MethodName)) ∈ lw_all := lw_g (lw_at lw_m10 131 rfl) rfl
theorem q3112 : (Jvm.Cond.castable "SkerryLights$Tower" "java/lang/Object") ∈ lw_tbl := lw_at lw_m13 128 rfl
theorem in_X6 : ∀ w ∈ wsX60, w ∈ lw_all := lw_in wsX60 [1043, 1045, 1047, 1049, 1051, 1053, 1055, 1057, 1059] (by decide +kernel) (by decide +kernel)

/-! SkerryLights$Reader -/
set_option maxRecDepth 100000
def RX7 : String := "SkerryLights$Reader"
def TX7 : u_T := fun k => match k with
  | 0 => ("SkerryLights$Reader", "text", "Ljava/lang/CharSequence;", true)
  | 1 => ("SkerryLights$Reader", "commands", "Ljava/util/LinkedList;", true)
  | 2 => ("SkerryLights$Reader", "at", "I", false)
  | _ => ("SkerryLights$Reader", "isFaulty", "Z", false)
def tyX7 : Nat → FieldType := fun k => match k with
  | 0 => .object "java/lang/CharSequence"
  | 1 => .object "java/util/LinkedList"
  | 2 => .int
  | _ => .boolean
abbrev wsX70 : List Cond := u_ws RX7 TX7 4
theorem nmX7 : ∀ a, a < 4 → ∀ b, b < 4 → a ≠ b → (TX7 a).2.1 ≠ (TX7 b).2.1 := by decide +kernel
theorem tyX7_ok : ∀ k, k < 4 → parseFieldDescriptor (TX7 k).2.2.1 = some (tyX7 k) := by decide +kernel
abbrev cX7_init : ByteArray := prog_4_method_1_code
def yX7_init : MethodName := ⟨RX7, "<init>", "(Ljava/lang/CharSequence;)V"⟩
def dkwX7_init_2 : List UInt8 := [180, 0, 38, 43, 185, 0, 42, 1, 0, 162, 0, 7, 4, 167, 0, 4, 3, 128, 181, 0, 34, 177]
abbrev dktX7_init_2 : List UInt8 := dkwX7_init_2 ++ []
def dkwX7_init_1 : List UInt8 := [42, 182, 0, 22, 182, 0, 26, 87, 42, 16, 59, 182, 0, 30, 154, 255, 238, 42, 89, 180, 0, 34, 42]
abbrev dktX7_init_1 : List UInt8 := dkwX7_init_1 ++ dktX7_init_2
def dkwX7_init_0 : List UInt8 := [42, 183, 0, 3, 42, 187, 0, 9, 89, 183, 0, 11, 181, 0, 12, 42, 43, 181, 0, 18, 42, 180, 0, 12]
abbrev dktX7_init_0 : List UInt8 := dkwX7_init_0 ++ dktX7_init_1
theorem dksX7_init_0 : cX7_init.data.toList.drop 0 = dktX7_init_0 := by decide +kernel
theorem dksX7_init_1 : cX7_init.data.toList.drop 24 = dktX7_init_1 := dk_seg dksX7_init_0 24 rfl rfl
theorem dksX7_init_2 : cX7_init.data.toList.drop 47 = dktX7_init_2 := dk_seg dksX7_init_1 23 rfl rfl
theorem dX7_init_0 : decode cX7_init 0 = .ok (.aload_n 0, 1) := dk_42 (dk_at dksX7_init_0 0 rfl rfl)
theorem dX7_init_1 : decode cX7_init 1 = .ok (.invokespecial 3, 3) := dk_183 0 3 (dk_at dksX7_init_0 1 rfl rfl)
theorem dX7_init_4 : decode cX7_init 4 = .ok (.aload_n 0, 1) := dk_42 (dk_at dksX7_init_0 4 rfl rfl)
theorem dX7_init_5 : decode cX7_init 5 = .ok (.new 9, 3) := dk_187 0 9 (dk_at dksX7_init_0 5 rfl rfl)
theorem dX7_init_8 : decode cX7_init 8 = .ok (.dup, 1) := dk_89 (dk_at dksX7_init_0 8 rfl rfl)
theorem dX7_init_9 : decode cX7_init 9 = .ok (.invokespecial 11, 3) := dk_183 0 11 (dk_at dksX7_init_0 9 rfl rfl)
theorem dX7_init_12 : decode cX7_init 12 = .ok (.putfield 12, 3) := dk_181 0 12 (dk_at dksX7_init_0 12 rfl rfl)
theorem dX7_init_15 : decode cX7_init 15 = .ok (.aload_n 0, 1) := dk_42 (dk_at dksX7_init_0 15 rfl rfl)
theorem dX7_init_16 : decode cX7_init 16 = .ok (.aload_n 1, 1) := dk_43 (dk_at dksX7_init_0 16 rfl rfl)
theorem dX7_init_17 : decode cX7_init 17 = .ok (.putfield 18, 3) := dk_181 0 18 (dk_at dksX7_init_0 17 rfl rfl)
theorem dX7_init_20 : decode cX7_init 20 = .ok (.aload_n 0, 1) := dk_42 (dk_at dksX7_init_0 20 rfl rfl)
theorem dX7_init_21 : decode cX7_init 21 = .ok (.getfield 12, 3) := dk_180 0 12 (dk_at dksX7_init_0 21 rfl rfl)
theorem dX7_init_24 : decode cX7_init 24 = .ok (.aload_n 0, 1) := dk_42 (dk_at dksX7_init_1 0 rfl rfl)
theorem dX7_init_25 : decode cX7_init 25 = .ok (.invokevirtual 22, 3) := dk_182 0 22 (dk_at dksX7_init_1 1 rfl rfl)
theorem dX7_init_28 : decode cX7_init 28 = .ok (.invokevirtual 26, 3) := dk_182 0 26 (dk_at dksX7_init_1 4 rfl rfl)
theorem dX7_init_31 : decode cX7_init 31 = .ok (.pop, 1) := dk_87 (dk_at dksX7_init_1 7 rfl rfl)
theorem dX7_init_32 : decode cX7_init 32 = .ok (.aload_n 0, 1) := dk_42 (dk_at dksX7_init_1 8 rfl rfl)
theorem dX7_init_33 : decode cX7_init 33 = .ok (.bipush 59, 2) := dk_16 59 (dk_at dksX7_init_1 9 rfl rfl)
theorem dX7_init_35 : decode cX7_init 35 = .ok (.invokevirtual 30, 3) := dk_182 0 30 (dk_at dksX7_init_1 11 rfl rfl)
theorem dX7_init_38 : decode cX7_init 38 = .ok (.ifCond .ne (-18), 3) := dk_154 255 238 (dk_at dksX7_init_1 14 rfl rfl)
theorem dX7_init_41 : decode cX7_init 41 = .ok (.aload_n 0, 1) := dk_42 (dk_at dksX7_init_1 17 rfl rfl)
theorem dX7_init_42 : decode cX7_init 42 = .ok (.dup, 1) := dk_89 (dk_at dksX7_init_1 18 rfl rfl)
theorem dX7_init_43 : decode cX7_init 43 = .ok (.getfield 34, 3) := dk_180 0 34 (dk_at dksX7_init_1 19 rfl rfl)
theorem dX7_init_46 : decode cX7_init 46 = .ok (.aload_n 0, 1) := dk_42 (dk_at dksX7_init_1 22 rfl rfl)
theorem dX7_init_47 : decode cX7_init 47 = .ok (.getfield 38, 3) := dk_180 0 38 (dk_at dksX7_init_2 0 rfl rfl)
theorem dX7_init_50 : decode cX7_init 50 = .ok (.aload_n 1, 1) := dk_43 (dk_at dksX7_init_2 3 rfl rfl)
theorem dX7_init_51 : decode cX7_init 51 = .ok (.invokeinterface 42 1, 5) := by decide +kernel
theorem dX7_init_56 : decode cX7_init 56 = .ok (.if_icmp .ge 7, 3) := dk_162 0 7 (dk_at dksX7_init_2 9 rfl rfl)
theorem dX7_init_59 : decode cX7_init 59 = .ok (.iconst 1, 1) := dk_4 (dk_at dksX7_init_2 12 rfl rfl)
theorem dX7_init_60 : decode cX7_init 60 = .ok (.goto 4, 3) := dk_167 0 4 (dk_at dksX7_init_2 13 rfl rfl)
theorem dX7_init_63 : decode cX7_init 63 = .ok (.iconst 0, 1) := dk_3 (dk_at dksX7_init_2 16 rfl rfl)
theorem dX7_init_64 : decode cX7_init 64 = .ok (.ior, 1) := dk_128 (dk_at dksX7_init_2 17 rfl rfl)
theorem dX7_init_65 : decode cX7_init 65 = .ok (.putfield 34, 3) := dk_181 0 34 (dk_at dksX7_init_2 18 rfl rfl)
theorem dX7_init_68 : decode cX7_init 68 = .ok (.return_, 1) := dk_177 (dk_at dksX7_init_2 21 rfl rfl)
abbrev cX7_command : ByteArray := prog_4_method_8_code
def yX7_command : MethodName := ⟨RX7, "command", "()LSkerryLights$Command;"⟩
def dkwX7_command_6 : List UInt8 := [16, 58, 182, 0, 30, 154, 0, 7, 4, 167, 0, 4, 3, 128, 181, 0, 34, 42, 28, 182, 0, 80, 176]
abbrev dktX7_command_6 : List UInt8 := dkwX7_command_6 ++ []
def dkwX7_command_5 : List UInt8 := [27, 16, 80, 159, 0, 15, 187, 0, 64, 89, 27, 28, 3, 3, 183, 0, 66, 176, 42, 89, 180, 0, 34, 42]
abbrev dktX7_command_5 : List UInt8 := dkwX7_command_5 ++ dktX7_command_6
def dkwX7_command_4 : List UInt8 := [187, 0, 64, 89, 27, 28, 42, 16, 57, 182, 0, 56, 3, 183, 0, 66, 176, 42, 16, 55, 182, 0, 56, 61]
abbrev dktX7_command_4 : List UInt8 := dkwX7_command_4 ++ dktX7_command_5
def dkwX7_command_3 : List UInt8 := [61, 42, 89, 180, 0, 34, 42, 16, 61, 182, 0, 30, 154, 0, 7, 4, 167, 0, 4, 3, 128, 181, 0, 34]
abbrev dktX7_command_3 : List UInt8 := dkwX7_command_3 ++ dktX7_command_4
def dkwX7_command_2 : List UInt8 := [89, 27, 42, 182, 0, 77, 3, 3, 183, 0, 66, 176, 27, 16, 70, 160, 0, 50, 42, 16, 54, 182, 0, 56]
abbrev dktX7_command_2 : List UInt8 := dkwX7_command_2 ++ dktX7_command_3
def dkwX7_command_1 : List UInt8 := [153, 0, 5, 1, 176, 42, 89, 180, 0, 38, 4, 96, 181, 0, 38, 27, 16, 78, 160, 0, 18, 187, 0, 64]
abbrev dktX7_command_1 : List UInt8 := dkwX7_command_1 ++ dktX7_command_2
def dkwX7_command_0 : List UInt8 := [42, 182, 0, 52, 60, 18, 69, 27, 182, 0, 71, 156, 0, 8, 42, 4, 181, 0, 34, 42, 180, 0, 34]
abbrev dktX7_command_0 : List UInt8 := dkwX7_command_0 ++ dktX7_command_1
theorem dksX7_command_0 : cX7_command.data.toList.drop 0 = dktX7_command_0 := by decide +kernel
theorem dksX7_command_1 : cX7_command.data.toList.drop 23 = dktX7_command_1 := dk_seg dksX7_command_0 23 rfl rfl
theorem dksX7_command_2 : cX7_command.data.toList.drop 47 = dktX7_command_2 := dk_seg dksX7_command_1 24 rfl rfl
theorem dksX7_command_3 : cX7_command.data.toList.drop 71 = dktX7_command_3 := dk_seg dksX7_command_2 24 rfl rfl
theorem dksX7_command_4 : cX7_command.data.toList.drop 95 = dktX7_command_4 := dk_seg dksX7_command_3 24 rfl rfl
theorem dksX7_command_5 : cX7_command.data.toList.drop 119 = dktX7_command_5 := dk_seg dksX7_command_4 24 rfl rfl
theorem dksX7_command_6 : cX7_command.data.toList.drop 143 = dktX7_command_6 := dk_seg dksX7_command_5 24 rfl rfl
theorem dX7_command_0 : decode cX7_command 0 = .ok (.aload_n 0, 1) := dk_42 (dk_at dksX7_command_0 0 rfl rfl)
theorem dX7_command_1 : decode cX7_command 1 = .ok (.invokevirtual 52, 3) := dk_182 0 52 (dk_at dksX7_command_0 1 rfl rfl)
theorem dX7_command_4 : decode cX7_command 4 = .ok (.istore_n 1, 1) := dk_60 (dk_at dksX7_command_0 4 rfl rfl)
theorem dX7_command_5 : decode cX7_command 5 = .ok (.ldc 69, 2) := dk_18 69 (dk_at dksX7_command_0 5 rfl rfl)
theorem dX7_command_7 : decode cX7_command 7 = .ok (.iload_n 1, 1) := dk_27 (dk_at dksX7_command_0 7 rfl rfl)
theorem dX7_command_8 : decode cX7_command 8 = .ok (.invokevirtual 71, 3) := dk_182 0 71 (dk_at dksX7_command_0 8 rfl rfl)
theorem dX7_command_11 : decode cX7_command 11 = .ok (.ifCond .ge 8, 3) := dk_156 0 8 (dk_at dksX7_command_0 11 rfl rfl)
theorem dX7_command_14 : decode cX7_command 14 = .ok (.aload_n 0, 1) := dk_42 (dk_at dksX7_command_0 14 rfl rfl)
theorem dX7_command_15 : decode cX7_command 15 = .ok (.iconst 1, 1) := dk_4 (dk_at dksX7_command_0 15 rfl rfl)
theorem dX7_command_16 : decode cX7_command 16 = .ok (.putfield 34, 3) := dk_181 0 34 (dk_at dksX7_command_0 16 rfl rfl)
theorem dX7_command_19 : decode cX7_command 19 = .ok (.aload_n 0, 1) := dk_42 (dk_at dksX7_command_0 19 rfl rfl)
theorem dX7_command_20 : decode cX7_command 20 = .ok (.getfield 34, 3) := dk_180 0 34 (dk_at dksX7_command_0 20 rfl rfl)
theorem dX7_command_23 : decode cX7_command 23 = .ok (.ifCond .eq 5, 3) := dk_153 0 5 (dk_at dksX7_command_1 0 rfl rfl)
theorem dX7_command_26 : decode cX7_command 26 = .ok (.aconst_null, 1) := dk_1 (dk_at dksX7_command_1 3 rfl rfl)
theorem dX7_command_27 : decode cX7_command 27 = .ok (.areturn, 1) := dk_176 (dk_at dksX7_command_1 4 rfl rfl)
theorem dX7_command_28 : decode cX7_command 28 = .ok (.aload_n 0, 1) := dk_42 (dk_at dksX7_command_1 5 rfl rfl)
theorem dX7_command_29 : decode cX7_command 29 = .ok (.dup, 1) := dk_89 (dk_at dksX7_command_1 6 rfl rfl)
theorem dX7_command_30 : decode cX7_command 30 = .ok (.getfield 38, 3) := dk_180 0 38 (dk_at dksX7_command_1 7 rfl rfl)
theorem dX7_command_33 : decode cX7_command 33 = .ok (.iconst 1, 1) := dk_4 (dk_at dksX7_command_1 10 rfl rfl)
theorem dX7_command_34 : decode cX7_command 34 = .ok (.iadd, 1) := dk_96 (dk_at dksX7_command_1 11 rfl rfl)
theorem dX7_command_35 : decode cX7_command 35 = .ok (.putfield 38, 3) := dk_181 0 38 (dk_at dksX7_command_1 12 rfl rfl)
theorem dX7_command_38 : decode cX7_command 38 = .ok (.iload_n 1, 1) := dk_27 (dk_at dksX7_command_1 15 rfl rfl)
theorem dX7_command_39 : decode cX7_command 39 = .ok (.bipush 78, 2) := dk_16 78 (dk_at dksX7_command_1 16 rfl rfl)
theorem dX7_command_41 : decode cX7_command 41 = .ok (.if_icmp .ne 18, 3) := dk_160 0 18 (dk_at dksX7_command_1 18 rfl rfl)
theorem dX7_command_44 : decode cX7_command 44 = .ok (.new 64, 3) := dk_187 0 64 (dk_at dksX7_command_1 21 rfl rfl)
theorem dX7_command_47 : decode cX7_command 47 = .ok (.dup, 1) := dk_89 (dk_at dksX7_command_2 0 rfl rfl)
theorem dX7_command_48 : decode cX7_command 48 = .ok (.iload_n 1, 1) := dk_27 (dk_at dksX7_command_2 1 rfl rfl)
theorem dX7_command_49 : decode cX7_command 49 = .ok (.aload_n 0, 1) := dk_42 (dk_at dksX7_command_2 2 rfl rfl)
theorem dX7_command_50 : decode cX7_command 50 = .ok (.invokevirtual 77, 3) := dk_182 0 77 (dk_at dksX7_command_2 3 rfl rfl)
theorem dX7_command_53 : decode cX7_command 53 = .ok (.iconst 0, 1) := dk_3 (dk_at dksX7_command_2 6 rfl rfl)
theorem dX7_command_54 : decode cX7_command 54 = .ok (.iconst 0, 1) := dk_3 (dk_at dksX7_command_2 7 rfl rfl)
theorem dX7_command_55 : decode cX7_command 55 = .ok (.invokespecial 66, 3) := dk_183 0 66 (dk_at dksX7_command_2 8 rfl rfl)
theorem dX7_command_58 : decode cX7_command 58 = .ok (.areturn, 1) := dk_176 (dk_at dksX7_command_2 11 rfl rfl)
theorem dX7_command_59 : decode cX7_command 59 = .ok (.iload_n 1, 1) := dk_27 (dk_at dksX7_command_2 12 rfl rfl)
theorem dX7_command_60 : decode cX7_command 60 = .ok (.bipush 70, 2) := dk_16 70 (dk_at dksX7_command_2 13 rfl rfl)
theorem dX7_command_62 : decode cX7_command 62 = .ok (.if_icmp .ne 50, 3) := dk_160 0 50 (dk_at dksX7_command_2 15 rfl rfl)
theorem dX7_command_65 : decode cX7_command 65 = .ok (.aload_n 0, 1) := dk_42 (dk_at dksX7_command_2 18 rfl rfl)
theorem dX7_command_66 : decode cX7_command 66 = .ok (.bipush 54, 2) := dk_16 54 (dk_at dksX7_command_2 19 rfl rfl)
theorem dX7_command_68 : decode cX7_command 68 = .ok (.invokevirtual 56, 3) := dk_182 0 56 (dk_at dksX7_command_2 21 rfl rfl)
theorem dX7_command_71 : decode cX7_command 71 = .ok (.istore_n 2, 1) := dk_61 (dk_at dksX7_command_3 0 rfl rfl)
theorem dX7_command_72 : decode cX7_command 72 = .ok (.aload_n 0, 1) := dk_42 (dk_at dksX7_command_3 1 rfl rfl)
theorem dX7_command_73 : decode cX7_command 73 = .ok (.dup, 1) := dk_89 (dk_at dksX7_command_3 2 rfl rfl)
theorem dX7_command_74 : decode cX7_command 74 = .ok (.getfield 34, 3) := dk_180 0 34 (dk_at dksX7_command_3 3 rfl rfl)
theorem dX7_command_77 : decode cX7_command 77 = .ok (.aload_n 0, 1) := dk_42 (dk_at dksX7_command_3 6 rfl rfl)
theorem dX7_command_78 : decode cX7_command 78 = .ok (.bipush 61, 2) := dk_16 61 (dk_at dksX7_command_3 7 rfl rfl)
theorem dX7_command_80 : decode cX7_command 80 = .ok (.invokevirtual 30, 3) := dk_182 0 30 (dk_at dksX7_command_3 9 rfl rfl)
theorem dX7_command_83 : decode cX7_command 83 = .ok (.ifCond .ne 7, 3) := dk_154 0 7 (dk_at dksX7_command_3 12 rfl rfl)
theorem dX7_command_86 : decode cX7_command 86 = .ok (.iconst 1, 1) := dk_4 (dk_at dksX7_command_3 15 rfl rfl)
theorem dX7_command_87 : decode cX7_command 87 = .ok (.goto 4, 3) := dk_167 0 4 (dk_at dksX7_command_3 16 rfl rfl)
theorem dX7_command_90 : decode cX7_command 90 = .ok (.iconst 0, 1) := dk_3 (dk_at dksX7_command_3 19 rfl rfl)
theorem dX7_command_91 : decode cX7_command 91 = .ok (.ior, 1) := dk_128 (dk_at dksX7_command_3 20 rfl rfl)
theorem dX7_command_92 : decode cX7_command 92 = .ok (.putfield 34, 3) := dk_181 0 34 (dk_at dksX7_command_3 21 rfl rfl)
theorem dX7_command_95 : decode cX7_command 95 = .ok (.new 64, 3) := dk_187 0 64 (dk_at dksX7_command_4 0 rfl rfl)
theorem dX7_command_98 : decode cX7_command 98 = .ok (.dup, 1) := dk_89 (dk_at dksX7_command_4 3 rfl rfl)
theorem dX7_command_99 : decode cX7_command 99 = .ok (.iload_n 1, 1) := dk_27 (dk_at dksX7_command_4 4 rfl rfl)
theorem dX7_command_100 : decode cX7_command 100 = .ok (.iload_n 2, 1) := dk_28 (dk_at dksX7_command_4 5 rfl rfl)
theorem dX7_command_101 : decode cX7_command 101 = .ok (.aload_n 0, 1) := dk_42 (dk_at dksX7_command_4 6 rfl rfl)
theorem dX7_command_102 : decode cX7_command 102 = .ok (.bipush 57, 2) := dk_16 57 (dk_at dksX7_command_4 7 rfl rfl)
theorem dX7_command_104 : decode cX7_command 104 = .ok (.invokevirtual 56, 3) := dk_182 0 56 (dk_at dksX7_command_4 9 rfl rfl)
theorem dX7_command_107 : decode cX7_command 107 = .ok (.iconst 0, 1) := dk_3 (dk_at dksX7_command_4 12 rfl rfl)
theorem dX7_command_108 : decode cX7_command 108 = .ok (.invokespecial 66, 3) := dk_183 0 66 (dk_at dksX7_command_4 13 rfl rfl)
theorem dX7_command_111 : decode cX7_command 111 = .ok (.areturn, 1) := dk_176 (dk_at dksX7_command_4 16 rfl rfl)
theorem dX7_command_112 : decode cX7_command 112 = .ok (.aload_n 0, 1) := dk_42 (dk_at dksX7_command_4 17 rfl rfl)
theorem dX7_command_113 : decode cX7_command 113 = .ok (.bipush 55, 2) := dk_16 55 (dk_at dksX7_command_4 18 rfl rfl)
theorem dX7_command_115 : decode cX7_command 115 = .ok (.invokevirtual 56, 3) := dk_182 0 56 (dk_at dksX7_command_4 20 rfl rfl)
theorem dX7_command_118 : decode cX7_command 118 = .ok (.istore_n 2, 1) := dk_61 (dk_at dksX7_command_4 23 rfl rfl)
theorem dX7_command_119 : decode cX7_command 119 = .ok (.iload_n 1, 1) := dk_27 (dk_at dksX7_command_5 0 rfl rfl)
theorem dX7_command_120 : decode cX7_command 120 = .ok (.bipush 80, 2) := dk_16 80 (dk_at dksX7_command_5 1 rfl rfl)
theorem dX7_command_122 : decode cX7_command 122 = .ok (.if_icmp .eq 15, 3) := dk_159 0 15 (dk_at dksX7_command_5 3 rfl rfl)
theorem dX7_command_125 : decode cX7_command 125 = .ok (.new 64, 3) := dk_187 0 64 (dk_at dksX7_command_5 6 rfl rfl)
theorem dX7_command_128 : decode cX7_command 128 = .ok (.dup, 1) := dk_89 (dk_at dksX7_command_5 9 rfl rfl)
theorem dX7_command_129 : decode cX7_command 129 = .ok (.iload_n 1, 1) := dk_27 (dk_at dksX7_command_5 10 rfl rfl)
theorem dX7_command_130 : decode cX7_command 130 = .ok (.iload_n 2, 1) := dk_28 (dk_at dksX7_command_5 11 rfl rfl)
theorem dX7_command_131 : decode cX7_command 131 = .ok (.iconst 0, 1) := dk_3 (dk_at dksX7_command_5 12 rfl rfl)
theorem dX7_command_132 : decode cX7_command 132 = .ok (.iconst 0, 1) := dk_3 (dk_at dksX7_command_5 13 rfl rfl)
theorem dX7_command_133 : decode cX7_command 133 = .ok (.invokespecial 66, 3) := dk_183 0 66 (dk_at dksX7_command_5 14 rfl rfl)
theorem dX7_command_136 : decode cX7_command 136 = .ok (.areturn, 1) := dk_176 (dk_at dksX7_command_5 17 rfl rfl)
theorem dX7_command_137 : decode cX7_command 137 = .ok (.aload_n 0, 1) := dk_42 (dk_at dksX7_command_5 18 rfl rfl)
theorem dX7_command_138 : decode cX7_command 138 = .ok (.dup, 1) := dk_89 (dk_at dksX7_command_5 19 rfl rfl)
theorem dX7_command_139 : decode cX7_command 139 = .ok (.getfield 34, 3) := dk_180 0 34 (dk_at dksX7_command_5 20 rfl rfl)
theorem dX7_command_142 : decode cX7_command 142 = .ok (.aload_n 0, 1) := dk_42 (dk_at dksX7_command_5 23 rfl rfl)
theorem dX7_command_143 : decode cX7_command 143 = .ok (.bipush 58, 2) := dk_16 58 (dk_at dksX7_command_6 0 rfl rfl)
theorem dX7_command_145 : decode cX7_command 145 = .ok (.invokevirtual 30, 3) := dk_182 0 30 (dk_at dksX7_command_6 2 rfl rfl)
theorem dX7_command_148 : decode cX7_command 148 = .ok (.ifCond .ne 7, 3) := dk_154 0 7 (dk_at dksX7_command_6 5 rfl rfl)
theorem dX7_command_151 : decode cX7_command 151 = .ok (.iconst 1, 1) := dk_4 (dk_at dksX7_command_6 8 rfl rfl)
theorem dX7_command_152 : decode cX7_command 152 = .ok (.goto 4, 3) := dk_167 0 4 (dk_at dksX7_command_6 9 rfl rfl)
theorem dX7_command_155 : decode cX7_command 155 = .ok (.iconst 0, 1) := dk_3 (dk_at dksX7_command_6 12 rfl rfl)
theorem dX7_command_156 : decode cX7_command 156 = .ok (.ior, 1) := dk_128 (dk_at dksX7_command_6 13 rfl rfl)
theorem dX7_command_157 : decode cX7_command 157 = .ok (.putfield 34, 3) := dk_181 0 34 (dk_at dksX7_command_6 14 rfl rfl)
theorem dX7_command_160 : decode cX7_command 160 = .ok (.aload_n 0, 1) := dk_42 (dk_at dksX7_command_6 17 rfl rfl)
theorem dX7_command_161 : decode cX7_command 161 = .ok (.iload_n 2, 1) := dk_28 (dk_at dksX7_command_6 18 rfl rfl)
theorem dX7_command_162 : decode cX7_command 162 = .ok (.invokevirtual 80, 3) := dk_182 0 80 (dk_at dksX7_command_6 19 rfl rfl)
theorem dX7_command_165 : decode cX7_command 165 = .ok (.areturn, 1) := dk_176 (dk_at dksX7_command_6 22 rfl rfl)
abbrev cX7_here : ByteArray := prog_4_method_2_code
def yX7_here : MethodName := ⟨RX7, "here", "()C"⟩
def dkwX7_here_1 : List UInt8 := [185, 0, 48, 2, 0, 167, 0, 5, 16, 32, 172]
abbrev dktX7_here_1 : List UInt8 := dkwX7_here_1 ++ []
def dkwX7_here_0 : List UInt8 := [42, 180, 0, 38, 42, 180, 0, 18, 185, 0, 42, 1, 0, 162, 0, 19, 42, 180, 0, 18, 42, 180, 0, 38]
abbrev dktX7_here_0 : List UInt8 := dkwX7_here_0 ++ dktX7_here_1
theorem dksX7_here_0 : cX7_here.data.toList.drop 0 = dktX7_here_0 := by decide +kernel
theorem dksX7_here_1 : cX7_here.data.toList.drop 24 = dktX7_here_1 := dk_seg dksX7_here_0 24 rfl rfl
theorem dX7_here_0 : decode cX7_here 0 = .ok (.aload_n 0, 1) := dk_42 (dk_at dksX7_here_0 0 rfl rfl)
theorem dX7_here_1 : decode cX7_here 1 = .ok (.getfield 38, 3) := dk_180 0 38 (dk_at dksX7_here_0 1 rfl rfl)
theorem dX7_here_4 : decode cX7_here 4 = .ok (.aload_n 0, 1) := dk_42 (dk_at dksX7_here_0 4 rfl rfl)
theorem dX7_here_5 : decode cX7_here 5 = .ok (.getfield 18, 3) := dk_180 0 18 (dk_at dksX7_here_0 5 rfl rfl)
theorem dX7_here_8 : decode cX7_here 8 = .ok (.invokeinterface 42 1, 5) := by decide +kernel
theorem dX7_here_13 : decode cX7_here 13 = .ok (.if_icmp .ge 19, 3) := dk_162 0 19 (dk_at dksX7_here_0 13 rfl rfl)
theorem dX7_here_16 : decode cX7_here 16 = .ok (.aload_n 0, 1) := dk_42 (dk_at dksX7_here_0 16 rfl rfl)
theorem dX7_here_17 : decode cX7_here 17 = .ok (.getfield 18, 3) := dk_180 0 18 (dk_at dksX7_here_0 17 rfl rfl)
theorem dX7_here_20 : decode cX7_here 20 = .ok (.aload_n 0, 1) := dk_42 (dk_at dksX7_here_0 20 rfl rfl)
theorem dX7_here_21 : decode cX7_here 21 = .ok (.getfield 38, 3) := dk_180 0 38 (dk_at dksX7_here_0 21 rfl rfl)
theorem dX7_here_24 : decode cX7_here 24 = .ok (.invokeinterface 48 2, 5) := by decide +kernel
theorem dX7_here_29 : decode cX7_here 29 = .ok (.goto 5, 3) := dk_167 0 5 (dk_at dksX7_here_1 5 rfl rfl)
theorem dX7_here_32 : decode cX7_here 32 = .ok (.bipush 32, 2) := dk_16 32 (dk_at dksX7_here_1 8 rfl rfl)
theorem dX7_here_34 : decode cX7_here 34 = .ok (.ireturn, 1) := dk_172 (dk_at dksX7_here_1 10 rfl rfl)
abbrev cX7_number : ByteArray := prog_4_method_5_code
def yX7_number : MethodName := ⟨RX7, "number", "()I"⟩
def dkwX7_number_1 : List UInt8 := [182, 0, 52, 16, 57, 163, 0, 17, 16, 10, 27, 104, 42, 16, 57, 182, 0, 56, 96, 167, 0, 4, 27, 172]
abbrev dktX7_number_1 : List UInt8 := dkwX7_number_1 ++ []
def dkwX7_number_0 : List UInt8 := [42, 16, 57, 182, 0, 56, 60, 42, 180, 0, 34, 154, 0, 35, 42, 182, 0, 52, 16, 48, 161, 0, 26, 42]
abbrev dktX7_number_0 : List UInt8 := dkwX7_number_0 ++ dktX7_number_1
theorem dksX7_number_0 : cX7_number.data.toList.drop 0 = dktX7_number_0 := by decide +kernel
theorem dksX7_number_1 : cX7_number.data.toList.drop 24 = dktX7_number_1 := dk_seg dksX7_number_0 24 rfl rfl
theorem dX7_number_0 : decode cX7_number 0 = .ok (.aload_n 0, 1) := dk_42 (dk_at dksX7_number_0 0 rfl rfl)
theorem dX7_number_1 : decode cX7_number 1 = .ok (.bipush 57, 2) := dk_16 57 (dk_at dksX7_number_0 1 rfl rfl)
theorem dX7_number_3 : decode cX7_number 3 = .ok (.invokevirtual 56, 3) := dk_182 0 56 (dk_at dksX7_number_0 3 rfl rfl)
theorem dX7_number_6 : decode cX7_number 6 = .ok (.istore_n 1, 1) := dk_60 (dk_at dksX7_number_0 6 rfl rfl)
theorem dX7_number_7 : decode cX7_number 7 = .ok (.aload_n 0, 1) := dk_42 (dk_at dksX7_number_0 7 rfl rfl)
theorem dX7_number_8 : decode cX7_number 8 = .ok (.getfield 34, 3) := dk_180 0 34 (dk_at dksX7_number_0 8 rfl rfl)
theorem dX7_number_11 : decode cX7_number 11 = .ok (.ifCond .ne 35, 3) := dk_154 0 35 (dk_at dksX7_number_0 11 rfl rfl)
theorem dX7_number_14 : decode cX7_number 14 = .ok (.aload_n 0, 1) := dk_42 (dk_at dksX7_number_0 14 rfl rfl)
theorem dX7_number_15 : decode cX7_number 15 = .ok (.invokevirtual 52, 3) := dk_182 0 52 (dk_at dksX7_number_0 15 rfl rfl)
theorem dX7_number_18 : decode cX7_number 18 = .ok (.bipush 48, 2) := dk_16 48 (dk_at dksX7_number_0 18 rfl rfl)
theorem dX7_number_20 : decode cX7_number 20 = .ok (.if_icmp .lt 26, 3) := dk_161 0 26 (dk_at dksX7_number_0 20 rfl rfl)
theorem dX7_number_23 : decode cX7_number 23 = .ok (.aload_n 0, 1) := dk_42 (dk_at dksX7_number_0 23 rfl rfl)
theorem dX7_number_24 : decode cX7_number 24 = .ok (.invokevirtual 52, 3) := dk_182 0 52 (dk_at dksX7_number_1 0 rfl rfl)
theorem dX7_number_27 : decode cX7_number 27 = .ok (.bipush 57, 2) := dk_16 57 (dk_at dksX7_number_1 3 rfl rfl)
theorem dX7_number_29 : decode cX7_number 29 = .ok (.if_icmp .gt 17, 3) := dk_163 0 17 (dk_at dksX7_number_1 5 rfl rfl)
theorem dX7_number_32 : decode cX7_number 32 = .ok (.bipush 10, 2) := dk_16 10 (dk_at dksX7_number_1 8 rfl rfl)
theorem dX7_number_34 : decode cX7_number 34 = .ok (.iload_n 1, 1) := dk_27 (dk_at dksX7_number_1 10 rfl rfl)
theorem dX7_number_35 : decode cX7_number 35 = .ok (.imul, 1) := dk_104 (dk_at dksX7_number_1 11 rfl rfl)
theorem dX7_number_36 : decode cX7_number 36 = .ok (.aload_n 0, 1) := dk_42 (dk_at dksX7_number_1 12 rfl rfl)
theorem dX7_number_37 : decode cX7_number 37 = .ok (.bipush 57, 2) := dk_16 57 (dk_at dksX7_number_1 13 rfl rfl)
theorem dX7_number_39 : decode cX7_number 39 = .ok (.invokevirtual 56, 3) := dk_182 0 56 (dk_at dksX7_number_1 15 rfl rfl)
theorem dX7_number_42 : decode cX7_number 42 = .ok (.iadd, 1) := dk_96 (dk_at dksX7_number_1 18 rfl rfl)
theorem dX7_number_43 : decode cX7_number 43 = .ok (.goto 4, 3) := dk_167 0 4 (dk_at dksX7_number_1 19 rfl rfl)
theorem dX7_number_46 : decode cX7_number 46 = .ok (.iload_n 1, 1) := dk_27 (dk_at dksX7_number_1 22 rfl rfl)
theorem dX7_number_47 : decode cX7_number 47 = .ok (.ireturn, 1) := dk_172 (dk_at dksX7_number_1 23 rfl rfl)
abbrev cX7_digit : ByteArray := prog_4_method_4_code
def yX7_digit : MethodName := ⟨RX7, "digit", "(C)I"⟩
def dkwX7_digit_2 : List UInt8 := [180, 0, 38, 4, 100, 185, 0, 48, 2, 0, 16, 48, 100, 172]
abbrev dktX7_digit_2 : List UInt8 := dkwX7_digit_2 ++ []
def dkwX7_digit_1 : List UInt8 := [42, 4, 181, 0, 34, 3, 172, 42, 89, 180, 0, 38, 4, 96, 181, 0, 38, 42, 180, 0, 18, 42]
abbrev dktX7_digit_1 : List UInt8 := dkwX7_digit_1 ++ dktX7_digit_2
def dkwX7_digit_0 : List UInt8 := [42, 180, 0, 34, 154, 0, 20, 42, 182, 0, 52, 16, 48, 161, 0, 11, 42, 182, 0, 52, 27, 164, 0, 10]
abbrev dktX7_digit_0 : List UInt8 := dkwX7_digit_0 ++ dktX7_digit_1
theorem dksX7_digit_0 : cX7_digit.data.toList.drop 0 = dktX7_digit_0 := by decide +kernel
theorem dksX7_digit_1 : cX7_digit.data.toList.drop 24 = dktX7_digit_1 := dk_seg dksX7_digit_0 24 rfl rfl
theorem dksX7_digit_2 : cX7_digit.data.toList.drop 46 = dktX7_digit_2 := dk_seg dksX7_digit_1 22 rfl rfl
theorem dX7_digit_0 : decode cX7_digit 0 = .ok (.aload_n 0, 1) := dk_42 (dk_at dksX7_digit_0 0 rfl rfl)
theorem dX7_digit_1 : decode cX7_digit 1 = .ok (.getfield 34, 3) := dk_180 0 34 (dk_at dksX7_digit_0 1 rfl rfl)
theorem dX7_digit_4 : decode cX7_digit 4 = .ok (.ifCond .ne 20, 3) := dk_154 0 20 (dk_at dksX7_digit_0 4 rfl rfl)
theorem dX7_digit_7 : decode cX7_digit 7 = .ok (.aload_n 0, 1) := dk_42 (dk_at dksX7_digit_0 7 rfl rfl)
theorem dX7_digit_8 : decode cX7_digit 8 = .ok (.invokevirtual 52, 3) := dk_182 0 52 (dk_at dksX7_digit_0 8 rfl rfl)
theorem dX7_digit_11 : decode cX7_digit 11 = .ok (.bipush 48, 2) := dk_16 48 (dk_at dksX7_digit_0 11 rfl rfl)
theorem dX7_digit_13 : decode cX7_digit 13 = .ok (.if_icmp .lt 11, 3) := dk_161 0 11 (dk_at dksX7_digit_0 13 rfl rfl)
theorem dX7_digit_16 : decode cX7_digit 16 = .ok (.aload_n 0, 1) := dk_42 (dk_at dksX7_digit_0 16 rfl rfl)
theorem dX7_digit_17 : decode cX7_digit 17 = .ok (.invokevirtual 52, 3) := dk_182 0 52 (dk_at dksX7_digit_0 17 rfl rfl)
theorem dX7_digit_20 : decode cX7_digit 20 = .ok (.iload_n 1, 1) := dk_27 (dk_at dksX7_digit_0 20 rfl rfl)
theorem dX7_digit_21 : decode cX7_digit 21 = .ok (.if_icmp .le 10, 3) := dk_164 0 10 (dk_at dksX7_digit_0 21 rfl rfl)
theorem dX7_digit_24 : decode cX7_digit 24 = .ok (.aload_n 0, 1) := dk_42 (dk_at dksX7_digit_1 0 rfl rfl)
theorem dX7_digit_25 : decode cX7_digit 25 = .ok (.iconst 1, 1) := dk_4 (dk_at dksX7_digit_1 1 rfl rfl)
theorem dX7_digit_26 : decode cX7_digit 26 = .ok (.putfield 34, 3) := dk_181 0 34 (dk_at dksX7_digit_1 2 rfl rfl)
theorem dX7_digit_29 : decode cX7_digit 29 = .ok (.iconst 0, 1) := dk_3 (dk_at dksX7_digit_1 5 rfl rfl)
theorem dX7_digit_30 : decode cX7_digit 30 = .ok (.ireturn, 1) := dk_172 (dk_at dksX7_digit_1 6 rfl rfl)
theorem dX7_digit_31 : decode cX7_digit 31 = .ok (.aload_n 0, 1) := dk_42 (dk_at dksX7_digit_1 7 rfl rfl)
theorem dX7_digit_32 : decode cX7_digit 32 = .ok (.dup, 1) := dk_89 (dk_at dksX7_digit_1 8 rfl rfl)
theorem dX7_digit_33 : decode cX7_digit 33 = .ok (.getfield 38, 3) := dk_180 0 38 (dk_at dksX7_digit_1 9 rfl rfl)
theorem dX7_digit_36 : decode cX7_digit 36 = .ok (.iconst 1, 1) := dk_4 (dk_at dksX7_digit_1 12 rfl rfl)
theorem dX7_digit_37 : decode cX7_digit 37 = .ok (.iadd, 1) := dk_96 (dk_at dksX7_digit_1 13 rfl rfl)
theorem dX7_digit_38 : decode cX7_digit 38 = .ok (.putfield 38, 3) := dk_181 0 38 (dk_at dksX7_digit_1 14 rfl rfl)
theorem dX7_digit_41 : decode cX7_digit 41 = .ok (.aload_n 0, 1) := dk_42 (dk_at dksX7_digit_1 17 rfl rfl)
theorem dX7_digit_42 : decode cX7_digit 42 = .ok (.getfield 18, 3) := dk_180 0 18 (dk_at dksX7_digit_1 18 rfl rfl)
theorem dX7_digit_45 : decode cX7_digit 45 = .ok (.aload_n 0, 1) := dk_42 (dk_at dksX7_digit_1 21 rfl rfl)
theorem dX7_digit_46 : decode cX7_digit 46 = .ok (.getfield 38, 3) := dk_180 0 38 (dk_at dksX7_digit_2 0 rfl rfl)
theorem dX7_digit_49 : decode cX7_digit 49 = .ok (.iconst 1, 1) := dk_4 (dk_at dksX7_digit_2 3 rfl rfl)
theorem dX7_digit_50 : decode cX7_digit 50 = .ok (.isub, 1) := dk_100 (dk_at dksX7_digit_2 4 rfl rfl)
theorem dX7_digit_51 : decode cX7_digit 51 = .ok (.invokeinterface 48 2, 5) := by decide +kernel
theorem dX7_digit_56 : decode cX7_digit 56 = .ok (.bipush 48, 2) := dk_16 48 (dk_at dksX7_digit_2 10 rfl rfl)
theorem dX7_digit_58 : decode cX7_digit 58 = .ok (.isub, 1) := dk_100 (dk_at dksX7_digit_2 12 rfl rfl)
theorem dX7_digit_59 : decode cX7_digit 59 = .ok (.ireturn, 1) := dk_172 (dk_at dksX7_digit_2 13 rfl rfl)
abbrev cX7_takes : ByteArray := prog_4_method_3_code
def yX7_takes : MethodName := ⟨RX7, "takes", "(C)Z"⟩
def dkwX7_takes_1 : List UInt8 := [180, 0, 38, 28, 153, 0, 7, 4, 167, 0, 4, 3, 96, 181, 0, 38, 28, 172]
abbrev dktX7_takes_1 : List UInt8 := dkwX7_takes_1 ++ []
def dkwX7_takes_0 : List UInt8 := [42, 180, 0, 34, 154, 0, 15, 42, 182, 0, 52, 27, 160, 0, 7, 4, 167, 0, 4, 3, 61, 42, 89]
abbrev dktX7_takes_0 : List UInt8 := dkwX7_takes_0 ++ dktX7_takes_1
theorem dksX7_takes_0 : cX7_takes.data.toList.drop 0 = dktX7_takes_0 := by decide +kernel
theorem dksX7_takes_1 : cX7_takes.data.toList.drop 23 = dktX7_takes_1 := dk_seg dksX7_takes_0 23 rfl rfl
theorem dX7_takes_0 : decode cX7_takes 0 = .ok (.aload_n 0, 1) := dk_42 (dk_at dksX7_takes_0 0 rfl rfl)
theorem dX7_takes_1 : decode cX7_takes 1 = .ok (.getfield 34, 3) := dk_180 0 34 (dk_at dksX7_takes_0 1 rfl rfl)
theorem dX7_takes_4 : decode cX7_takes 4 = .ok (.ifCond .ne 15, 3) := dk_154 0 15 (dk_at dksX7_takes_0 4 rfl rfl)
theorem dX7_takes_7 : decode cX7_takes 7 = .ok (.aload_n 0, 1) := dk_42 (dk_at dksX7_takes_0 7 rfl rfl)
theorem dX7_takes_8 : decode cX7_takes 8 = .ok (.invokevirtual 52, 3) := dk_182 0 52 (dk_at dksX7_takes_0 8 rfl rfl)
theorem dX7_takes_11 : decode cX7_takes 11 = .ok (.iload_n 1, 1) := dk_27 (dk_at dksX7_takes_0 11 rfl rfl)
theorem dX7_takes_12 : decode cX7_takes 12 = .ok (.if_icmp .ne 7, 3) := dk_160 0 7 (dk_at dksX7_takes_0 12 rfl rfl)
theorem dX7_takes_15 : decode cX7_takes 15 = .ok (.iconst 1, 1) := dk_4 (dk_at dksX7_takes_0 15 rfl rfl)
theorem dX7_takes_16 : decode cX7_takes 16 = .ok (.goto 4, 3) := dk_167 0 4 (dk_at dksX7_takes_0 16 rfl rfl)
theorem dX7_takes_19 : decode cX7_takes 19 = .ok (.iconst 0, 1) := dk_3 (dk_at dksX7_takes_0 19 rfl rfl)
theorem dX7_takes_20 : decode cX7_takes 20 = .ok (.istore_n 2, 1) := dk_61 (dk_at dksX7_takes_0 20 rfl rfl)
theorem dX7_takes_21 : decode cX7_takes 21 = .ok (.aload_n 0, 1) := dk_42 (dk_at dksX7_takes_0 21 rfl rfl)
theorem dX7_takes_22 : decode cX7_takes 22 = .ok (.dup, 1) := dk_89 (dk_at dksX7_takes_0 22 rfl rfl)
theorem dX7_takes_23 : decode cX7_takes 23 = .ok (.getfield 38, 3) := dk_180 0 38 (dk_at dksX7_takes_1 0 rfl rfl)
theorem dX7_takes_26 : decode cX7_takes 26 = .ok (.iload_n 2, 1) := dk_28 (dk_at dksX7_takes_1 3 rfl rfl)
theorem dX7_takes_27 : decode cX7_takes 27 = .ok (.ifCond .eq 7, 3) := dk_153 0 7 (dk_at dksX7_takes_1 4 rfl rfl)
theorem dX7_takes_30 : decode cX7_takes 30 = .ok (.iconst 1, 1) := dk_4 (dk_at dksX7_takes_1 7 rfl rfl)
theorem dX7_takes_31 : decode cX7_takes 31 = .ok (.goto 4, 3) := dk_167 0 4 (dk_at dksX7_takes_1 8 rfl rfl)
theorem dX7_takes_34 : decode cX7_takes 34 = .ok (.iconst 0, 1) := dk_3 (dk_at dksX7_takes_1 11 rfl rfl)
theorem dX7_takes_35 : decode cX7_takes 35 = .ok (.iadd, 1) := dk_96 (dk_at dksX7_takes_1 12 rfl rfl)
theorem dX7_takes_36 : decode cX7_takes 36 = .ok (.putfield 38, 3) := dk_181 0 38 (dk_at dksX7_takes_1 13 rfl rfl)
theorem dX7_takes_39 : decode cX7_takes 39 = .ok (.iload_n 2, 1) := dk_28 (dk_at dksX7_takes_1 16 rfl rfl)
theorem dX7_takes_40 : decode cX7_takes 40 = .ok (.ireturn, 1) := dk_172 (dk_at dksX7_takes_1 17 rfl rfl)
abbrev cX7_pattern : ByteArray := prog_4_method_7_code
def yX7_pattern : MethodName := ⟨RX7, "pattern", "(I)LSkerryLights$Command;"⟩
def dkwX7_pattern_3 : List UInt8 := [27, 28, 29, 183, 0, 66, 176]
abbrev dktX7_pattern_3 : List UInt8 := dkwX7_pattern_3 ++ []
def dkwX7_pattern_2 : List UInt8 := [89, 180, 0, 34, 29, 5, 162, 0, 7, 4, 167, 0, 4, 3, 128, 181, 0, 34, 187, 0, 64, 89, 16, 80]
abbrev dktX7_pattern_2 : List UInt8 := dkwX7_pattern_2 ++ dktX7_pattern_3
def dkwX7_pattern_1 : List UInt8 := [4, 167, 0, 4, 3, 96, 61, 132, 3, 1, 42, 89, 180, 0, 38, 4, 96, 181, 0, 38, 167, 255, 216, 42]
abbrev dktX7_pattern_1 : List UInt8 := dkwX7_pattern_1 ++ dktX7_pattern_2
def dkwX7_pattern_0 : List UInt8 := [3, 61, 3, 62, 42, 29, 182, 0, 60, 153, 0, 38, 5, 28, 104, 42, 182, 0, 52, 16, 42, 160, 0, 7]
abbrev dktX7_pattern_0 : List UInt8 := dkwX7_pattern_0 ++ dktX7_pattern_1
theorem dksX7_pattern_0 : cX7_pattern.data.toList.drop 0 = dktX7_pattern_0 := by decide +kernel
theorem dksX7_pattern_1 : cX7_pattern.data.toList.drop 24 = dktX7_pattern_1 := dk_seg dksX7_pattern_0 24 rfl rfl
theorem dksX7_pattern_2 : cX7_pattern.data.toList.drop 48 = dktX7_pattern_2 := dk_seg dksX7_pattern_1 24 rfl rfl
theorem dksX7_pattern_3 : cX7_pattern.data.toList.drop 72 = dktX7_pattern_3 := dk_seg dksX7_pattern_2 24 rfl rfl
theorem dX7_pattern_0 : decode cX7_pattern 0 = .ok (.iconst 0, 1) := dk_3 (dk_at dksX7_pattern_0 0 rfl rfl)
theorem dX7_pattern_1 : decode cX7_pattern 1 = .ok (.istore_n 2, 1) := dk_61 (dk_at dksX7_pattern_0 1 rfl rfl)
theorem dX7_pattern_2 : decode cX7_pattern 2 = .ok (.iconst 0, 1) := dk_3 (dk_at dksX7_pattern_0 2 rfl rfl)
theorem dX7_pattern_3 : decode cX7_pattern 3 = .ok (.istore_n 3, 1) := dk_62 (dk_at dksX7_pattern_0 3 rfl rfl)
theorem dX7_pattern_4 : decode cX7_pattern 4 = .ok (.aload_n 0, 1) := dk_42 (dk_at dksX7_pattern_0 4 rfl rfl)
theorem dX7_pattern_5 : decode cX7_pattern 5 = .ok (.iload_n 3, 1) := dk_29 (dk_at dksX7_pattern_0 5 rfl rfl)
theorem dX7_pattern_6 : decode cX7_pattern 6 = .ok (.invokevirtual 60, 3) := dk_182 0 60 (dk_at dksX7_pattern_0 6 rfl rfl)
theorem dX7_pattern_9 : decode cX7_pattern 9 = .ok (.ifCond .eq 38, 3) := dk_153 0 38 (dk_at dksX7_pattern_0 9 rfl rfl)
theorem dX7_pattern_12 : decode cX7_pattern 12 = .ok (.iconst 2, 1) := dk_5 (dk_at dksX7_pattern_0 12 rfl rfl)
theorem dX7_pattern_13 : decode cX7_pattern 13 = .ok (.iload_n 2, 1) := dk_28 (dk_at dksX7_pattern_0 13 rfl rfl)
theorem dX7_pattern_14 : decode cX7_pattern 14 = .ok (.imul, 1) := dk_104 (dk_at dksX7_pattern_0 14 rfl rfl)
theorem dX7_pattern_15 : decode cX7_pattern 15 = .ok (.aload_n 0, 1) := dk_42 (dk_at dksX7_pattern_0 15 rfl rfl)
theorem dX7_pattern_16 : decode cX7_pattern 16 = .ok (.invokevirtual 52, 3) := dk_182 0 52 (dk_at dksX7_pattern_0 16 rfl rfl)
theorem dX7_pattern_19 : decode cX7_pattern 19 = .ok (.bipush 42, 2) := dk_16 42 (dk_at dksX7_pattern_0 19 rfl rfl)
theorem dX7_pattern_21 : decode cX7_pattern 21 = .ok (.if_icmp .ne 7, 3) := dk_160 0 7 (dk_at dksX7_pattern_0 21 rfl rfl)
theorem dX7_pattern_24 : decode cX7_pattern 24 = .ok (.iconst 1, 1) := dk_4 (dk_at dksX7_pattern_1 0 rfl rfl)
theorem dX7_pattern_25 : decode cX7_pattern 25 = .ok (.goto 4, 3) := dk_167 0 4 (dk_at dksX7_pattern_1 1 rfl rfl)
theorem dX7_pattern_28 : decode cX7_pattern 28 = .ok (.iconst 0, 1) := dk_3 (dk_at dksX7_pattern_1 4 rfl rfl)
theorem dX7_pattern_29 : decode cX7_pattern 29 = .ok (.iadd, 1) := dk_96 (dk_at dksX7_pattern_1 5 rfl rfl)
theorem dX7_pattern_30 : decode cX7_pattern 30 = .ok (.istore_n 2, 1) := dk_61 (dk_at dksX7_pattern_1 6 rfl rfl)
theorem dX7_pattern_31 : decode cX7_pattern 31 = .ok (.iinc 3 1, 3) := dk_132 3 1 (dk_at dksX7_pattern_1 7 rfl rfl)
theorem dX7_pattern_34 : decode cX7_pattern 34 = .ok (.aload_n 0, 1) := dk_42 (dk_at dksX7_pattern_1 10 rfl rfl)
theorem dX7_pattern_35 : decode cX7_pattern 35 = .ok (.dup, 1) := dk_89 (dk_at dksX7_pattern_1 11 rfl rfl)
theorem dX7_pattern_36 : decode cX7_pattern 36 = .ok (.getfield 38, 3) := dk_180 0 38 (dk_at dksX7_pattern_1 12 rfl rfl)
theorem dX7_pattern_39 : decode cX7_pattern 39 = .ok (.iconst 1, 1) := dk_4 (dk_at dksX7_pattern_1 15 rfl rfl)
theorem dX7_pattern_40 : decode cX7_pattern 40 = .ok (.iadd, 1) := dk_96 (dk_at dksX7_pattern_1 16 rfl rfl)
theorem dX7_pattern_41 : decode cX7_pattern 41 = .ok (.putfield 38, 3) := dk_181 0 38 (dk_at dksX7_pattern_1 17 rfl rfl)
theorem dX7_pattern_44 : decode cX7_pattern 44 = .ok (.goto (-40), 3) := dk_167 255 216 (dk_at dksX7_pattern_1 20 rfl rfl)
theorem dX7_pattern_47 : decode cX7_pattern 47 = .ok (.aload_n 0, 1) := dk_42 (dk_at dksX7_pattern_1 23 rfl rfl)
theorem dX7_pattern_48 : decode cX7_pattern 48 = .ok (.dup, 1) := dk_89 (dk_at dksX7_pattern_2 0 rfl rfl)
theorem dX7_pattern_49 : decode cX7_pattern 49 = .ok (.getfield 34, 3) := dk_180 0 34 (dk_at dksX7_pattern_2 1 rfl rfl)
theorem dX7_pattern_52 : decode cX7_pattern 52 = .ok (.iload_n 3, 1) := dk_29 (dk_at dksX7_pattern_2 4 rfl rfl)
theorem dX7_pattern_53 : decode cX7_pattern 53 = .ok (.iconst 2, 1) := dk_5 (dk_at dksX7_pattern_2 5 rfl rfl)
theorem dX7_pattern_54 : decode cX7_pattern 54 = .ok (.if_icmp .ge 7, 3) := dk_162 0 7 (dk_at dksX7_pattern_2 6 rfl rfl)
theorem dX7_pattern_57 : decode cX7_pattern 57 = .ok (.iconst 1, 1) := dk_4 (dk_at dksX7_pattern_2 9 rfl rfl)
theorem dX7_pattern_58 : decode cX7_pattern 58 = .ok (.goto 4, 3) := dk_167 0 4 (dk_at dksX7_pattern_2 10 rfl rfl)
theorem dX7_pattern_61 : decode cX7_pattern 61 = .ok (.iconst 0, 1) := dk_3 (dk_at dksX7_pattern_2 13 rfl rfl)
theorem dX7_pattern_62 : decode cX7_pattern 62 = .ok (.ior, 1) := dk_128 (dk_at dksX7_pattern_2 14 rfl rfl)
theorem dX7_pattern_63 : decode cX7_pattern 63 = .ok (.putfield 34, 3) := dk_181 0 34 (dk_at dksX7_pattern_2 15 rfl rfl)
theorem dX7_pattern_66 : decode cX7_pattern 66 = .ok (.new 64, 3) := dk_187 0 64 (dk_at dksX7_pattern_2 18 rfl rfl)
theorem dX7_pattern_69 : decode cX7_pattern 69 = .ok (.dup, 1) := dk_89 (dk_at dksX7_pattern_2 21 rfl rfl)
theorem dX7_pattern_70 : decode cX7_pattern 70 = .ok (.bipush 80, 2) := dk_16 80 (dk_at dksX7_pattern_2 22 rfl rfl)
theorem dX7_pattern_72 : decode cX7_pattern 72 = .ok (.iload_n 1, 1) := dk_27 (dk_at dksX7_pattern_3 0 rfl rfl)
theorem dX7_pattern_73 : decode cX7_pattern 73 = .ok (.iload_n 2, 1) := dk_28 (dk_at dksX7_pattern_3 1 rfl rfl)
theorem dX7_pattern_74 : decode cX7_pattern 74 = .ok (.iload_n 3, 1) := dk_29 (dk_at dksX7_pattern_3 2 rfl rfl)
theorem dX7_pattern_75 : decode cX7_pattern 75 = .ok (.invokespecial 66, 3) := dk_183 0 66 (dk_at dksX7_pattern_3 3 rfl rfl)
theorem dX7_pattern_78 : decode cX7_pattern 78 = .ok (.areturn, 1) := dk_176 (dk_at dksX7_pattern_3 6 rfl rfl)
abbrev cX7_isSignHere : ByteArray := prog_4_method_6_code
def yX7_isSignHere : MethodName := ⟨RX7, "isSignHere", "(I)Z"⟩
def dkwX7_isSignHere_1 : List UInt8 := [182, 0, 52, 16, 46, 160, 0, 7, 4, 167, 0, 4, 3, 172]
abbrev dktX7_isSignHere_1 : List UInt8 := dkwX7_isSignHere_1 ++ []
def dkwX7_isSignHere_0 : List UInt8 := [42, 180, 0, 34, 154, 0, 31, 27, 16, 8, 162, 0, 25, 42, 182, 0, 52, 16, 42, 159, 0, 12, 42]
abbrev dktX7_isSignHere_0 : List UInt8 := dkwX7_isSignHere_0 ++ dktX7_isSignHere_1
theorem dksX7_isSignHere_0 : cX7_isSignHere.data.toList.drop 0 = dktX7_isSignHere_0 := by decide +kernel
theorem dksX7_isSignHere_1 : cX7_isSignHere.data.toList.drop 23 = dktX7_isSignHere_1 := dk_seg dksX7_isSignHere_0 23 rfl rfl
theorem dX7_isSignHere_0 : decode cX7_isSignHere 0 = .ok (.aload_n 0, 1) := dk_42 (dk_at dksX7_isSignHere_0 0 rfl rfl)
theorem dX7_isSignHere_1 : decode cX7_isSignHere 1 = .ok (.getfield 34, 3) := dk_180 0 34 (dk_at dksX7_isSignHere_0 1 rfl rfl)
theorem dX7_isSignHere_4 : decode cX7_isSignHere 4 = .ok (.ifCond .ne 31, 3) := dk_154 0 31 (dk_at dksX7_isSignHere_0 4 rfl rfl)
theorem dX7_isSignHere_7 : decode cX7_isSignHere 7 = .ok (.iload_n 1, 1) := dk_27 (dk_at dksX7_isSignHere_0 7 rfl rfl)
theorem dX7_isSignHere_8 : decode cX7_isSignHere 8 = .ok (.bipush 8, 2) := dk_16 8 (dk_at dksX7_isSignHere_0 8 rfl rfl)
theorem dX7_isSignHere_10 : decode cX7_isSignHere 10 = .ok (.if_icmp .ge 25, 3) := dk_162 0 25 (dk_at dksX7_isSignHere_0 10 rfl rfl)
theorem dX7_isSignHere_13 : decode cX7_isSignHere 13 = .ok (.aload_n 0, 1) := dk_42 (dk_at dksX7_isSignHere_0 13 rfl rfl)
theorem dX7_isSignHere_14 : decode cX7_isSignHere 14 = .ok (.invokevirtual 52, 3) := dk_182 0 52 (dk_at dksX7_isSignHere_0 14 rfl rfl)
theorem dX7_isSignHere_17 : decode cX7_isSignHere 17 = .ok (.bipush 42, 2) := dk_16 42 (dk_at dksX7_isSignHere_0 17 rfl rfl)
theorem dX7_isSignHere_19 : decode cX7_isSignHere 19 = .ok (.if_icmp .eq 12, 3) := dk_159 0 12 (dk_at dksX7_isSignHere_0 19 rfl rfl)
theorem dX7_isSignHere_22 : decode cX7_isSignHere 22 = .ok (.aload_n 0, 1) := dk_42 (dk_at dksX7_isSignHere_0 22 rfl rfl)
theorem dX7_isSignHere_23 : decode cX7_isSignHere 23 = .ok (.invokevirtual 52, 3) := dk_182 0 52 (dk_at dksX7_isSignHere_1 0 rfl rfl)
theorem dX7_isSignHere_26 : decode cX7_isSignHere 26 = .ok (.bipush 46, 2) := dk_16 46 (dk_at dksX7_isSignHere_1 3 rfl rfl)
theorem dX7_isSignHere_28 : decode cX7_isSignHere 28 = .ok (.if_icmp .ne 7, 3) := dk_160 0 7 (dk_at dksX7_isSignHere_1 5 rfl rfl)
theorem dX7_isSignHere_31 : decode cX7_isSignHere 31 = .ok (.iconst 1, 1) := dk_4 (dk_at dksX7_isSignHere_1 8 rfl rfl)
theorem dX7_isSignHere_32 : decode cX7_isSignHere 32 = .ok (.goto 4, 3) := dk_167 0 4 (dk_at dksX7_isSignHere_1 9 rfl rfl)
theorem dX7_isSignHere_35 : decode cX7_isSignHere 35 = .ok (.iconst 0, 1) := dk_3 (dk_at dksX7_isSignHere_1 12 rfl rfl)
theorem dX7_isSignHere_36 : decode cX7_isSignHere 36 = .ok (.ireturn, 1) := dk_172 (dk_at dksX7_isSignHere_1 13 rfl rfl)
theorem q157 : (Jvm.Cond.initialized "SkerryLights$Reader") ∈ lw_all := lw_g (lw_at lw_m1 53 rfl) rfl
theorem q318 : (Jvm.Cond.selects "SkerryLights$Reader" ({ cls := "java/lang/Object", name := "getClass", desc := "()Ljava/lang/Class;" } : Jvm.MethodName) ({ cls := "java/lang/Object", name := "getClass", desc := "()Ljava/lang/Class;" } : Jvm.MethodName)) ∈ lw_all := lw_g (lw_at lw_m1 214 rfl) rfl
theorem q2209 : (Jvm.Cond.instantiable "SkerryLights$Reader" (4 : Nat)) ∈ lw_all := lw_g (lw_at lw_m9 185 rfl) rfl
theorem q2212 : (Jvm.Cond.instanceMethod ({ cls := "SkerryLights$Reader", name := "<init>", desc := "(Ljava/lang/CharSequence;)V" } : Jvm.MethodName)) ∈ lw_all := lw_g (lw_at lw_m9 188 rfl) rfl
theorem q2213 : (Jvm.Cond.code ({ cls := "SkerryLights$Reader", name := "<init>", desc := "(Ljava/lang/CharSequence;)V" } : Jvm.MethodName) prog_4_method_1_code (2 : Nat) (Option.none : Option Jvm.ClassFile.FieldType)) ∈ lw_all := lw_g (lw_at lw_m9 189 rfl) rfl
theorem q2214 : (Jvm.Cond.methodLink "SkerryLights$Reader" (3 : Nat) ({ cls := "java/lang/Object", name := "<init>", desc := "()V" } : Jvm.MethodName)) ∈ lw_all := lw_g (lw_at lw_m9 190 rfl) rfl
theorem q2215 : (Jvm.Cond.classLink "SkerryLights$Reader" (9 : Nat) "java/util/LinkedList") ∈ lw_all := lw_g (lw_at lw_m9 191 rfl) rfl
theorem q2216 : (Jvm.Cond.methodLink "SkerryLights$Reader" (11 : Nat) ({ cls := "java/util/LinkedList", name := "<init>", desc := "()V" } : Jvm.MethodName)) ∈ lw_all := lw_g (lw_at lw_m9 192 rfl) rfl
theorem q2217 : (Jvm.Cond.methodLink "SkerryLights$Reader" (22 : Nat) ({ cls := "SkerryLights$Reader", name := "command", desc := "()LSkerryLights$Command;" } : Jvm.MethodName)) ∈ lw_all := lw_g (lw_at lw_m9 193 rfl) rfl
theorem q2218 : (Jvm.Cond.privateMethod ({ cls := "SkerryLights$Reader", name := "command", desc := "()LSkerryLights$Command;" } : Jvm.MethodName)) ∈ lw_tbl := lw_at lw_m9 194 rfl
theorem q2219 : (Jvm.Cond.instanceMethod ({ cls := "SkerryLights$Reader", name := "command", desc := "()LSkerryLights$Command;" } : Jvm.MethodName)) ∈ lw_all := lw_g (lw_at lw_m9 195 rfl) rfl
theorem q2220 : (Jvm.Cond.code ({ cls := "SkerryLights$Reader", name := "command", desc := "()LSkerryLights$Command;" } : Jvm.MethodName) prog_4_method_8_code (3 : Nat) (Option.some (Jvm.ClassFile.FieldType.object "SkerryLights$Command"))) ∈ lw_all := lw_g (lw_at lw_m9 196 rfl) rfl
theorem q2221 : (Jvm.Cond.methodLink "SkerryLights$Reader" (52 : Nat) ({ cls := "SkerryLights$Reader", name := "here", desc := "()C" } : Jvm.MethodName)) ∈ lw_all := lw_g (lw_at lw_m9 197 rfl) rfl
theorem q2222 : (Jvm.Cond.privateMethod ({ cls := "SkerryLights$Reader", name := "here", desc := "()C" } : Jvm.MethodName)) ∈ lw_tbl := lw_at lw_m9 198 rfl
theorem q2223 : (Jvm.Cond.instanceMethod ({ cls := "SkerryLights$Reader", name := "here", desc := "()C" } : Jvm.MethodName)) ∈ lw_all := lw_g (lw_at lw_m9 199 rfl) rfl
theorem q2224 : (Jvm.Cond.code ({ cls := "SkerryLights$Reader", name := "here", desc := "()C" } : Jvm.MethodName) prog_4_method_2_code (1 : Nat) (Option.some Jvm.ClassFile.FieldType.char)) ∈ lw_all := lw_g (lw_at lw_m9 200 rfl) rfl
theorem q2225 : (Jvm.Cond.interfaceEntry "SkerryLights$Reader" (42 : Nat)) ∈ lw_tbl := lw_at lw_m9 201 rfl
theorem q2226 : (Jvm.Cond.methodLink "SkerryLights$Reader" (42 : Nat) ({ cls := "java/lang/CharSequence", name := "length", desc := "()I" } : Jvm.MethodName)) ∈ lw_all := lw_g (lw_at lw_m9 202 rfl) rfl
theorem q2227 : (Jvm.Cond.interfaceEntry "SkerryLights$Reader" (48 : Nat)) ∈ lw_tbl := lw_at lw_m9 203 rfl
theorem q2228 : (Jvm.Cond.methodLink "SkerryLights$Reader" (48 : Nat) ({ cls := "java/lang/CharSequence", name := "charAt", desc := "(I)C" } : Jvm.MethodName)) ∈ lw_all := lw_g (lw_at lw_m9 204 rfl) rfl
theorem q2229 : (Jvm.Cond.stringRef "SkerryLights$Reader" (69 : Nat) "LDBMSFPN") ∈ lw_tbl := lw_at lw_m9 205 rfl
theorem q2230 : (Jvm.Cond.methodLink "SkerryLights$Reader" (71 : Nat) ({ cls := "java/lang/String", name := "indexOf", desc := "(I)I" } : Jvm.MethodName)) ∈ lw_all := lw_g (lw_at lw_m9 206 rfl) rfl
theorem q2276 : (Jvm.Cond.classLink "SkerryLights$Reader" (64 : Nat) "SkerryLights$Command") ∈ lw_all := lw_g (lw_at lw_m10 12 rfl) rfl
theorem q2278 : (Jvm.Cond.methodLink "SkerryLights$Reader" (77 : Nat) ({ cls := "SkerryLights$Reader", name := "number", desc := "()I" } : Jvm.MethodName)) ∈ lw_all := lw_g (lw_at lw_m10 14 rfl) rfl
theorem q2279 : (Jvm.Cond.privateMethod ({ cls := "SkerryLights$Reader", name := "number", desc := "()I" } : Jvm.MethodName)) ∈ lw_tbl := lw_at lw_m10 15 rfl
theorem q2280 : (Jvm.Cond.instanceMethod ({ cls := "SkerryLights$Reader", name := "number", desc := "()I" } : Jvm.MethodName)) ∈ lw_all := lw_g (lw_at lw_m10 16 rfl) rfl
theorem q2281 : (Jvm.Cond.code ({ cls := "SkerryLights$Reader", name := "number", desc := "()I" } : Jvm.MethodName) prog_4_method_5_code (2 : Nat) (Option.some Jvm.ClassFile.FieldType.int)) ∈ lw_all := lw_g (lw_at lw_m10 17 rfl) rfl
theorem q2282 : (Jvm.Cond.methodLink "SkerryLights$Reader" (56 : Nat) ({ cls := "SkerryLights$Reader", name := "digit", desc := "(C)I" } : Jvm.MethodName)) ∈ lw_all := lw_g (lw_at lw_m10 18 rfl) rfl
theorem q2283 : (Jvm.Cond.privateMethod ({ cls := "SkerryLights$Reader", name := "digit", desc := "(C)I" } : Jvm.MethodName)) ∈ lw_tbl := lw_at lw_m10 19 rfl
theorem q2284 : (Jvm.Cond.instanceMethod ({ cls := "SkerryLights$Reader", name := "digit", desc := "(C)I" } : Jvm.MethodName)) ∈ lw_all := lw_g (lw_at lw_m10 20 rfl) rfl
theorem q2285 : (Jvm.Cond.code ({ cls := "SkerryLights$Reader", name := "digit", desc := "(C)I" } : Jvm.MethodName) prog_4_method_4_code (2 : Nat) (Option.some Jvm.ClassFile.FieldType.int)) ∈ lw_all := lw_g (lw_at lw_m10 21 rfl) rfl
theorem q2286 : (Jvm.Cond.methodLink "SkerryLights$Reader" (66 : Nat) ({ cls := "SkerryLights$Command", name := "<init>", desc := "(CIII)V" } : Jvm.MethodName)) ∈ lw_all := lw_g (lw_at lw_m10 22 rfl) rfl
theorem q2307 : (Jvm.Cond.methodLink "SkerryLights$Reader" (30 : Nat) ({ cls := "SkerryLights$Reader", name := "takes", desc := "(C)Z" } : Jvm.MethodName)) ∈ lw_all := lw_g (lw_at lw_m10 43 rfl) rfl
theorem q2308 : (Jvm.Cond.privateMethod ({ cls := "SkerryLights$Reader", name := "takes", desc := "(C)Z" } : Jvm.MethodName)) ∈ lw_tbl := lw_at lw_m10 44 rfl
theorem q2309 : (Jvm.Cond.instanceMethod ({ cls := "SkerryLights$Reader", name := "takes", desc := "(C)Z" } : Jvm.MethodName)) ∈ lw_all := lw_g (lw_at lw_m10 45 rfl) rfl
theorem q2310 : (Jvm.Cond.code ({ cls := "SkerryLights$Reader", name := "takes", desc := "(C)Z" } : Jvm.MethodName) prog_4_method_3_code (3 : Nat) (Option.some Jvm.ClassFile.FieldType.boolean)) ∈ lw_all := lw_g (lw_at lw_m10 46 rfl) rfl
theorem q2311 : (Jvm.Cond.methodLink "SkerryLights$Reader" (80 : Nat) ({ cls := "SkerryLights$Reader", name := "pattern", desc := "(I)LSkerryLights$Command;" } : Jvm.MethodName)) ∈ lw_all := lw_g (lw_at lw_m10 47 rfl) rfl
theorem q2312 : (Jvm.Cond.privateMethod ({ cls := "SkerryLights$Reader", name := "pattern", desc := "(I)LSkerryLights$Command;" } : Jvm.MethodName)) ∈ lw_tbl := lw_at lw_m10 48 rfl
theorem q2313 : (Jvm.Cond.instanceMethod ({ cls := "SkerryLights$Reader", name := "pattern", desc := "(I)LSkerryLights$Command;" } : Jvm.MethodName)) ∈ lw_all := lw_g (lw_at lw_m10 49 rfl) rfl
theorem q2314 : (Jvm.Cond.code ({ cls := "SkerryLights$Reader", name := "pattern", desc := "(I)LSkerryLights$Command;" } : Jvm.MethodName) prog_4_method_7_code (4 : Nat) (Option.some (Jvm.ClassFile.FieldType.object "SkerryLights$Command"))) ∈ lw_all := lw_g (lw_at lw_m10 50 rfl) rfl
theorem q2315 : (Jvm.Cond.methodLink "SkerryLights$Reader" (60 : Nat) ({ cls := "SkerryLights$Reader", name := "isSignHere", desc := "(I)Z" } : Jvm.MethodName)) ∈ lw_all := lw_g (lw_at lw_m10 51 rfl) rfl
theorem q2316 : (Jvm.Cond.privateMethod ({ cls := "SkerryLights$Reader", name := "isSignHere", desc := "(I)Z" } : Jvm.MethodName)) ∈ lw_tbl := lw_at lw_m10 52 rfl
theorem q2317 : (Jvm.Cond.instanceMethod ({ cls := "SkerryLights$Reader", name := "isSignHere", desc := "(I)Z" } : Jvm.MethodName)) ∈ lw_all := lw_g (lw_at lw_m10 53 rfl) rfl
theorem q2318 : (Jvm.Cond.code ({ cls := "SkerryLights$Reader", name := "isSignHere", desc := "(I)Z" } : Jvm.MethodName) prog_4_method_6_code (2 : Nat) (Option.some Jvm.ClassFile.FieldType.boolean)) ∈ lw_all := lw_g (lw_at lw_m10 54 rfl) rfl
theorem q2319 : (Jvm.Cond.methodLink "SkerryLights$Reader" (26 : Nat) ({ cls := "java/util/LinkedList", name := "add", desc := "(Ljava/lang/Object;)Z" } : Jvm.MethodName)) ∈ lw_all := lw_g (lw_at lw_m10 55 rfl) rfl
theorem q2320 : (Jvm.Cond.fieldLink "SkerryLights$Reader" (18 : Nat) "SkerryLights$Reader" "text" "Ljava/lang/CharSequence;") ∈ lw_all := lw_g (lw_at lw_m10 56 rfl) rfl
theorem q2321 : (Jvm.Cond.fieldLink "SkerryLights$Reader" (12 : Nat) "SkerryLights$Reader" "commands" "Ljava/util/LinkedList;") ∈ lw_all := lw_g (lw_at lw_m10 57 rfl) rfl
theorem q2323 : (Jvm.Cond.fieldLink "SkerryLights$Reader" (38 : Nat) "SkerryLights$Reader" "at" "I") ∈ lw_all := lw_g (lw_at lw_m10 59 rfl) rfl
theorem q2325 : (Jvm.Cond.fieldLink "SkerryLights$Reader" (34 : Nat) "SkerryLights$Reader" "isFaulty" "Z") ∈ lw_all := lw_g (lw_at lw_m10 61 rfl) rfl
theorem q2327 : (Jvm.Cond.laysFinal "SkerryLights$Reader" "SkerryLights$Reader" "text" "Ljava/lang/CharSequence;") ∈ lw_all := lw_g (lw_at lw_m10 63 rfl) rfl
theorem q2328 : (Jvm.Cond.soleField "SkerryLights$Reader" "text") ∈ lw_all := lw_g (lw_at lw_m10 64 rfl) rfl
theorem q2329 : (Jvm.Cond.laysFinal "SkerryLights$Reader" "SkerryLights$Reader" "commands" "Ljava/util/LinkedList;") ∈ lw_all := lw_g (lw_at lw_m10 65 rfl) rfl
theorem q2330 : (Jvm.Cond.soleField "SkerryLights$Reader" "commands") ∈ lw_all := lw_g (lw_at lw_m10 66 rfl) rfl
theorem q2331 : (Jvm.Cond.lays "SkerryLights$Reader" "SkerryLights$Reader" "at" "I") ∈ lw_all := lw_g (lw_at lw_m10 67 rfl) rfl
theorem q2332 : (Jvm.Cond.soleField "SkerryLights$Reader" "at") ∈ lw_all := lw_g (lw_at lw_m10 68 rfl) rfl
theorem q2333 : (Jvm.Cond.lays "SkerryLights$Reader" "SkerryLights$Reader" "isFaulty" "Z") ∈ lw_all := lw_g (lw_at lw_m10 69 rfl) rfl
theorem q2334 : (Jvm.Cond.soleField "SkerryLights$Reader" "isFaulty") ∈ lw_all := lw_g (lw_at lw_m10 70 rfl) rfl
theorem q2335 : (Jvm.Cond.superclass "SkerryLights$Reader" "java/lang/Object") ∈ lw_all := lw_g (lw_at lw_m10 71 rfl) rfl
theorem q2387 : (Jvm.Cond.selects "SkerryLights$Reader" ({ cls := "java/lang/Object", name := "equals", desc := "(Ljava/lang/Object;)Z" } : Jvm.MethodName) ({ cls := "java/lang/Object", name := "equals", desc := "(Ljava/lang/Object;)Z" } : Jvm.MethodName)) ∈ lw_all := lw_g (lw_at lw_m10 123 rfl) rfl
theorem q3122 : (Jvm.Cond.castable "SkerryLights$Reader" "java/lang/Object") ∈ lw_tbl := lw_at lw_m13 138 rfl
theorem in_X7 : ∀ w ∈ wsX70, w ∈ lw_all := lw_in wsX70 [2327, 2329, 2331, 2333] (by decide +kernel) (by decide +kernel)

/-! SkerryLights$Command -/
set_option maxRecDepth 100000
def RX8 : String := "SkerryLights$Command"
def TX8 : u_T := fun k => match k with
  | 0 => ("SkerryLights$Command", "does", "C", true)
  | 1 => ("SkerryLights$Command", "first", "I", true)
  | 2 => ("SkerryLights$Command", "second", "I", true)
  | _ => ("SkerryLights$Command", "many", "I", true)
def tyX8 : Nat → FieldType := fun k => match k with
  | 0 => .char
  | 1 => .int
  | 2 => .int
  | _ => .int
abbrev wsX80 : List Cond := u_ws RX8 TX8 4
theorem nmX8 : ∀ a, a < 4 → ∀ b, b < 4 → a ≠ b → (TX8 a).2.1 ≠ (TX8 b).2.1 := by decide +kernel
theorem tyX8_ok : ∀ k, k < 4 → parseFieldDescriptor (TX8 k).2.2.1 = some (tyX8 k) := by decide +kernel
abbrev cX8_init : ByteArray := prog_2_method_1_code
def yX8_init : MethodName := ⟨RX8, "<init>", "(CIII)V"⟩
def dkwX8_init_1 : List UInt8 := [181, 0, 20, 177]
abbrev dktX8_init_1 : List UInt8 := dkwX8_init_1 ++ []
def dkwX8_init_0 : List UInt8 := [42, 183, 0, 1, 42, 27, 181, 0, 7, 42, 28, 181, 0, 13, 42, 29, 181, 0, 17, 42, 21, 4]
abbrev dktX8_init_0 : List UInt8 := dkwX8_init_0 ++ dktX8_init_1
theorem dksX8_init_0 : cX8_init.data.toList.drop 0 = dktX8_init_0 := by decide +kernel
theorem dksX8_init_1 : cX8_init.data.toList.drop 22 = dktX8_init_1 := dk_seg dksX8_init_0 22 rfl rfl
theorem dX8_init_0 : decode cX8_init 0 = .ok (.aload_n 0, 1) := dk_42 (dk_at dksX8_init_0 0 rfl rfl)
theorem dX8_init_1 : decode cX8_init 1 = .ok (.invokespecial 1, 3) := dk_183 0 1 (dk_at dksX8_init_0 1 rfl rfl)
theorem dX8_init_4 : decode cX8_init 4 = .ok (.aload_n 0, 1) := dk_42 (dk_at dksX8_init_0 4 rfl rfl)
theorem dX8_init_5 : decode cX8_init 5 = .ok (.iload_n 1, 1) := dk_27 (dk_at dksX8_init_0 5 rfl rfl)
theorem dX8_init_6 : decode cX8_init 6 = .ok (.putfield 7, 3) := dk_181 0 7 (dk_at dksX8_init_0 6 rfl rfl)
theorem dX8_init_9 : decode cX8_init 9 = .ok (.aload_n 0, 1) := dk_42 (dk_at dksX8_init_0 9 rfl rfl)
theorem dX8_init_10 : decode cX8_init 10 = .ok (.iload_n 2, 1) := dk_28 (dk_at dksX8_init_0 10 rfl rfl)
theorem dX8_init_11 : decode cX8_init 11 = .ok (.putfield 13, 3) := dk_181 0 13 (dk_at dksX8_init_0 11 rfl rfl)
theorem dX8_init_14 : decode cX8_init 14 = .ok (.aload_n 0, 1) := dk_42 (dk_at dksX8_init_0 14 rfl rfl)
theorem dX8_init_15 : decode cX8_init 15 = .ok (.iload_n 3, 1) := dk_29 (dk_at dksX8_init_0 15 rfl rfl)
theorem dX8_init_16 : decode cX8_init 16 = .ok (.putfield 17, 3) := dk_181 0 17 (dk_at dksX8_init_0 16 rfl rfl)
theorem dX8_init_19 : decode cX8_init 19 = .ok (.aload_n 0, 1) := dk_42 (dk_at dksX8_init_0 19 rfl rfl)
theorem dX8_init_20 : decode cX8_init 20 = .ok (.iload 4, 2) := dk_21 4 (dk_at dksX8_init_0 20 rfl rfl)
theorem dX8_init_22 : decode cX8_init 22 = .ok (.putfield 20, 3) := dk_181 0 20 (dk_at dksX8_init_1 0 rfl rfl)
theorem dX8_init_25 : decode cX8_init 25 = .ok (.return_, 1) := dk_177 (dk_at dksX8_init_1 3 rfl rfl)
theorem q159 : (Jvm.Cond.initialized "SkerryLights$Command") ∈ lw_all := lw_g (lw_at lw_m1 55 rfl) rfl
theorem q316 : (Jvm.Cond.selects "SkerryLights$Command" ({ cls := "java/lang/Object", name := "getClass", desc := "()Ljava/lang/Class;" } : Jvm.MethodName) ({ cls := "java/lang/Object", name := "getClass", desc := "()Ljava/lang/Class;" } : Jvm.MethodName)) ∈ lw_all := lw_g (lw_at lw_m1 212 rfl) rfl
theorem q2277 : (Jvm.Cond.instantiable "SkerryLights$Command" (4 : Nat)) ∈ lw_all := lw_g (lw_at lw_m10 13 rfl) rfl
theorem q2287 : (Jvm.Cond.instanceMethod ({ cls := "SkerryLights$Command", name := "<init>", desc := "(CIII)V" } : Jvm.MethodName)) ∈ lw_all := lw_g (lw_at lw_m10 23 rfl) rfl
theorem q2288 : (Jvm.Cond.code ({ cls := "SkerryLights$Command", name := "<init>", desc := "(CIII)V" } : Jvm.MethodName) prog_2_method_1_code (5 : Nat) (Option.none : Option Jvm.ClassFile.FieldType)) ∈ lw_all := lw_g (lw_at lw_m10 24 rfl) rfl
theorem q2289 : (Jvm.Cond.methodLink "SkerryLights$Command" (1 : Nat) ({ cls := "java/lang/Object", name := "<init>", desc := "()V" } : Jvm.MethodName)) ∈ lw_all := lw_g (lw_at lw_m10 25 rfl) rfl
theorem q2290 : (Jvm.Cond.fieldLink "SkerryLights$Command" (7 : Nat) "SkerryLights$Command" "does" "C") ∈ lw_all := lw_g (lw_at lw_m10 26 rfl) rfl
theorem q2292 : (Jvm.Cond.fieldLink "SkerryLights$Command" (13 : Nat) "SkerryLights$Command" "first" "I") ∈ lw_all := lw_g (lw_at lw_m10 28 rfl) rfl
theorem q2294 : (Jvm.Cond.fieldLink "SkerryLights$Command" (17 : Nat) "SkerryLights$Command" "second" "I") ∈ lw_all := lw_g (lw_at lw_m10 30 rfl) rfl
theorem q2296 : (Jvm.Cond.fieldLink "SkerryLights$Command" (20 : Nat) "SkerryLights$Command" "many" "I") ∈ lw_all := lw_g (lw_at lw_m10 32 rfl) rfl
theorem q2298 : (Jvm.Cond.laysFinal "SkerryLights$Command" "SkerryLights$Command" "does" "C") ∈ lw_all := lw_g (lw_at lw_m10 34 rfl) rfl
theorem q2299 : (Jvm.Cond.soleField "SkerryLights$Command" "does") ∈ lw_all := lw_g (lw_at lw_m10 35 rfl) rfl
theorem q2300 : (Jvm.Cond.laysFinal "SkerryLights$Command" "SkerryLights$Command" "first" "I") ∈ lw_all := lw_g (lw_at lw_m10 36 rfl) rfl
theorem q2301 : (Jvm.Cond.soleField "SkerryLights$Command" "first") ∈ lw_all := lw_g (lw_at lw_m10 37 rfl) rfl
theorem q2302 : (Jvm.Cond.laysFinal "SkerryLights$Command" "SkerryLights$Command" "second" "I") ∈ lw_all := lw_g (lw_at lw_m10 38 rfl) rfl
theorem q2303 : (Jvm.Cond.soleField "SkerryLights$Command" "second") ∈ lw_all := lw_g (lw_at lw_m10 39 rfl) rfl
theorem q2304 : (Jvm.Cond.laysFinal "SkerryLights$Command" "SkerryLights$Command" "many" "I") ∈ lw_all := lw_g (lw_at lw_m10 40 rfl) rfl
theorem q2305 : (Jvm.Cond.soleField "SkerryLights$Command" "many") ∈ lw_all := lw_g (lw_at lw_m10 41 rfl) rfl
theorem q2306 : (Jvm.Cond.superclass "SkerryLights$Command" "java/lang/Object") ∈ lw_all := lw_g (lw_at lw_m10 42 rfl) rfl
theorem q2385 : (Jvm.Cond.selects "SkerryLights$Command" ({ cls := "java/lang/Object", name := "equals", desc := "(Ljava/lang/Object;)Z" } : Jvm.MethodName) ({ cls := "java/lang/Object", name := "equals", desc := "(Ljava/lang/Object;)Z" } : Jvm.MethodName)) ∈ lw_all := lw_g (lw_at lw_m10 121 rfl) rfl
theorem q3123 : (Jvm.Cond.castable "SkerryLights$Command" "java/lang/Object") ∈ lw_tbl := lw_at lw_m13 139 rfl
theorem in_X8 : ∀ w ∈ wsX80, w ∈ lw_all := lw_in wsX80 [2298, 2300, 2302, 2304] (by decide +kernel) (by decide +kernel)

/-! SkerryLights$Side$1 -/
set_option maxRecDepth 100000
def RX9 : String := "SkerryLights$Side$1"
abbrev cX9_has : ByteArray := prog_7_method_2_code
def yX9_has : MethodName := ⟨RX9, "has", "(II)Z"⟩
theorem dX9_has_0 : decode cX9_has 0 = .ok (.iconst 1, 1) := by decide +kernel
theorem dX9_has_1 : decode cX9_has 1 = .ok (.ireturn, 1) := by decide +kernel
theorem q320 : (Jvm.Cond.selects "SkerryLights$Side$1" ({ cls := "java/lang/Object", name := "getClass", desc := "()Ljava/lang/Class;" } : Jvm.MethodName) ({ cls := "java/lang/Object", name := "getClass", desc := "()Ljava/lang/Class;" } : Jvm.MethodName)) ∈ lw_all := lw_g (lw_at lw_m1 216 rfl) rfl
theorem q1266 : (Jvm.Cond.selects "SkerryLights$Side$1" ({ cls := "SkerryLights$Side", name := "has", desc := "(II)Z" } : Jvm.MethodName) ({ cls := "SkerryLights$Side$1", name := "has", desc := "(II)Z" } : Jvm.MethodName)) ∈ lw_all := lw_g (lw_at lw_m5 202 rfl) rfl
theorem q1267 : (Jvm.Cond.instanceMethod ({ cls := "SkerryLights$Side$1", name := "has", desc := "(II)Z" } : Jvm.MethodName)) ∈ lw_all := lw_g (lw_at lw_m5 203 rfl) rfl
theorem q1268 : (Jvm.Cond.code ({ cls := "SkerryLights$Side$1", name := "has", desc := "(II)Z" } : Jvm.MethodName) prog_7_method_2_code (3 : Nat) (Option.some Jvm.ClassFile.FieldType.boolean)) ∈ lw_all := lw_g (lw_at lw_m5 204 rfl) rfl
theorem q2389 : (Jvm.Cond.selects "SkerryLights$Side$1" ({ cls := "java/lang/Object", name := "equals", desc := "(Ljava/lang/Object;)Z" } : Jvm.MethodName) ({ cls := "java/lang/Enum", name := "equals", desc := "(Ljava/lang/Object;)Z" } : Jvm.MethodName)) ∈ lw_all := lw_g (lw_at lw_m10 125 rfl) rfl
theorem q3087 : (Jvm.Cond.castable "SkerryLights$Side$1" "SkerryLights$Side") ∈ lw_tbl := lw_at lw_m13 103 rfl
theorem q3098 : (Jvm.Cond.castable "SkerryLights$Side$1" "java/lang/Object") ∈ lw_tbl := lw_at lw_m13 114 rfl

/-! SkerryLights$Side$2 -/
set_option maxRecDepth 100000
def RX10 : String := "SkerryLights$Side$2"
abbrev cX10_has : ByteArray := prog_8_method_2_code
def yX10_has : MethodName := ⟨RX10, "has", "(II)Z"⟩
def dkwX10_has_0 : List UInt8 := [28, 27, 163, 0, 7, 4, 167, 0, 4, 3, 172]
abbrev dktX10_has_0 : List UInt8 := dkwX10_has_0 ++ []
theorem dksX10_has_0 : cX10_has.data.toList.drop 0 = dktX10_has_0 := by decide +kernel
theorem dX10_has_0 : decode cX10_has 0 = .ok (.iload_n 2, 1) := dk_28 (dk_at dksX10_has_0 0 rfl rfl)
theorem dX10_has_1 : decode cX10_has 1 = .ok (.iload_n 1, 1) := dk_27 (dk_at dksX10_has_0 1 rfl rfl)
theorem dX10_has_2 : decode cX10_has 2 = .ok (.if_icmp .gt 7, 3) := dk_163 0 7 (dk_at dksX10_has_0 2 rfl rfl)
theorem dX10_has_5 : decode cX10_has 5 = .ok (.iconst 1, 1) := dk_4 (dk_at dksX10_has_0 5 rfl rfl)
theorem dX10_has_6 : decode cX10_has 6 = .ok (.goto 4, 3) := dk_167 0 4 (dk_at dksX10_has_0 6 rfl rfl)
theorem dX10_has_9 : decode cX10_has 9 = .ok (.iconst 0, 1) := dk_3 (dk_at dksX10_has_0 9 rfl rfl)
theorem dX10_has_10 : decode cX10_has 10 = .ok (.ireturn, 1) := dk_172 (dk_at dksX10_has_0 10 rfl rfl)
theorem q321 : (Jvm.Cond.selects "SkerryLights$Side$2" ({ cls := "java/lang/Object", name := "getClass", desc := "()Ljava/lang/Class;" } : Jvm.MethodName) ({ cls := "java/lang/Object", name := "getClass", desc := "()Ljava/lang/Class;" } : Jvm.MethodName)) ∈ lw_all := lw_g (lw_at lw_m1 217 rfl) rfl
theorem q1269 : (Jvm.Cond.selects "SkerryLights$Side$2" ({ cls := "SkerryLights$Side", name := "has", desc := "(II)Z" } : Jvm.MethodName) ({ cls := "SkerryLights$Side$2", name := "has", desc := "(II)Z" } : Jvm.MethodName)) ∈ lw_all := lw_g (lw_at lw_m5 205 rfl) rfl
theorem q1270 : (Jvm.Cond.instanceMethod ({ cls := "SkerryLights$Side$2", name := "has", desc := "(II)Z" } : Jvm.MethodName)) ∈ lw_all := lw_g (lw_at lw_m5 206 rfl) rfl
theorem q1271 : (Jvm.Cond.code ({ cls := "SkerryLights$Side$2", name := "has", desc := "(II)Z" } : Jvm.MethodName) prog_8_method_2_code (3 : Nat) (Option.some Jvm.ClassFile.FieldType.boolean)) ∈ lw_all := lw_g (lw_at lw_m5 207 rfl) rfl
theorem q2392 : (Jvm.Cond.selects "SkerryLights$Side$2" ({ cls := "java/lang/Object", name := "equals", desc := "(Ljava/lang/Object;)Z" } : Jvm.MethodName) ({ cls := "java/lang/Enum", name := "equals", desc := "(Ljava/lang/Object;)Z" } : Jvm.MethodName)) ∈ lw_all := lw_g (lw_at lw_m10 128 rfl) rfl
theorem q3088 : (Jvm.Cond.castable "SkerryLights$Side$2" "SkerryLights$Side") ∈ lw_tbl := lw_at lw_m13 104 rfl
theorem q3099 : (Jvm.Cond.castable "SkerryLights$Side$2" "java/lang/Object") ∈ lw_tbl := lw_at lw_m13 115 rfl

/-! SkerryLights$Side$3 -/
set_option maxRecDepth 100000
def RX11 : String := "SkerryLights$Side$3"
abbrev cX11_has : ByteArray := prog_9_method_2_code
def yX11_has : MethodName := ⟨RX11, "has", "(II)Z"⟩
def dkwX11_has_0 : List UInt8 := [28, 27, 161, 0, 7, 4, 167, 0, 4, 3, 172]
abbrev dktX11_has_0 : List UInt8 := dkwX11_has_0 ++ []
theorem dksX11_has_0 : cX11_has.data.toList.drop 0 = dktX11_has_0 := by decide +kernel
theorem dX11_has_0 : decode cX11_has 0 = .ok (.iload_n 2, 1) := dk_28 (dk_at dksX11_has_0 0 rfl rfl)
theorem dX11_has_1 : decode cX11_has 1 = .ok (.iload_n 1, 1) := dk_27 (dk_at dksX11_has_0 1 rfl rfl)
theorem dX11_has_2 : decode cX11_has 2 = .ok (.if_icmp .lt 7, 3) := dk_161 0 7 (dk_at dksX11_has_0 2 rfl rfl)
theorem dX11_has_5 : decode cX11_has 5 = .ok (.iconst 1, 1) := dk_4 (dk_at dksX11_has_0 5 rfl rfl)
theorem dX11_has_6 : decode cX11_has 6 = .ok (.goto 4, 3) := dk_167 0 4 (dk_at dksX11_has_0 6 rfl rfl)
theorem dX11_has_9 : decode cX11_has 9 = .ok (.iconst 0, 1) := dk_3 (dk_at dksX11_has_0 9 rfl rfl)
theorem dX11_has_10 : decode cX11_has 10 = .ok (.ireturn, 1) := dk_172 (dk_at dksX11_has_0 10 rfl rfl)
theorem q322 : (Jvm.Cond.selects "SkerryLights$Side$3" ({ cls := "java/lang/Object", name := "getClass", desc := "()Ljava/lang/Class;" } : Jvm.MethodName) ({ cls := "java/lang/Object", name := "getClass", desc := "()Ljava/lang/Class;" } : Jvm.MethodName)) ∈ lw_all := lw_g (lw_at lw_m1 218 rfl) rfl
theorem q1272 : (Jvm.Cond.selects "SkerryLights$Side$3" ({ cls := "SkerryLights$Side", name := "has", desc := "(II)Z" } : Jvm.MethodName) ({ cls := "SkerryLights$Side$3", name := "has", desc := "(II)Z" } : Jvm.MethodName)) ∈ lw_all := lw_g (lw_at lw_m5 208 rfl) rfl
theorem q1273 : (Jvm.Cond.instanceMethod ({ cls := "SkerryLights$Side$3", name := "has", desc := "(II)Z" } : Jvm.MethodName)) ∈ lw_all := lw_g (lw_at lw_m5 209 rfl) rfl
theorem q1274 : (Jvm.Cond.code ({ cls := "SkerryLights$Side$3", name := "has", desc := "(II)Z" } : Jvm.MethodName) prog_9_method_2_code (3 : Nat) (Option.some Jvm.ClassFile.FieldType.boolean)) ∈ lw_all := lw_g (lw_at lw_m5 210 rfl) rfl
theorem q2393 : (Jvm.Cond.selects "SkerryLights$Side$3" ({ cls := "java/lang/Object", name := "equals", desc := "(Ljava/lang/Object;)Z" } : Jvm.MethodName) ({ cls := "java/lang/Enum", name := "equals", desc := "(Ljava/lang/Object;)Z" } : Jvm.MethodName)) ∈ lw_all := lw_g (lw_at lw_m10 129 rfl) rfl
theorem q3089 : (Jvm.Cond.castable "SkerryLights$Side$3" "SkerryLights$Side") ∈ lw_tbl := lw_at lw_m13 105 rfl
theorem q3100 : (Jvm.Cond.castable "SkerryLights$Side$3" "java/lang/Object") ∈ lw_tbl := lw_at lw_m13 116 rfl
