/-! DomeNights$Kind -/
set_option maxRecDepth 100000
def RX3 : String := "DomeNights$Kind"
def TX3 : u_T := fun k => match k with
  | 0 => ("DomeNights$Kind", "wear", "I", true)
  | 1 => ("DomeNights$Kind", "least", "I", true)
  | _ => ("DomeNights$Kind", "price", "I", false)
def tyX3 : Nat → FieldType := fun k => match k with
  | 0 => .int
  | 1 => .int
  | _ => .int
abbrev wsX30 : List Cond := u_ws RX3 TX3 3
theorem nmX3 : ∀ a, a < 3 → ∀ b, b < 3 → a ≠ b → (TX3 a).2.1 ≠ (TX3 b).2.1 := by decide +kernel
theorem tyX3_ok : ∀ k, k < 3 → parseFieldDescriptor (TX3 k).2.2.1 = some (tyX3 k) := by decide +kernel
abbrev cX3_init : ByteArray := prog_3_method_2_code
def yX3_init : MethodName := ⟨RX3, "<init>", "(LDomeNights$Kind;)V"⟩
def dkwX3_init_0 : List UInt8 := [42, 43, 180, 0, 7, 43, 180, 0, 13, 43, 180, 0, 16, 183, 0, 19, 177]
abbrev dktX3_init_0 : List UInt8 := dkwX3_init_0 ++ []
theorem dksX3_init_0 : cX3_init.data.toList.drop 0 = dktX3_init_0 := by decide +kernel
theorem dX3_init_0 : decode cX3_init 0 = .ok (.aload_n 0, 1) := dk_42 (dk_at dksX3_init_0 0 rfl rfl)
theorem dX3_init_1 : decode cX3_init 1 = .ok (.aload_n 1, 1) := dk_43 (dk_at dksX3_init_0 1 rfl rfl)
theorem dX3_init_2 : decode cX3_init 2 = .ok (.getfield 7, 3) := dk_180 0 7 (dk_at dksX3_init_0 2 rfl rfl)
theorem dX3_init_5 : decode cX3_init 5 = .ok (.aload_n 1, 1) := dk_43 (dk_at dksX3_init_0 5 rfl rfl)
theorem dX3_init_6 : decode cX3_init 6 = .ok (.getfield 13, 3) := dk_180 0 13 (dk_at dksX3_init_0 6 rfl rfl)
theorem dX3_init_9 : decode cX3_init 9 = .ok (.aload_n 1, 1) := dk_43 (dk_at dksX3_init_0 9 rfl rfl)
theorem dX3_init_10 : decode cX3_init 10 = .ok (.getfield 16, 3) := dk_180 0 16 (dk_at dksX3_init_0 10 rfl rfl)
theorem dX3_init_13 : decode cX3_init 13 = .ok (.invokespecial 19, 3) := dk_183 0 19 (dk_at dksX3_init_0 13 rfl rfl)
theorem dX3_init_16 : decode cX3_init 16 = .ok (.return_, 1) := dk_177 (dk_at dksX3_init_0 16 rfl rfl)
abbrev cX3_init_2 : ByteArray := prog_3_method_1_code
def yX3_init_2 : MethodName := ⟨RX3, "<init>", "(III)V"⟩
def dkwX3_init_2_0 : List UInt8 := [42, 183, 0, 1, 42, 27, 181, 0, 7, 42, 28, 181, 0, 13, 42, 29, 181, 0, 16, 177]
abbrev dktX3_init_2_0 : List UInt8 := dkwX3_init_2_0 ++ []
theorem dksX3_init_2_0 : cX3_init_2.data.toList.drop 0 = dktX3_init_2_0 := by decide +kernel
theorem dX3_init_2_0 : decode cX3_init_2 0 = .ok (.aload_n 0, 1) := dk_42 (dk_at dksX3_init_2_0 0 rfl rfl)
theorem dX3_init_2_1 : decode cX3_init_2 1 = .ok (.invokespecial 1, 3) := dk_183 0 1 (dk_at dksX3_init_2_0 1 rfl rfl)
theorem dX3_init_2_4 : decode cX3_init_2 4 = .ok (.aload_n 0, 1) := dk_42 (dk_at dksX3_init_2_0 4 rfl rfl)
theorem dX3_init_2_5 : decode cX3_init_2 5 = .ok (.iload_n 1, 1) := dk_27 (dk_at dksX3_init_2_0 5 rfl rfl)
theorem dX3_init_2_6 : decode cX3_init_2 6 = .ok (.putfield 7, 3) := dk_181 0 7 (dk_at dksX3_init_2_0 6 rfl rfl)
theorem dX3_init_2_9 : decode cX3_init_2 9 = .ok (.aload_n 0, 1) := dk_42 (dk_at dksX3_init_2_0 9 rfl rfl)
theorem dX3_init_2_10 : decode cX3_init_2 10 = .ok (.iload_n 2, 1) := dk_28 (dk_at dksX3_init_2_0 10 rfl rfl)
theorem dX3_init_2_11 : decode cX3_init_2 11 = .ok (.putfield 13, 3) := dk_181 0 13 (dk_at dksX3_init_2_0 11 rfl rfl)
theorem dX3_init_2_14 : decode cX3_init_2 14 = .ok (.aload_n 0, 1) := dk_42 (dk_at dksX3_init_2_0 14 rfl rfl)
theorem dX3_init_2_15 : decode cX3_init_2 15 = .ok (.iload_n 3, 1) := dk_29 (dk_at dksX3_init_2_0 15 rfl rfl)
theorem dX3_init_2_16 : decode cX3_init_2 16 = .ok (.putfield 16, 3) := dk_181 0 16 (dk_at dksX3_init_2_0 16 rfl rfl)
theorem dX3_init_2_19 : decode cX3_init_2 19 = .ok (.return_, 1) := dk_177 (dk_at dksX3_init_2_0 19 rfl rfl)
theorem q93 : (Jvm.Cond.initialized "DomeNights$Kind") ∈ lw_all := lw_g (lw_at lw_m1 17 rfl) rfl
theorem q416 : (Jvm.Cond.instantiable "DomeNights$Kind" (3 : Nat)) ∈ lw_all := lw_g (lw_at lw_m2 100 rfl) rfl
theorem q418 : (Jvm.Cond.instanceMethod ({ cls := "DomeNights$Kind", name := "<init>", desc := "(LDomeNights$Kind;)V" } : Jvm.MethodName)) ∈ lw_all := lw_g (lw_at lw_m2 102 rfl) rfl
theorem q419 : (Jvm.Cond.code ({ cls := "DomeNights$Kind", name := "<init>", desc := "(LDomeNights$Kind;)V" } : Jvm.MethodName) prog_3_method_2_code (2 : Nat) (Option.none : Option Jvm.ClassFile.FieldType)) ∈ lw_all := lw_g (lw_at lw_m2 103 rfl) rfl
theorem q420 : (Jvm.Cond.methodLink "DomeNights$Kind" (19 : Nat) ({ cls := "DomeNights$Kind", name := "<init>", desc := "(III)V" } : Jvm.MethodName)) ∈ lw_all := lw_g (lw_at lw_m2 104 rfl) rfl
theorem q421 : (Jvm.Cond.instanceMethod ({ cls := "DomeNights$Kind", name := "<init>", desc := "(III)V" } : Jvm.MethodName)) ∈ lw_all := lw_g (lw_at lw_m2 105 rfl) rfl
theorem q422 : (Jvm.Cond.code ({ cls := "DomeNights$Kind", name := "<init>", desc := "(III)V" } : Jvm.MethodName) prog_3_method_1_code (4 : Nat) (Option.none : Option Jvm.ClassFile.FieldType)) ∈ lw_all := lw_g (lw_at lw_m2 106 rfl) rfl
theorem q423 : (Jvm.Cond.methodLink "DomeNights$Kind" (1 : Nat) ({ cls := "java/lang/Object", name := "<init>", desc := "()V" } : Jvm.MethodName)) ∈ lw_all := lw_g (lw_at lw_m2 107 rfl) rfl
theorem q424 : (Jvm.Cond.fieldLink "DomeNights$Kind" (7 : Nat) "DomeNights$Kind" "wear" "I") ∈ lw_all := lw_g (lw_at lw_m2 108 rfl) rfl
theorem q427 : (Jvm.Cond.fieldLink "DomeNights$Kind" (13 : Nat) "DomeNights$Kind" "least" "I") ∈ lw_all := lw_g (lw_at lw_m2 111 rfl) rfl
theorem q430 : (Jvm.Cond.fieldLink "DomeNights$Kind" (16 : Nat) "DomeNights$Kind" "price" "I") ∈ lw_all := lw_g (lw_at lw_m2 114 rfl) rfl
theorem q433 : (Jvm.Cond.laysFinal "DomeNights$Kind" "DomeNights$Kind" "wear" "I") ∈ lw_all := lw_g (lw_at lw_m2 117 rfl) rfl
theorem q434 : (Jvm.Cond.soleField "DomeNights$Kind" "wear") ∈ lw_all := lw_g (lw_at lw_m2 118 rfl) rfl
theorem q435 : (Jvm.Cond.laysFinal "DomeNights$Kind" "DomeNights$Kind" "least" "I") ∈ lw_all := lw_g (lw_at lw_m2 119 rfl) rfl
theorem q436 : (Jvm.Cond.soleField "DomeNights$Kind" "least") ∈ lw_all := lw_g (lw_at lw_m2 120 rfl) rfl
theorem q437 : (Jvm.Cond.lays "DomeNights$Kind" "DomeNights$Kind" "price" "I") ∈ lw_all := lw_g (lw_at lw_m2 121 rfl) rfl
theorem q438 : (Jvm.Cond.soleField "DomeNights$Kind" "price") ∈ lw_all := lw_g (lw_at lw_m2 122 rfl) rfl
theorem q439 : (Jvm.Cond.superclass "DomeNights$Kind" "java/lang/Object") ∈ lw_all := lw_g (lw_at lw_m2 123 rfl) rfl
theorem q479 : (Jvm.Cond.selects "DomeNights$Kind" ({ cls := "java/lang/Object", name := "getClass", desc := "()Ljava/lang/Class;" } : Jvm.MethodName) ({ cls := "java/lang/Object", name := "getClass", desc := "()Ljava/lang/Class;" } : Jvm.MethodName)) ∈ lw_all := lw_g (lw_at lw_m2 163 rfl) rfl
theorem q1097 : (Jvm.Cond.selects "DomeNights$Kind" ({ cls := "java/lang/Object", name := "hashCode", desc := "()I" } : Jvm.MethodName) ({ cls := "java/lang/Object", name := "hashCode", desc := "()I" } : Jvm.MethodName)) ∈ lw_all := lw_g (lw_at lw_m5 61 rfl) rfl
theorem q1131 : (Jvm.Cond.selects "DomeNights$Kind" ({ cls := "java/lang/Object", name := "equals", desc := "(Ljava/lang/Object;)Z" } : Jvm.MethodName) ({ cls := "java/lang/Object", name := "equals", desc := "(Ljava/lang/Object;)Z" } : Jvm.MethodName)) ∈ lw_all := lw_g (lw_at lw_m5 95 rfl) rfl
theorem q2356 : (Jvm.Cond.castable "DomeNights$Kind" "java/lang/Object") ∈ lw_tbl := lw_at lw_m10 120 rfl
theorem in_X3 : ∀ w ∈ wsX30, w ∈ lw_all := lw_in wsX30 [433, 435, 437] (by decide +kernel) (by decide +kernel)
/-! DomeNights$Lamp -/
set_option maxRecDepth 100000
def RX4 : String := "DomeNights$Lamp"
def TX4 : u_T := fun k => match k with
  | 0 => ("DomeNights$Lamp", "life", "I", true)
  | 1 => ("DomeNights$Lamp", "used", "I", false)
  | _ => ("DomeNights$Lamp", "place", "I", false)
def tyX4 : Nat → FieldType := fun k => match k with
  | 0 => .int
  | 1 => .int
  | _ => .int
abbrev wsX40 : List Cond := u_ws RX4 TX4 3
theorem nmX4 : ∀ a, a < 3 → ∀ b, b < 3 → a ≠ b → (TX4 a).2.1 ≠ (TX4 b).2.1 := by decide +kernel
theorem tyX4_ok : ∀ k, k < 3 → parseFieldDescriptor (TX4 k).2.2.1 = some (tyX4 k) := by decide +kernel
abbrev cX4_init : ByteArray := prog_4_method_2_code
def yX4_init : MethodName := ⟨RX4, "<init>", "(LDomeNights$Lamp;)V"⟩
def dkwX4_init_1 : List UInt8 := [177]
abbrev dktX4_init_1 : List UInt8 := dkwX4_init_1 ++ []
def dkwX4_init_0 : List UInt8 := [42, 43, 180, 0, 15, 183, 0, 18, 42, 43, 180, 0, 21, 181, 0, 21, 42, 43, 180, 0, 9, 181, 0, 9]
abbrev dktX4_init_0 : List UInt8 := dkwX4_init_0 ++ dktX4_init_1
theorem dksX4_init_0 : cX4_init.data.toList.drop 0 = dktX4_init_0 := by decide +kernel
theorem dksX4_init_1 : cX4_init.data.toList.drop 24 = dktX4_init_1 := dk_seg dksX4_init_0 24 rfl rfl
theorem dX4_init_0 : decode cX4_init 0 = .ok (.aload_n 0, 1) := dk_42 (dk_at dksX4_init_0 0 rfl rfl)
theorem dX4_init_1 : decode cX4_init 1 = .ok (.aload_n 1, 1) := dk_43 (dk_at dksX4_init_0 1 rfl rfl)
theorem dX4_init_2 : decode cX4_init 2 = .ok (.getfield 15, 3) := dk_180 0 15 (dk_at dksX4_init_0 2 rfl rfl)
theorem dX4_init_5 : decode cX4_init 5 = .ok (.invokespecial 18, 3) := dk_183 0 18 (dk_at dksX4_init_0 5 rfl rfl)
theorem dX4_init_8 : decode cX4_init 8 = .ok (.aload_n 0, 1) := dk_42 (dk_at dksX4_init_0 8 rfl rfl)
theorem dX4_init_9 : decode cX4_init 9 = .ok (.aload_n 1, 1) := dk_43 (dk_at dksX4_init_0 9 rfl rfl)
theorem dX4_init_10 : decode cX4_init 10 = .ok (.getfield 21, 3) := dk_180 0 21 (dk_at dksX4_init_0 10 rfl rfl)
theorem dX4_init_13 : decode cX4_init 13 = .ok (.putfield 21, 3) := dk_181 0 21 (dk_at dksX4_init_0 13 rfl rfl)
theorem dX4_init_16 : decode cX4_init 16 = .ok (.aload_n 0, 1) := dk_42 (dk_at dksX4_init_0 16 rfl rfl)
theorem dX4_init_17 : decode cX4_init 17 = .ok (.aload_n 1, 1) := dk_43 (dk_at dksX4_init_0 17 rfl rfl)
theorem dX4_init_18 : decode cX4_init 18 = .ok (.getfield 9, 3) := dk_180 0 9 (dk_at dksX4_init_0 18 rfl rfl)
theorem dX4_init_21 : decode cX4_init 21 = .ok (.putfield 9, 3) := dk_181 0 9 (dk_at dksX4_init_0 21 rfl rfl)
theorem dX4_init_24 : decode cX4_init 24 = .ok (.return_, 1) := dk_177 (dk_at dksX4_init_1 0 rfl rfl)
abbrev cX4_init_2 : ByteArray := prog_4_method_1_code
def yX4_init_2 : MethodName := ⟨RX4, "<init>", "(I)V"⟩
def dkwX4_init_2_0 : List UInt8 := [42, 183, 0, 3, 42, 3, 181, 0, 9, 42, 27, 181, 0, 15, 177]
abbrev dktX4_init_2_0 : List UInt8 := dkwX4_init_2_0 ++ []
theorem dksX4_init_2_0 : cX4_init_2.data.toList.drop 0 = dktX4_init_2_0 := by decide +kernel
theorem dX4_init_2_0 : decode cX4_init_2 0 = .ok (.aload_n 0, 1) := dk_42 (dk_at dksX4_init_2_0 0 rfl rfl)
theorem dX4_init_2_1 : decode cX4_init_2 1 = .ok (.invokespecial 3, 3) := dk_183 0 3 (dk_at dksX4_init_2_0 1 rfl rfl)
theorem dX4_init_2_4 : decode cX4_init_2 4 = .ok (.aload_n 0, 1) := dk_42 (dk_at dksX4_init_2_0 4 rfl rfl)
theorem dX4_init_2_5 : decode cX4_init_2 5 = .ok (.iconst 0, 1) := dk_3 (dk_at dksX4_init_2_0 5 rfl rfl)
theorem dX4_init_2_6 : decode cX4_init_2 6 = .ok (.putfield 9, 3) := dk_181 0 9 (dk_at dksX4_init_2_0 6 rfl rfl)
theorem dX4_init_2_9 : decode cX4_init_2 9 = .ok (.aload_n 0, 1) := dk_42 (dk_at dksX4_init_2_0 9 rfl rfl)
theorem dX4_init_2_10 : decode cX4_init_2 10 = .ok (.iload_n 1, 1) := dk_27 (dk_at dksX4_init_2_0 10 rfl rfl)
theorem dX4_init_2_11 : decode cX4_init_2 11 = .ok (.putfield 15, 3) := dk_181 0 15 (dk_at dksX4_init_2_0 11 rfl rfl)
theorem dX4_init_2_14 : decode cX4_init_2 14 = .ok (.return_, 1) := dk_177 (dk_at dksX4_init_2_0 14 rfl rfl)
abbrev cX4_brightness : ByteArray := prog_4_method_3_code
def yX4_brightness : MethodName := ⟨RX4, "brightness", "()I"⟩
def dkwX4_brightness_1 : List UInt8 := [42, 180, 0, 15, 108, 100, 172]
abbrev dktX4_brightness_1 : List UInt8 := dkwX4_brightness_1 ++ []
def dkwX4_brightness_0 : List UInt8 := [42, 180, 0, 21, 42, 180, 0, 15, 161, 0, 7, 3, 167, 0, 18, 16, 100, 16, 60, 42, 180, 0, 21, 104]
abbrev dktX4_brightness_0 : List UInt8 := dkwX4_brightness_0 ++ dktX4_brightness_1
theorem dksX4_brightness_0 : cX4_brightness.data.toList.drop 0 = dktX4_brightness_0 := by decide +kernel
theorem dksX4_brightness_1 : cX4_brightness.data.toList.drop 24 = dktX4_brightness_1 := dk_seg dksX4_brightness_0 24 rfl rfl
theorem dX4_brightness_0 : decode cX4_brightness 0 = .ok (.aload_n 0, 1) := dk_42 (dk_at dksX4_brightness_0 0 rfl rfl)
theorem dX4_brightness_1 : decode cX4_brightness 1 = .ok (.getfield 21, 3) := dk_180 0 21 (dk_at dksX4_brightness_0 1 rfl rfl)
theorem dX4_brightness_4 : decode cX4_brightness 4 = .ok (.aload_n 0, 1) := dk_42 (dk_at dksX4_brightness_0 4 rfl rfl)
theorem dX4_brightness_5 : decode cX4_brightness 5 = .ok (.getfield 15, 3) := dk_180 0 15 (dk_at dksX4_brightness_0 5 rfl rfl)
theorem dX4_brightness_8 : decode cX4_brightness 8 = .ok (.if_icmp .lt 7, 3) := dk_161 0 7 (dk_at dksX4_brightness_0 8 rfl rfl)
theorem dX4_brightness_11 : decode cX4_brightness 11 = .ok (.iconst 0, 1) := dk_3 (dk_at dksX4_brightness_0 11 rfl rfl)
theorem dX4_brightness_12 : decode cX4_brightness 12 = .ok (.goto 18, 3) := dk_167 0 18 (dk_at dksX4_brightness_0 12 rfl rfl)
theorem dX4_brightness_15 : decode cX4_brightness 15 = .ok (.bipush 100, 2) := dk_16 100 (dk_at dksX4_brightness_0 15 rfl rfl)
theorem dX4_brightness_17 : decode cX4_brightness 17 = .ok (.bipush 60, 2) := dk_16 60 (dk_at dksX4_brightness_0 17 rfl rfl)
theorem dX4_brightness_19 : decode cX4_brightness 19 = .ok (.aload_n 0, 1) := dk_42 (dk_at dksX4_brightness_0 19 rfl rfl)
theorem dX4_brightness_20 : decode cX4_brightness 20 = .ok (.getfield 21, 3) := dk_180 0 21 (dk_at dksX4_brightness_0 20 rfl rfl)
theorem dX4_brightness_23 : decode cX4_brightness 23 = .ok (.imul, 1) := dk_104 (dk_at dksX4_brightness_0 23 rfl rfl)
theorem dX4_brightness_24 : decode cX4_brightness 24 = .ok (.aload_n 0, 1) := dk_42 (dk_at dksX4_brightness_1 0 rfl rfl)
theorem dX4_brightness_25 : decode cX4_brightness 25 = .ok (.getfield 15, 3) := dk_180 0 15 (dk_at dksX4_brightness_1 1 rfl rfl)
theorem dX4_brightness_28 : decode cX4_brightness 28 = .ok (.idiv, 1) := dk_108 (dk_at dksX4_brightness_1 4 rfl rfl)
theorem dX4_brightness_29 : decode cX4_brightness 29 = .ok (.isub, 1) := dk_100 (dk_at dksX4_brightness_1 5 rfl rfl)
theorem dX4_brightness_30 : decode cX4_brightness 30 = .ok (.ireturn, 1) := dk_172 (dk_at dksX4_brightness_1 6 rfl rfl)
abbrev cX4_wear : ByteArray := prog_4_method_4_code
def yX4_wear : MethodName := ⟨RX4, "wear", "(I)I"⟩
def dkwX4_wear_2 : List UInt8 := [181, 0, 9, 28, 172]
abbrev dktX4_wear_2 : List UInt8 := dkwX4_wear_2 ++ []
def dkwX4_wear_1 : List UInt8 := [181, 0, 21, 42, 42, 180, 0, 21, 42, 180, 0, 15, 160, 0, 7, 5, 167, 0, 7, 42, 180, 0, 9]
abbrev dktX4_wear_1 : List UInt8 := dkwX4_wear_1 ++ dktX4_wear_2
def dkwX4_wear_0 : List UInt8 := [27, 42, 180, 0, 15, 42, 180, 0, 21, 100, 184, 0, 24, 61, 42, 42, 180, 0, 21, 28, 184, 0, 30]
abbrev dktX4_wear_0 : List UInt8 := dkwX4_wear_0 ++ dktX4_wear_1
theorem dksX4_wear_0 : cX4_wear.data.toList.drop 0 = dktX4_wear_0 := by decide +kernel
theorem dksX4_wear_1 : cX4_wear.data.toList.drop 23 = dktX4_wear_1 := dk_seg dksX4_wear_0 23 rfl rfl
theorem dksX4_wear_2 : cX4_wear.data.toList.drop 46 = dktX4_wear_2 := dk_seg dksX4_wear_1 23 rfl rfl
theorem dX4_wear_0 : decode cX4_wear 0 = .ok (.iload_n 1, 1) := dk_27 (dk_at dksX4_wear_0 0 rfl rfl)
theorem dX4_wear_1 : decode cX4_wear 1 = .ok (.aload_n 0, 1) := dk_42 (dk_at dksX4_wear_0 1 rfl rfl)
theorem dX4_wear_2 : decode cX4_wear 2 = .ok (.getfield 15, 3) := dk_180 0 15 (dk_at dksX4_wear_0 2 rfl rfl)
theorem dX4_wear_5 : decode cX4_wear 5 = .ok (.aload_n 0, 1) := dk_42 (dk_at dksX4_wear_0 5 rfl rfl)
theorem dX4_wear_6 : decode cX4_wear 6 = .ok (.getfield 21, 3) := dk_180 0 21 (dk_at dksX4_wear_0 6 rfl rfl)
theorem dX4_wear_9 : decode cX4_wear 9 = .ok (.isub, 1) := dk_100 (dk_at dksX4_wear_0 9 rfl rfl)
theorem dX4_wear_10 : decode cX4_wear 10 = .ok (.invokestatic 24, 3) := dk_184 0 24 (dk_at dksX4_wear_0 10 rfl rfl)
theorem dX4_wear_13 : decode cX4_wear 13 = .ok (.istore_n 2, 1) := dk_61 (dk_at dksX4_wear_0 13 rfl rfl)
theorem dX4_wear_14 : decode cX4_wear 14 = .ok (.aload_n 0, 1) := dk_42 (dk_at dksX4_wear_0 14 rfl rfl)
theorem dX4_wear_15 : decode cX4_wear 15 = .ok (.aload_n 0, 1) := dk_42 (dk_at dksX4_wear_0 15 rfl rfl)
theorem dX4_wear_16 : decode cX4_wear 16 = .ok (.getfield 21, 3) := dk_180 0 21 (dk_at dksX4_wear_0 16 rfl rfl)
theorem dX4_wear_19 : decode cX4_wear 19 = .ok (.iload_n 2, 1) := dk_28 (dk_at dksX4_wear_0 19 rfl rfl)
theorem dX4_wear_20 : decode cX4_wear 20 = .ok (.invokestatic 30, 3) := dk_184 0 30 (dk_at dksX4_wear_0 20 rfl rfl)
theorem dX4_wear_23 : decode cX4_wear 23 = .ok (.putfield 21, 3) := dk_181 0 21 (dk_at dksX4_wear_1 0 rfl rfl)
theorem dX4_wear_26 : decode cX4_wear 26 = .ok (.aload_n 0, 1) := dk_42 (dk_at dksX4_wear_1 3 rfl rfl)
theorem dX4_wear_27 : decode cX4_wear 27 = .ok (.aload_n 0, 1) := dk_42 (dk_at dksX4_wear_1 4 rfl rfl)
theorem dX4_wear_28 : decode cX4_wear 28 = .ok (.getfield 21, 3) := dk_180 0 21 (dk_at dksX4_wear_1 5 rfl rfl)
theorem dX4_wear_31 : decode cX4_wear 31 = .ok (.aload_n 0, 1) := dk_42 (dk_at dksX4_wear_1 8 rfl rfl)
theorem dX4_wear_32 : decode cX4_wear 32 = .ok (.getfield 15, 3) := dk_180 0 15 (dk_at dksX4_wear_1 9 rfl rfl)
theorem dX4_wear_35 : decode cX4_wear 35 = .ok (.if_icmp .ne 7, 3) := dk_160 0 7 (dk_at dksX4_wear_1 12 rfl rfl)
theorem dX4_wear_38 : decode cX4_wear 38 = .ok (.iconst 2, 1) := dk_5 (dk_at dksX4_wear_1 15 rfl rfl)
theorem dX4_wear_39 : decode cX4_wear 39 = .ok (.goto 7, 3) := dk_167 0 7 (dk_at dksX4_wear_1 16 rfl rfl)
theorem dX4_wear_42 : decode cX4_wear 42 = .ok (.aload_n 0, 1) := dk_42 (dk_at dksX4_wear_1 19 rfl rfl)
theorem dX4_wear_43 : decode cX4_wear 43 = .ok (.getfield 9, 3) := dk_180 0 9 (dk_at dksX4_wear_1 20 rfl rfl)
theorem dX4_wear_46 : decode cX4_wear 46 = .ok (.putfield 9, 3) := dk_181 0 9 (dk_at dksX4_wear_2 0 rfl rfl)
theorem dX4_wear_49 : decode cX4_wear 49 = .ok (.iload_n 2, 1) := dk_28 (dk_at dksX4_wear_2 3 rfl rfl)
theorem dX4_wear_50 : decode cX4_wear 50 = .ok (.ireturn, 1) := dk_172 (dk_at dksX4_wear_2 4 rfl rfl)
theorem q97 : (Jvm.Cond.initialized "DomeNights$Lamp") ∈ lw_all := lw_g (lw_at lw_m1 21 rfl) rfl
theorem q480 : (Jvm.Cond.selects "DomeNights$Lamp" ({ cls := "java/lang/Object", name := "getClass", desc := "()Ljava/lang/Class;" } : Jvm.MethodName) ({ cls := "java/lang/Object", name := "getClass", desc := "()Ljava/lang/Class;" } : Jvm.MethodName)) ∈ lw_all := lw_g (lw_at lw_m2 164 rfl) rfl
theorem q513 : (Jvm.Cond.instantiable "DomeNights$Lamp" (3 : Nat)) ∈ lw_all := lw_g (lw_at lw_m2 197 rfl) rfl
theorem q515 : (Jvm.Cond.instanceMethod ({ cls := "DomeNights$Lamp", name := "<init>", desc := "(LDomeNights$Lamp;)V" } : Jvm.MethodName)) ∈ lw_all := lw_g (lw_at lw_m2 199 rfl) rfl
theorem q516 : (Jvm.Cond.code ({ cls := "DomeNights$Lamp", name := "<init>", desc := "(LDomeNights$Lamp;)V" } : Jvm.MethodName) prog_4_method_2_code (2 : Nat) (Option.none : Option Jvm.ClassFile.FieldType)) ∈ lw_all := lw_g (lw_at lw_m2 200 rfl) rfl
theorem q517 : (Jvm.Cond.methodLink "DomeNights$Lamp" (18 : Nat) ({ cls := "DomeNights$Lamp", name := "<init>", desc := "(I)V" } : Jvm.MethodName)) ∈ lw_all := lw_g (lw_at lw_m2 201 rfl) rfl
theorem q518 : (Jvm.Cond.instanceMethod ({ cls := "DomeNights$Lamp", name := "<init>", desc := "(I)V" } : Jvm.MethodName)) ∈ lw_all := lw_g (lw_at lw_m2 202 rfl) rfl
theorem q519 : (Jvm.Cond.code ({ cls := "DomeNights$Lamp", name := "<init>", desc := "(I)V" } : Jvm.MethodName) prog_4_method_1_code (2 : Nat) (Option.none : Option Jvm.ClassFile.FieldType)) ∈ lw_all := lw_g (lw_at lw_m2 203 rfl) rfl
theorem q520 : (Jvm.Cond.methodLink "DomeNights$Lamp" (3 : Nat) ({ cls := "java/lang/Object", name := "<init>", desc := "()V" } : Jvm.MethodName)) ∈ lw_all := lw_g (lw_at lw_m2 204 rfl) rfl
theorem q521 : (Jvm.Cond.fieldLink "DomeNights$Lamp" (15 : Nat) "DomeNights$Lamp" "life" "I") ∈ lw_all := lw_g (lw_at lw_m2 205 rfl) rfl
theorem q523 : (Jvm.Cond.fieldLink "DomeNights$Lamp" (21 : Nat) "DomeNights$Lamp" "used" "I") ∈ lw_all := lw_g (lw_at lw_m2 207 rfl) rfl
theorem q525 : (Jvm.Cond.fieldLink "DomeNights$Lamp" (9 : Nat) "DomeNights$Lamp" "place" "I") ∈ lw_all := lw_g (lw_at lw_m2 209 rfl) rfl
theorem q528 : (Jvm.Cond.laysFinal "DomeNights$Lamp" "DomeNights$Lamp" "life" "I") ∈ lw_all := lw_g (lw_at lw_m2 212 rfl) rfl
theorem q529 : (Jvm.Cond.soleField "DomeNights$Lamp" "life") ∈ lw_all := lw_g (lw_at lw_m2 213 rfl) rfl
theorem q530 : (Jvm.Cond.lays "DomeNights$Lamp" "DomeNights$Lamp" "used" "I") ∈ lw_all := lw_g (lw_at lw_m2 214 rfl) rfl
theorem q531 : (Jvm.Cond.soleField "DomeNights$Lamp" "used") ∈ lw_all := lw_g (lw_at lw_m2 215 rfl) rfl
theorem q532 : (Jvm.Cond.lays "DomeNights$Lamp" "DomeNights$Lamp" "place" "I") ∈ lw_all := lw_g (lw_at lw_m2 216 rfl) rfl
theorem q533 : (Jvm.Cond.soleField "DomeNights$Lamp" "place") ∈ lw_all := lw_g (lw_at lw_m2 217 rfl) rfl
theorem q534 : (Jvm.Cond.superclass "DomeNights$Lamp" "java/lang/Object") ∈ lw_all := lw_g (lw_at lw_m2 218 rfl) rfl
theorem q1098 : (Jvm.Cond.selects "DomeNights$Lamp" ({ cls := "java/lang/Object", name := "hashCode", desc := "()I" } : Jvm.MethodName) ({ cls := "java/lang/Object", name := "hashCode", desc := "()I" } : Jvm.MethodName)) ∈ lw_all := lw_g (lw_at lw_m5 62 rfl) rfl
theorem q1132 : (Jvm.Cond.selects "DomeNights$Lamp" ({ cls := "java/lang/Object", name := "equals", desc := "(Ljava/lang/Object;)Z" } : Jvm.MethodName) ({ cls := "java/lang/Object", name := "equals", desc := "(Ljava/lang/Object;)Z" } : Jvm.MethodName)) ∈ lw_all := lw_g (lw_at lw_m5 96 rfl) rfl
theorem q1547 : (Jvm.Cond.instanceMethod ({ cls := "DomeNights$Lamp", name := "brightness", desc := "()I" } : Jvm.MethodName)) ∈ lw_all := lw_g (lw_at lw_m7 31 rfl) rfl
theorem q1548 : (Jvm.Cond.selects "DomeNights$Lamp" ({ cls := "DomeNights$Lamp", name := "brightness", desc := "()I" } : Jvm.MethodName) ({ cls := "DomeNights$Lamp", name := "brightness", desc := "()I" } : Jvm.MethodName)) ∈ lw_all := lw_g (lw_at lw_m7 32 rfl) rfl
theorem q1549 : (Jvm.Cond.code ({ cls := "DomeNights$Lamp", name := "brightness", desc := "()I" } : Jvm.MethodName) prog_4_method_3_code (1 : Nat) (Option.some Jvm.ClassFile.FieldType.int)) ∈ lw_all := lw_g (lw_at lw_m7 33 rfl) rfl
theorem q1560 : (Jvm.Cond.instanceMethod ({ cls := "DomeNights$Lamp", name := "wear", desc := "(I)I" } : Jvm.MethodName)) ∈ lw_all := lw_g (lw_at lw_m7 44 rfl) rfl
theorem q1561 : (Jvm.Cond.selects "DomeNights$Lamp" ({ cls := "DomeNights$Lamp", name := "wear", desc := "(I)I" } : Jvm.MethodName) ({ cls := "DomeNights$Lamp", name := "wear", desc := "(I)I" } : Jvm.MethodName)) ∈ lw_all := lw_g (lw_at lw_m7 45 rfl) rfl
theorem q1562 : (Jvm.Cond.code ({ cls := "DomeNights$Lamp", name := "wear", desc := "(I)I" } : Jvm.MethodName) prog_4_method_4_code (3 : Nat) (Option.some Jvm.ClassFile.FieldType.int)) ∈ lw_all := lw_g (lw_at lw_m7 46 rfl) rfl
theorem q1563 : (Jvm.Cond.methodLink "DomeNights$Lamp" (24 : Nat) ({ cls := "java/lang/Math", name := "min", desc := "(II)I" } : Jvm.MethodName)) ∈ lw_all := lw_g (lw_at lw_m7 47 rfl) rfl
theorem q1564 : (Jvm.Cond.methodLink "DomeNights$Lamp" (30 : Nat) ({ cls := "java/lang/Math", name := "addExact", desc := "(II)I" } : Jvm.MethodName)) ∈ lw_all := lw_g (lw_at lw_m7 48 rfl) rfl
theorem q2357 : (Jvm.Cond.castable "DomeNights$Lamp" "java/lang/Object") ∈ lw_tbl := lw_at lw_m10 121 rfl
theorem in_X4 : ∀ w ∈ wsX40, w ∈ lw_all := lw_in wsX40 [528, 530, 532] (by decide +kernel) (by decide +kernel)
/-! DomeNights$Show -/
set_option maxRecDepth 100000
def RX5 : String := "DomeNights$Show"
def TX5 : u_T := fun k => match k with
  | 0 => ("DomeNights$Show", "kind", "I", true)
  | 1 => ("DomeNights$Show", "time", "LDomeNights$Time;", false)
  | 2 => ("DomeNights$Show", "state", "I", false)
  | 3 => ("DomeNights$Show", "lamp", "I", false)
  | 4 => ("DomeNights$Show", "worn", "I", false)
  | 5 => ("DomeNights$Show", "moved", "I", false)
  | _ => ("DomeNights$Show", "free", "[I", true)
def tyX5 : Nat → FieldType := fun k => match k with
  | 0 => .int
  | 1 => .object "DomeNights$Time"
  | 2 => .int
  | 3 => .int
  | 4 => .int
  | 5 => .int
  | _ => .array .int
abbrev wsX50 : List Cond := u_ws RX5 TX5 7
theorem nmX5 : ∀ a, a < 7 → ∀ b, b < 7 → a ≠ b → (TX5 a).2.1 ≠ (TX5 b).2.1 := by decide +kernel
theorem tyX5_ok : ∀ k, k < 7 → parseFieldDescriptor (TX5 k).2.2.1 = some (tyX5 k) := by decide +kernel
abbrev cX5_init : ByteArray := prog_9_method_2_code
def yX5_init : MethodName := ⟨RX5, "<init>", "(LDomeNights$Show;)V"⟩
def dkwX5_init_2 : List UInt8 := [180, 0, 18, 3, 42, 180, 0, 18, 3, 16, 8, 184, 0, 38, 177]
abbrev dktX5_init_2 : List UInt8 := dkwX5_init_2 ++ []
def dkwX5_init_1 : List UInt8 := [180, 0, 15, 181, 0, 15, 42, 43, 180, 0, 32, 181, 0, 32, 42, 43, 180, 0, 35, 181, 0, 35, 43]
abbrev dktX5_init_1 : List UInt8 := dkwX5_init_1 ++ dktX5_init_2
def dkwX5_init_0 : List UInt8 := [42, 43, 180, 0, 22, 43, 180, 0, 25, 183, 0, 29, 42, 43, 180, 0, 9, 181, 0, 9, 42, 43]
abbrev dktX5_init_0 : List UInt8 := dkwX5_init_0 ++ dktX5_init_1
theorem dksX5_init_0 : cX5_init.data.toList.drop 0 = dktX5_init_0 := by decide +kernel
theorem dksX5_init_1 : cX5_init.data.toList.drop 22 = dktX5_init_1 := dk_seg dksX5_init_0 22 rfl rfl
theorem dksX5_init_2 : cX5_init.data.toList.drop 45 = dktX5_init_2 := dk_seg dksX5_init_1 23 rfl rfl
theorem dX5_init_0 : decode cX5_init 0 = .ok (.aload_n 0, 1) := dk_42 (dk_at dksX5_init_0 0 rfl rfl)
theorem dX5_init_1 : decode cX5_init 1 = .ok (.aload_n 1, 1) := dk_43 (dk_at dksX5_init_0 1 rfl rfl)
theorem dX5_init_2 : decode cX5_init 2 = .ok (.getfield 22, 3) := dk_180 0 22 (dk_at dksX5_init_0 2 rfl rfl)
theorem dX5_init_5 : decode cX5_init 5 = .ok (.aload_n 1, 1) := dk_43 (dk_at dksX5_init_0 5 rfl rfl)
theorem dX5_init_6 : decode cX5_init 6 = .ok (.getfield 25, 3) := dk_180 0 25 (dk_at dksX5_init_0 6 rfl rfl)
theorem dX5_init_9 : decode cX5_init 9 = .ok (.invokespecial 29, 3) := dk_183 0 29 (dk_at dksX5_init_0 9 rfl rfl)
theorem dX5_init_12 : decode cX5_init 12 = .ok (.aload_n 0, 1) := dk_42 (dk_at dksX5_init_0 12 rfl rfl)
theorem dX5_init_13 : decode cX5_init 13 = .ok (.aload_n 1, 1) := dk_43 (dk_at dksX5_init_0 13 rfl rfl)
theorem dX5_init_14 : decode cX5_init 14 = .ok (.getfield 9, 3) := dk_180 0 9 (dk_at dksX5_init_0 14 rfl rfl)
theorem dX5_init_17 : decode cX5_init 17 = .ok (.putfield 9, 3) := dk_181 0 9 (dk_at dksX5_init_0 17 rfl rfl)
theorem dX5_init_20 : decode cX5_init 20 = .ok (.aload_n 0, 1) := dk_42 (dk_at dksX5_init_0 20 rfl rfl)
theorem dX5_init_21 : decode cX5_init 21 = .ok (.aload_n 1, 1) := dk_43 (dk_at dksX5_init_0 21 rfl rfl)
theorem dX5_init_22 : decode cX5_init 22 = .ok (.getfield 15, 3) := dk_180 0 15 (dk_at dksX5_init_1 0 rfl rfl)
theorem dX5_init_25 : decode cX5_init 25 = .ok (.putfield 15, 3) := dk_181 0 15 (dk_at dksX5_init_1 3 rfl rfl)
theorem dX5_init_28 : decode cX5_init 28 = .ok (.aload_n 0, 1) := dk_42 (dk_at dksX5_init_1 6 rfl rfl)
theorem dX5_init_29 : decode cX5_init 29 = .ok (.aload_n 1, 1) := dk_43 (dk_at dksX5_init_1 7 rfl rfl)
theorem dX5_init_30 : decode cX5_init 30 = .ok (.getfield 32, 3) := dk_180 0 32 (dk_at dksX5_init_1 8 rfl rfl)
theorem dX5_init_33 : decode cX5_init 33 = .ok (.putfield 32, 3) := dk_181 0 32 (dk_at dksX5_init_1 11 rfl rfl)
theorem dX5_init_36 : decode cX5_init 36 = .ok (.aload_n 0, 1) := dk_42 (dk_at dksX5_init_1 14 rfl rfl)
theorem dX5_init_37 : decode cX5_init 37 = .ok (.aload_n 1, 1) := dk_43 (dk_at dksX5_init_1 15 rfl rfl)
theorem dX5_init_38 : decode cX5_init 38 = .ok (.getfield 35, 3) := dk_180 0 35 (dk_at dksX5_init_1 16 rfl rfl)
theorem dX5_init_41 : decode cX5_init 41 = .ok (.putfield 35, 3) := dk_181 0 35 (dk_at dksX5_init_1 19 rfl rfl)
theorem dX5_init_44 : decode cX5_init 44 = .ok (.aload_n 1, 1) := dk_43 (dk_at dksX5_init_1 22 rfl rfl)
theorem dX5_init_45 : decode cX5_init 45 = .ok (.getfield 18, 3) := dk_180 0 18 (dk_at dksX5_init_2 0 rfl rfl)
theorem dX5_init_48 : decode cX5_init 48 = .ok (.iconst 0, 1) := dk_3 (dk_at dksX5_init_2 3 rfl rfl)
theorem dX5_init_49 : decode cX5_init 49 = .ok (.aload_n 0, 1) := dk_42 (dk_at dksX5_init_2 4 rfl rfl)
theorem dX5_init_50 : decode cX5_init 50 = .ok (.getfield 18, 3) := dk_180 0 18 (dk_at dksX5_init_2 5 rfl rfl)
theorem dX5_init_53 : decode cX5_init 53 = .ok (.iconst 0, 1) := dk_3 (dk_at dksX5_init_2 8 rfl rfl)
theorem dX5_init_54 : decode cX5_init 54 = .ok (.bipush 8, 2) := dk_16 8 (dk_at dksX5_init_2 9 rfl rfl)
theorem dX5_init_56 : decode cX5_init 56 = .ok (.invokestatic 38, 3) := dk_184 0 38 (dk_at dksX5_init_2 11 rfl rfl)
theorem dX5_init_59 : decode cX5_init 59 = .ok (.return_, 1) := dk_177 (dk_at dksX5_init_2 14 rfl rfl)
abbrev cX5_init_2 : ByteArray := prog_9_method_1_code
def yX5_init_2 : MethodName := ⟨RX5, "<init>", "(ILDomeNights$Time;)V"⟩
def dkwX5_init_2_2 : List UInt8 := [181, 0, 22, 42, 44, 181, 0, 25, 177]
abbrev dktX5_init_2_2 : List UInt8 := dkwX5_init_2_2 ++ []
def dkwX5_init_2_1 : List UInt8 := [62, 29, 16, 8, 162, 0, 17, 42, 180, 0, 18, 29, 16, 12, 79, 132, 3, 1, 167, 255, 239, 42, 27]
abbrev dktX5_init_2_1 : List UInt8 := dkwX5_init_2_1 ++ dktX5_init_2_2
def dkwX5_init_2_0 : List UInt8 := [42, 183, 0, 3, 42, 3, 181, 0, 9, 42, 16, 250, 181, 0, 15, 42, 16, 8, 188, 10, 181, 0, 18, 3]
abbrev dktX5_init_2_0 : List UInt8 := dkwX5_init_2_0 ++ dktX5_init_2_1
theorem dksX5_init_2_0 : cX5_init_2.data.toList.drop 0 = dktX5_init_2_0 := by decide +kernel
theorem dksX5_init_2_1 : cX5_init_2.data.toList.drop 24 = dktX5_init_2_1 := dk_seg dksX5_init_2_0 24 rfl rfl
theorem dksX5_init_2_2 : cX5_init_2.data.toList.drop 47 = dktX5_init_2_2 := dk_seg dksX5_init_2_1 23 rfl rfl
theorem dX5_init_2_0 : decode cX5_init_2 0 = .ok (.aload_n 0, 1) := dk_42 (dk_at dksX5_init_2_0 0 rfl rfl)
theorem dX5_init_2_1 : decode cX5_init_2 1 = .ok (.invokespecial 3, 3) := dk_183 0 3 (dk_at dksX5_init_2_0 1 rfl rfl)
theorem dX5_init_2_4 : decode cX5_init_2 4 = .ok (.aload_n 0, 1) := dk_42 (dk_at dksX5_init_2_0 4 rfl rfl)
theorem dX5_init_2_5 : decode cX5_init_2 5 = .ok (.iconst 0, 1) := dk_3 (dk_at dksX5_init_2_0 5 rfl rfl)
theorem dX5_init_2_6 : decode cX5_init_2 6 = .ok (.putfield 9, 3) := dk_181 0 9 (dk_at dksX5_init_2_0 6 rfl rfl)
theorem dX5_init_2_9 : decode cX5_init_2 9 = .ok (.aload_n 0, 1) := dk_42 (dk_at dksX5_init_2_0 9 rfl rfl)
theorem dX5_init_2_10 : decode cX5_init_2 10 = .ok (.bipush (-6), 2) := dk_16 250 (dk_at dksX5_init_2_0 10 rfl rfl)
theorem dX5_init_2_12 : decode cX5_init_2 12 = .ok (.putfield 15, 3) := dk_181 0 15 (dk_at dksX5_init_2_0 12 rfl rfl)
theorem dX5_init_2_15 : decode cX5_init_2 15 = .ok (.aload_n 0, 1) := dk_42 (dk_at dksX5_init_2_0 15 rfl rfl)
theorem dX5_init_2_16 : decode cX5_init_2 16 = .ok (.bipush 8, 2) := dk_16 8 (dk_at dksX5_init_2_0 16 rfl rfl)
theorem dX5_init_2_18 : decode cX5_init_2 18 = .ok (.newarray .int, 2) := dk_188_10 (dk_at dksX5_init_2_0 18 rfl rfl)
theorem dX5_init_2_20 : decode cX5_init_2 20 = .ok (.putfield 18, 3) := dk_181 0 18 (dk_at dksX5_init_2_0 20 rfl rfl)
theorem dX5_init_2_23 : decode cX5_init_2 23 = .ok (.iconst 0, 1) := dk_3 (dk_at dksX5_init_2_0 23 rfl rfl)
theorem dX5_init_2_24 : decode cX5_init_2 24 = .ok (.istore_n 3, 1) := dk_62 (dk_at dksX5_init_2_1 0 rfl rfl)
theorem dX5_init_2_25 : decode cX5_init_2 25 = .ok (.iload_n 3, 1) := dk_29 (dk_at dksX5_init_2_1 1 rfl rfl)
theorem dX5_init_2_26 : decode cX5_init_2 26 = .ok (.bipush 8, 2) := dk_16 8 (dk_at dksX5_init_2_1 2 rfl rfl)
theorem dX5_init_2_28 : decode cX5_init_2 28 = .ok (.if_icmp .ge 17, 3) := dk_162 0 17 (dk_at dksX5_init_2_1 4 rfl rfl)
theorem dX5_init_2_31 : decode cX5_init_2 31 = .ok (.aload_n 0, 1) := dk_42 (dk_at dksX5_init_2_1 7 rfl rfl)
theorem dX5_init_2_32 : decode cX5_init_2 32 = .ok (.getfield 18, 3) := dk_180 0 18 (dk_at dksX5_init_2_1 8 rfl rfl)
theorem dX5_init_2_35 : decode cX5_init_2 35 = .ok (.iload_n 3, 1) := dk_29 (dk_at dksX5_init_2_1 11 rfl rfl)
theorem dX5_init_2_36 : decode cX5_init_2 36 = .ok (.bipush 12, 2) := dk_16 12 (dk_at dksX5_init_2_1 12 rfl rfl)
theorem dX5_init_2_38 : decode cX5_init_2 38 = .ok (.iastore, 1) := dk_79 (dk_at dksX5_init_2_1 14 rfl rfl)
theorem dX5_init_2_39 : decode cX5_init_2 39 = .ok (.iinc 3 1, 3) := dk_132 3 1 (dk_at dksX5_init_2_1 15 rfl rfl)
theorem dX5_init_2_42 : decode cX5_init_2 42 = .ok (.goto (-17), 3) := dk_167 255 239 (dk_at dksX5_init_2_1 18 rfl rfl)
theorem dX5_init_2_45 : decode cX5_init_2 45 = .ok (.aload_n 0, 1) := dk_42 (dk_at dksX5_init_2_1 21 rfl rfl)
theorem dX5_init_2_46 : decode cX5_init_2 46 = .ok (.iload_n 1, 1) := dk_27 (dk_at dksX5_init_2_1 22 rfl rfl)
theorem dX5_init_2_47 : decode cX5_init_2 47 = .ok (.putfield 22, 3) := dk_181 0 22 (dk_at dksX5_init_2_2 0 rfl rfl)
theorem dX5_init_2_50 : decode cX5_init_2 50 = .ok (.aload_n 0, 1) := dk_42 (dk_at dksX5_init_2_2 3 rfl rfl)
theorem dX5_init_2_51 : decode cX5_init_2 51 = .ok (.aload_n 2, 1) := dk_44 (dk_at dksX5_init_2_2 4 rfl rfl)
theorem dX5_init_2_52 : decode cX5_init_2 52 = .ok (.putfield 25, 3) := dk_181 0 25 (dk_at dksX5_init_2_2 5 rfl rfl)
theorem dX5_init_2_55 : decode cX5_init_2 55 = .ok (.return_, 1) := dk_177 (dk_at dksX5_init_2_2 8 rfl rfl)
abbrev cX5_allFree : ByteArray := prog_9_method_3_code
def yX5_allFree : MethodName := ⟨RX5, "allFree", "()I"⟩
def dkwX5_allFree_1 : List UInt8 := [54, 5, 27, 21, 5, 96, 60, 132, 4, 1, 167, 255, 236, 27, 172]
abbrev dktX5_allFree_1 : List UInt8 := dkwX5_allFree_1 ++ []
def dkwX5_allFree_0 : List UInt8 := [3, 60, 42, 180, 0, 18, 77, 44, 190, 62, 3, 54, 4, 21, 4, 29, 162, 0, 20, 44, 21, 4, 46]
abbrev dktX5_allFree_0 : List UInt8 := dkwX5_allFree_0 ++ dktX5_allFree_1
theorem dksX5_allFree_0 : cX5_allFree.data.toList.drop 0 = dktX5_allFree_0 := by decide +kernel
theorem dksX5_allFree_1 : cX5_allFree.data.toList.drop 23 = dktX5_allFree_1 := dk_seg dksX5_allFree_0 23 rfl rfl
theorem dX5_allFree_0 : decode cX5_allFree 0 = .ok (.iconst 0, 1) := dk_3 (dk_at dksX5_allFree_0 0 rfl rfl)
theorem dX5_allFree_1 : decode cX5_allFree 1 = .ok (.istore_n 1, 1) := dk_60 (dk_at dksX5_allFree_0 1 rfl rfl)
theorem dX5_allFree_2 : decode cX5_allFree 2 = .ok (.aload_n 0, 1) := dk_42 (dk_at dksX5_allFree_0 2 rfl rfl)
theorem dX5_allFree_3 : decode cX5_allFree 3 = .ok (.getfield 18, 3) := dk_180 0 18 (dk_at dksX5_allFree_0 3 rfl rfl)
theorem dX5_allFree_6 : decode cX5_allFree 6 = .ok (.astore_n 2, 1) := dk_77 (dk_at dksX5_allFree_0 6 rfl rfl)
theorem dX5_allFree_7 : decode cX5_allFree 7 = .ok (.aload_n 2, 1) := dk_44 (dk_at dksX5_allFree_0 7 rfl rfl)
theorem dX5_allFree_8 : decode cX5_allFree 8 = .ok (.arraylength, 1) := dk_190 (dk_at dksX5_allFree_0 8 rfl rfl)
theorem dX5_allFree_9 : decode cX5_allFree 9 = .ok (.istore_n 3, 1) := dk_62 (dk_at dksX5_allFree_0 9 rfl rfl)
theorem dX5_allFree_10 : decode cX5_allFree 10 = .ok (.iconst 0, 1) := dk_3 (dk_at dksX5_allFree_0 10 rfl rfl)
theorem dX5_allFree_11 : decode cX5_allFree 11 = .ok (.istore 4, 2) := dk_54 4 (dk_at dksX5_allFree_0 11 rfl rfl)
theorem dX5_allFree_13 : decode cX5_allFree 13 = .ok (.iload 4, 2) := dk_21 4 (dk_at dksX5_allFree_0 13 rfl rfl)
theorem dX5_allFree_15 : decode cX5_allFree 15 = .ok (.iload_n 3, 1) := dk_29 (dk_at dksX5_allFree_0 15 rfl rfl)
theorem dX5_allFree_16 : decode cX5_allFree 16 = .ok (.if_icmp .ge 20, 3) := dk_162 0 20 (dk_at dksX5_allFree_0 16 rfl rfl)
theorem dX5_allFree_19 : decode cX5_allFree 19 = .ok (.aload_n 2, 1) := dk_44 (dk_at dksX5_allFree_0 19 rfl rfl)
theorem dX5_allFree_20 : decode cX5_allFree 20 = .ok (.iload 4, 2) := dk_21 4 (dk_at dksX5_allFree_0 20 rfl rfl)
theorem dX5_allFree_22 : decode cX5_allFree 22 = .ok (.iaload, 1) := dk_46 (dk_at dksX5_allFree_0 22 rfl rfl)
theorem dX5_allFree_23 : decode cX5_allFree 23 = .ok (.istore 5, 2) := dk_54 5 (dk_at dksX5_allFree_1 0 rfl rfl)
theorem dX5_allFree_25 : decode cX5_allFree 25 = .ok (.iload_n 1, 1) := dk_27 (dk_at dksX5_allFree_1 2 rfl rfl)
theorem dX5_allFree_26 : decode cX5_allFree 26 = .ok (.iload 5, 2) := dk_21 5 (dk_at dksX5_allFree_1 3 rfl rfl)
theorem dX5_allFree_28 : decode cX5_allFree 28 = .ok (.iadd, 1) := dk_96 (dk_at dksX5_allFree_1 5 rfl rfl)
theorem dX5_allFree_29 : decode cX5_allFree 29 = .ok (.istore_n 1, 1) := dk_60 (dk_at dksX5_allFree_1 6 rfl rfl)
theorem dX5_allFree_30 : decode cX5_allFree 30 = .ok (.iinc 4 1, 3) := dk_132 4 1 (dk_at dksX5_allFree_1 7 rfl rfl)
theorem dX5_allFree_33 : decode cX5_allFree 33 = .ok (.goto (-20), 3) := dk_167 255 236 (dk_at dksX5_allFree_1 10 rfl rfl)
theorem dX5_allFree_36 : decode cX5_allFree 36 = .ok (.iload_n 1, 1) := dk_27 (dk_at dksX5_allFree_1 13 rfl rfl)
theorem dX5_allFree_37 : decode cX5_allFree 37 = .ok (.ireturn, 1) := dk_172 (dk_at dksX5_allFree_1 14 rfl rfl)
abbrev cX5_seat : ByteArray := prog_9_method_5_code
def yX5_seat : MethodName := ⟨RX5, "seat", "([II)V"⟩
def dkwX5_seat_2 : List UInt8 := [21, 5, 100, 62, 167, 255, 206, 177]
abbrev dktX5_seat_2 : List UInt8 := dkwX5_seat_2 ++ []
def dkwX5_seat_1 : List UInt8 := [54, 5, 42, 180, 0, 18, 21, 4, 92, 46, 21, 5, 100, 79, 43, 21, 4, 92, 46, 21, 5, 96, 79, 29]
abbrev dktX5_seat_1 : List UInt8 := dkwX5_seat_1 ++ dktX5_seat_2
def dkwX5_seat_0 : List UInt8 := [28, 62, 29, 158, 0, 52, 42, 29, 182, 0, 44, 54, 4, 29, 42, 180, 0, 18, 21, 4, 46, 184, 0, 48]
abbrev dktX5_seat_0 : List UInt8 := dkwX5_seat_0 ++ dktX5_seat_1
theorem dksX5_seat_0 : cX5_seat.data.toList.drop 0 = dktX5_seat_0 := by decide +kernel
theorem dksX5_seat_1 : cX5_seat.data.toList.drop 24 = dktX5_seat_1 := dk_seg dksX5_seat_0 24 rfl rfl
theorem dksX5_seat_2 : cX5_seat.data.toList.drop 48 = dktX5_seat_2 := dk_seg dksX5_seat_1 24 rfl rfl
theorem dX5_seat_0 : decode cX5_seat 0 = .ok (.iload_n 2, 1) := dk_28 (dk_at dksX5_seat_0 0 rfl rfl)
theorem dX5_seat_1 : decode cX5_seat 1 = .ok (.istore_n 3, 1) := dk_62 (dk_at dksX5_seat_0 1 rfl rfl)
theorem dX5_seat_2 : decode cX5_seat 2 = .ok (.iload_n 3, 1) := dk_29 (dk_at dksX5_seat_0 2 rfl rfl)
theorem dX5_seat_3 : decode cX5_seat 3 = .ok (.ifCond .le 52, 3) := dk_158 0 52 (dk_at dksX5_seat_0 3 rfl rfl)
theorem dX5_seat_6 : decode cX5_seat 6 = .ok (.aload_n 0, 1) := dk_42 (dk_at dksX5_seat_0 6 rfl rfl)
theorem dX5_seat_7 : decode cX5_seat 7 = .ok (.iload_n 3, 1) := dk_29 (dk_at dksX5_seat_0 7 rfl rfl)
theorem dX5_seat_8 : decode cX5_seat 8 = .ok (.invokevirtual 44, 3) := dk_182 0 44 (dk_at dksX5_seat_0 8 rfl rfl)
theorem dX5_seat_11 : decode cX5_seat 11 = .ok (.istore 4, 2) := dk_54 4 (dk_at dksX5_seat_0 11 rfl rfl)
theorem dX5_seat_13 : decode cX5_seat 13 = .ok (.iload_n 3, 1) := dk_29 (dk_at dksX5_seat_0 13 rfl rfl)
theorem dX5_seat_14 : decode cX5_seat 14 = .ok (.aload_n 0, 1) := dk_42 (dk_at dksX5_seat_0 14 rfl rfl)
theorem dX5_seat_15 : decode cX5_seat 15 = .ok (.getfield 18, 3) := dk_180 0 18 (dk_at dksX5_seat_0 15 rfl rfl)
theorem dX5_seat_18 : decode cX5_seat 18 = .ok (.iload 4, 2) := dk_21 4 (dk_at dksX5_seat_0 18 rfl rfl)
theorem dX5_seat_20 : decode cX5_seat 20 = .ok (.iaload, 1) := dk_46 (dk_at dksX5_seat_0 20 rfl rfl)
theorem dX5_seat_21 : decode cX5_seat 21 = .ok (.invokestatic 48, 3) := dk_184 0 48 (dk_at dksX5_seat_0 21 rfl rfl)
theorem dX5_seat_24 : decode cX5_seat 24 = .ok (.istore 5, 2) := dk_54 5 (dk_at dksX5_seat_1 0 rfl rfl)
theorem dX5_seat_26 : decode cX5_seat 26 = .ok (.aload_n 0, 1) := dk_42 (dk_at dksX5_seat_1 2 rfl rfl)
theorem dX5_seat_27 : decode cX5_seat 27 = .ok (.getfield 18, 3) := dk_180 0 18 (dk_at dksX5_seat_1 3 rfl rfl)
theorem dX5_seat_30 : decode cX5_seat 30 = .ok (.iload 4, 2) := dk_21 4 (dk_at dksX5_seat_1 6 rfl rfl)
theorem dX5_seat_32 : decode cX5_seat 32 = .ok (.dup2, 1) := dk_92 (dk_at dksX5_seat_1 8 rfl rfl)
theorem dX5_seat_33 : decode cX5_seat 33 = .ok (.iaload, 1) := dk_46 (dk_at dksX5_seat_1 9 rfl rfl)
theorem dX5_seat_34 : decode cX5_seat 34 = .ok (.iload 5, 2) := dk_21 5 (dk_at dksX5_seat_1 10 rfl rfl)
theorem dX5_seat_36 : decode cX5_seat 36 = .ok (.isub, 1) := dk_100 (dk_at dksX5_seat_1 12 rfl rfl)
theorem dX5_seat_37 : decode cX5_seat 37 = .ok (.iastore, 1) := dk_79 (dk_at dksX5_seat_1 13 rfl rfl)
theorem dX5_seat_38 : decode cX5_seat 38 = .ok (.aload_n 1, 1) := dk_43 (dk_at dksX5_seat_1 14 rfl rfl)
theorem dX5_seat_39 : decode cX5_seat 39 = .ok (.iload 4, 2) := dk_21 4 (dk_at dksX5_seat_1 15 rfl rfl)
theorem dX5_seat_41 : decode cX5_seat 41 = .ok (.dup2, 1) := dk_92 (dk_at dksX5_seat_1 17 rfl rfl)
theorem dX5_seat_42 : decode cX5_seat 42 = .ok (.iaload, 1) := dk_46 (dk_at dksX5_seat_1 18 rfl rfl)
theorem dX5_seat_43 : decode cX5_seat 43 = .ok (.iload 5, 2) := dk_21 5 (dk_at dksX5_seat_1 19 rfl rfl)
theorem dX5_seat_45 : decode cX5_seat 45 = .ok (.iadd, 1) := dk_96 (dk_at dksX5_seat_1 21 rfl rfl)
theorem dX5_seat_46 : decode cX5_seat 46 = .ok (.iastore, 1) := dk_79 (dk_at dksX5_seat_1 22 rfl rfl)
theorem dX5_seat_47 : decode cX5_seat 47 = .ok (.iload_n 3, 1) := dk_29 (dk_at dksX5_seat_1 23 rfl rfl)
theorem dX5_seat_48 : decode cX5_seat 48 = .ok (.iload 5, 2) := dk_21 5 (dk_at dksX5_seat_2 0 rfl rfl)
theorem dX5_seat_50 : decode cX5_seat 50 = .ok (.isub, 1) := dk_100 (dk_at dksX5_seat_2 2 rfl rfl)
theorem dX5_seat_51 : decode cX5_seat 51 = .ok (.istore_n 3, 1) := dk_62 (dk_at dksX5_seat_2 3 rfl rfl)
theorem dX5_seat_52 : decode cX5_seat 52 = .ok (.goto (-50), 3) := dk_167 255 206 (dk_at dksX5_seat_2 4 rfl rfl)
theorem dX5_seat_55 : decode cX5_seat 55 = .ok (.return_, 1) := dk_177 (dk_at dksX5_seat_2 7 rfl rfl)
abbrev cX5_rowFor : ByteArray := prog_9_method_4_code
def yX5_rowFor : MethodName := ⟨RX5, "rowFor", "(I)I"⟩
def dkwX5_rowFor_3 : List UInt8 := [29, 62, 132, 4, 1, 167, 255, 189, 28, 155, 0, 7, 28, 167, 0, 4, 29, 172]
abbrev dktX5_rowFor_3 : List UInt8 := dkwX5_rowFor_3 ++ []
def dkwX5_rowFor_2 : List UInt8 := [21, 4, 61, 42, 180, 0, 18, 21, 4, 46, 42, 180, 0, 18, 29, 46, 164, 0, 8, 21, 4, 167, 0, 4]
abbrev dktX5_rowFor_2 : List UInt8 := dkwX5_rowFor_2 ++ dktX5_rowFor_3
def dkwX5_rowFor_1 : List UInt8 := [161, 0, 26, 28, 155, 0, 19, 42, 180, 0, 18, 21, 4, 46, 42, 180, 0, 18, 28, 46, 162, 0, 6]
abbrev dktX5_rowFor_1 : List UInt8 := dkwX5_rowFor_1 ++ dktX5_rowFor_2
def dkwX5_rowFor_0 : List UInt8 := [16, 250, 61, 3, 62, 3, 54, 4, 21, 4, 16, 8, 162, 0, 66, 42, 180, 0, 18, 21, 4, 46, 27]
abbrev dktX5_rowFor_0 : List UInt8 := dkwX5_rowFor_0 ++ dktX5_rowFor_1
theorem dksX5_rowFor_0 : cX5_rowFor.data.toList.drop 0 = dktX5_rowFor_0 := by decide +kernel
theorem dksX5_rowFor_1 : cX5_rowFor.data.toList.drop 23 = dktX5_rowFor_1 := dk_seg dksX5_rowFor_0 23 rfl rfl
theorem dksX5_rowFor_2 : cX5_rowFor.data.toList.drop 46 = dktX5_rowFor_2 := dk_seg dksX5_rowFor_1 23 rfl rfl
theorem dksX5_rowFor_3 : cX5_rowFor.data.toList.drop 70 = dktX5_rowFor_3 := dk_seg dksX5_rowFor_2 24 rfl rfl
theorem dX5_rowFor_0 : decode cX5_rowFor 0 = .ok (.bipush (-6), 2) := dk_16 250 (dk_at dksX5_rowFor_0 0 rfl rfl)
theorem dX5_rowFor_2 : decode cX5_rowFor 2 = .ok (.istore_n 2, 1) := dk_61 (dk_at dksX5_rowFor_0 2 rfl rfl)
theorem dX5_rowFor_3 : decode cX5_rowFor 3 = .ok (.iconst 0, 1) := dk_3 (dk_at dksX5_rowFor_0 3 rfl rfl)
theorem dX5_rowFor_4 : decode cX5_rowFor 4 = .ok (.istore_n 3, 1) := dk_62 (dk_at dksX5_rowFor_0 4 rfl rfl)
theorem dX5_rowFor_5 : decode cX5_rowFor 5 = .ok (.iconst 0, 1) := dk_3 (dk_at dksX5_rowFor_0 5 rfl rfl)
theorem dX5_rowFor_6 : decode cX5_rowFor 6 = .ok (.istore 4, 2) := dk_54 4 (dk_at dksX5_rowFor_0 6 rfl rfl)
theorem dX5_rowFor_8 : decode cX5_rowFor 8 = .ok (.iload 4, 2) := dk_21 4 (dk_at dksX5_rowFor_0 8 rfl rfl)
theorem dX5_rowFor_10 : decode cX5_rowFor 10 = .ok (.bipush 8, 2) := dk_16 8 (dk_at dksX5_rowFor_0 10 rfl rfl)
theorem dX5_rowFor_12 : decode cX5_rowFor 12 = .ok (.if_icmp .ge 66, 3) := dk_162 0 66 (dk_at dksX5_rowFor_0 12 rfl rfl)
theorem dX5_rowFor_15 : decode cX5_rowFor 15 = .ok (.aload_n 0, 1) := dk_42 (dk_at dksX5_rowFor_0 15 rfl rfl)
theorem dX5_rowFor_16 : decode cX5_rowFor 16 = .ok (.getfield 18, 3) := dk_180 0 18 (dk_at dksX5_rowFor_0 16 rfl rfl)
theorem dX5_rowFor_19 : decode cX5_rowFor 19 = .ok (.iload 4, 2) := dk_21 4 (dk_at dksX5_rowFor_0 19 rfl rfl)
theorem dX5_rowFor_21 : decode cX5_rowFor 21 = .ok (.iaload, 1) := dk_46 (dk_at dksX5_rowFor_0 21 rfl rfl)
theorem dX5_rowFor_22 : decode cX5_rowFor 22 = .ok (.iload_n 1, 1) := dk_27 (dk_at dksX5_rowFor_0 22 rfl rfl)
theorem dX5_rowFor_23 : decode cX5_rowFor 23 = .ok (.if_icmp .lt 26, 3) := dk_161 0 26 (dk_at dksX5_rowFor_1 0 rfl rfl)
theorem dX5_rowFor_26 : decode cX5_rowFor 26 = .ok (.iload_n 2, 1) := dk_28 (dk_at dksX5_rowFor_1 3 rfl rfl)
theorem dX5_rowFor_27 : decode cX5_rowFor 27 = .ok (.ifCond .lt 19, 3) := dk_155 0 19 (dk_at dksX5_rowFor_1 4 rfl rfl)
theorem dX5_rowFor_30 : decode cX5_rowFor 30 = .ok (.aload_n 0, 1) := dk_42 (dk_at dksX5_rowFor_1 7 rfl rfl)
theorem dX5_rowFor_31 : decode cX5_rowFor 31 = .ok (.getfield 18, 3) := dk_180 0 18 (dk_at dksX5_rowFor_1 8 rfl rfl)
theorem dX5_rowFor_34 : decode cX5_rowFor 34 = .ok (.iload 4, 2) := dk_21 4 (dk_at dksX5_rowFor_1 11 rfl rfl)
theorem dX5_rowFor_36 : decode cX5_rowFor 36 = .ok (.iaload, 1) := dk_46 (dk_at dksX5_rowFor_1 13 rfl rfl)
theorem dX5_rowFor_37 : decode cX5_rowFor 37 = .ok (.aload_n 0, 1) := dk_42 (dk_at dksX5_rowFor_1 14 rfl rfl)
theorem dX5_rowFor_38 : decode cX5_rowFor 38 = .ok (.getfield 18, 3) := dk_180 0 18 (dk_at dksX5_rowFor_1 15 rfl rfl)
theorem dX5_rowFor_41 : decode cX5_rowFor 41 = .ok (.iload_n 2, 1) := dk_28 (dk_at dksX5_rowFor_1 18 rfl rfl)
theorem dX5_rowFor_42 : decode cX5_rowFor 42 = .ok (.iaload, 1) := dk_46 (dk_at dksX5_rowFor_1 19 rfl rfl)
theorem dX5_rowFor_43 : decode cX5_rowFor 43 = .ok (.if_icmp .ge 6, 3) := dk_162 0 6 (dk_at dksX5_rowFor_1 20 rfl rfl)
theorem dX5_rowFor_46 : decode cX5_rowFor 46 = .ok (.iload 4, 2) := dk_21 4 (dk_at dksX5_rowFor_2 0 rfl rfl)
theorem dX5_rowFor_48 : decode cX5_rowFor 48 = .ok (.istore_n 2, 1) := dk_61 (dk_at dksX5_rowFor_2 2 rfl rfl)
theorem dX5_rowFor_49 : decode cX5_rowFor 49 = .ok (.aload_n 0, 1) := dk_42 (dk_at dksX5_rowFor_2 3 rfl rfl)
theorem dX5_rowFor_50 : decode cX5_rowFor 50 = .ok (.getfield 18, 3) := dk_180 0 18 (dk_at dksX5_rowFor_2 4 rfl rfl)
theorem dX5_rowFor_53 : decode cX5_rowFor 53 = .ok (.iload 4, 2) := dk_21 4 (dk_at dksX5_rowFor_2 7 rfl rfl)
theorem dX5_rowFor_55 : decode cX5_rowFor 55 = .ok (.iaload, 1) := dk_46 (dk_at dksX5_rowFor_2 9 rfl rfl)
theorem dX5_rowFor_56 : decode cX5_rowFor 56 = .ok (.aload_n 0, 1) := dk_42 (dk_at dksX5_rowFor_2 10 rfl rfl)
theorem dX5_rowFor_57 : decode cX5_rowFor 57 = .ok (.getfield 18, 3) := dk_180 0 18 (dk_at dksX5_rowFor_2 11 rfl rfl)
theorem dX5_rowFor_60 : decode cX5_rowFor 60 = .ok (.iload_n 3, 1) := dk_29 (dk_at dksX5_rowFor_2 14 rfl rfl)
theorem dX5_rowFor_61 : decode cX5_rowFor 61 = .ok (.iaload, 1) := dk_46 (dk_at dksX5_rowFor_2 15 rfl rfl)
theorem dX5_rowFor_62 : decode cX5_rowFor 62 = .ok (.if_icmp .le 8, 3) := dk_164 0 8 (dk_at dksX5_rowFor_2 16 rfl rfl)
theorem dX5_rowFor_65 : decode cX5_rowFor 65 = .ok (.iload 4, 2) := dk_21 4 (dk_at dksX5_rowFor_2 19 rfl rfl)
theorem dX5_rowFor_67 : decode cX5_rowFor 67 = .ok (.goto 4, 3) := dk_167 0 4 (dk_at dksX5_rowFor_2 21 rfl rfl)
theorem dX5_rowFor_70 : decode cX5_rowFor 70 = .ok (.iload_n 3, 1) := dk_29 (dk_at dksX5_rowFor_3 0 rfl rfl)
theorem dX5_rowFor_71 : decode cX5_rowFor 71 = .ok (.istore_n 3, 1) := dk_62 (dk_at dksX5_rowFor_3 1 rfl rfl)
theorem dX5_rowFor_72 : decode cX5_rowFor 72 = .ok (.iinc 4 1, 3) := dk_132 4 1 (dk_at dksX5_rowFor_3 2 rfl rfl)
theorem dX5_rowFor_75 : decode cX5_rowFor 75 = .ok (.goto (-67), 3) := dk_167 255 189 (dk_at dksX5_rowFor_3 5 rfl rfl)
theorem dX5_rowFor_78 : decode cX5_rowFor 78 = .ok (.iload_n 2, 1) := dk_28 (dk_at dksX5_rowFor_3 8 rfl rfl)
theorem dX5_rowFor_79 : decode cX5_rowFor 79 = .ok (.ifCond .lt 7, 3) := dk_155 0 7 (dk_at dksX5_rowFor_3 9 rfl rfl)
theorem dX5_rowFor_82 : decode cX5_rowFor 82 = .ok (.iload_n 2, 1) := dk_28 (dk_at dksX5_rowFor_3 12 rfl rfl)
theorem dX5_rowFor_83 : decode cX5_rowFor 83 = .ok (.goto 4, 3) := dk_167 0 4 (dk_at dksX5_rowFor_3 13 rfl rfl)
theorem dX5_rowFor_86 : decode cX5_rowFor 86 = .ok (.iload_n 3, 1) := dk_29 (dk_at dksX5_rowFor_3 16 rfl rfl)
theorem dX5_rowFor_87 : decode cX5_rowFor 87 = .ok (.ireturn, 1) := dk_172 (dk_at dksX5_rowFor_3 17 rfl rfl)
theorem q98 : (Jvm.Cond.initialized "DomeNights$Show") ∈ lw_all := lw_g (lw_at lw_m1 22 rfl) rfl
theorem q485 : (Jvm.Cond.selects "DomeNights$Show" ({ cls := "java/lang/Object", name := "getClass", desc := "()Ljava/lang/Class;" } : Jvm.MethodName) ({ cls := "java/lang/Object", name := "getClass", desc := "()Ljava/lang/Class;" } : Jvm.MethodName)) ∈ lw_all := lw_g (lw_at lw_m2 169 rfl) rfl
theorem q536 : (Jvm.Cond.instantiable "DomeNights$Show" (7 : Nat)) ∈ lw_all := lw_g (lw_at lw_m2 220 rfl) rfl
theorem q538 : (Jvm.Cond.instanceMethod ({ cls := "DomeNights$Show", name := "<init>", desc := "(LDomeNights$Show;)V" } : Jvm.MethodName)) ∈ lw_all := lw_g (lw_at lw_m2 222 rfl) rfl
theorem q539 : (Jvm.Cond.code ({ cls := "DomeNights$Show", name := "<init>", desc := "(LDomeNights$Show;)V" } : Jvm.MethodName) prog_9_method_2_code (2 : Nat) (Option.none : Option Jvm.ClassFile.FieldType)) ∈ lw_all := lw_g (lw_at lw_m2 223 rfl) rfl
theorem q540 : (Jvm.Cond.methodLink "DomeNights$Show" (29 : Nat) ({ cls := "DomeNights$Show", name := "<init>", desc := "(ILDomeNights$Time;)V" } : Jvm.MethodName)) ∈ lw_all := lw_g (lw_at lw_m2 224 rfl) rfl
theorem q541 : (Jvm.Cond.instanceMethod ({ cls := "DomeNights$Show", name := "<init>", desc := "(ILDomeNights$Time;)V" } : Jvm.MethodName)) ∈ lw_all := lw_g (lw_at lw_m2 225 rfl) rfl
theorem q542 : (Jvm.Cond.code ({ cls := "DomeNights$Show", name := "<init>", desc := "(ILDomeNights$Time;)V" } : Jvm.MethodName) prog_9_method_1_code (4 : Nat) (Option.none : Option Jvm.ClassFile.FieldType)) ∈ lw_all := lw_g (lw_at lw_m2 226 rfl) rfl
theorem q543 : (Jvm.Cond.methodLink "DomeNights$Show" (3 : Nat) ({ cls := "java/lang/Object", name := "<init>", desc := "()V" } : Jvm.MethodName)) ∈ lw_all := lw_g (lw_at lw_m2 227 rfl) rfl
theorem q544 : (Jvm.Cond.fieldLink "DomeNights$Show" (22 : Nat) "DomeNights$Show" "kind" "I") ∈ lw_all := lw_g (lw_at lw_m2 228 rfl) rfl
theorem q548 : (Jvm.Cond.fieldLink "DomeNights$Show" (25 : Nat) "DomeNights$Show" "time" "LDomeNights$Time;") ∈ lw_all := lw_g (lw_at lw_m2 232 rfl) rfl
theorem q552 : (Jvm.Cond.fieldLink "DomeNights$Show" (9 : Nat) "DomeNights$Show" "state" "I") ∈ lw_all := lw_g (lw_at lw_m2 236 rfl) rfl
theorem q555 : (Jvm.Cond.fieldLink "DomeNights$Show" (15 : Nat) "DomeNights$Show" "lamp" "I") ∈ lw_all := lw_g (lw_at lw_m2 239 rfl) rfl
theorem q558 : (Jvm.Cond.fieldLink "DomeNights$Show" (32 : Nat) "DomeNights$Show" "worn" "I") ∈ lw_all := lw_g (lw_at lw_m3 2 rfl) rfl
theorem q561 : (Jvm.Cond.fieldLink "DomeNights$Show" (35 : Nat) "DomeNights$Show" "moved" "I") ∈ lw_all := lw_g (lw_at lw_m3 5 rfl) rfl
theorem q564 : (Jvm.Cond.fieldLink "DomeNights$Show" (18 : Nat) "DomeNights$Show" "free" "[I") ∈ lw_all := lw_g (lw_at lw_m3 8 rfl) rfl
theorem q567 : (Jvm.Cond.laysFinal "DomeNights$Show" "DomeNights$Show" "kind" "I") ∈ lw_all := lw_g (lw_at lw_m3 11 rfl) rfl
theorem q568 : (Jvm.Cond.soleField "DomeNights$Show" "kind") ∈ lw_all := lw_g (lw_at lw_m3 12 rfl) rfl
theorem q569 : (Jvm.Cond.lays "DomeNights$Show" "DomeNights$Show" "time" "LDomeNights$Time;") ∈ lw_all := lw_g (lw_at lw_m3 13 rfl) rfl
theorem q570 : (Jvm.Cond.soleField "DomeNights$Show" "time") ∈ lw_all := lw_g (lw_at lw_m3 14 rfl) rfl
theorem q571 : (Jvm.Cond.lays "DomeNights$Show" "DomeNights$Show" "state" "I") ∈ lw_all := lw_g (lw_at lw_m3 15 rfl) rfl
theorem q572 : (Jvm.Cond.soleField "DomeNights$Show" "state") ∈ lw_all := lw_g (lw_at lw_m3 16 rfl) rfl
theorem q573 : (Jvm.Cond.lays "DomeNights$Show" "DomeNights$Show" "lamp" "I") ∈ lw_all := lw_g (lw_at lw_m3 17 rfl) rfl
theorem q574 : (Jvm.Cond.soleField "DomeNights$Show" "lamp") ∈ lw_all := lw_g (lw_at lw_m3 18 rfl) rfl
theorem q575 : (Jvm.Cond.lays "DomeNights$Show" "DomeNights$Show" "worn" "I") ∈ lw_all := lw_g (lw_at lw_m3 19 rfl) rfl
theorem q576 : (Jvm.Cond.soleField "DomeNights$Show" "worn") ∈ lw_all := lw_g (lw_at lw_m3 20 rfl) rfl
theorem q577 : (Jvm.Cond.lays "DomeNights$Show" "DomeNights$Show" "moved" "I") ∈ lw_all := lw_g (lw_at lw_m3 21 rfl) rfl
theorem q578 : (Jvm.Cond.soleField "DomeNights$Show" "moved") ∈ lw_all := lw_g (lw_at lw_m3 22 rfl) rfl
theorem q579 : (Jvm.Cond.laysFinal "DomeNights$Show" "DomeNights$Show" "free" "[I") ∈ lw_all := lw_g (lw_at lw_m3 23 rfl) rfl
theorem q580 : (Jvm.Cond.soleField "DomeNights$Show" "free") ∈ lw_all := lw_g (lw_at lw_m3 24 rfl) rfl
theorem q581 : (Jvm.Cond.superclass "DomeNights$Show" "java/lang/Object") ∈ lw_all := lw_g (lw_at lw_m3 25 rfl) rfl
theorem q582 : (Jvm.Cond.methodLink "DomeNights$Show" (38 : Nat) ({ cls := "java/lang/System", name := "arraycopy", desc := "(Ljava/lang/Object;ILjava/lang/Object;II)V" } : Jvm.MethodName)) ∈ lw_all := lw_g (lw_at lw_m3 26 rfl) rfl
theorem q1103 : (Jvm.Cond.selects "DomeNights$Show" ({ cls := "java/lang/Object", name := "hashCode", desc := "()I" } : Jvm.MethodName) ({ cls := "java/lang/Object", name := "hashCode", desc := "()I" } : Jvm.MethodName)) ∈ lw_all := lw_g (lw_at lw_m5 67 rfl) rfl
theorem q1137 : (Jvm.Cond.selects "DomeNights$Show" ({ cls := "java/lang/Object", name := "equals", desc := "(Ljava/lang/Object;)Z" } : Jvm.MethodName) ({ cls := "java/lang/Object", name := "equals", desc := "(Ljava/lang/Object;)Z" } : Jvm.MethodName)) ∈ lw_all := lw_g (lw_at lw_m5 101 rfl) rfl
theorem q1483 : (Jvm.Cond.instanceMethod ({ cls := "DomeNights$Show", name := "allFree", desc := "()I" } : Jvm.MethodName)) ∈ lw_all := lw_g (lw_at lw_m6 207 rfl) rfl
theorem q1484 : (Jvm.Cond.selects "DomeNights$Show" ({ cls := "DomeNights$Show", name := "allFree", desc := "()I" } : Jvm.MethodName) ({ cls := "DomeNights$Show", name := "allFree", desc := "()I" } : Jvm.MethodName)) ∈ lw_all := lw_g (lw_at lw_m6 208 rfl) rfl
theorem q1485 : (Jvm.Cond.code ({ cls := "DomeNights$Show", name := "allFree", desc := "()I" } : Jvm.MethodName) prog_9_method_3_code (6 : Nat) (Option.some Jvm.ClassFile.FieldType.int)) ∈ lw_all := lw_g (lw_at lw_m6 209 rfl) rfl
theorem q1492 : (Jvm.Cond.instanceMethod ({ cls := "DomeNights$Show", name := "seat", desc := "([II)V" } : Jvm.MethodName)) ∈ lw_all := lw_g (lw_at lw_m6 216 rfl) rfl
theorem q1493 : (Jvm.Cond.selects "DomeNights$Show" ({ cls := "DomeNights$Show", name := "seat", desc := "([II)V" } : Jvm.MethodName) ({ cls := "DomeNights$Show", name := "seat", desc := "([II)V" } : Jvm.MethodName)) ∈ lw_all := lw_g (lw_at lw_m6 217 rfl) rfl
theorem q1494 : (Jvm.Cond.code ({ cls := "DomeNights$Show", name := "seat", desc := "([II)V" } : Jvm.MethodName) prog_9_method_5_code (6 : Nat) (Option.none : Option Jvm.ClassFile.FieldType)) ∈ lw_all := lw_g (lw_at lw_m6 218 rfl) rfl
theorem q1495 : (Jvm.Cond.methodLink "DomeNights$Show" (44 : Nat) ({ cls := "DomeNights$Show", name := "rowFor", desc := "(I)I" } : Jvm.MethodName)) ∈ lw_all := lw_g (lw_at lw_m6 219 rfl) rfl
theorem q1496 : (Jvm.Cond.instanceMethod ({ cls := "DomeNights$Show", name := "rowFor", desc := "(I)I" } : Jvm.MethodName)) ∈ lw_all := lw_g (lw_at lw_m6 220 rfl) rfl
theorem q1497 : (Jvm.Cond.selects "DomeNights$Show" ({ cls := "DomeNights$Show", name := "rowFor", desc := "(I)I" } : Jvm.MethodName) ({ cls := "DomeNights$Show", name := "rowFor", desc := "(I)I" } : Jvm.MethodName)) ∈ lw_all := lw_g (lw_at lw_m6 221 rfl) rfl
theorem q1498 : (Jvm.Cond.code ({ cls := "DomeNights$Show", name := "rowFor", desc := "(I)I" } : Jvm.MethodName) prog_9_method_4_code (5 : Nat) (Option.some Jvm.ClassFile.FieldType.int)) ∈ lw_all := lw_g (lw_at lw_m6 222 rfl) rfl
theorem q1499 : (Jvm.Cond.methodLink "DomeNights$Show" (48 : Nat) ({ cls := "java/lang/Math", name := "min", desc := "(II)I" } : Jvm.MethodName)) ∈ lw_all := lw_g (lw_at lw_m6 223 rfl) rfl
theorem q2358 : (Jvm.Cond.castable "DomeNights$Show" "java/lang/Object") ∈ lw_tbl := lw_at lw_m10 122 rfl
theorem in_X5 : ∀ w ∈ wsX50, w ∈ lw_all := lw_in wsX50 [567, 569, 571, 573, 575, 577, 579] (by decide +kernel) (by decide +kernel)
/-! DomeNights$Booking -/
set_option maxRecDepth 100000
def RX6 : String := "DomeNights$Booking"
def TX6 : u_T := fun k => match k with
  | 0 => ("DomeNights$Booking", "show", "I", true)
  | 1 => ("DomeNights$Booking", "seats", "I", true)
  | 2 => ("DomeNights$Booking", "school", "I", true)
  | 3 => ("DomeNights$Booking", "isBound", "Z", true)
  | 4 => ("DomeNights$Booking", "cost", "I", true)
  | 5 => ("DomeNights$Booking", "state", "I", false)
  | 6 => ("DomeNights$Booking", "refunded", "I", false)
  | _ => ("DomeNights$Booking", "inRow", "[I", true)
def tyX6 : Nat → FieldType := fun k => match k with
  | 0 => .int
  | 1 => .int
  | 2 => .int
  | 3 => .boolean
  | 4 => .int
  | 5 => .int
  | 6 => .int
  | _ => .array .int
abbrev wsX60 : List Cond := u_ws RX6 TX6 8
theorem nmX6 : ∀ a, a < 8 → ∀ b, b < 8 → a ≠ b → (TX6 a).2.1 ≠ (TX6 b).2.1 := by decide +kernel
theorem tyX6_ok : ∀ k, k < 8 → parseFieldDescriptor (TX6 k).2.2.1 = some (tyX6 k) := by decide +kernel
abbrev cX6_init : ByteArray := prog_2_method_2_code
def yX6_init : MethodName := ⟨RX6, "<init>", "(LDomeNights$Booking;)V"⟩
def dkwX6_init_2 : List UInt8 := [180, 0, 15, 3, 16, 8, 184, 0, 41, 177]
abbrev dktX6_init_2 : List UInt8 := dkwX6_init_2 ++ []
def dkwX6_init_1 : List UInt8 := [42, 43, 180, 0, 9, 181, 0, 9, 42, 43, 180, 0, 38, 181, 0, 38, 43, 180, 0, 15, 3, 42]
abbrev dktX6_init_1 : List UInt8 := dkwX6_init_1 ++ dktX6_init_2
def dkwX6_init_0 : List UInt8 := [42, 43, 180, 0, 19, 43, 180, 0, 22, 43, 180, 0, 25, 43, 180, 0, 28, 43, 180, 0, 32, 183, 0, 35]
abbrev dktX6_init_0 : List UInt8 := dkwX6_init_0 ++ dktX6_init_1
theorem dksX6_init_0 : cX6_init.data.toList.drop 0 = dktX6_init_0 := by decide +kernel
theorem dksX6_init_1 : cX6_init.data.toList.drop 24 = dktX6_init_1 := dk_seg dksX6_init_0 24 rfl rfl
theorem dksX6_init_2 : cX6_init.data.toList.drop 46 = dktX6_init_2 := dk_seg dksX6_init_1 22 rfl rfl
theorem dX6_init_0 : decode cX6_init 0 = .ok (.aload_n 0, 1) := dk_42 (dk_at dksX6_init_0 0 rfl rfl)
theorem dX6_init_1 : decode cX6_init 1 = .ok (.aload_n 1, 1) := dk_43 (dk_at dksX6_init_0 1 rfl rfl)
theorem dX6_init_2 : decode cX6_init 2 = .ok (.getfield 19, 3) := dk_180 0 19 (dk_at dksX6_init_0 2 rfl rfl)
theorem dX6_init_5 : decode cX6_init 5 = .ok (.aload_n 1, 1) := dk_43 (dk_at dksX6_init_0 5 rfl rfl)
theorem dX6_init_6 : decode cX6_init 6 = .ok (.getfield 22, 3) := dk_180 0 22 (dk_at dksX6_init_0 6 rfl rfl)
theorem dX6_init_9 : decode cX6_init 9 = .ok (.aload_n 1, 1) := dk_43 (dk_at dksX6_init_0 9 rfl rfl)
theorem dX6_init_10 : decode cX6_init 10 = .ok (.getfield 25, 3) := dk_180 0 25 (dk_at dksX6_init_0 10 rfl rfl)
theorem dX6_init_13 : decode cX6_init 13 = .ok (.aload_n 1, 1) := dk_43 (dk_at dksX6_init_0 13 rfl rfl)
theorem dX6_init_14 : decode cX6_init 14 = .ok (.getfield 28, 3) := dk_180 0 28 (dk_at dksX6_init_0 14 rfl rfl)
theorem dX6_init_17 : decode cX6_init 17 = .ok (.aload_n 1, 1) := dk_43 (dk_at dksX6_init_0 17 rfl rfl)
theorem dX6_init_18 : decode cX6_init 18 = .ok (.getfield 32, 3) := dk_180 0 32 (dk_at dksX6_init_0 18 rfl rfl)
theorem dX6_init_21 : decode cX6_init 21 = .ok (.invokespecial 35, 3) := dk_183 0 35 (dk_at dksX6_init_0 21 rfl rfl)
theorem dX6_init_24 : decode cX6_init 24 = .ok (.aload_n 0, 1) := dk_42 (dk_at dksX6_init_1 0 rfl rfl)
theorem dX6_init_25 : decode cX6_init 25 = .ok (.aload_n 1, 1) := dk_43 (dk_at dksX6_init_1 1 rfl rfl)
theorem dX6_init_26 : decode cX6_init 26 = .ok (.getfield 9, 3) := dk_180 0 9 (dk_at dksX6_init_1 2 rfl rfl)
theorem dX6_init_29 : decode cX6_init 29 = .ok (.putfield 9, 3) := dk_181 0 9 (dk_at dksX6_init_1 5 rfl rfl)
theorem dX6_init_32 : decode cX6_init 32 = .ok (.aload_n 0, 1) := dk_42 (dk_at dksX6_init_1 8 rfl rfl)
theorem dX6_init_33 : decode cX6_init 33 = .ok (.aload_n 1, 1) := dk_43 (dk_at dksX6_init_1 9 rfl rfl)
theorem dX6_init_34 : decode cX6_init 34 = .ok (.getfield 38, 3) := dk_180 0 38 (dk_at dksX6_init_1 10 rfl rfl)
theorem dX6_init_37 : decode cX6_init 37 = .ok (.putfield 38, 3) := dk_181 0 38 (dk_at dksX6_init_1 13 rfl rfl)
theorem dX6_init_40 : decode cX6_init 40 = .ok (.aload_n 1, 1) := dk_43 (dk_at dksX6_init_1 16 rfl rfl)
theorem dX6_init_41 : decode cX6_init 41 = .ok (.getfield 15, 3) := dk_180 0 15 (dk_at dksX6_init_1 17 rfl rfl)
theorem dX6_init_44 : decode cX6_init 44 = .ok (.iconst 0, 1) := dk_3 (dk_at dksX6_init_1 20 rfl rfl)
theorem dX6_init_45 : decode cX6_init 45 = .ok (.aload_n 0, 1) := dk_42 (dk_at dksX6_init_1 21 rfl rfl)
theorem dX6_init_46 : decode cX6_init 46 = .ok (.getfield 15, 3) := dk_180 0 15 (dk_at dksX6_init_2 0 rfl rfl)
theorem dX6_init_49 : decode cX6_init 49 = .ok (.iconst 0, 1) := dk_3 (dk_at dksX6_init_2 3 rfl rfl)
theorem dX6_init_50 : decode cX6_init 50 = .ok (.bipush 8, 2) := dk_16 8 (dk_at dksX6_init_2 4 rfl rfl)
theorem dX6_init_52 : decode cX6_init 52 = .ok (.invokestatic 41, 3) := dk_184 0 41 (dk_at dksX6_init_2 6 rfl rfl)
theorem dX6_init_55 : decode cX6_init 55 = .ok (.return_, 1) := dk_177 (dk_at dksX6_init_2 9 rfl rfl)
abbrev cX6_init_2 : ByteArray := prog_2_method_1_code
def yX6_init_2 : MethodName := ⟨RX6, "<init>", "(IIIZI)V"⟩
def dkwX6_init_2_1 : List UInt8 := [181, 0, 22, 42, 29, 181, 0, 25, 42, 21, 4, 181, 0, 28, 42, 21, 5, 181, 0, 32, 177]
abbrev dktX6_init_2_1 : List UInt8 := dkwX6_init_2_1 ++ []
def dkwX6_init_2_0 : List UInt8 := [42, 183, 0, 3, 42, 3, 181, 0, 9, 42, 16, 8, 188, 10, 181, 0, 15, 42, 27, 181, 0, 19, 42, 28]
abbrev dktX6_init_2_0 : List UInt8 := dkwX6_init_2_0 ++ dktX6_init_2_1
theorem dksX6_init_2_0 : cX6_init_2.data.toList.drop 0 = dktX6_init_2_0 := by decide +kernel
theorem dksX6_init_2_1 : cX6_init_2.data.toList.drop 24 = dktX6_init_2_1 := dk_seg dksX6_init_2_0 24 rfl rfl
theorem dX6_init_2_0 : decode cX6_init_2 0 = .ok (.aload_n 0, 1) := dk_42 (dk_at dksX6_init_2_0 0 rfl rfl)
theorem dX6_init_2_1 : decode cX6_init_2 1 = .ok (.invokespecial 3, 3) := dk_183 0 3 (dk_at dksX6_init_2_0 1 rfl rfl)
theorem dX6_init_2_4 : decode cX6_init_2 4 = .ok (.aload_n 0, 1) := dk_42 (dk_at dksX6_init_2_0 4 rfl rfl)
theorem dX6_init_2_5 : decode cX6_init_2 5 = .ok (.iconst 0, 1) := dk_3 (dk_at dksX6_init_2_0 5 rfl rfl)
theorem dX6_init_2_6 : decode cX6_init_2 6 = .ok (.putfield 9, 3) := dk_181 0 9 (dk_at dksX6_init_2_0 6 rfl rfl)
theorem dX6_init_2_9 : decode cX6_init_2 9 = .ok (.aload_n 0, 1) := dk_42 (dk_at dksX6_init_2_0 9 rfl rfl)
theorem dX6_init_2_10 : decode cX6_init_2 10 = .ok (.bipush 8, 2) := dk_16 8 (dk_at dksX6_init_2_0 10 rfl rfl)
theorem dX6_init_2_12 : decode cX6_init_2 12 = .ok (.newarray .int, 2) := dk_188_10 (dk_at dksX6_init_2_0 12 rfl rfl)
theorem dX6_init_2_14 : decode cX6_init_2 14 = .ok (.putfield 15, 3) := dk_181 0 15 (dk_at dksX6_init_2_0 14 rfl rfl)
theorem dX6_init_2_17 : decode cX6_init_2 17 = .ok (.aload_n 0, 1) := dk_42 (dk_at dksX6_init_2_0 17 rfl rfl)
theorem dX6_init_2_18 : decode cX6_init_2 18 = .ok (.iload_n 1, 1) := dk_27 (dk_at dksX6_init_2_0 18 rfl rfl)
theorem dX6_init_2_19 : decode cX6_init_2 19 = .ok (.putfield 19, 3) := dk_181 0 19 (dk_at dksX6_init_2_0 19 rfl rfl)
theorem dX6_init_2_22 : decode cX6_init_2 22 = .ok (.aload_n 0, 1) := dk_42 (dk_at dksX6_init_2_0 22 rfl rfl)
theorem dX6_init_2_23 : decode cX6_init_2 23 = .ok (.iload_n 2, 1) := dk_28 (dk_at dksX6_init_2_0 23 rfl rfl)
theorem dX6_init_2_24 : decode cX6_init_2 24 = .ok (.putfield 22, 3) := dk_181 0 22 (dk_at dksX6_init_2_1 0 rfl rfl)
theorem dX6_init_2_27 : decode cX6_init_2 27 = .ok (.aload_n 0, 1) := dk_42 (dk_at dksX6_init_2_1 3 rfl rfl)
theorem dX6_init_2_28 : decode cX6_init_2 28 = .ok (.iload_n 3, 1) := dk_29 (dk_at dksX6_init_2_1 4 rfl rfl)
theorem dX6_init_2_29 : decode cX6_init_2 29 = .ok (.putfield 25, 3) := dk_181 0 25 (dk_at dksX6_init_2_1 5 rfl rfl)
theorem dX6_init_2_32 : decode cX6_init_2 32 = .ok (.aload_n 0, 1) := dk_42 (dk_at dksX6_init_2_1 8 rfl rfl)
theorem dX6_init_2_33 : decode cX6_init_2 33 = .ok (.iload 4, 2) := dk_21 4 (dk_at dksX6_init_2_1 9 rfl rfl)
theorem dX6_init_2_35 : decode cX6_init_2 35 = .ok (.putfield 28, 3) := dk_181 0 28 (dk_at dksX6_init_2_1 11 rfl rfl)
theorem dX6_init_2_38 : decode cX6_init_2 38 = .ok (.aload_n 0, 1) := dk_42 (dk_at dksX6_init_2_1 14 rfl rfl)
theorem dX6_init_2_39 : decode cX6_init_2 39 = .ok (.iload 5, 2) := dk_21 5 (dk_at dksX6_init_2_1 15 rfl rfl)
theorem dX6_init_2_41 : decode cX6_init_2 41 = .ok (.putfield 32, 3) := dk_181 0 32 (dk_at dksX6_init_2_1 17 rfl rfl)
theorem dX6_init_2_44 : decode cX6_init_2 44 = .ok (.return_, 1) := dk_177 (dk_at dksX6_init_2_1 20 rfl rfl)
abbrev cX6_leaves : ByteArray := prog_2_method_3_code
def yX6_leaves : MethodName := ⟨RX6, "leaves", "(LDomeNights$Show;II)V"⟩
def dkwX6_leaves_2 : List UInt8 := [167, 255, 221, 177]
abbrev dktX6_leaves_2 : List UInt8 := dkwX6_leaves_2 ++ []
def dkwX6_leaves_1 : List UInt8 := [21, 4, 92, 46, 42, 180, 0, 15, 21, 4, 46, 96, 79, 42, 180, 0, 15, 21, 4, 3, 79, 132, 4, 1]
abbrev dktX6_leaves_1 : List UInt8 := dkwX6_leaves_1 ++ dktX6_leaves_2
def dkwX6_leaves_0 : List UInt8 := [42, 28, 181, 0, 9, 42, 29, 181, 0, 38, 3, 54, 4, 21, 4, 16, 8, 162, 0, 34, 43, 180, 0, 47]
abbrev dktX6_leaves_0 : List UInt8 := dkwX6_leaves_0 ++ dktX6_leaves_1
theorem dksX6_leaves_0 : cX6_leaves.data.toList.drop 0 = dktX6_leaves_0 := by decide +kernel
theorem dksX6_leaves_1 : cX6_leaves.data.toList.drop 24 = dktX6_leaves_1 := dk_seg dksX6_leaves_0 24 rfl rfl
theorem dksX6_leaves_2 : cX6_leaves.data.toList.drop 48 = dktX6_leaves_2 := dk_seg dksX6_leaves_1 24 rfl rfl
theorem dX6_leaves_0 : decode cX6_leaves 0 = .ok (.aload_n 0, 1) := dk_42 (dk_at dksX6_leaves_0 0 rfl rfl)
theorem dX6_leaves_1 : decode cX6_leaves 1 = .ok (.iload_n 2, 1) := dk_28 (dk_at dksX6_leaves_0 1 rfl rfl)
theorem dX6_leaves_2 : decode cX6_leaves 2 = .ok (.putfield 9, 3) := dk_181 0 9 (dk_at dksX6_leaves_0 2 rfl rfl)
theorem dX6_leaves_5 : decode cX6_leaves 5 = .ok (.aload_n 0, 1) := dk_42 (dk_at dksX6_leaves_0 5 rfl rfl)
theorem dX6_leaves_6 : decode cX6_leaves 6 = .ok (.iload_n 3, 1) := dk_29 (dk_at dksX6_leaves_0 6 rfl rfl)
theorem dX6_leaves_7 : decode cX6_leaves 7 = .ok (.putfield 38, 3) := dk_181 0 38 (dk_at dksX6_leaves_0 7 rfl rfl)
theorem dX6_leaves_10 : decode cX6_leaves 10 = .ok (.iconst 0, 1) := dk_3 (dk_at dksX6_leaves_0 10 rfl rfl)
theorem dX6_leaves_11 : decode cX6_leaves 11 = .ok (.istore 4, 2) := dk_54 4 (dk_at dksX6_leaves_0 11 rfl rfl)
theorem dX6_leaves_13 : decode cX6_leaves 13 = .ok (.iload 4, 2) := dk_21 4 (dk_at dksX6_leaves_0 13 rfl rfl)
theorem dX6_leaves_15 : decode cX6_leaves 15 = .ok (.bipush 8, 2) := dk_16 8 (dk_at dksX6_leaves_0 15 rfl rfl)
theorem dX6_leaves_17 : decode cX6_leaves 17 = .ok (.if_icmp .ge 34, 3) := dk_162 0 34 (dk_at dksX6_leaves_0 17 rfl rfl)
theorem dX6_leaves_20 : decode cX6_leaves 20 = .ok (.aload_n 1, 1) := dk_43 (dk_at dksX6_leaves_0 20 rfl rfl)
theorem dX6_leaves_21 : decode cX6_leaves 21 = .ok (.getfield 47, 3) := dk_180 0 47 (dk_at dksX6_leaves_0 21 rfl rfl)
theorem dX6_leaves_24 : decode cX6_leaves 24 = .ok (.iload 4, 2) := dk_21 4 (dk_at dksX6_leaves_1 0 rfl rfl)
theorem dX6_leaves_26 : decode cX6_leaves 26 = .ok (.dup2, 1) := dk_92 (dk_at dksX6_leaves_1 2 rfl rfl)
theorem dX6_leaves_27 : decode cX6_leaves 27 = .ok (.iaload, 1) := dk_46 (dk_at dksX6_leaves_1 3 rfl rfl)
theorem dX6_leaves_28 : decode cX6_leaves 28 = .ok (.aload_n 0, 1) := dk_42 (dk_at dksX6_leaves_1 4 rfl rfl)
theorem dX6_leaves_29 : decode cX6_leaves 29 = .ok (.getfield 15, 3) := dk_180 0 15 (dk_at dksX6_leaves_1 5 rfl rfl)
theorem dX6_leaves_32 : decode cX6_leaves 32 = .ok (.iload 4, 2) := dk_21 4 (dk_at dksX6_leaves_1 8 rfl rfl)
theorem dX6_leaves_34 : decode cX6_leaves 34 = .ok (.iaload, 1) := dk_46 (dk_at dksX6_leaves_1 10 rfl rfl)
theorem dX6_leaves_35 : decode cX6_leaves 35 = .ok (.iadd, 1) := dk_96 (dk_at dksX6_leaves_1 11 rfl rfl)
theorem dX6_leaves_36 : decode cX6_leaves 36 = .ok (.iastore, 1) := dk_79 (dk_at dksX6_leaves_1 12 rfl rfl)
theorem dX6_leaves_37 : decode cX6_leaves 37 = .ok (.aload_n 0, 1) := dk_42 (dk_at dksX6_leaves_1 13 rfl rfl)
theorem dX6_leaves_38 : decode cX6_leaves 38 = .ok (.getfield 15, 3) := dk_180 0 15 (dk_at dksX6_leaves_1 14 rfl rfl)
theorem dX6_leaves_41 : decode cX6_leaves 41 = .ok (.iload 4, 2) := dk_21 4 (dk_at dksX6_leaves_1 17 rfl rfl)
theorem dX6_leaves_43 : decode cX6_leaves 43 = .ok (.iconst 0, 1) := dk_3 (dk_at dksX6_leaves_1 19 rfl rfl)
theorem dX6_leaves_44 : decode cX6_leaves 44 = .ok (.iastore, 1) := dk_79 (dk_at dksX6_leaves_1 20 rfl rfl)
theorem dX6_leaves_45 : decode cX6_leaves 45 = .ok (.iinc 4 1, 3) := dk_132 4 1 (dk_at dksX6_leaves_1 21 rfl rfl)
theorem dX6_leaves_48 : decode cX6_leaves 48 = .ok (.goto (-35), 3) := dk_167 255 221 (dk_at dksX6_leaves_2 0 rfl rfl)
theorem dX6_leaves_51 : decode cX6_leaves 51 = .ok (.return_, 1) := dk_177 (dk_at dksX6_leaves_2 3 rfl rfl)
theorem q99 : (Jvm.Cond.initialized "DomeNights$Booking") ∈ lw_all := lw_g (lw_at lw_m1 23 rfl) rfl
theorem q478 : (Jvm.Cond.selects "DomeNights$Booking" ({ cls := "java/lang/Object", name := "getClass", desc := "()Ljava/lang/Class;" } : Jvm.MethodName) ({ cls := "java/lang/Object", name := "getClass", desc := "()Ljava/lang/Class;" } : Jvm.MethodName)) ∈ lw_all := lw_g (lw_at lw_m2 162 rfl) rfl
theorem q565 : (Jvm.Cond.fieldLinkNest "DomeNights$Booking" (47 : Nat) "DomeNights$Show" "free" "[I" "DomeNights") ∈ lw_tbl := lw_at lw_m3 9 rfl
theorem q584 : (Jvm.Cond.instantiable "DomeNights$Booking" (8 : Nat)) ∈ lw_all := lw_g (lw_at lw_m3 28 rfl) rfl
theorem q586 : (Jvm.Cond.instanceMethod ({ cls := "DomeNights$Booking", name := "<init>", desc := "(LDomeNights$Booking;)V" } : Jvm.MethodName)) ∈ lw_all := lw_g (lw_at lw_m3 30 rfl) rfl
theorem q587 : (Jvm.Cond.code ({ cls := "DomeNights$Booking", name := "<init>", desc := "(LDomeNights$Booking;)V" } : Jvm.MethodName) prog_2_method_2_code (2 : Nat) (Option.none : Option Jvm.ClassFile.FieldType)) ∈ lw_all := lw_g (lw_at lw_m3 31 rfl) rfl
theorem q588 : (Jvm.Cond.methodLink "DomeNights$Booking" (35 : Nat) ({ cls := "DomeNights$Booking", name := "<init>", desc := "(IIIZI)V" } : Jvm.MethodName)) ∈ lw_all := lw_g (lw_at lw_m3 32 rfl) rfl
theorem q589 : (Jvm.Cond.instanceMethod ({ cls := "DomeNights$Booking", name := "<init>", desc := "(IIIZI)V" } : Jvm.MethodName)) ∈ lw_all := lw_g (lw_at lw_m3 33 rfl) rfl
theorem q590 : (Jvm.Cond.code ({ cls := "DomeNights$Booking", name := "<init>", desc := "(IIIZI)V" } : Jvm.MethodName) prog_2_method_1_code (6 : Nat) (Option.none : Option Jvm.ClassFile.FieldType)) ∈ lw_all := lw_g (lw_at lw_m3 34 rfl) rfl
theorem q591 : (Jvm.Cond.methodLink "DomeNights$Booking" (3 : Nat) ({ cls := "java/lang/Object", name := "<init>", desc := "()V" } : Jvm.MethodName)) ∈ lw_all := lw_g (lw_at lw_m3 35 rfl) rfl
theorem q592 : (Jvm.Cond.fieldLink "DomeNights$Booking" (19 : Nat) "DomeNights$Booking" "show" "I") ∈ lw_all := lw_g (lw_at lw_m3 36 rfl) rfl
theorem q595 : (Jvm.Cond.fieldLink "DomeNights$Booking" (22 : Nat) "DomeNights$Booking" "seats" "I") ∈ lw_all := lw_g (lw_at lw_m3 39 rfl) rfl
theorem q598 : (Jvm.Cond.fieldLink "DomeNights$Booking" (25 : Nat) "DomeNights$Booking" "school" "I") ∈ lw_all := lw_g (lw_at lw_m3 42 rfl) rfl
theorem q602 : (Jvm.Cond.fieldLink "DomeNights$Booking" (28 : Nat) "DomeNights$Booking" "isBound" "Z") ∈ lw_all := lw_g (lw_at lw_m3 46 rfl) rfl
theorem q605 : (Jvm.Cond.fieldLink "DomeNights$Booking" (32 : Nat) "DomeNights$Booking" "cost" "I") ∈ lw_all := lw_g (lw_at lw_m3 49 rfl) rfl
theorem q608 : (Jvm.Cond.fieldLink "DomeNights$Booking" (9 : Nat) "DomeNights$Booking" "state" "I") ∈ lw_all := lw_g (lw_at lw_m3 52 rfl) rfl
theorem q611 : (Jvm.Cond.fieldLink "DomeNights$Booking" (38 : Nat) "DomeNights$Booking" "refunded" "I") ∈ lw_all := lw_g (lw_at lw_m3 55 rfl) rfl
theorem q614 : (Jvm.Cond.fieldLink "DomeNights$Booking" (15 : Nat) "DomeNights$Booking" "inRow" "[I") ∈ lw_all := lw_g (lw_at lw_m3 58 rfl) rfl
theorem q617 : (Jvm.Cond.laysFinal "DomeNights$Booking" "DomeNights$Booking" "show" "I") ∈ lw_all := lw_g (lw_at lw_m3 61 rfl) rfl
theorem q618 : (Jvm.Cond.soleField "DomeNights$Booking" "show") ∈ lw_all := lw_g (lw_at lw_m3 62 rfl) rfl
theorem q619 : (Jvm.Cond.laysFinal "DomeNights$Booking" "DomeNights$Booking" "seats" "I") ∈ lw_all := lw_g (lw_at lw_m3 63 rfl) rfl
theorem q620 : (Jvm.Cond.soleField "DomeNights$Booking" "seats") ∈ lw_all := lw_g (lw_at lw_m3 64 rfl) rfl
theorem q621 : (Jvm.Cond.laysFinal "DomeNights$Booking" "DomeNights$Booking" "school" "I") ∈ lw_all := lw_g (lw_at lw_m3 65 rfl) rfl
theorem q622 : (Jvm.Cond.soleField "DomeNights$Booking" "school") ∈ lw_all := lw_g (lw_at lw_m3 66 rfl) rfl
theorem q623 : (Jvm.Cond.laysFinal "DomeNights$Booking" "DomeNights$Booking" "isBound" "Z") ∈ lw_all := lw_g (lw_at lw_m3 67 rfl) rfl
theorem q624 : (Jvm.Cond.soleField "DomeNights$Booking" "isBound") ∈ lw_all := lw_g (lw_at lw_m3 68 rfl) rfl
theorem q625 : (Jvm.Cond.laysFinal "DomeNights$Booking" "DomeNights$Booking" "cost" "I") ∈ lw_all := lw_g (lw_at lw_m3 69 rfl) rfl
theorem q626 : (Jvm.Cond.soleField "DomeNights$Booking" "cost") ∈ lw_all := lw_g (lw_at lw_m3 70 rfl) rfl
theorem q627 : (Jvm.Cond.lays "DomeNights$Booking" "DomeNights$Booking" "state" "I") ∈ lw_all := lw_g (lw_at lw_m3 71 rfl) rfl
theorem q628 : (Jvm.Cond.soleField "DomeNights$Booking" "state") ∈ lw_all := lw_g (lw_at lw_m3 72 rfl) rfl
theorem q629 : (Jvm.Cond.lays "DomeNights$Booking" "DomeNights$Booking" "refunded" "I") ∈ lw_all := lw_g (lw_at lw_m3 73 rfl) rfl
theorem q630 : (Jvm.Cond.soleField "DomeNights$Booking" "refunded") ∈ lw_all := lw_g (lw_at lw_m3 74 rfl) rfl
theorem q631 : (Jvm.Cond.laysFinal "DomeNights$Booking" "DomeNights$Booking" "inRow" "[I") ∈ lw_all := lw_g (lw_at lw_m3 75 rfl) rfl
theorem q632 : (Jvm.Cond.soleField "DomeNights$Booking" "inRow") ∈ lw_all := lw_g (lw_at lw_m3 76 rfl) rfl
theorem q633 : (Jvm.Cond.superclass "DomeNights$Booking" "java/lang/Object") ∈ lw_all := lw_g (lw_at lw_m3 77 rfl) rfl
theorem q634 : (Jvm.Cond.methodLink "DomeNights$Booking" (41 : Nat) ({ cls := "java/lang/System", name := "arraycopy", desc := "(Ljava/lang/Object;ILjava/lang/Object;II)V" } : Jvm.MethodName)) ∈ lw_all := lw_g (lw_at lw_m3 78 rfl) rfl
theorem q1096 : (Jvm.Cond.selects "DomeNights$Booking" ({ cls := "java/lang/Object", name := "hashCode", desc := "()I" } : Jvm.MethodName) ({ cls := "java/lang/Object", name := "hashCode", desc := "()I" } : Jvm.MethodName)) ∈ lw_all := lw_g (lw_at lw_m5 60 rfl) rfl
theorem q1130 : (Jvm.Cond.selects "DomeNights$Booking" ({ cls := "java/lang/Object", name := "equals", desc := "(Ljava/lang/Object;)Z" } : Jvm.MethodName) ({ cls := "java/lang/Object", name := "equals", desc := "(Ljava/lang/Object;)Z" } : Jvm.MethodName)) ∈ lw_all := lw_g (lw_at lw_m5 94 rfl) rfl
theorem q1466 : (Jvm.Cond.instanceMethod ({ cls := "DomeNights$Booking", name := "leaves", desc := "(LDomeNights$Show;II)V" } : Jvm.MethodName)) ∈ lw_all := lw_g (lw_at lw_m6 190 rfl) rfl
theorem q1467 : (Jvm.Cond.selects "DomeNights$Booking" ({ cls := "DomeNights$Booking", name := "leaves", desc := "(LDomeNights$Show;II)V" } : Jvm.MethodName) ({ cls := "DomeNights$Booking", name := "leaves", desc := "(LDomeNights$Show;II)V" } : Jvm.MethodName)) ∈ lw_all := lw_g (lw_at lw_m6 191 rfl) rfl
theorem q1468 : (Jvm.Cond.code ({ cls := "DomeNights$Booking", name := "leaves", desc := "(LDomeNights$Show;II)V" } : Jvm.MethodName) prog_2_method_3_code (5 : Nat) (Option.none : Option Jvm.ClassFile.FieldType)) ∈ lw_all := lw_g (lw_at lw_m6 192 rfl) rfl
theorem q2359 : (Jvm.Cond.castable "DomeNights$Booking" "java/lang/Object") ∈ lw_tbl := lw_at lw_m10 123 rfl
theorem in_X6 : ∀ w ∈ wsX60, w ∈ lw_all := lw_in wsX60 [617, 619, 621, 623, 625, 627, 629, 631] (by decide +kernel) (by decide +kernel)
/-! DomeNights$Promise -/
set_option maxRecDepth 100000
def RX7 : String := "DomeNights$Promise"
def TX7 : u_T := fun k => match k with
  | 0 => ("DomeNights$Promise", "school", "I", true)
  | 1 => ("DomeNights$Promise", "kind", "I", true)
  | 2 => ("DomeNights$Promise", "seats", "I", true)
  | 3 => ("DomeNights$Promise", "last", "I", true)
  | 4 => ("DomeNights$Promise", "state", "I", false)
  | _ => ("DomeNights$Promise", "counted", "[I", true)
def tyX7 : Nat → FieldType := fun k => match k with
  | 0 => .int
  | 1 => .int
  | 2 => .int
  | 3 => .int
  | 4 => .int
  | _ => .array .int
abbrev wsX70 : List Cond := u_ws RX7 TX7 6
theorem nmX7 : ∀ a, a < 6 → ∀ b, b < 6 → a ≠ b → (TX7 a).2.1 ≠ (TX7 b).2.1 := by decide +kernel
theorem tyX7_ok : ∀ k, k < 6 → parseFieldDescriptor (TX7 k).2.2.1 = some (tyX7 k) := by decide +kernel
abbrev cX7_init : ByteArray := prog_7_method_2_code
def yX7_init : MethodName := ⟨RX7, "<init>", "(LDomeNights$Promise;)V"⟩
def dkwX7_init_2 : List UInt8 := [177]
abbrev dktX7_init_2 : List UInt8 := dkwX7_init_2 ++ []
def dkwX7_init_1 : List UInt8 := [180, 0, 9, 181, 0, 9, 43, 180, 0, 15, 3, 42, 180, 0, 15, 3, 42, 180, 0, 15, 190, 184, 0, 34]
abbrev dktX7_init_1 : List UInt8 := dkwX7_init_1 ++ dktX7_init_2
def dkwX7_init_0 : List UInt8 := [42, 43, 180, 0, 19, 43, 180, 0, 22, 43, 180, 0, 25, 43, 180, 0, 28, 183, 0, 31, 42, 43]
abbrev dktX7_init_0 : List UInt8 := dkwX7_init_0 ++ dktX7_init_1
theorem dksX7_init_0 : cX7_init.data.toList.drop 0 = dktX7_init_0 := by decide +kernel
theorem dksX7_init_1 : cX7_init.data.toList.drop 22 = dktX7_init_1 := dk_seg dksX7_init_0 22 rfl rfl
theorem dksX7_init_2 : cX7_init.data.toList.drop 46 = dktX7_init_2 := dk_seg dksX7_init_1 24 rfl rfl
theorem dX7_init_0 : decode cX7_init 0 = .ok (.aload_n 0, 1) := dk_42 (dk_at dksX7_init_0 0 rfl rfl)
theorem dX7_init_1 : decode cX7_init 1 = .ok (.aload_n 1, 1) := dk_43 (dk_at dksX7_init_0 1 rfl rfl)
theorem dX7_init_2 : decode cX7_init 2 = .ok (.getfield 19, 3) := dk_180 0 19 (dk_at dksX7_init_0 2 rfl rfl)
theorem dX7_init_5 : decode cX7_init 5 = .ok (.aload_n 1, 1) := dk_43 (dk_at dksX7_init_0 5 rfl rfl)
theorem dX7_init_6 : decode cX7_init 6 = .ok (.getfield 22, 3) := dk_180 0 22 (dk_at dksX7_init_0 6 rfl rfl)
theorem dX7_init_9 : decode cX7_init 9 = .ok (.aload_n 1, 1) := dk_43 (dk_at dksX7_init_0 9 rfl rfl)
theorem dX7_init_10 : decode cX7_init 10 = .ok (.getfield 25, 3) := dk_180 0 25 (dk_at dksX7_init_0 10 rfl rfl)
theorem dX7_init_13 : decode cX7_init 13 = .ok (.aload_n 1, 1) := dk_43 (dk_at dksX7_init_0 13 rfl rfl)
theorem dX7_init_14 : decode cX7_init 14 = .ok (.getfield 28, 3) := dk_180 0 28 (dk_at dksX7_init_0 14 rfl rfl)
theorem dX7_init_17 : decode cX7_init 17 = .ok (.invokespecial 31, 3) := dk_183 0 31 (dk_at dksX7_init_0 17 rfl rfl)
theorem dX7_init_20 : decode cX7_init 20 = .ok (.aload_n 0, 1) := dk_42 (dk_at dksX7_init_0 20 rfl rfl)
theorem dX7_init_21 : decode cX7_init 21 = .ok (.aload_n 1, 1) := dk_43 (dk_at dksX7_init_0 21 rfl rfl)
theorem dX7_init_22 : decode cX7_init 22 = .ok (.getfield 9, 3) := dk_180 0 9 (dk_at dksX7_init_1 0 rfl rfl)
theorem dX7_init_25 : decode cX7_init 25 = .ok (.putfield 9, 3) := dk_181 0 9 (dk_at dksX7_init_1 3 rfl rfl)
theorem dX7_init_28 : decode cX7_init 28 = .ok (.aload_n 1, 1) := dk_43 (dk_at dksX7_init_1 6 rfl rfl)
theorem dX7_init_29 : decode cX7_init 29 = .ok (.getfield 15, 3) := dk_180 0 15 (dk_at dksX7_init_1 7 rfl rfl)
theorem dX7_init_32 : decode cX7_init 32 = .ok (.iconst 0, 1) := dk_3 (dk_at dksX7_init_1 10 rfl rfl)
theorem dX7_init_33 : decode cX7_init 33 = .ok (.aload_n 0, 1) := dk_42 (dk_at dksX7_init_1 11 rfl rfl)
theorem dX7_init_34 : decode cX7_init 34 = .ok (.getfield 15, 3) := dk_180 0 15 (dk_at dksX7_init_1 12 rfl rfl)
theorem dX7_init_37 : decode cX7_init 37 = .ok (.iconst 0, 1) := dk_3 (dk_at dksX7_init_1 15 rfl rfl)
theorem dX7_init_38 : decode cX7_init 38 = .ok (.aload_n 0, 1) := dk_42 (dk_at dksX7_init_1 16 rfl rfl)
theorem dX7_init_39 : decode cX7_init 39 = .ok (.getfield 15, 3) := dk_180 0 15 (dk_at dksX7_init_1 17 rfl rfl)
theorem dX7_init_42 : decode cX7_init 42 = .ok (.arraylength, 1) := dk_190 (dk_at dksX7_init_1 20 rfl rfl)
theorem dX7_init_43 : decode cX7_init 43 = .ok (.invokestatic 34, 3) := dk_184 0 34 (dk_at dksX7_init_1 21 rfl rfl)
theorem dX7_init_46 : decode cX7_init 46 = .ok (.return_, 1) := dk_177 (dk_at dksX7_init_2 0 rfl rfl)
abbrev cX7_init_2 : ByteArray := prog_7_method_1_code
def yX7_init_2 : MethodName := ⟨RX7, "<init>", "(IIII)V"⟩
def dkwX7_init_2_1 : List UInt8 := [181, 0, 22, 42, 29, 181, 0, 25, 42, 21, 4, 181, 0, 28, 177]
abbrev dktX7_init_2_1 : List UInt8 := dkwX7_init_2_1 ++ []
def dkwX7_init_2_0 : List UInt8 := [42, 183, 0, 3, 42, 3, 181, 0, 9, 42, 8, 188, 10, 181, 0, 15, 42, 27, 181, 0, 19, 42, 28]
abbrev dktX7_init_2_0 : List UInt8 := dkwX7_init_2_0 ++ dktX7_init_2_1
theorem dksX7_init_2_0 : cX7_init_2.data.toList.drop 0 = dktX7_init_2_0 := by decide +kernel
theorem dksX7_init_2_1 : cX7_init_2.data.toList.drop 23 = dktX7_init_2_1 := dk_seg dksX7_init_2_0 23 rfl rfl
theorem dX7_init_2_0 : decode cX7_init_2 0 = .ok (.aload_n 0, 1) := dk_42 (dk_at dksX7_init_2_0 0 rfl rfl)
theorem dX7_init_2_1 : decode cX7_init_2 1 = .ok (.invokespecial 3, 3) := dk_183 0 3 (dk_at dksX7_init_2_0 1 rfl rfl)
theorem dX7_init_2_4 : decode cX7_init_2 4 = .ok (.aload_n 0, 1) := dk_42 (dk_at dksX7_init_2_0 4 rfl rfl)
theorem dX7_init_2_5 : decode cX7_init_2 5 = .ok (.iconst 0, 1) := dk_3 (dk_at dksX7_init_2_0 5 rfl rfl)
theorem dX7_init_2_6 : decode cX7_init_2 6 = .ok (.putfield 9, 3) := dk_181 0 9 (dk_at dksX7_init_2_0 6 rfl rfl)
theorem dX7_init_2_9 : decode cX7_init_2 9 = .ok (.aload_n 0, 1) := dk_42 (dk_at dksX7_init_2_0 9 rfl rfl)
theorem dX7_init_2_10 : decode cX7_init_2 10 = .ok (.iconst 5, 1) := dk_8 (dk_at dksX7_init_2_0 10 rfl rfl)
theorem dX7_init_2_11 : decode cX7_init_2 11 = .ok (.newarray .int, 2) := dk_188_10 (dk_at dksX7_init_2_0 11 rfl rfl)
theorem dX7_init_2_13 : decode cX7_init_2 13 = .ok (.putfield 15, 3) := dk_181 0 15 (dk_at dksX7_init_2_0 13 rfl rfl)
theorem dX7_init_2_16 : decode cX7_init_2 16 = .ok (.aload_n 0, 1) := dk_42 (dk_at dksX7_init_2_0 16 rfl rfl)
theorem dX7_init_2_17 : decode cX7_init_2 17 = .ok (.iload_n 1, 1) := dk_27 (dk_at dksX7_init_2_0 17 rfl rfl)
theorem dX7_init_2_18 : decode cX7_init_2 18 = .ok (.putfield 19, 3) := dk_181 0 19 (dk_at dksX7_init_2_0 18 rfl rfl)
theorem dX7_init_2_21 : decode cX7_init_2 21 = .ok (.aload_n 0, 1) := dk_42 (dk_at dksX7_init_2_0 21 rfl rfl)
theorem dX7_init_2_22 : decode cX7_init_2 22 = .ok (.iload_n 2, 1) := dk_28 (dk_at dksX7_init_2_0 22 rfl rfl)
theorem dX7_init_2_23 : decode cX7_init_2 23 = .ok (.putfield 22, 3) := dk_181 0 22 (dk_at dksX7_init_2_1 0 rfl rfl)
theorem dX7_init_2_26 : decode cX7_init_2 26 = .ok (.aload_n 0, 1) := dk_42 (dk_at dksX7_init_2_1 3 rfl rfl)
theorem dX7_init_2_27 : decode cX7_init_2 27 = .ok (.iload_n 3, 1) := dk_29 (dk_at dksX7_init_2_1 4 rfl rfl)
theorem dX7_init_2_28 : decode cX7_init_2 28 = .ok (.putfield 25, 3) := dk_181 0 25 (dk_at dksX7_init_2_1 5 rfl rfl)
theorem dX7_init_2_31 : decode cX7_init_2 31 = .ok (.aload_n 0, 1) := dk_42 (dk_at dksX7_init_2_1 8 rfl rfl)
theorem dX7_init_2_32 : decode cX7_init_2 32 = .ok (.iload 4, 2) := dk_21 4 (dk_at dksX7_init_2_1 9 rfl rfl)
theorem dX7_init_2_34 : decode cX7_init_2 34 = .ok (.putfield 28, 3) := dk_181 0 28 (dk_at dksX7_init_2_1 11 rfl rfl)
theorem dX7_init_2_37 : decode cX7_init_2 37 = .ok (.return_, 1) := dk_177 (dk_at dksX7_init_2_1 14 rfl rfl)
abbrev cX7_isFor : ByteArray := prog_7_method_3_code
def yX7_isFor : MethodName := ⟨RX7, "isFor", "(LDomeNights$Booking;LDomeNights$Show;)Z"⟩
def dkwX7_isFor_2 : List UInt8 := [3, 172]
abbrev dktX7_isFor_2 : List UInt8 := dkwX7_isFor_2 ++ []
def dkwX7_isFor_1 : List UInt8 := [180, 0, 22, 160, 0, 21, 44, 180, 0, 46, 180, 0, 50, 42, 180, 0, 28, 163, 0, 7, 4, 167, 0, 4]
abbrev dktX7_isFor_1 : List UInt8 := dkwX7_isFor_1 ++ dktX7_isFor_2
def dkwX7_isFor_0 : List UInt8 := [42, 180, 0, 9, 154, 0, 43, 43, 180, 0, 40, 42, 180, 0, 19, 160, 0, 32, 44, 180, 0, 43, 42]
abbrev dktX7_isFor_0 : List UInt8 := dkwX7_isFor_0 ++ dktX7_isFor_1
theorem dksX7_isFor_0 : cX7_isFor.data.toList.drop 0 = dktX7_isFor_0 := by decide +kernel
theorem dksX7_isFor_1 : cX7_isFor.data.toList.drop 23 = dktX7_isFor_1 := dk_seg dksX7_isFor_0 23 rfl rfl
theorem dksX7_isFor_2 : cX7_isFor.data.toList.drop 47 = dktX7_isFor_2 := dk_seg dksX7_isFor_1 24 rfl rfl
theorem dX7_isFor_0 : decode cX7_isFor 0 = .ok (.aload_n 0, 1) := dk_42 (dk_at dksX7_isFor_0 0 rfl rfl)
theorem dX7_isFor_1 : decode cX7_isFor 1 = .ok (.getfield 9, 3) := dk_180 0 9 (dk_at dksX7_isFor_0 1 rfl rfl)
theorem dX7_isFor_4 : decode cX7_isFor 4 = .ok (.ifCond .ne 43, 3) := dk_154 0 43 (dk_at dksX7_isFor_0 4 rfl rfl)
theorem dX7_isFor_7 : decode cX7_isFor 7 = .ok (.aload_n 1, 1) := dk_43 (dk_at dksX7_isFor_0 7 rfl rfl)
theorem dX7_isFor_8 : decode cX7_isFor 8 = .ok (.getfield 40, 3) := dk_180 0 40 (dk_at dksX7_isFor_0 8 rfl rfl)
theorem dX7_isFor_11 : decode cX7_isFor 11 = .ok (.aload_n 0, 1) := dk_42 (dk_at dksX7_isFor_0 11 rfl rfl)
theorem dX7_isFor_12 : decode cX7_isFor 12 = .ok (.getfield 19, 3) := dk_180 0 19 (dk_at dksX7_isFor_0 12 rfl rfl)
theorem dX7_isFor_15 : decode cX7_isFor 15 = .ok (.if_icmp .ne 32, 3) := dk_160 0 32 (dk_at dksX7_isFor_0 15 rfl rfl)
theorem dX7_isFor_18 : decode cX7_isFor 18 = .ok (.aload_n 2, 1) := dk_44 (dk_at dksX7_isFor_0 18 rfl rfl)
theorem dX7_isFor_19 : decode cX7_isFor 19 = .ok (.getfield 43, 3) := dk_180 0 43 (dk_at dksX7_isFor_0 19 rfl rfl)
theorem dX7_isFor_22 : decode cX7_isFor 22 = .ok (.aload_n 0, 1) := dk_42 (dk_at dksX7_isFor_0 22 rfl rfl)
theorem dX7_isFor_23 : decode cX7_isFor 23 = .ok (.getfield 22, 3) := dk_180 0 22 (dk_at dksX7_isFor_1 0 rfl rfl)
theorem dX7_isFor_26 : decode cX7_isFor 26 = .ok (.if_icmp .ne 21, 3) := dk_160 0 21 (dk_at dksX7_isFor_1 3 rfl rfl)
theorem dX7_isFor_29 : decode cX7_isFor 29 = .ok (.aload_n 2, 1) := dk_44 (dk_at dksX7_isFor_1 6 rfl rfl)
theorem dX7_isFor_30 : decode cX7_isFor 30 = .ok (.getfield 46, 3) := dk_180 0 46 (dk_at dksX7_isFor_1 7 rfl rfl)
theorem dX7_isFor_33 : decode cX7_isFor 33 = .ok (.getfield 50, 3) := dk_180 0 50 (dk_at dksX7_isFor_1 10 rfl rfl)
theorem dX7_isFor_36 : decode cX7_isFor 36 = .ok (.aload_n 0, 1) := dk_42 (dk_at dksX7_isFor_1 13 rfl rfl)
theorem dX7_isFor_37 : decode cX7_isFor 37 = .ok (.getfield 28, 3) := dk_180 0 28 (dk_at dksX7_isFor_1 14 rfl rfl)
theorem dX7_isFor_40 : decode cX7_isFor 40 = .ok (.if_icmp .gt 7, 3) := dk_163 0 7 (dk_at dksX7_isFor_1 17 rfl rfl)
theorem dX7_isFor_43 : decode cX7_isFor 43 = .ok (.iconst 1, 1) := dk_4 (dk_at dksX7_isFor_1 20 rfl rfl)
theorem dX7_isFor_44 : decode cX7_isFor 44 = .ok (.goto 4, 3) := dk_167 0 4 (dk_at dksX7_isFor_1 21 rfl rfl)
theorem dX7_isFor_47 : decode cX7_isFor 47 = .ok (.iconst 0, 1) := dk_3 (dk_at dksX7_isFor_2 0 rfl rfl)
theorem dX7_isFor_48 : decode cX7_isFor 48 = .ok (.ireturn, 1) := dk_172 (dk_at dksX7_isFor_2 1 rfl rfl)
abbrev cX7_close : ByteArray := prog_7_method_4_code
def yX7_close : MethodName := ⟨RX7, "close", "()V"⟩
def dkwX7_close_0 : List UInt8 := [42, 42, 180, 0, 15, 3, 46, 42, 180, 0, 25, 161, 0, 7, 4, 167, 0, 4, 5, 181, 0, 9, 177]
abbrev dktX7_close_0 : List UInt8 := dkwX7_close_0 ++ []
theorem dksX7_close_0 : cX7_close.data.toList.drop 0 = dktX7_close_0 := by decide +kernel
theorem dX7_close_0 : decode cX7_close 0 = .ok (.aload_n 0, 1) := dk_42 (dk_at dksX7_close_0 0 rfl rfl)
theorem dX7_close_1 : decode cX7_close 1 = .ok (.aload_n 0, 1) := dk_42 (dk_at dksX7_close_0 1 rfl rfl)
theorem dX7_close_2 : decode cX7_close 2 = .ok (.getfield 15, 3) := dk_180 0 15 (dk_at dksX7_close_0 2 rfl rfl)
theorem dX7_close_5 : decode cX7_close 5 = .ok (.iconst 0, 1) := dk_3 (dk_at dksX7_close_0 5 rfl rfl)
theorem dX7_close_6 : decode cX7_close 6 = .ok (.iaload, 1) := dk_46 (dk_at dksX7_close_0 6 rfl rfl)
theorem dX7_close_7 : decode cX7_close 7 = .ok (.aload_n 0, 1) := dk_42 (dk_at dksX7_close_0 7 rfl rfl)
theorem dX7_close_8 : decode cX7_close 8 = .ok (.getfield 25, 3) := dk_180 0 25 (dk_at dksX7_close_0 8 rfl rfl)
theorem dX7_close_11 : decode cX7_close 11 = .ok (.if_icmp .lt 7, 3) := dk_161 0 7 (dk_at dksX7_close_0 11 rfl rfl)
theorem dX7_close_14 : decode cX7_close 14 = .ok (.iconst 1, 1) := dk_4 (dk_at dksX7_close_0 14 rfl rfl)
theorem dX7_close_15 : decode cX7_close 15 = .ok (.goto 4, 3) := dk_167 0 4 (dk_at dksX7_close_0 15 rfl rfl)
theorem dX7_close_18 : decode cX7_close 18 = .ok (.iconst 2, 1) := dk_5 (dk_at dksX7_close_0 18 rfl rfl)
theorem dX7_close_19 : decode cX7_close 19 = .ok (.putfield 9, 3) := dk_181 0 9 (dk_at dksX7_close_0 19 rfl rfl)
theorem dX7_close_22 : decode cX7_close 22 = .ok (.return_, 1) := dk_177 (dk_at dksX7_close_0 22 rfl rfl)
abbrev cX7_reason : ByteArray := prog_7_method_5_code
def yX7_reason : MethodName := ⟨RX7, "reason", "()I"⟩
def dkwX7_reason_2 : List UInt8 := [132, 3, 1, 167, 255, 213, 27, 42, 180, 0, 25, 162, 0, 7, 4, 167, 0, 6, 28, 4, 96, 172]
abbrev dktX7_reason_2 : List UInt8 := dkwX7_reason_2 ++ []
def dkwX7_reason_1 : List UInt8 := [164, 0, 22, 42, 180, 0, 15, 29, 46, 42, 180, 0, 15, 28, 46, 164, 0, 7, 29, 167, 0, 4, 28, 61]
abbrev dktX7_reason_1 : List UInt8 := dkwX7_reason_1 ++ dktX7_reason_2
def dkwX7_reason_0 : List UInt8 := [3, 60, 4, 61, 3, 62, 29, 7, 163, 0, 44, 27, 42, 180, 0, 15, 29, 46, 96, 60, 29, 4]
abbrev dktX7_reason_0 : List UInt8 := dkwX7_reason_0 ++ dktX7_reason_1
theorem dksX7_reason_0 : cX7_reason.data.toList.drop 0 = dktX7_reason_0 := by decide +kernel
theorem dksX7_reason_1 : cX7_reason.data.toList.drop 22 = dktX7_reason_1 := dk_seg dksX7_reason_0 22 rfl rfl
theorem dksX7_reason_2 : cX7_reason.data.toList.drop 46 = dktX7_reason_2 := dk_seg dksX7_reason_1 24 rfl rfl
theorem dX7_reason_0 : decode cX7_reason 0 = .ok (.iconst 0, 1) := dk_3 (dk_at dksX7_reason_0 0 rfl rfl)
theorem dX7_reason_1 : decode cX7_reason 1 = .ok (.istore_n 1, 1) := dk_60 (dk_at dksX7_reason_0 1 rfl rfl)
theorem dX7_reason_2 : decode cX7_reason 2 = .ok (.iconst 1, 1) := dk_4 (dk_at dksX7_reason_0 2 rfl rfl)
theorem dX7_reason_3 : decode cX7_reason 3 = .ok (.istore_n 2, 1) := dk_61 (dk_at dksX7_reason_0 3 rfl rfl)
theorem dX7_reason_4 : decode cX7_reason 4 = .ok (.iconst 0, 1) := dk_3 (dk_at dksX7_reason_0 4 rfl rfl)
theorem dX7_reason_5 : decode cX7_reason 5 = .ok (.istore_n 3, 1) := dk_62 (dk_at dksX7_reason_0 5 rfl rfl)
theorem dX7_reason_6 : decode cX7_reason 6 = .ok (.iload_n 3, 1) := dk_29 (dk_at dksX7_reason_0 6 rfl rfl)
theorem dX7_reason_7 : decode cX7_reason 7 = .ok (.iconst 4, 1) := dk_7 (dk_at dksX7_reason_0 7 rfl rfl)
theorem dX7_reason_8 : decode cX7_reason 8 = .ok (.if_icmp .gt 44, 3) := dk_163 0 44 (dk_at dksX7_reason_0 8 rfl rfl)
theorem dX7_reason_11 : decode cX7_reason 11 = .ok (.iload_n 1, 1) := dk_27 (dk_at dksX7_reason_0 11 rfl rfl)
theorem dX7_reason_12 : decode cX7_reason 12 = .ok (.aload_n 0, 1) := dk_42 (dk_at dksX7_reason_0 12 rfl rfl)
theorem dX7_reason_13 : decode cX7_reason 13 = .ok (.getfield 15, 3) := dk_180 0 15 (dk_at dksX7_reason_0 13 rfl rfl)
theorem dX7_reason_16 : decode cX7_reason 16 = .ok (.iload_n 3, 1) := dk_29 (dk_at dksX7_reason_0 16 rfl rfl)
theorem dX7_reason_17 : decode cX7_reason 17 = .ok (.iaload, 1) := dk_46 (dk_at dksX7_reason_0 17 rfl rfl)
theorem dX7_reason_18 : decode cX7_reason 18 = .ok (.iadd, 1) := dk_96 (dk_at dksX7_reason_0 18 rfl rfl)
theorem dX7_reason_19 : decode cX7_reason 19 = .ok (.istore_n 1, 1) := dk_60 (dk_at dksX7_reason_0 19 rfl rfl)
theorem dX7_reason_20 : decode cX7_reason 20 = .ok (.iload_n 3, 1) := dk_29 (dk_at dksX7_reason_0 20 rfl rfl)
theorem dX7_reason_21 : decode cX7_reason 21 = .ok (.iconst 1, 1) := dk_4 (dk_at dksX7_reason_0 21 rfl rfl)
theorem dX7_reason_22 : decode cX7_reason 22 = .ok (.if_icmp .le 22, 3) := dk_164 0 22 (dk_at dksX7_reason_1 0 rfl rfl)
theorem dX7_reason_25 : decode cX7_reason 25 = .ok (.aload_n 0, 1) := dk_42 (dk_at dksX7_reason_1 3 rfl rfl)
theorem dX7_reason_26 : decode cX7_reason 26 = .ok (.getfield 15, 3) := dk_180 0 15 (dk_at dksX7_reason_1 4 rfl rfl)
theorem dX7_reason_29 : decode cX7_reason 29 = .ok (.iload_n 3, 1) := dk_29 (dk_at dksX7_reason_1 7 rfl rfl)
theorem dX7_reason_30 : decode cX7_reason 30 = .ok (.iaload, 1) := dk_46 (dk_at dksX7_reason_1 8 rfl rfl)
theorem dX7_reason_31 : decode cX7_reason 31 = .ok (.aload_n 0, 1) := dk_42 (dk_at dksX7_reason_1 9 rfl rfl)
theorem dX7_reason_32 : decode cX7_reason 32 = .ok (.getfield 15, 3) := dk_180 0 15 (dk_at dksX7_reason_1 10 rfl rfl)
theorem dX7_reason_35 : decode cX7_reason 35 = .ok (.iload_n 2, 1) := dk_28 (dk_at dksX7_reason_1 13 rfl rfl)
theorem dX7_reason_36 : decode cX7_reason 36 = .ok (.iaload, 1) := dk_46 (dk_at dksX7_reason_1 14 rfl rfl)
theorem dX7_reason_37 : decode cX7_reason 37 = .ok (.if_icmp .le 7, 3) := dk_164 0 7 (dk_at dksX7_reason_1 15 rfl rfl)
theorem dX7_reason_40 : decode cX7_reason 40 = .ok (.iload_n 3, 1) := dk_29 (dk_at dksX7_reason_1 18 rfl rfl)
theorem dX7_reason_41 : decode cX7_reason 41 = .ok (.goto 4, 3) := dk_167 0 4 (dk_at dksX7_reason_1 19 rfl rfl)
theorem dX7_reason_44 : decode cX7_reason 44 = .ok (.iload_n 2, 1) := dk_28 (dk_at dksX7_reason_1 22 rfl rfl)
theorem dX7_reason_45 : decode cX7_reason 45 = .ok (.istore_n 2, 1) := dk_61 (dk_at dksX7_reason_1 23 rfl rfl)
theorem dX7_reason_46 : decode cX7_reason 46 = .ok (.iinc 3 1, 3) := dk_132 3 1 (dk_at dksX7_reason_2 0 rfl rfl)
theorem dX7_reason_49 : decode cX7_reason 49 = .ok (.goto (-43), 3) := dk_167 255 213 (dk_at dksX7_reason_2 3 rfl rfl)
theorem dX7_reason_52 : decode cX7_reason 52 = .ok (.iload_n 1, 1) := dk_27 (dk_at dksX7_reason_2 6 rfl rfl)
theorem dX7_reason_53 : decode cX7_reason 53 = .ok (.aload_n 0, 1) := dk_42 (dk_at dksX7_reason_2 7 rfl rfl)
theorem dX7_reason_54 : decode cX7_reason 54 = .ok (.getfield 25, 3) := dk_180 0 25 (dk_at dksX7_reason_2 8 rfl rfl)
theorem dX7_reason_57 : decode cX7_reason 57 = .ok (.if_icmp .ge 7, 3) := dk_162 0 7 (dk_at dksX7_reason_2 11 rfl rfl)
theorem dX7_reason_60 : decode cX7_reason 60 = .ok (.iconst 1, 1) := dk_4 (dk_at dksX7_reason_2 14 rfl rfl)
theorem dX7_reason_61 : decode cX7_reason 61 = .ok (.goto 6, 3) := dk_167 0 6 (dk_at dksX7_reason_2 15 rfl rfl)
theorem dX7_reason_64 : decode cX7_reason 64 = .ok (.iload_n 2, 1) := dk_28 (dk_at dksX7_reason_2 18 rfl rfl)
theorem dX7_reason_65 : decode cX7_reason 65 = .ok (.iconst 1, 1) := dk_4 (dk_at dksX7_reason_2 19 rfl rfl)
theorem dX7_reason_66 : decode cX7_reason 66 = .ok (.iadd, 1) := dk_96 (dk_at dksX7_reason_2 20 rfl rfl)
theorem dX7_reason_67 : decode cX7_reason 67 = .ok (.ireturn, 1) := dk_172 (dk_at dksX7_reason_2 21 rfl rfl)
theorem q100 : (Jvm.Cond.initialized "DomeNights$Promise") ∈ lw_all := lw_g (lw_at lw_m1 24 rfl) rfl
theorem q483 : (Jvm.Cond.selects "DomeNights$Promise" ({ cls := "java/lang/Object", name := "getClass", desc := "()Ljava/lang/Class;" } : Jvm.MethodName) ({ cls := "java/lang/Object", name := "getClass", desc := "()Ljava/lang/Class;" } : Jvm.MethodName)) ∈ lw_all := lw_g (lw_at lw_m2 167 rfl) rfl
theorem q545 : (Jvm.Cond.fieldLinkNest "DomeNights$Promise" (43 : Nat) "DomeNights$Show" "kind" "I" "DomeNights") ∈ lw_tbl := lw_at lw_m2 229 rfl
theorem q549 : (Jvm.Cond.fieldLinkNest "DomeNights$Promise" (46 : Nat) "DomeNights$Show" "time" "LDomeNights$Time;" "DomeNights") ∈ lw_tbl := lw_at lw_m2 233 rfl
theorem q599 : (Jvm.Cond.fieldLinkNest "DomeNights$Promise" (40 : Nat) "DomeNights$Booking" "school" "I" "DomeNights") ∈ lw_tbl := lw_at lw_m3 43 rfl
theorem q636 : (Jvm.Cond.instantiable "DomeNights$Promise" (6 : Nat)) ∈ lw_all := lw_g (lw_at lw_m3 80 rfl) rfl
theorem q638 : (Jvm.Cond.instanceMethod ({ cls := "DomeNights$Promise", name := "<init>", desc := "(LDomeNights$Promise;)V" } : Jvm.MethodName)) ∈ lw_all := lw_g (lw_at lw_m3 82 rfl) rfl
theorem q639 : (Jvm.Cond.code ({ cls := "DomeNights$Promise", name := "<init>", desc := "(LDomeNights$Promise;)V" } : Jvm.MethodName) prog_7_method_2_code (2 : Nat) (Option.none : Option Jvm.ClassFile.FieldType)) ∈ lw_all := lw_g (lw_at lw_m3 83 rfl) rfl
theorem q640 : (Jvm.Cond.methodLink "DomeNights$Promise" (31 : Nat) ({ cls := "DomeNights$Promise", name := "<init>", desc := "(IIII)V" } : Jvm.MethodName)) ∈ lw_all := lw_g (lw_at lw_m3 84 rfl) rfl
theorem q641 : (Jvm.Cond.instanceMethod ({ cls := "DomeNights$Promise", name := "<init>", desc := "(IIII)V" } : Jvm.MethodName)) ∈ lw_all := lw_g (lw_at lw_m3 85 rfl) rfl
theorem q642 : (Jvm.Cond.code ({ cls := "DomeNights$Promise", name := "<init>", desc := "(IIII)V" } : Jvm.MethodName) prog_7_method_1_code (5 : Nat) (Option.none : Option Jvm.ClassFile.FieldType)) ∈ lw_all := lw_g (lw_at lw_m3 86 rfl) rfl
theorem q643 : (Jvm.Cond.methodLink "DomeNights$Promise" (3 : Nat) ({ cls := "java/lang/Object", name := "<init>", desc := "()V" } : Jvm.MethodName)) ∈ lw_all := lw_g (lw_at lw_m3 87 rfl) rfl
theorem q644 : (Jvm.Cond.fieldLink "DomeNights$Promise" (19 : Nat) "DomeNights$Promise" "school" "I") ∈ lw_all := lw_g (lw_at lw_m3 88 rfl) rfl
theorem q646 : (Jvm.Cond.fieldLink "DomeNights$Promise" (22 : Nat) "DomeNights$Promise" "kind" "I") ∈ lw_all := lw_g (lw_at lw_m3 90 rfl) rfl
theorem q648 : (Jvm.Cond.fieldLink "DomeNights$Promise" (25 : Nat) "DomeNights$Promise" "seats" "I") ∈ lw_all := lw_g (lw_at lw_m3 92 rfl) rfl
theorem q650 : (Jvm.Cond.fieldLink "DomeNights$Promise" (28 : Nat) "DomeNights$Promise" "last" "I") ∈ lw_all := lw_g (lw_at lw_m3 94 rfl) rfl
theorem q653 : (Jvm.Cond.fieldLink "DomeNights$Promise" (9 : Nat) "DomeNights$Promise" "state" "I") ∈ lw_all := lw_g (lw_at lw_m3 97 rfl) rfl
theorem q656 : (Jvm.Cond.fieldLink "DomeNights$Promise" (15 : Nat) "DomeNights$Promise" "counted" "[I") ∈ lw_all := lw_g (lw_at lw_m3 100 rfl) rfl
theorem q659 : (Jvm.Cond.laysFinal "DomeNights$Promise" "DomeNights$Promise" "school" "I") ∈ lw_all := lw_g (lw_at lw_m3 103 rfl) rfl
theorem q660 : (Jvm.Cond.soleField "DomeNights$Promise" "school") ∈ lw_all := lw_g (lw_at lw_m3 104 rfl) rfl
theorem q661 : (Jvm.Cond.laysFinal "DomeNights$Promise" "DomeNights$Promise" "kind" "I") ∈ lw_all := lw_g (lw_at lw_m3 105 rfl) rfl
theorem q662 : (Jvm.Cond.soleField "DomeNights$Promise" "kind") ∈ lw_all := lw_g (lw_at lw_m3 106 rfl) rfl
theorem q663 : (Jvm.Cond.laysFinal "DomeNights$Promise" "DomeNights$Promise" "seats" "I") ∈ lw_all := lw_g (lw_at lw_m3 107 rfl) rfl
theorem q664 : (Jvm.Cond.soleField "DomeNights$Promise" "seats") ∈ lw_all := lw_g (lw_at lw_m3 108 rfl) rfl
theorem q665 : (Jvm.Cond.laysFinal "DomeNights$Promise" "DomeNights$Promise" "last" "I") ∈ lw_all := lw_g (lw_at lw_m3 109 rfl) rfl
theorem q666 : (Jvm.Cond.soleField "DomeNights$Promise" "last") ∈ lw_all := lw_g (lw_at lw_m3 110 rfl) rfl
theorem q667 : (Jvm.Cond.lays "DomeNights$Promise" "DomeNights$Promise" "state" "I") ∈ lw_all := lw_g (lw_at lw_m3 111 rfl) rfl
theorem q668 : (Jvm.Cond.soleField "DomeNights$Promise" "state") ∈ lw_all := lw_g (lw_at lw_m3 112 rfl) rfl
theorem q669 : (Jvm.Cond.laysFinal "DomeNights$Promise" "DomeNights$Promise" "counted" "[I") ∈ lw_all := lw_g (lw_at lw_m3 113 rfl) rfl
theorem q670 : (Jvm.Cond.soleField "DomeNights$Promise" "counted") ∈ lw_all := lw_g (lw_at lw_m3 114 rfl) rfl
theorem q671 : (Jvm.Cond.superclass "DomeNights$Promise" "java/lang/Object") ∈ lw_all := lw_g (lw_at lw_m3 115 rfl) rfl
theorem q672 : (Jvm.Cond.methodLink "DomeNights$Promise" (34 : Nat) ({ cls := "java/lang/System", name := "arraycopy", desc := "(Ljava/lang/Object;ILjava/lang/Object;II)V" } : Jvm.MethodName)) ∈ lw_all := lw_g (lw_at lw_m3 116 rfl) rfl
theorem q1101 : (Jvm.Cond.selects "DomeNights$Promise" ({ cls := "java/lang/Object", name := "hashCode", desc := "()I" } : Jvm.MethodName) ({ cls := "java/lang/Object", name := "hashCode", desc := "()I" } : Jvm.MethodName)) ∈ lw_all := lw_g (lw_at lw_m5 65 rfl) rfl
theorem q1135 : (Jvm.Cond.selects "DomeNights$Promise" ({ cls := "java/lang/Object", name := "equals", desc := "(Ljava/lang/Object;)Z" } : Jvm.MethodName) ({ cls := "java/lang/Object", name := "equals", desc := "(Ljava/lang/Object;)Z" } : Jvm.MethodName)) ∈ lw_all := lw_g (lw_at lw_m5 99 rfl) rfl
theorem q1296 : (Jvm.Cond.fieldLinkNest "DomeNights$Promise" (50 : Nat) "DomeNights$Time" "day" "I" "DomeNights") ∈ lw_tbl := lw_at lw_m6 20 rfl
theorem q1462 : (Jvm.Cond.instanceMethod ({ cls := "DomeNights$Promise", name := "isFor", desc := "(LDomeNights$Booking;LDomeNights$Show;)Z" } : Jvm.MethodName)) ∈ lw_all := lw_g (lw_at lw_m6 186 rfl) rfl
theorem q1463 : (Jvm.Cond.selects "DomeNights$Promise" ({ cls := "DomeNights$Promise", name := "isFor", desc := "(LDomeNights$Booking;LDomeNights$Show;)Z" } : Jvm.MethodName) ({ cls := "DomeNights$Promise", name := "isFor", desc := "(LDomeNights$Booking;LDomeNights$Show;)Z" } : Jvm.MethodName)) ∈ lw_all := lw_g (lw_at lw_m6 187 rfl) rfl
theorem q1464 : (Jvm.Cond.code ({ cls := "DomeNights$Promise", name := "isFor", desc := "(LDomeNights$Booking;LDomeNights$Show;)Z" } : Jvm.MethodName) prog_7_method_3_code (3 : Nat) (Option.some Jvm.ClassFile.FieldType.boolean)) ∈ lw_all := lw_g (lw_at lw_m6 188 rfl) rfl
theorem q1568 : (Jvm.Cond.instanceMethod ({ cls := "DomeNights$Promise", name := "close", desc := "()V" } : Jvm.MethodName)) ∈ lw_all := lw_g (lw_at lw_m7 52 rfl) rfl
theorem q1569 : (Jvm.Cond.selects "DomeNights$Promise" ({ cls := "DomeNights$Promise", name := "close", desc := "()V" } : Jvm.MethodName) ({ cls := "DomeNights$Promise", name := "close", desc := "()V" } : Jvm.MethodName)) ∈ lw_all := lw_g (lw_at lw_m7 53 rfl) rfl
theorem q1570 : (Jvm.Cond.code ({ cls := "DomeNights$Promise", name := "close", desc := "()V" } : Jvm.MethodName) prog_7_method_4_code (1 : Nat) (Option.none : Option Jvm.ClassFile.FieldType)) ∈ lw_all := lw_g (lw_at lw_m7 54 rfl) rfl
theorem q1621 : (Jvm.Cond.instanceMethod ({ cls := "DomeNights$Promise", name := "reason", desc := "()I" } : Jvm.MethodName)) ∈ lw_all := lw_g (lw_at lw_m7 105 rfl) rfl
theorem q1622 : (Jvm.Cond.selects "DomeNights$Promise" ({ cls := "DomeNights$Promise", name := "reason", desc := "()I" } : Jvm.MethodName) ({ cls := "DomeNights$Promise", name := "reason", desc := "()I" } : Jvm.MethodName)) ∈ lw_all := lw_g (lw_at lw_m7 106 rfl) rfl
theorem q1623 : (Jvm.Cond.code ({ cls := "DomeNights$Promise", name := "reason", desc := "()I" } : Jvm.MethodName) prog_7_method_5_code (4 : Nat) (Option.some Jvm.ClassFile.FieldType.int)) ∈ lw_all := lw_g (lw_at lw_m7 107 rfl) rfl
theorem q2360 : (Jvm.Cond.castable "DomeNights$Promise" "java/lang/Object") ∈ lw_tbl := lw_at lw_m10 124 rfl
theorem in_X7 : ∀ w ∈ wsX70, w ∈ lw_all := lw_in wsX70 [659, 661, 663, 665, 667, 669] (by decide +kernel) (by decide +kernel)
/-! DomeNights$Time -/
set_option maxRecDepth 100000
def RX8 : String := "DomeNights$Time"
def TX8 : u_T := fun k => match k with
  | 0 => ("DomeNights$Time", "day", "I", true)
  | _ => ("DomeNights$Time", "slot", "I", true)
def tyX8 : Nat → FieldType := fun k => match k with
  | 0 => .int
  | _ => .int
abbrev wsX80 : List Cond := u_ws RX8 TX8 2
theorem nmX8 : ∀ a, a < 2 → ∀ b, b < 2 → a ≠ b → (TX8 a).2.1 ≠ (TX8 b).2.1 := by decide +kernel
theorem tyX8_ok : ∀ k, k < 2 → parseFieldDescriptor (TX8 k).2.2.1 = some (tyX8 k) := by decide +kernel
abbrev cX8_hashCode : ByteArray := prog_10_method_4_code
def yX8_hashCode : MethodName := ⟨RX8, "hashCode", "()I"⟩
def dkwX8_hashCode_0 : List UInt8 := [16, 6, 42, 180, 0, 9, 104, 42, 180, 0, 15, 96, 172]
abbrev dktX8_hashCode_0 : List UInt8 := dkwX8_hashCode_0 ++ []
theorem dksX8_hashCode_0 : cX8_hashCode.data.toList.drop 0 = dktX8_hashCode_0 := by decide +kernel
theorem dX8_hashCode_0 : decode cX8_hashCode 0 = .ok (.bipush 6, 2) := dk_16 6 (dk_at dksX8_hashCode_0 0 rfl rfl)
theorem dX8_hashCode_2 : decode cX8_hashCode 2 = .ok (.aload_n 0, 1) := dk_42 (dk_at dksX8_hashCode_0 2 rfl rfl)
theorem dX8_hashCode_3 : decode cX8_hashCode 3 = .ok (.getfield 9, 3) := dk_180 0 9 (dk_at dksX8_hashCode_0 3 rfl rfl)
theorem dX8_hashCode_6 : decode cX8_hashCode 6 = .ok (.imul, 1) := dk_104 (dk_at dksX8_hashCode_0 6 rfl rfl)
theorem dX8_hashCode_7 : decode cX8_hashCode 7 = .ok (.aload_n 0, 1) := dk_42 (dk_at dksX8_hashCode_0 7 rfl rfl)
theorem dX8_hashCode_8 : decode cX8_hashCode 8 = .ok (.getfield 15, 3) := dk_180 0 15 (dk_at dksX8_hashCode_0 8 rfl rfl)
theorem dX8_hashCode_11 : decode cX8_hashCode 11 = .ok (.iadd, 1) := dk_96 (dk_at dksX8_hashCode_0 11 rfl rfl)
theorem dX8_hashCode_12 : decode cX8_hashCode 12 = .ok (.ireturn, 1) := dk_172 (dk_at dksX8_hashCode_0 12 rfl rfl)
abbrev cX8_equals : ByteArray := prog_10_method_3_code
def yX8_equals : MethodName := ⟨RX8, "equals", "(Ljava/lang/Object;)Z"⟩
def dkwX8_equals_1 : List UInt8 := [192, 0, 10, 180, 0, 15, 42, 180, 0, 15, 160, 0, 7, 4, 167, 0, 4, 3, 172]
abbrev dktX8_equals_1 : List UInt8 := dkwX8_equals_1 ++ []
def dkwX8_equals_0 : List UInt8 := [43, 193, 0, 10, 153, 0, 35, 43, 192, 0, 10, 180, 0, 9, 42, 180, 0, 9, 160, 0, 21, 43]
abbrev dktX8_equals_0 : List UInt8 := dkwX8_equals_0 ++ dktX8_equals_1
theorem dksX8_equals_0 : cX8_equals.data.toList.drop 0 = dktX8_equals_0 := by decide +kernel
theorem dksX8_equals_1 : cX8_equals.data.toList.drop 22 = dktX8_equals_1 := dk_seg dksX8_equals_0 22 rfl rfl
theorem dX8_equals_0 : decode cX8_equals 0 = .ok (.aload_n 1, 1) := dk_43 (dk_at dksX8_equals_0 0 rfl rfl)
theorem dX8_equals_1 : decode cX8_equals 1 = .ok (.instanceof 10, 3) := dk_193 0 10 (dk_at dksX8_equals_0 1 rfl rfl)
theorem dX8_equals_4 : decode cX8_equals 4 = .ok (.ifCond .eq 35, 3) := dk_153 0 35 (dk_at dksX8_equals_0 4 rfl rfl)
theorem dX8_equals_7 : decode cX8_equals 7 = .ok (.aload_n 1, 1) := dk_43 (dk_at dksX8_equals_0 7 rfl rfl)
theorem dX8_equals_8 : decode cX8_equals 8 = .ok (.checkcast 10, 3) := dk_192 0 10 (dk_at dksX8_equals_0 8 rfl rfl)
theorem dX8_equals_11 : decode cX8_equals 11 = .ok (.getfield 9, 3) := dk_180 0 9 (dk_at dksX8_equals_0 11 rfl rfl)
theorem dX8_equals_14 : decode cX8_equals 14 = .ok (.aload_n 0, 1) := dk_42 (dk_at dksX8_equals_0 14 rfl rfl)
theorem dX8_equals_15 : decode cX8_equals 15 = .ok (.getfield 9, 3) := dk_180 0 9 (dk_at dksX8_equals_0 15 rfl rfl)
theorem dX8_equals_18 : decode cX8_equals 18 = .ok (.if_icmp .ne 21, 3) := dk_160 0 21 (dk_at dksX8_equals_0 18 rfl rfl)
theorem dX8_equals_21 : decode cX8_equals 21 = .ok (.aload_n 1, 1) := dk_43 (dk_at dksX8_equals_0 21 rfl rfl)
theorem dX8_equals_22 : decode cX8_equals 22 = .ok (.checkcast 10, 3) := dk_192 0 10 (dk_at dksX8_equals_1 0 rfl rfl)
theorem dX8_equals_25 : decode cX8_equals 25 = .ok (.getfield 15, 3) := dk_180 0 15 (dk_at dksX8_equals_1 3 rfl rfl)
theorem dX8_equals_28 : decode cX8_equals 28 = .ok (.aload_n 0, 1) := dk_42 (dk_at dksX8_equals_1 6 rfl rfl)
theorem dX8_equals_29 : decode cX8_equals 29 = .ok (.getfield 15, 3) := dk_180 0 15 (dk_at dksX8_equals_1 7 rfl rfl)
theorem dX8_equals_32 : decode cX8_equals 32 = .ok (.if_icmp .ne 7, 3) := dk_160 0 7 (dk_at dksX8_equals_1 10 rfl rfl)
theorem dX8_equals_35 : decode cX8_equals 35 = .ok (.iconst 1, 1) := dk_4 (dk_at dksX8_equals_1 13 rfl rfl)
theorem dX8_equals_36 : decode cX8_equals 36 = .ok (.goto 4, 3) := dk_167 0 4 (dk_at dksX8_equals_1 14 rfl rfl)
theorem dX8_equals_39 : decode cX8_equals 39 = .ok (.iconst 0, 1) := dk_3 (dk_at dksX8_equals_1 17 rfl rfl)
theorem dX8_equals_40 : decode cX8_equals 40 = .ok (.ireturn, 1) := dk_172 (dk_at dksX8_equals_1 18 rfl rfl)
abbrev cX8_init : ByteArray := prog_10_method_1_code
def yX8_init : MethodName := ⟨RX8, "<init>", "(II)V"⟩
def dkwX8_init_0 : List UInt8 := [42, 183, 0, 3, 42, 27, 181, 0, 9, 42, 28, 181, 0, 15, 177]
abbrev dktX8_init_0 : List UInt8 := dkwX8_init_0 ++ []
theorem dksX8_init_0 : cX8_init.data.toList.drop 0 = dktX8_init_0 := by decide +kernel
theorem dX8_init_0 : decode cX8_init 0 = .ok (.aload_n 0, 1) := dk_42 (dk_at dksX8_init_0 0 rfl rfl)
theorem dX8_init_1 : decode cX8_init 1 = .ok (.invokespecial 3, 3) := dk_183 0 3 (dk_at dksX8_init_0 1 rfl rfl)
theorem dX8_init_4 : decode cX8_init 4 = .ok (.aload_n 0, 1) := dk_42 (dk_at dksX8_init_0 4 rfl rfl)
theorem dX8_init_5 : decode cX8_init 5 = .ok (.iload_n 1, 1) := dk_27 (dk_at dksX8_init_0 5 rfl rfl)
theorem dX8_init_6 : decode cX8_init 6 = .ok (.putfield 9, 3) := dk_181 0 9 (dk_at dksX8_init_0 6 rfl rfl)
theorem dX8_init_9 : decode cX8_init 9 = .ok (.aload_n 0, 1) := dk_42 (dk_at dksX8_init_0 9 rfl rfl)
theorem dX8_init_10 : decode cX8_init 10 = .ok (.iload_n 2, 1) := dk_28 (dk_at dksX8_init_0 10 rfl rfl)
theorem dX8_init_11 : decode cX8_init 11 = .ok (.putfield 15, 3) := dk_181 0 15 (dk_at dksX8_init_0 11 rfl rfl)
theorem dX8_init_14 : decode cX8_init 14 = .ok (.return_, 1) := dk_177 (dk_at dksX8_init_0 14 rfl rfl)
abbrev cX8_next : ByteArray := prog_10_method_2_code
def yX8_next : MethodName := ⟨RX8, "next", "()LDomeNights$Time;"⟩
def dkwX8_next_1 : List UInt8 := [96, 183, 0, 18, 167, 0, 17, 187, 0, 10, 89, 42, 180, 0, 9, 4, 96, 3, 183, 0, 18, 176]
abbrev dktX8_next_1 : List UInt8 := dkwX8_next_1 ++ []
def dkwX8_next_0 : List UInt8 := [42, 180, 0, 15, 4, 96, 16, 6, 162, 0, 23, 187, 0, 10, 89, 42, 180, 0, 9, 42, 180, 0, 15, 4]
abbrev dktX8_next_0 : List UInt8 := dkwX8_next_0 ++ dktX8_next_1
theorem dksX8_next_0 : cX8_next.data.toList.drop 0 = dktX8_next_0 := by decide +kernel
theorem dksX8_next_1 : cX8_next.data.toList.drop 24 = dktX8_next_1 := dk_seg dksX8_next_0 24 rfl rfl
theorem dX8_next_0 : decode cX8_next 0 = .ok (.aload_n 0, 1) := dk_42 (dk_at dksX8_next_0 0 rfl rfl)
theorem dX8_next_1 : decode cX8_next 1 = .ok (.getfield 15, 3) := dk_180 0 15 (dk_at dksX8_next_0 1 rfl rfl)
theorem dX8_next_4 : decode cX8_next 4 = .ok (.iconst 1, 1) := dk_4 (dk_at dksX8_next_0 4 rfl rfl)
theorem dX8_next_5 : decode cX8_next 5 = .ok (.iadd, 1) := dk_96 (dk_at dksX8_next_0 5 rfl rfl)
theorem dX8_next_6 : decode cX8_next 6 = .ok (.bipush 6, 2) := dk_16 6 (dk_at dksX8_next_0 6 rfl rfl)
theorem dX8_next_8 : decode cX8_next 8 = .ok (.if_icmp .ge 23, 3) := dk_162 0 23 (dk_at dksX8_next_0 8 rfl rfl)
theorem dX8_next_11 : decode cX8_next 11 = .ok (.new 10, 3) := dk_187 0 10 (dk_at dksX8_next_0 11 rfl rfl)
theorem dX8_next_14 : decode cX8_next 14 = .ok (.dup, 1) := dk_89 (dk_at dksX8_next_0 14 rfl rfl)
theorem dX8_next_15 : decode cX8_next 15 = .ok (.aload_n 0, 1) := dk_42 (dk_at dksX8_next_0 15 rfl rfl)
theorem dX8_next_16 : decode cX8_next 16 = .ok (.getfield 9, 3) := dk_180 0 9 (dk_at dksX8_next_0 16 rfl rfl)
theorem dX8_next_19 : decode cX8_next 19 = .ok (.aload_n 0, 1) := dk_42 (dk_at dksX8_next_0 19 rfl rfl)
theorem dX8_next_20 : decode cX8_next 20 = .ok (.getfield 15, 3) := dk_180 0 15 (dk_at dksX8_next_0 20 rfl rfl)
theorem dX8_next_23 : decode cX8_next 23 = .ok (.iconst 1, 1) := dk_4 (dk_at dksX8_next_0 23 rfl rfl)
theorem dX8_next_24 : decode cX8_next 24 = .ok (.iadd, 1) := dk_96 (dk_at dksX8_next_1 0 rfl rfl)
theorem dX8_next_25 : decode cX8_next 25 = .ok (.invokespecial 18, 3) := dk_183 0 18 (dk_at dksX8_next_1 1 rfl rfl)
theorem dX8_next_28 : decode cX8_next 28 = .ok (.goto 17, 3) := dk_167 0 17 (dk_at dksX8_next_1 4 rfl rfl)
theorem dX8_next_31 : decode cX8_next 31 = .ok (.new 10, 3) := dk_187 0 10 (dk_at dksX8_next_1 7 rfl rfl)
theorem dX8_next_34 : decode cX8_next 34 = .ok (.dup, 1) := dk_89 (dk_at dksX8_next_1 10 rfl rfl)
theorem dX8_next_35 : decode cX8_next 35 = .ok (.aload_n 0, 1) := dk_42 (dk_at dksX8_next_1 11 rfl rfl)
theorem dX8_next_36 : decode cX8_next 36 = .ok (.getfield 9, 3) := dk_180 0 9 (dk_at dksX8_next_1 12 rfl rfl)
theorem dX8_next_39 : decode cX8_next 39 = .ok (.iconst 1, 1) := dk_4 (dk_at dksX8_next_1 15 rfl rfl)
theorem dX8_next_40 : decode cX8_next 40 = .ok (.iadd, 1) := dk_96 (dk_at dksX8_next_1 16 rfl rfl)
theorem dX8_next_41 : decode cX8_next 41 = .ok (.iconst 0, 1) := dk_3 (dk_at dksX8_next_1 17 rfl rfl)
theorem dX8_next_42 : decode cX8_next 42 = .ok (.invokespecial 18, 3) := dk_183 0 18 (dk_at dksX8_next_1 18 rfl rfl)
theorem dX8_next_45 : decode cX8_next 45 = .ok (.areturn, 1) := dk_176 (dk_at dksX8_next_1 21 rfl rfl)
theorem q116 : (Jvm.Cond.initialized "DomeNights$Time") ∈ lw_all := lw_g (lw_at lw_m1 40 rfl) rfl
theorem q486 : (Jvm.Cond.selects "DomeNights$Time" ({ cls := "java/lang/Object", name := "getClass", desc := "()Ljava/lang/Class;" } : Jvm.MethodName) ({ cls := "java/lang/Object", name := "getClass", desc := "()Ljava/lang/Class;" } : Jvm.MethodName)) ∈ lw_all := lw_g (lw_at lw_m2 170 rfl) rfl
theorem q1104 : (Jvm.Cond.selects "DomeNights$Time" ({ cls := "java/lang/Object", name := "hashCode", desc := "()I" } : Jvm.MethodName) ({ cls := "DomeNights$Time", name := "hashCode", desc := "()I" } : Jvm.MethodName)) ∈ lw_all := lw_g (lw_at lw_m5 68 rfl) rfl
theorem q1105 : (Jvm.Cond.instanceMethod ({ cls := "DomeNights$Time", name := "hashCode", desc := "()I" } : Jvm.MethodName)) ∈ lw_all := lw_g (lw_at lw_m5 69 rfl) rfl
theorem q1106 : (Jvm.Cond.code ({ cls := "DomeNights$Time", name := "hashCode", desc := "()I" } : Jvm.MethodName) prog_10_method_4_code (1 : Nat) (Option.some Jvm.ClassFile.FieldType.int)) ∈ lw_all := lw_g (lw_at lw_m5 70 rfl) rfl
theorem q1138 : (Jvm.Cond.selects "DomeNights$Time" ({ cls := "java/lang/Object", name := "equals", desc := "(Ljava/lang/Object;)Z" } : Jvm.MethodName) ({ cls := "DomeNights$Time", name := "equals", desc := "(Ljava/lang/Object;)Z" } : Jvm.MethodName)) ∈ lw_all := lw_g (lw_at lw_m5 102 rfl) rfl
theorem q1139 : (Jvm.Cond.instanceMethod ({ cls := "DomeNights$Time", name := "equals", desc := "(Ljava/lang/Object;)Z" } : Jvm.MethodName)) ∈ lw_all := lw_g (lw_at lw_m5 103 rfl) rfl
theorem q1140 : (Jvm.Cond.code ({ cls := "DomeNights$Time", name := "equals", desc := "(Ljava/lang/Object;)Z" } : Jvm.MethodName) prog_10_method_3_code (2 : Nat) (Option.some Jvm.ClassFile.FieldType.boolean)) ∈ lw_all := lw_g (lw_at lw_m5 104 rfl) rfl
theorem q1141 : (Jvm.Cond.classLink "DomeNights$Time" (10 : Nat) "DomeNights$Time") ∈ lw_all := lw_g (lw_at lw_m5 105 rfl) rfl
theorem q1290 : (Jvm.Cond.instantiable "DomeNights$Time" (2 : Nat)) ∈ lw_all := lw_g (lw_at lw_m6 14 rfl) rfl
theorem q1292 : (Jvm.Cond.instanceMethod ({ cls := "DomeNights$Time", name := "<init>", desc := "(II)V" } : Jvm.MethodName)) ∈ lw_all := lw_g (lw_at lw_m6 16 rfl) rfl
theorem q1293 : (Jvm.Cond.code ({ cls := "DomeNights$Time", name := "<init>", desc := "(II)V" } : Jvm.MethodName) prog_10_method_1_code (3 : Nat) (Option.none : Option Jvm.ClassFile.FieldType)) ∈ lw_all := lw_g (lw_at lw_m6 17 rfl) rfl
theorem q1294 : (Jvm.Cond.methodLink "DomeNights$Time" (3 : Nat) ({ cls := "java/lang/Object", name := "<init>", desc := "()V" } : Jvm.MethodName)) ∈ lw_all := lw_g (lw_at lw_m6 18 rfl) rfl
theorem q1295 : (Jvm.Cond.fieldLink "DomeNights$Time" (9 : Nat) "DomeNights$Time" "day" "I") ∈ lw_all := lw_g (lw_at lw_m6 19 rfl) rfl
theorem q1299 : (Jvm.Cond.fieldLink "DomeNights$Time" (15 : Nat) "DomeNights$Time" "slot" "I") ∈ lw_all := lw_g (lw_at lw_m6 23 rfl) rfl
theorem q1301 : (Jvm.Cond.laysFinal "DomeNights$Time" "DomeNights$Time" "day" "I") ∈ lw_all := lw_g (lw_at lw_m6 25 rfl) rfl
theorem q1302 : (Jvm.Cond.soleField "DomeNights$Time" "day") ∈ lw_all := lw_g (lw_at lw_m6 26 rfl) rfl
theorem q1303 : (Jvm.Cond.laysFinal "DomeNights$Time" "DomeNights$Time" "slot" "I") ∈ lw_all := lw_g (lw_at lw_m6 27 rfl) rfl
theorem q1304 : (Jvm.Cond.soleField "DomeNights$Time" "slot") ∈ lw_all := lw_g (lw_at lw_m6 28 rfl) rfl
theorem q1305 : (Jvm.Cond.superclass "DomeNights$Time" "java/lang/Object") ∈ lw_all := lw_g (lw_at lw_m6 29 rfl) rfl
theorem q1407 : (Jvm.Cond.instanceMethod ({ cls := "DomeNights$Time", name := "next", desc := "()LDomeNights$Time;" } : Jvm.MethodName)) ∈ lw_all := lw_g (lw_at lw_m6 131 rfl) rfl
theorem q1408 : (Jvm.Cond.selects "DomeNights$Time" ({ cls := "DomeNights$Time", name := "next", desc := "()LDomeNights$Time;" } : Jvm.MethodName) ({ cls := "DomeNights$Time", name := "next", desc := "()LDomeNights$Time;" } : Jvm.MethodName)) ∈ lw_all := lw_g (lw_at lw_m6 132 rfl) rfl
theorem q1409 : (Jvm.Cond.code ({ cls := "DomeNights$Time", name := "next", desc := "()LDomeNights$Time;" } : Jvm.MethodName) prog_10_method_2_code (1 : Nat) (Option.some (Jvm.ClassFile.FieldType.object "DomeNights$Time"))) ∈ lw_all := lw_g (lw_at lw_m6 133 rfl) rfl
theorem q1410 : (Jvm.Cond.methodLink "DomeNights$Time" (18 : Nat) ({ cls := "DomeNights$Time", name := "<init>", desc := "(II)V" } : Jvm.MethodName)) ∈ lw_all := lw_g (lw_at lw_m6 134 rfl) rfl
theorem q2365 : (Jvm.Cond.castable "DomeNights$Time" "java/lang/Object") ∈ lw_tbl := lw_at lw_m10 129 rfl
theorem in_X8 : ∀ w ∈ wsX80, w ∈ lw_all := lw_in wsX80 [1301, 1303] (by decide +kernel) (by decide +kernel)
/-! DomeNights$Reader -/
set_option maxRecDepth 100000
def RX9 : String := "DomeNights$Reader"
def TX9 : u_T := fun k => match k with
  | 0 => ("DomeNights$Reader", "text", "Ljava/lang/CharSequence;", true)
  | 1 => ("DomeNights$Reader", "orders", "Ljava/util/List;", true)
  | 2 => ("DomeNights$Reader", "spot", "I", false)
  | _ => ("DomeNights$Reader", "isWrong", "Z", false)
def tyX9 : Nat → FieldType := fun k => match k with
  | 0 => .object "java/lang/CharSequence"
  | 1 => .object "java/util/List"
  | 2 => .int
  | _ => .boolean
abbrev wsX90 : List Cond := u_ws RX9 TX9 4
theorem nmX9 : ∀ a, a < 4 → ∀ b, b < 4 → a ≠ b → (TX9 a).2.1 ≠ (TX9 b).2.1 := by decide +kernel
theorem tyX9_ok : ∀ k, k < 4 → parseFieldDescriptor (TX9 k).2.2.1 = some (tyX9 k) := by decide +kernel
abbrev cX9_init : ByteArray := prog_8_method_1_code
def yX9_init : MethodName := ⟨RX9, "<init>", "(Ljava/lang/CharSequence;)V"⟩
def dkwX9_init_2 : List UInt8 := [182, 0, 39, 42, 182, 0, 22, 167, 255, 226, 177]
abbrev dktX9_init_2 : List UInt8 := dkwX9_init_2 ++ []
def dkwX9_init_1 : List UInt8 := [42, 180, 0, 25, 154, 0, 29, 42, 180, 0, 29, 43, 185, 0, 33, 1, 0, 162, 0, 16, 42, 16, 59]
abbrev dktX9_init_1 : List UInt8 := dkwX9_init_1 ++ dktX9_init_2
def dkwX9_init_0 : List UInt8 := [42, 183, 0, 3, 42, 187, 0, 9, 89, 183, 0, 11, 181, 0, 12, 42, 43, 181, 0, 18, 42, 182, 0, 22]
abbrev dktX9_init_0 : List UInt8 := dkwX9_init_0 ++ dktX9_init_1
theorem dksX9_init_0 : cX9_init.data.toList.drop 0 = dktX9_init_0 := by decide +kernel
theorem dksX9_init_1 : cX9_init.data.toList.drop 24 = dktX9_init_1 := dk_seg dksX9_init_0 24 rfl rfl
theorem dksX9_init_2 : cX9_init.data.toList.drop 47 = dktX9_init_2 := dk_seg dksX9_init_1 23 rfl rfl
theorem dX9_init_0 : decode cX9_init 0 = .ok (.aload_n 0, 1) := dk_42 (dk_at dksX9_init_0 0 rfl rfl)
theorem dX9_init_1 : decode cX9_init 1 = .ok (.invokespecial 3, 3) := dk_183 0 3 (dk_at dksX9_init_0 1 rfl rfl)
theorem dX9_init_4 : decode cX9_init 4 = .ok (.aload_n 0, 1) := dk_42 (dk_at dksX9_init_0 4 rfl rfl)
theorem dX9_init_5 : decode cX9_init 5 = .ok (.new 9, 3) := dk_187 0 9 (dk_at dksX9_init_0 5 rfl rfl)
theorem dX9_init_8 : decode cX9_init 8 = .ok (.dup, 1) := dk_89 (dk_at dksX9_init_0 8 rfl rfl)
theorem dX9_init_9 : decode cX9_init 9 = .ok (.invokespecial 11, 3) := dk_183 0 11 (dk_at dksX9_init_0 9 rfl rfl)
theorem dX9_init_12 : decode cX9_init 12 = .ok (.putfield 12, 3) := dk_181 0 12 (dk_at dksX9_init_0 12 rfl rfl)
theorem dX9_init_15 : decode cX9_init 15 = .ok (.aload_n 0, 1) := dk_42 (dk_at dksX9_init_0 15 rfl rfl)
theorem dX9_init_16 : decode cX9_init 16 = .ok (.aload_n 1, 1) := dk_43 (dk_at dksX9_init_0 16 rfl rfl)
theorem dX9_init_17 : decode cX9_init 17 = .ok (.putfield 18, 3) := dk_181 0 18 (dk_at dksX9_init_0 17 rfl rfl)
theorem dX9_init_20 : decode cX9_init 20 = .ok (.aload_n 0, 1) := dk_42 (dk_at dksX9_init_0 20 rfl rfl)
theorem dX9_init_21 : decode cX9_init 21 = .ok (.invokevirtual 22, 3) := dk_182 0 22 (dk_at dksX9_init_0 21 rfl rfl)
theorem dX9_init_24 : decode cX9_init 24 = .ok (.aload_n 0, 1) := dk_42 (dk_at dksX9_init_1 0 rfl rfl)
theorem dX9_init_25 : decode cX9_init 25 = .ok (.getfield 25, 3) := dk_180 0 25 (dk_at dksX9_init_1 1 rfl rfl)
theorem dX9_init_28 : decode cX9_init 28 = .ok (.ifCond .ne 29, 3) := dk_154 0 29 (dk_at dksX9_init_1 4 rfl rfl)
theorem dX9_init_31 : decode cX9_init 31 = .ok (.aload_n 0, 1) := dk_42 (dk_at dksX9_init_1 7 rfl rfl)
theorem dX9_init_32 : decode cX9_init 32 = .ok (.getfield 29, 3) := dk_180 0 29 (dk_at dksX9_init_1 8 rfl rfl)
theorem dX9_init_35 : decode cX9_init 35 = .ok (.aload_n 1, 1) := dk_43 (dk_at dksX9_init_1 11 rfl rfl)
theorem dX9_init_36 : decode cX9_init 36 = .ok (.invokeinterface 33 1, 5) := by decide +kernel
theorem dX9_init_41 : decode cX9_init 41 = .ok (.if_icmp .ge 16, 3) := dk_162 0 16 (dk_at dksX9_init_1 17 rfl rfl)
theorem dX9_init_44 : decode cX9_init 44 = .ok (.aload_n 0, 1) := dk_42 (dk_at dksX9_init_1 20 rfl rfl)
theorem dX9_init_45 : decode cX9_init 45 = .ok (.bipush 59, 2) := dk_16 59 (dk_at dksX9_init_1 21 rfl rfl)
theorem dX9_init_47 : decode cX9_init 47 = .ok (.invokevirtual 39, 3) := dk_182 0 39 (dk_at dksX9_init_2 0 rfl rfl)
theorem dX9_init_50 : decode cX9_init 50 = .ok (.aload_n 0, 1) := dk_42 (dk_at dksX9_init_2 3 rfl rfl)
theorem dX9_init_51 : decode cX9_init 51 = .ok (.invokevirtual 22, 3) := dk_182 0 22 (dk_at dksX9_init_2 4 rfl rfl)
theorem dX9_init_54 : decode cX9_init 54 = .ok (.goto (-30), 3) := dk_167 255 226 (dk_at dksX9_init_2 7 rfl rfl)
theorem dX9_init_57 : decode cX9_init 57 = .ok (.return_, 1) := dk_177 (dk_at dksX9_init_2 10 rfl rfl)
abbrev cX9_read : ByteArray := prog_8_method_8_code
def yX9_read : MethodName := ⟨RX9, "read", "()V"⟩
def dkwX9_read_12 : List UInt8 := [87, 177]
abbrev dktX9_read_12 : List UInt8 := dkwX9_read_12 ++ []
def dkwX9_read_11 : List UInt8 := [16, 33, 182, 0, 51, 153, 0, 7, 4, 167, 0, 4, 3, 79, 42, 180, 0, 12, 43, 185, 0, 77, 2, 0]
abbrev dktX9_read_11 : List UInt8 := dkwX9_read_11 ++ dktX9_read_12
def dkwX9_read_10 : List UInt8 := [153, 0, 14, 42, 16, 48, 16, 53, 182, 0, 58, 167, 0, 5, 16, 250, 79, 43, 180, 0, 66, 6, 42]
abbrev dktX9_read_10 : List UInt8 := dkwX9_read_10 ++ dktX9_read_11
def dkwX9_read_9 : List UInt8 := [167, 0, 61, 43, 180, 0, 66, 4, 42, 182, 0, 70, 79, 43, 180, 0, 66, 5, 42, 16, 115, 182, 0, 51]
abbrev dktX9_read_9 : List UInt8 := dkwX9_read_9 ++ dktX9_read_10
def dkwX9_read_8 : List UInt8 := [182, 0, 58, 79, 42, 16, 120, 182, 0, 39, 43, 180, 0, 66, 5, 42, 16, 49, 16, 54, 182, 0, 58, 79]
abbrev dktX9_read_8 : List UInt8 := dkwX9_read_8 ++ dktX9_read_9
def dkwX9_read_7 : List UInt8 := [5, 42, 16, 48, 16, 57, 182, 0, 58, 79, 167, 0, 98, 43, 180, 0, 66, 4, 42, 16, 48, 16, 53]
abbrev dktX9_read_7 : List UInt8 := dkwX9_read_7 ++ dktX9_read_8
def dkwX9_read_6 : List UInt8 := [43, 180, 0, 66, 4, 42, 16, 48, 16, 53, 182, 0, 58, 79, 42, 16, 107, 182, 0, 39, 43, 180, 0, 66]
abbrev dktX9_read_6 : List UInt8 := dkwX9_read_6 ++ dktX9_read_7
def dkwX9_read_5 : List UInt8 := [171, 0, 0, 0, 0, 0, 101, 0, 0, 0, 2, 0, 0, 0, 101, 0, 0, 0, 64, 0, 0, 0, 112, 0, 0, 0, 27]
abbrev dktX9_read_5 : List UInt8 := dkwX9_read_5 ++ dktX9_read_6
def dkwX9_read_4 : List UInt8 := [180, 0, 73, 16, 98, 160, 0, 8, 16, 58, 167, 0, 5, 16, 47, 182, 0, 39, 43, 180, 0, 73]
abbrev dktX9_read_4 : List UInt8 := dkwX9_read_4 ++ dktX9_read_5
def dkwX9_read_3 : List UInt8 := [76, 42, 89, 180, 0, 29, 4, 96, 181, 0, 29, 43, 180, 0, 66, 3, 42, 182, 0, 70, 79, 42, 43]
abbrev dktX9_read_3 : List UInt8 := dkwX9_read_3 ++ dktX9_read_4
def dkwX9_read_2 : List UInt8 := [153, 0, 4, 177, 187, 0, 62, 89, 42, 180, 0, 18, 42, 180, 0, 29, 185, 0, 43, 2, 0, 183, 0, 64]
abbrev dktX9_read_2 : List UInt8 := dkwX9_read_2 ++ dktX9_read_3
def dkwX9_read_1 : List UInt8 := [154, 0, 16, 42, 16, 98, 182, 0, 47, 154, 0, 7, 4, 167, 0, 4, 3, 181, 0, 25, 42, 180, 0, 25]
abbrev dktX9_read_1 : List UInt8 := dkwX9_read_1 ++ dktX9_read_2
def dkwX9_read_0 : List UInt8 := [42, 180, 0, 25, 153, 0, 4, 177, 42, 42, 16, 112, 182, 0, 47, 154, 0, 25, 42, 16, 101, 182, 0, 47]
abbrev dktX9_read_0 : List UInt8 := dkwX9_read_0 ++ dktX9_read_1
theorem dksX9_read_0 : cX9_read.data.toList.drop 0 = dktX9_read_0 := by decide +kernel
theorem dksX9_read_1 : cX9_read.data.toList.drop 24 = dktX9_read_1 := dk_seg dksX9_read_0 24 rfl rfl
theorem dksX9_read_2 : cX9_read.data.toList.drop 48 = dktX9_read_2 := dk_seg dksX9_read_1 24 rfl rfl
theorem dksX9_read_3 : cX9_read.data.toList.drop 72 = dktX9_read_3 := dk_seg dksX9_read_2 24 rfl rfl
theorem dksX9_read_4 : cX9_read.data.toList.drop 95 = dktX9_read_4 := dk_seg dksX9_read_3 23 rfl rfl
theorem dksX9_read_5 : cX9_read.data.toList.drop 117 = dktX9_read_5 := dk_seg dksX9_read_4 22 rfl rfl
theorem dksX9_read_6 : cX9_read.data.toList.drop 144 = dktX9_read_6 := dk_seg dksX9_read_5 27 rfl rfl
theorem dksX9_read_7 : cX9_read.data.toList.drop 168 = dktX9_read_7 := dk_seg dksX9_read_6 24 rfl rfl
theorem dksX9_read_8 : cX9_read.data.toList.drop 191 = dktX9_read_8 := dk_seg dksX9_read_7 23 rfl rfl
theorem dksX9_read_9 : cX9_read.data.toList.drop 215 = dktX9_read_9 := dk_seg dksX9_read_8 24 rfl rfl
theorem dksX9_read_10 : cX9_read.data.toList.drop 239 = dktX9_read_10 := dk_seg dksX9_read_9 24 rfl rfl
theorem dksX9_read_11 : cX9_read.data.toList.drop 262 = dktX9_read_11 := dk_seg dksX9_read_10 23 rfl rfl
theorem dksX9_read_12 : cX9_read.data.toList.drop 286 = dktX9_read_12 := dk_seg dksX9_read_11 24 rfl rfl
theorem dX9_read_0 : decode cX9_read 0 = .ok (.aload_n 0, 1) := dk_42 (dk_at dksX9_read_0 0 rfl rfl)
theorem dX9_read_1 : decode cX9_read 1 = .ok (.getfield 25, 3) := dk_180 0 25 (dk_at dksX9_read_0 1 rfl rfl)
theorem dX9_read_4 : decode cX9_read 4 = .ok (.ifCond .eq 4, 3) := dk_153 0 4 (dk_at dksX9_read_0 4 rfl rfl)
theorem dX9_read_7 : decode cX9_read 7 = .ok (.return_, 1) := dk_177 (dk_at dksX9_read_0 7 rfl rfl)
theorem dX9_read_8 : decode cX9_read 8 = .ok (.aload_n 0, 1) := dk_42 (dk_at dksX9_read_0 8 rfl rfl)
theorem dX9_read_9 : decode cX9_read 9 = .ok (.aload_n 0, 1) := dk_42 (dk_at dksX9_read_0 9 rfl rfl)
theorem dX9_read_10 : decode cX9_read 10 = .ok (.bipush 112, 2) := dk_16 112 (dk_at dksX9_read_0 10 rfl rfl)
theorem dX9_read_12 : decode cX9_read 12 = .ok (.invokevirtual 47, 3) := dk_182 0 47 (dk_at dksX9_read_0 12 rfl rfl)
theorem dX9_read_15 : decode cX9_read 15 = .ok (.ifCond .ne 25, 3) := dk_154 0 25 (dk_at dksX9_read_0 15 rfl rfl)
theorem dX9_read_18 : decode cX9_read 18 = .ok (.aload_n 0, 1) := dk_42 (dk_at dksX9_read_0 18 rfl rfl)
theorem dX9_read_19 : decode cX9_read 19 = .ok (.bipush 101, 2) := dk_16 101 (dk_at dksX9_read_0 19 rfl rfl)
theorem dX9_read_21 : decode cX9_read 21 = .ok (.invokevirtual 47, 3) := dk_182 0 47 (dk_at dksX9_read_0 21 rfl rfl)
theorem dX9_read_24 : decode cX9_read 24 = .ok (.ifCond .ne 16, 3) := dk_154 0 16 (dk_at dksX9_read_1 0 rfl rfl)
theorem dX9_read_27 : decode cX9_read 27 = .ok (.aload_n 0, 1) := dk_42 (dk_at dksX9_read_1 3 rfl rfl)
theorem dX9_read_28 : decode cX9_read 28 = .ok (.bipush 98, 2) := dk_16 98 (dk_at dksX9_read_1 4 rfl rfl)
theorem dX9_read_30 : decode cX9_read 30 = .ok (.invokevirtual 47, 3) := dk_182 0 47 (dk_at dksX9_read_1 6 rfl rfl)
theorem dX9_read_33 : decode cX9_read 33 = .ok (.ifCond .ne 7, 3) := dk_154 0 7 (dk_at dksX9_read_1 9 rfl rfl)
theorem dX9_read_36 : decode cX9_read 36 = .ok (.iconst 1, 1) := dk_4 (dk_at dksX9_read_1 12 rfl rfl)
theorem dX9_read_37 : decode cX9_read 37 = .ok (.goto 4, 3) := dk_167 0 4 (dk_at dksX9_read_1 13 rfl rfl)
theorem dX9_read_40 : decode cX9_read 40 = .ok (.iconst 0, 1) := dk_3 (dk_at dksX9_read_1 16 rfl rfl)
theorem dX9_read_41 : decode cX9_read 41 = .ok (.putfield 25, 3) := dk_181 0 25 (dk_at dksX9_read_1 17 rfl rfl)
theorem dX9_read_44 : decode cX9_read 44 = .ok (.aload_n 0, 1) := dk_42 (dk_at dksX9_read_1 20 rfl rfl)
theorem dX9_read_45 : decode cX9_read 45 = .ok (.getfield 25, 3) := dk_180 0 25 (dk_at dksX9_read_1 21 rfl rfl)
theorem dX9_read_48 : decode cX9_read 48 = .ok (.ifCond .eq 4, 3) := dk_153 0 4 (dk_at dksX9_read_2 0 rfl rfl)
theorem dX9_read_51 : decode cX9_read 51 = .ok (.return_, 1) := dk_177 (dk_at dksX9_read_2 3 rfl rfl)
theorem dX9_read_52 : decode cX9_read 52 = .ok (.new 62, 3) := dk_187 0 62 (dk_at dksX9_read_2 4 rfl rfl)
theorem dX9_read_55 : decode cX9_read 55 = .ok (.dup, 1) := dk_89 (dk_at dksX9_read_2 7 rfl rfl)
theorem dX9_read_56 : decode cX9_read 56 = .ok (.aload_n 0, 1) := dk_42 (dk_at dksX9_read_2 8 rfl rfl)
theorem dX9_read_57 : decode cX9_read 57 = .ok (.getfield 18, 3) := dk_180 0 18 (dk_at dksX9_read_2 9 rfl rfl)
theorem dX9_read_60 : decode cX9_read 60 = .ok (.aload_n 0, 1) := dk_42 (dk_at dksX9_read_2 12 rfl rfl)
theorem dX9_read_61 : decode cX9_read 61 = .ok (.getfield 29, 3) := dk_180 0 29 (dk_at dksX9_read_2 13 rfl rfl)
theorem dX9_read_64 : decode cX9_read 64 = .ok (.invokeinterface 43 2, 5) := by decide +kernel
theorem dX9_read_69 : decode cX9_read 69 = .ok (.invokespecial 64, 3) := dk_183 0 64 (dk_at dksX9_read_2 21 rfl rfl)
theorem dX9_read_72 : decode cX9_read 72 = .ok (.astore_n 1, 1) := dk_76 (dk_at dksX9_read_3 0 rfl rfl)
theorem dX9_read_73 : decode cX9_read 73 = .ok (.aload_n 0, 1) := dk_42 (dk_at dksX9_read_3 1 rfl rfl)
theorem dX9_read_74 : decode cX9_read 74 = .ok (.dup, 1) := dk_89 (dk_at dksX9_read_3 2 rfl rfl)
theorem dX9_read_75 : decode cX9_read 75 = .ok (.getfield 29, 3) := dk_180 0 29 (dk_at dksX9_read_3 3 rfl rfl)
theorem dX9_read_78 : decode cX9_read 78 = .ok (.iconst 1, 1) := dk_4 (dk_at dksX9_read_3 6 rfl rfl)
theorem dX9_read_79 : decode cX9_read 79 = .ok (.iadd, 1) := dk_96 (dk_at dksX9_read_3 7 rfl rfl)
theorem dX9_read_80 : decode cX9_read 80 = .ok (.putfield 29, 3) := dk_181 0 29 (dk_at dksX9_read_3 8 rfl rfl)
theorem dX9_read_83 : decode cX9_read 83 = .ok (.aload_n 1, 1) := dk_43 (dk_at dksX9_read_3 11 rfl rfl)
theorem dX9_read_84 : decode cX9_read 84 = .ok (.getfield 66, 3) := dk_180 0 66 (dk_at dksX9_read_3 12 rfl rfl)
theorem dX9_read_87 : decode cX9_read 87 = .ok (.iconst 0, 1) := dk_3 (dk_at dksX9_read_3 15 rfl rfl)
theorem dX9_read_88 : decode cX9_read 88 = .ok (.aload_n 0, 1) := dk_42 (dk_at dksX9_read_3 16 rfl rfl)
theorem dX9_read_89 : decode cX9_read 89 = .ok (.invokevirtual 70, 3) := dk_182 0 70 (dk_at dksX9_read_3 17 rfl rfl)
theorem dX9_read_92 : decode cX9_read 92 = .ok (.iastore, 1) := dk_79 (dk_at dksX9_read_3 20 rfl rfl)
theorem dX9_read_93 : decode cX9_read 93 = .ok (.aload_n 0, 1) := dk_42 (dk_at dksX9_read_3 21 rfl rfl)
theorem dX9_read_94 : decode cX9_read 94 = .ok (.aload_n 1, 1) := dk_43 (dk_at dksX9_read_3 22 rfl rfl)
theorem dX9_read_95 : decode cX9_read 95 = .ok (.getfield 73, 3) := dk_180 0 73 (dk_at dksX9_read_4 0 rfl rfl)
theorem dX9_read_98 : decode cX9_read 98 = .ok (.bipush 98, 2) := dk_16 98 (dk_at dksX9_read_4 3 rfl rfl)
theorem dX9_read_100 : decode cX9_read 100 = .ok (.if_icmp .ne 8, 3) := dk_160 0 8 (dk_at dksX9_read_4 5 rfl rfl)
theorem dX9_read_103 : decode cX9_read 103 = .ok (.bipush 58, 2) := dk_16 58 (dk_at dksX9_read_4 8 rfl rfl)
theorem dX9_read_105 : decode cX9_read 105 = .ok (.goto 5, 3) := dk_167 0 5 (dk_at dksX9_read_4 10 rfl rfl)
theorem dX9_read_108 : decode cX9_read 108 = .ok (.bipush 47, 2) := dk_16 47 (dk_at dksX9_read_4 13 rfl rfl)
theorem dX9_read_110 : decode cX9_read 110 = .ok (.invokevirtual 39, 3) := dk_182 0 39 (dk_at dksX9_read_4 15 rfl rfl)
theorem dX9_read_113 : decode cX9_read 113 = .ok (.aload_n 1, 1) := dk_43 (dk_at dksX9_read_4 18 rfl rfl)
theorem dX9_read_114 : decode cX9_read 114 = .ok (.getfield 73, 3) := dk_180 0 73 (dk_at dksX9_read_4 19 rfl rfl)
theorem dX9_read_117 : decode cX9_read 117 = .ok (.lookupswitch 101 #[(101, 64), (112, 27)], 27) := by decide +kernel
theorem dX9_read_144 : decode cX9_read 144 = .ok (.aload_n 1, 1) := dk_43 (dk_at dksX9_read_6 0 rfl rfl)
theorem dX9_read_145 : decode cX9_read 145 = .ok (.getfield 66, 3) := dk_180 0 66 (dk_at dksX9_read_6 1 rfl rfl)
theorem dX9_read_148 : decode cX9_read 148 = .ok (.iconst 1, 1) := dk_4 (dk_at dksX9_read_6 4 rfl rfl)
theorem dX9_read_149 : decode cX9_read 149 = .ok (.aload_n 0, 1) := dk_42 (dk_at dksX9_read_6 5 rfl rfl)
theorem dX9_read_150 : decode cX9_read 150 = .ok (.bipush 48, 2) := dk_16 48 (dk_at dksX9_read_6 6 rfl rfl)
theorem dX9_read_152 : decode cX9_read 152 = .ok (.bipush 53, 2) := dk_16 53 (dk_at dksX9_read_6 8 rfl rfl)
theorem dX9_read_154 : decode cX9_read 154 = .ok (.invokevirtual 58, 3) := dk_182 0 58 (dk_at dksX9_read_6 10 rfl rfl)
theorem dX9_read_157 : decode cX9_read 157 = .ok (.iastore, 1) := dk_79 (dk_at dksX9_read_6 13 rfl rfl)
theorem dX9_read_158 : decode cX9_read 158 = .ok (.aload_n 0, 1) := dk_42 (dk_at dksX9_read_6 14 rfl rfl)
theorem dX9_read_159 : decode cX9_read 159 = .ok (.bipush 107, 2) := dk_16 107 (dk_at dksX9_read_6 15 rfl rfl)
theorem dX9_read_161 : decode cX9_read 161 = .ok (.invokevirtual 39, 3) := dk_182 0 39 (dk_at dksX9_read_6 17 rfl rfl)
theorem dX9_read_164 : decode cX9_read 164 = .ok (.aload_n 1, 1) := dk_43 (dk_at dksX9_read_6 20 rfl rfl)
theorem dX9_read_165 : decode cX9_read 165 = .ok (.getfield 66, 3) := dk_180 0 66 (dk_at dksX9_read_6 21 rfl rfl)
theorem dX9_read_168 : decode cX9_read 168 = .ok (.iconst 2, 1) := dk_5 (dk_at dksX9_read_7 0 rfl rfl)
theorem dX9_read_169 : decode cX9_read 169 = .ok (.aload_n 0, 1) := dk_42 (dk_at dksX9_read_7 1 rfl rfl)
theorem dX9_read_170 : decode cX9_read 170 = .ok (.bipush 48, 2) := dk_16 48 (dk_at dksX9_read_7 2 rfl rfl)
theorem dX9_read_172 : decode cX9_read 172 = .ok (.bipush 57, 2) := dk_16 57 (dk_at dksX9_read_7 4 rfl rfl)
theorem dX9_read_174 : decode cX9_read 174 = .ok (.invokevirtual 58, 3) := dk_182 0 58 (dk_at dksX9_read_7 6 rfl rfl)
theorem dX9_read_177 : decode cX9_read 177 = .ok (.iastore, 1) := dk_79 (dk_at dksX9_read_7 9 rfl rfl)
theorem dX9_read_178 : decode cX9_read 178 = .ok (.goto 98, 3) := dk_167 0 98 (dk_at dksX9_read_7 10 rfl rfl)
theorem dX9_read_181 : decode cX9_read 181 = .ok (.aload_n 1, 1) := dk_43 (dk_at dksX9_read_7 13 rfl rfl)
theorem dX9_read_182 : decode cX9_read 182 = .ok (.getfield 66, 3) := dk_180 0 66 (dk_at dksX9_read_7 14 rfl rfl)
theorem dX9_read_185 : decode cX9_read 185 = .ok (.iconst 1, 1) := dk_4 (dk_at dksX9_read_7 17 rfl rfl)
theorem dX9_read_186 : decode cX9_read 186 = .ok (.aload_n 0, 1) := dk_42 (dk_at dksX9_read_7 18 rfl rfl)
theorem dX9_read_187 : decode cX9_read 187 = .ok (.bipush 48, 2) := dk_16 48 (dk_at dksX9_read_7 19 rfl rfl)
theorem dX9_read_189 : decode cX9_read 189 = .ok (.bipush 53, 2) := dk_16 53 (dk_at dksX9_read_7 21 rfl rfl)
theorem dX9_read_191 : decode cX9_read 191 = .ok (.invokevirtual 58, 3) := dk_182 0 58 (dk_at dksX9_read_8 0 rfl rfl)
theorem dX9_read_194 : decode cX9_read 194 = .ok (.iastore, 1) := dk_79 (dk_at dksX9_read_8 3 rfl rfl)
theorem dX9_read_195 : decode cX9_read 195 = .ok (.aload_n 0, 1) := dk_42 (dk_at dksX9_read_8 4 rfl rfl)
theorem dX9_read_196 : decode cX9_read 196 = .ok (.bipush 120, 2) := dk_16 120 (dk_at dksX9_read_8 5 rfl rfl)
theorem dX9_read_198 : decode cX9_read 198 = .ok (.invokevirtual 39, 3) := dk_182 0 39 (dk_at dksX9_read_8 7 rfl rfl)
theorem dX9_read_201 : decode cX9_read 201 = .ok (.aload_n 1, 1) := dk_43 (dk_at dksX9_read_8 10 rfl rfl)
theorem dX9_read_202 : decode cX9_read 202 = .ok (.getfield 66, 3) := dk_180 0 66 (dk_at dksX9_read_8 11 rfl rfl)
theorem dX9_read_205 : decode cX9_read 205 = .ok (.iconst 2, 1) := dk_5 (dk_at dksX9_read_8 14 rfl rfl)
theorem dX9_read_206 : decode cX9_read 206 = .ok (.aload_n 0, 1) := dk_42 (dk_at dksX9_read_8 15 rfl rfl)
theorem dX9_read_207 : decode cX9_read 207 = .ok (.bipush 49, 2) := dk_16 49 (dk_at dksX9_read_8 16 rfl rfl)
theorem dX9_read_209 : decode cX9_read 209 = .ok (.bipush 54, 2) := dk_16 54 (dk_at dksX9_read_8 18 rfl rfl)
theorem dX9_read_211 : decode cX9_read 211 = .ok (.invokevirtual 58, 3) := dk_182 0 58 (dk_at dksX9_read_8 20 rfl rfl)
theorem dX9_read_214 : decode cX9_read 214 = .ok (.iastore, 1) := dk_79 (dk_at dksX9_read_8 23 rfl rfl)
theorem dX9_read_215 : decode cX9_read 215 = .ok (.goto 61, 3) := dk_167 0 61 (dk_at dksX9_read_9 0 rfl rfl)
theorem dX9_read_218 : decode cX9_read 218 = .ok (.aload_n 1, 1) := dk_43 (dk_at dksX9_read_9 3 rfl rfl)
theorem dX9_read_219 : decode cX9_read 219 = .ok (.getfield 66, 3) := dk_180 0 66 (dk_at dksX9_read_9 4 rfl rfl)
theorem dX9_read_222 : decode cX9_read 222 = .ok (.iconst 1, 1) := dk_4 (dk_at dksX9_read_9 7 rfl rfl)
theorem dX9_read_223 : decode cX9_read 223 = .ok (.aload_n 0, 1) := dk_42 (dk_at dksX9_read_9 8 rfl rfl)
theorem dX9_read_224 : decode cX9_read 224 = .ok (.invokevirtual 70, 3) := dk_182 0 70 (dk_at dksX9_read_9 9 rfl rfl)
theorem dX9_read_227 : decode cX9_read 227 = .ok (.iastore, 1) := dk_79 (dk_at dksX9_read_9 12 rfl rfl)
theorem dX9_read_228 : decode cX9_read 228 = .ok (.aload_n 1, 1) := dk_43 (dk_at dksX9_read_9 13 rfl rfl)
theorem dX9_read_229 : decode cX9_read 229 = .ok (.getfield 66, 3) := dk_180 0 66 (dk_at dksX9_read_9 14 rfl rfl)
theorem dX9_read_232 : decode cX9_read 232 = .ok (.iconst 2, 1) := dk_5 (dk_at dksX9_read_9 17 rfl rfl)
theorem dX9_read_233 : decode cX9_read 233 = .ok (.aload_n 0, 1) := dk_42 (dk_at dksX9_read_9 18 rfl rfl)
theorem dX9_read_234 : decode cX9_read 234 = .ok (.bipush 115, 2) := dk_16 115 (dk_at dksX9_read_9 19 rfl rfl)
theorem dX9_read_236 : decode cX9_read 236 = .ok (.invokevirtual 51, 3) := dk_182 0 51 (dk_at dksX9_read_9 21 rfl rfl)
theorem dX9_read_239 : decode cX9_read 239 = .ok (.ifCond .eq 14, 3) := dk_153 0 14 (dk_at dksX9_read_10 0 rfl rfl)
theorem dX9_read_242 : decode cX9_read 242 = .ok (.aload_n 0, 1) := dk_42 (dk_at dksX9_read_10 3 rfl rfl)
theorem dX9_read_243 : decode cX9_read 243 = .ok (.bipush 48, 2) := dk_16 48 (dk_at dksX9_read_10 4 rfl rfl)
theorem dX9_read_245 : decode cX9_read 245 = .ok (.bipush 53, 2) := dk_16 53 (dk_at dksX9_read_10 6 rfl rfl)
theorem dX9_read_247 : decode cX9_read 247 = .ok (.invokevirtual 58, 3) := dk_182 0 58 (dk_at dksX9_read_10 8 rfl rfl)
theorem dX9_read_250 : decode cX9_read 250 = .ok (.goto 5, 3) := dk_167 0 5 (dk_at dksX9_read_10 11 rfl rfl)
theorem dX9_read_253 : decode cX9_read 253 = .ok (.bipush (-6), 2) := dk_16 250 (dk_at dksX9_read_10 14 rfl rfl)
theorem dX9_read_255 : decode cX9_read 255 = .ok (.iastore, 1) := dk_79 (dk_at dksX9_read_10 16 rfl rfl)
theorem dX9_read_256 : decode cX9_read 256 = .ok (.aload_n 1, 1) := dk_43 (dk_at dksX9_read_10 17 rfl rfl)
theorem dX9_read_257 : decode cX9_read 257 = .ok (.getfield 66, 3) := dk_180 0 66 (dk_at dksX9_read_10 18 rfl rfl)
theorem dX9_read_260 : decode cX9_read 260 = .ok (.iconst 3, 1) := dk_6 (dk_at dksX9_read_10 21 rfl rfl)
theorem dX9_read_261 : decode cX9_read 261 = .ok (.aload_n 0, 1) := dk_42 (dk_at dksX9_read_10 22 rfl rfl)
theorem dX9_read_262 : decode cX9_read 262 = .ok (.bipush 33, 2) := dk_16 33 (dk_at dksX9_read_11 0 rfl rfl)
theorem dX9_read_264 : decode cX9_read 264 = .ok (.invokevirtual 51, 3) := dk_182 0 51 (dk_at dksX9_read_11 2 rfl rfl)
theorem dX9_read_267 : decode cX9_read 267 = .ok (.ifCond .eq 7, 3) := dk_153 0 7 (dk_at dksX9_read_11 5 rfl rfl)
theorem dX9_read_270 : decode cX9_read 270 = .ok (.iconst 1, 1) := dk_4 (dk_at dksX9_read_11 8 rfl rfl)
theorem dX9_read_271 : decode cX9_read 271 = .ok (.goto 4, 3) := dk_167 0 4 (dk_at dksX9_read_11 9 rfl rfl)
theorem dX9_read_274 : decode cX9_read 274 = .ok (.iconst 0, 1) := dk_3 (dk_at dksX9_read_11 12 rfl rfl)
theorem dX9_read_275 : decode cX9_read 275 = .ok (.iastore, 1) := dk_79 (dk_at dksX9_read_11 13 rfl rfl)
theorem dX9_read_276 : decode cX9_read 276 = .ok (.aload_n 0, 1) := dk_42 (dk_at dksX9_read_11 14 rfl rfl)
theorem dX9_read_277 : decode cX9_read 277 = .ok (.getfield 12, 3) := dk_180 0 12 (dk_at dksX9_read_11 15 rfl rfl)
theorem dX9_read_280 : decode cX9_read 280 = .ok (.aload_n 1, 1) := dk_43 (dk_at dksX9_read_11 18 rfl rfl)
theorem dX9_read_281 : decode cX9_read 281 = .ok (.invokeinterface 77 2, 5) := by decide +kernel
theorem dX9_read_286 : decode cX9_read 286 = .ok (.pop, 1) := dk_87 (dk_at dksX9_read_12 0 rfl rfl)
theorem dX9_read_287 : decode cX9_read 287 = .ok (.return_, 1) := dk_177 (dk_at dksX9_read_12 1 rfl rfl)
abbrev cX9_sees : ByteArray := prog_8_method_2_code
def yX9_sees : MethodName := ⟨RX9, "sees", "(C)Z"⟩
def dkwX9_sees_1 : List UInt8 := [185, 0, 43, 2, 0, 27, 160, 0, 7, 4, 167, 0, 4, 3, 172]
abbrev dktX9_sees_1 : List UInt8 := dkwX9_sees_1 ++ []
def dkwX9_sees_0 : List UInt8 := [42, 180, 0, 29, 42, 180, 0, 18, 185, 0, 33, 1, 0, 162, 0, 24, 42, 180, 0, 18, 42, 180, 0, 29]
abbrev dktX9_sees_0 : List UInt8 := dkwX9_sees_0 ++ dktX9_sees_1
theorem dksX9_sees_0 : cX9_sees.data.toList.drop 0 = dktX9_sees_0 := by decide +kernel
theorem dksX9_sees_1 : cX9_sees.data.toList.drop 24 = dktX9_sees_1 := dk_seg dksX9_sees_0 24 rfl rfl
theorem dX9_sees_0 : decode cX9_sees 0 = .ok (.aload_n 0, 1) := dk_42 (dk_at dksX9_sees_0 0 rfl rfl)
theorem dX9_sees_1 : decode cX9_sees 1 = .ok (.getfield 29, 3) := dk_180 0 29 (dk_at dksX9_sees_0 1 rfl rfl)
theorem dX9_sees_4 : decode cX9_sees 4 = .ok (.aload_n 0, 1) := dk_42 (dk_at dksX9_sees_0 4 rfl rfl)
theorem dX9_sees_5 : decode cX9_sees 5 = .ok (.getfield 18, 3) := dk_180 0 18 (dk_at dksX9_sees_0 5 rfl rfl)
theorem dX9_sees_8 : decode cX9_sees 8 = .ok (.invokeinterface 33 1, 5) := by decide +kernel
theorem dX9_sees_13 : decode cX9_sees 13 = .ok (.if_icmp .ge 24, 3) := dk_162 0 24 (dk_at dksX9_sees_0 13 rfl rfl)
theorem dX9_sees_16 : decode cX9_sees 16 = .ok (.aload_n 0, 1) := dk_42 (dk_at dksX9_sees_0 16 rfl rfl)
theorem dX9_sees_17 : decode cX9_sees 17 = .ok (.getfield 18, 3) := dk_180 0 18 (dk_at dksX9_sees_0 17 rfl rfl)
theorem dX9_sees_20 : decode cX9_sees 20 = .ok (.aload_n 0, 1) := dk_42 (dk_at dksX9_sees_0 20 rfl rfl)
theorem dX9_sees_21 : decode cX9_sees 21 = .ok (.getfield 29, 3) := dk_180 0 29 (dk_at dksX9_sees_0 21 rfl rfl)
theorem dX9_sees_24 : decode cX9_sees 24 = .ok (.invokeinterface 43 2, 5) := by decide +kernel
theorem dX9_sees_29 : decode cX9_sees 29 = .ok (.iload_n 1, 1) := dk_27 (dk_at dksX9_sees_1 5 rfl rfl)
theorem dX9_sees_30 : decode cX9_sees 30 = .ok (.if_icmp .ne 7, 3) := dk_160 0 7 (dk_at dksX9_sees_1 6 rfl rfl)
theorem dX9_sees_33 : decode cX9_sees 33 = .ok (.iconst 1, 1) := dk_4 (dk_at dksX9_sees_1 9 rfl rfl)
theorem dX9_sees_34 : decode cX9_sees 34 = .ok (.goto 4, 3) := dk_167 0 4 (dk_at dksX9_sees_1 10 rfl rfl)
theorem dX9_sees_37 : decode cX9_sees 37 = .ok (.iconst 0, 1) := dk_3 (dk_at dksX9_sees_1 13 rfl rfl)
theorem dX9_sees_38 : decode cX9_sees 38 = .ok (.ireturn, 1) := dk_172 (dk_at dksX9_sees_1 14 rfl rfl)
abbrev cX9_number : ByteArray := prog_8_method_7_code
def yX9_number : MethodName := ⟨RX9, "number", "()I"⟩
def dkwX9_number_4 : List UInt8 := [180, 0, 25, 153, 0, 7, 3, 167, 0, 4, 4, 96, 181, 0, 29, 167, 255, 162, 27, 172]
abbrev dktX9_number_4 : List UInt8 := dkwX9_number_4 ++ []
def dkwX9_number_3 : List UInt8 := [181, 0, 25, 42, 180, 0, 25, 153, 0, 7, 27, 167, 0, 4, 28, 60, 42, 89, 180, 0, 29, 42]
abbrev dktX9_number_3 : List UInt8 := dkwX9_number_3 ++ dktX9_number_4
def dkwX9_number_2 : List UInt8 := [185, 0, 43, 2, 0, 96, 16, 48, 100, 61, 42, 28, 17, 3, 231, 164, 0, 7, 4, 167, 0, 4, 3]
abbrev dktX9_number_2 : List UInt8 := dkwX9_number_2 ++ dktX9_number_3
def dkwX9_number_1 : List UInt8 := [16, 57, 182, 0, 54, 153, 0, 78, 16, 10, 27, 104, 42, 180, 0, 18, 42, 180, 0, 29]
abbrev dktX9_number_1 : List UInt8 := dkwX9_number_1 ++ dktX9_number_2
def dkwX9_number_0 : List UInt8 := [42, 16, 48, 16, 57, 182, 0, 58, 60, 42, 180, 0, 25, 154, 0, 93, 27, 158, 0, 89, 42, 16, 48]
abbrev dktX9_number_0 : List UInt8 := dkwX9_number_0 ++ dktX9_number_1
theorem dksX9_number_0 : cX9_number.data.toList.drop 0 = dktX9_number_0 := by decide +kernel
theorem dksX9_number_1 : cX9_number.data.toList.drop 23 = dktX9_number_1 := dk_seg dksX9_number_0 23 rfl rfl
theorem dksX9_number_2 : cX9_number.data.toList.drop 43 = dktX9_number_2 := dk_seg dksX9_number_1 20 rfl rfl
theorem dksX9_number_3 : cX9_number.data.toList.drop 66 = dktX9_number_3 := dk_seg dksX9_number_2 23 rfl rfl
theorem dksX9_number_4 : cX9_number.data.toList.drop 88 = dktX9_number_4 := dk_seg dksX9_number_3 22 rfl rfl
theorem dX9_number_0 : decode cX9_number 0 = .ok (.aload_n 0, 1) := dk_42 (dk_at dksX9_number_0 0 rfl rfl)
theorem dX9_number_1 : decode cX9_number 1 = .ok (.bipush 48, 2) := dk_16 48 (dk_at dksX9_number_0 1 rfl rfl)
theorem dX9_number_3 : decode cX9_number 3 = .ok (.bipush 57, 2) := dk_16 57 (dk_at dksX9_number_0 3 rfl rfl)
theorem dX9_number_5 : decode cX9_number 5 = .ok (.invokevirtual 58, 3) := dk_182 0 58 (dk_at dksX9_number_0 5 rfl rfl)
theorem dX9_number_8 : decode cX9_number 8 = .ok (.istore_n 1, 1) := dk_60 (dk_at dksX9_number_0 8 rfl rfl)
theorem dX9_number_9 : decode cX9_number 9 = .ok (.aload_n 0, 1) := dk_42 (dk_at dksX9_number_0 9 rfl rfl)
theorem dX9_number_10 : decode cX9_number 10 = .ok (.getfield 25, 3) := dk_180 0 25 (dk_at dksX9_number_0 10 rfl rfl)
theorem dX9_number_13 : decode cX9_number 13 = .ok (.ifCond .ne 93, 3) := dk_154 0 93 (dk_at dksX9_number_0 13 rfl rfl)
theorem dX9_number_16 : decode cX9_number 16 = .ok (.iload_n 1, 1) := dk_27 (dk_at dksX9_number_0 16 rfl rfl)
theorem dX9_number_17 : decode cX9_number 17 = .ok (.ifCond .le 89, 3) := dk_158 0 89 (dk_at dksX9_number_0 17 rfl rfl)
theorem dX9_number_20 : decode cX9_number 20 = .ok (.aload_n 0, 1) := dk_42 (dk_at dksX9_number_0 20 rfl rfl)
theorem dX9_number_21 : decode cX9_number 21 = .ok (.bipush 48, 2) := dk_16 48 (dk_at dksX9_number_0 21 rfl rfl)
theorem dX9_number_23 : decode cX9_number 23 = .ok (.bipush 57, 2) := dk_16 57 (dk_at dksX9_number_1 0 rfl rfl)
theorem dX9_number_25 : decode cX9_number 25 = .ok (.invokevirtual 54, 3) := dk_182 0 54 (dk_at dksX9_number_1 2 rfl rfl)
theorem dX9_number_28 : decode cX9_number 28 = .ok (.ifCond .eq 78, 3) := dk_153 0 78 (dk_at dksX9_number_1 5 rfl rfl)
theorem dX9_number_31 : decode cX9_number 31 = .ok (.bipush 10, 2) := dk_16 10 (dk_at dksX9_number_1 8 rfl rfl)
theorem dX9_number_33 : decode cX9_number 33 = .ok (.iload_n 1, 1) := dk_27 (dk_at dksX9_number_1 10 rfl rfl)
theorem dX9_number_34 : decode cX9_number 34 = .ok (.imul, 1) := dk_104 (dk_at dksX9_number_1 11 rfl rfl)
theorem dX9_number_35 : decode cX9_number 35 = .ok (.aload_n 0, 1) := dk_42 (dk_at dksX9_number_1 12 rfl rfl)
theorem dX9_number_36 : decode cX9_number 36 = .ok (.getfield 18, 3) := dk_180 0 18 (dk_at dksX9_number_1 13 rfl rfl)
theorem dX9_number_39 : decode cX9_number 39 = .ok (.aload_n 0, 1) := dk_42 (dk_at dksX9_number_1 16 rfl rfl)
theorem dX9_number_40 : decode cX9_number 40 = .ok (.getfield 29, 3) := dk_180 0 29 (dk_at dksX9_number_1 17 rfl rfl)
theorem dX9_number_43 : decode cX9_number 43 = .ok (.invokeinterface 43 2, 5) := by decide +kernel
theorem dX9_number_48 : decode cX9_number 48 = .ok (.iadd, 1) := dk_96 (dk_at dksX9_number_2 5 rfl rfl)
theorem dX9_number_49 : decode cX9_number 49 = .ok (.bipush 48, 2) := dk_16 48 (dk_at dksX9_number_2 6 rfl rfl)
theorem dX9_number_51 : decode cX9_number 51 = .ok (.isub, 1) := dk_100 (dk_at dksX9_number_2 8 rfl rfl)
theorem dX9_number_52 : decode cX9_number 52 = .ok (.istore_n 2, 1) := dk_61 (dk_at dksX9_number_2 9 rfl rfl)
theorem dX9_number_53 : decode cX9_number 53 = .ok (.aload_n 0, 1) := dk_42 (dk_at dksX9_number_2 10 rfl rfl)
theorem dX9_number_54 : decode cX9_number 54 = .ok (.iload_n 2, 1) := dk_28 (dk_at dksX9_number_2 11 rfl rfl)
theorem dX9_number_55 : decode cX9_number 55 = .ok (.sipush 999, 3) := dk_17 3 231 (dk_at dksX9_number_2 12 rfl rfl)
theorem dX9_number_58 : decode cX9_number 58 = .ok (.if_icmp .le 7, 3) := dk_164 0 7 (dk_at dksX9_number_2 15 rfl rfl)
theorem dX9_number_61 : decode cX9_number 61 = .ok (.iconst 1, 1) := dk_4 (dk_at dksX9_number_2 18 rfl rfl)
theorem dX9_number_62 : decode cX9_number 62 = .ok (.goto 4, 3) := dk_167 0 4 (dk_at dksX9_number_2 19 rfl rfl)
theorem dX9_number_65 : decode cX9_number 65 = .ok (.iconst 0, 1) := dk_3 (dk_at dksX9_number_2 22 rfl rfl)
theorem dX9_number_66 : decode cX9_number 66 = .ok (.putfield 25, 3) := dk_181 0 25 (dk_at dksX9_number_3 0 rfl rfl)
theorem dX9_number_69 : decode cX9_number 69 = .ok (.aload_n 0, 1) := dk_42 (dk_at dksX9_number_3 3 rfl rfl)
theorem dX9_number_70 : decode cX9_number 70 = .ok (.getfield 25, 3) := dk_180 0 25 (dk_at dksX9_number_3 4 rfl rfl)
theorem dX9_number_73 : decode cX9_number 73 = .ok (.ifCond .eq 7, 3) := dk_153 0 7 (dk_at dksX9_number_3 7 rfl rfl)
theorem dX9_number_76 : decode cX9_number 76 = .ok (.iload_n 1, 1) := dk_27 (dk_at dksX9_number_3 10 rfl rfl)
theorem dX9_number_77 : decode cX9_number 77 = .ok (.goto 4, 3) := dk_167 0 4 (dk_at dksX9_number_3 11 rfl rfl)
theorem dX9_number_80 : decode cX9_number 80 = .ok (.iload_n 2, 1) := dk_28 (dk_at dksX9_number_3 14 rfl rfl)
theorem dX9_number_81 : decode cX9_number 81 = .ok (.istore_n 1, 1) := dk_60 (dk_at dksX9_number_3 15 rfl rfl)
theorem dX9_number_82 : decode cX9_number 82 = .ok (.aload_n 0, 1) := dk_42 (dk_at dksX9_number_3 16 rfl rfl)
theorem dX9_number_83 : decode cX9_number 83 = .ok (.dup, 1) := dk_89 (dk_at dksX9_number_3 17 rfl rfl)
theorem dX9_number_84 : decode cX9_number 84 = .ok (.getfield 29, 3) := dk_180 0 29 (dk_at dksX9_number_3 18 rfl rfl)
theorem dX9_number_87 : decode cX9_number 87 = .ok (.aload_n 0, 1) := dk_42 (dk_at dksX9_number_3 21 rfl rfl)
theorem dX9_number_88 : decode cX9_number 88 = .ok (.getfield 25, 3) := dk_180 0 25 (dk_at dksX9_number_4 0 rfl rfl)
theorem dX9_number_91 : decode cX9_number 91 = .ok (.ifCond .eq 7, 3) := dk_153 0 7 (dk_at dksX9_number_4 3 rfl rfl)
theorem dX9_number_94 : decode cX9_number 94 = .ok (.iconst 0, 1) := dk_3 (dk_at dksX9_number_4 6 rfl rfl)
theorem dX9_number_95 : decode cX9_number 95 = .ok (.goto 4, 3) := dk_167 0 4 (dk_at dksX9_number_4 7 rfl rfl)
theorem dX9_number_98 : decode cX9_number 98 = .ok (.iconst 1, 1) := dk_4 (dk_at dksX9_number_4 10 rfl rfl)
theorem dX9_number_99 : decode cX9_number 99 = .ok (.iadd, 1) := dk_96 (dk_at dksX9_number_4 11 rfl rfl)
theorem dX9_number_100 : decode cX9_number 100 = .ok (.putfield 29, 3) := dk_181 0 29 (dk_at dksX9_number_4 12 rfl rfl)
theorem dX9_number_103 : decode cX9_number 103 = .ok (.goto (-94), 3) := dk_167 255 162 (dk_at dksX9_number_4 15 rfl rfl)
theorem dX9_number_106 : decode cX9_number 106 = .ok (.iload_n 1, 1) := dk_27 (dk_at dksX9_number_4 18 rfl rfl)
theorem dX9_number_107 : decode cX9_number 107 = .ok (.ireturn, 1) := dk_172 (dk_at dksX9_number_4 19 rfl rfl)
abbrev cX9_digit : ByteArray := prog_8_method_6_code
def yX9_digit : MethodName := ⟨RX9, "digit", "(CC)I"⟩
def dkwX9_digit_2 : List UInt8 := [180, 0, 18, 42, 180, 0, 29, 4, 100, 185, 0, 43, 2, 0, 16, 48, 100, 172]
abbrev dktX9_digit_2 : List UInt8 := dkwX9_digit_2 ++ []
def dkwX9_digit_1 : List UInt8 := [181, 0, 25, 42, 180, 0, 25, 153, 0, 5, 3, 172, 42, 89, 180, 0, 29, 4, 96, 181, 0, 29, 42]
abbrev dktX9_digit_1 : List UInt8 := dkwX9_digit_1 ++ dktX9_digit_2
def dkwX9_digit_0 : List UInt8 := [42, 42, 180, 0, 25, 154, 0, 12, 42, 27, 28, 182, 0, 54, 154, 0, 7, 4, 167, 0, 4, 3]
abbrev dktX9_digit_0 : List UInt8 := dkwX9_digit_0 ++ dktX9_digit_1
theorem dksX9_digit_0 : cX9_digit.data.toList.drop 0 = dktX9_digit_0 := by decide +kernel
theorem dksX9_digit_1 : cX9_digit.data.toList.drop 22 = dktX9_digit_1 := dk_seg dksX9_digit_0 22 rfl rfl
theorem dksX9_digit_2 : cX9_digit.data.toList.drop 45 = dktX9_digit_2 := dk_seg dksX9_digit_1 23 rfl rfl
theorem dX9_digit_0 : decode cX9_digit 0 = .ok (.aload_n 0, 1) := dk_42 (dk_at dksX9_digit_0 0 rfl rfl)
theorem dX9_digit_1 : decode cX9_digit 1 = .ok (.aload_n 0, 1) := dk_42 (dk_at dksX9_digit_0 1 rfl rfl)
theorem dX9_digit_2 : decode cX9_digit 2 = .ok (.getfield 25, 3) := dk_180 0 25 (dk_at dksX9_digit_0 2 rfl rfl)
theorem dX9_digit_5 : decode cX9_digit 5 = .ok (.ifCond .ne 12, 3) := dk_154 0 12 (dk_at dksX9_digit_0 5 rfl rfl)
theorem dX9_digit_8 : decode cX9_digit 8 = .ok (.aload_n 0, 1) := dk_42 (dk_at dksX9_digit_0 8 rfl rfl)
theorem dX9_digit_9 : decode cX9_digit 9 = .ok (.iload_n 1, 1) := dk_27 (dk_at dksX9_digit_0 9 rfl rfl)
theorem dX9_digit_10 : decode cX9_digit 10 = .ok (.iload_n 2, 1) := dk_28 (dk_at dksX9_digit_0 10 rfl rfl)
theorem dX9_digit_11 : decode cX9_digit 11 = .ok (.invokevirtual 54, 3) := dk_182 0 54 (dk_at dksX9_digit_0 11 rfl rfl)
theorem dX9_digit_14 : decode cX9_digit 14 = .ok (.ifCond .ne 7, 3) := dk_154 0 7 (dk_at dksX9_digit_0 14 rfl rfl)
theorem dX9_digit_17 : decode cX9_digit 17 = .ok (.iconst 1, 1) := dk_4 (dk_at dksX9_digit_0 17 rfl rfl)
theorem dX9_digit_18 : decode cX9_digit 18 = .ok (.goto 4, 3) := dk_167 0 4 (dk_at dksX9_digit_0 18 rfl rfl)
theorem dX9_digit_21 : decode cX9_digit 21 = .ok (.iconst 0, 1) := dk_3 (dk_at dksX9_digit_0 21 rfl rfl)
theorem dX9_digit_22 : decode cX9_digit 22 = .ok (.putfield 25, 3) := dk_181 0 25 (dk_at dksX9_digit_1 0 rfl rfl)
theorem dX9_digit_25 : decode cX9_digit 25 = .ok (.aload_n 0, 1) := dk_42 (dk_at dksX9_digit_1 3 rfl rfl)
theorem dX9_digit_26 : decode cX9_digit 26 = .ok (.getfield 25, 3) := dk_180 0 25 (dk_at dksX9_digit_1 4 rfl rfl)
theorem dX9_digit_29 : decode cX9_digit 29 = .ok (.ifCond .eq 5, 3) := dk_153 0 5 (dk_at dksX9_digit_1 7 rfl rfl)
theorem dX9_digit_32 : decode cX9_digit 32 = .ok (.iconst 0, 1) := dk_3 (dk_at dksX9_digit_1 10 rfl rfl)
theorem dX9_digit_33 : decode cX9_digit 33 = .ok (.ireturn, 1) := dk_172 (dk_at dksX9_digit_1 11 rfl rfl)
theorem dX9_digit_34 : decode cX9_digit 34 = .ok (.aload_n 0, 1) := dk_42 (dk_at dksX9_digit_1 12 rfl rfl)
theorem dX9_digit_35 : decode cX9_digit 35 = .ok (.dup, 1) := dk_89 (dk_at dksX9_digit_1 13 rfl rfl)
theorem dX9_digit_36 : decode cX9_digit 36 = .ok (.getfield 29, 3) := dk_180 0 29 (dk_at dksX9_digit_1 14 rfl rfl)
theorem dX9_digit_39 : decode cX9_digit 39 = .ok (.iconst 1, 1) := dk_4 (dk_at dksX9_digit_1 17 rfl rfl)
theorem dX9_digit_40 : decode cX9_digit 40 = .ok (.iadd, 1) := dk_96 (dk_at dksX9_digit_1 18 rfl rfl)
theorem dX9_digit_41 : decode cX9_digit 41 = .ok (.putfield 29, 3) := dk_181 0 29 (dk_at dksX9_digit_1 19 rfl rfl)
theorem dX9_digit_44 : decode cX9_digit 44 = .ok (.aload_n 0, 1) := dk_42 (dk_at dksX9_digit_1 22 rfl rfl)
theorem dX9_digit_45 : decode cX9_digit 45 = .ok (.getfield 18, 3) := dk_180 0 18 (dk_at dksX9_digit_2 0 rfl rfl)
theorem dX9_digit_48 : decode cX9_digit 48 = .ok (.aload_n 0, 1) := dk_42 (dk_at dksX9_digit_2 3 rfl rfl)
theorem dX9_digit_49 : decode cX9_digit 49 = .ok (.getfield 29, 3) := dk_180 0 29 (dk_at dksX9_digit_2 4 rfl rfl)
theorem dX9_digit_52 : decode cX9_digit 52 = .ok (.iconst 1, 1) := dk_4 (dk_at dksX9_digit_2 7 rfl rfl)
theorem dX9_digit_53 : decode cX9_digit 53 = .ok (.isub, 1) := dk_100 (dk_at dksX9_digit_2 8 rfl rfl)
theorem dX9_digit_54 : decode cX9_digit 54 = .ok (.invokeinterface 43 2, 5) := by decide +kernel
theorem dX9_digit_59 : decode cX9_digit 59 = .ok (.bipush 48, 2) := dk_16 48 (dk_at dksX9_digit_2 14 rfl rfl)
theorem dX9_digit_61 : decode cX9_digit 61 = .ok (.isub, 1) := dk_100 (dk_at dksX9_digit_2 16 rfl rfl)
theorem dX9_digit_62 : decode cX9_digit 62 = .ok (.ireturn, 1) := dk_172 (dk_at dksX9_digit_2 17 rfl rfl)
abbrev cX9_seesDigit : ByteArray := prog_8_method_3_code
def yX9_seesDigit : MethodName := ⟨RX9, "seesDigit", "(CC)Z"⟩
def dkwX9_seesDigit_2 : List UInt8 := [163, 0, 7, 4, 167, 0, 4, 3, 172]
abbrev dktX9_seesDigit_2 : List UInt8 := dkwX9_seesDigit_2 ++ []
def dkwX9_seesDigit_1 : List UInt8 := [185, 0, 43, 2, 0, 27, 161, 0, 24, 42, 180, 0, 18, 42, 180, 0, 29, 185, 0, 43, 2, 0, 28]
abbrev dktX9_seesDigit_1 : List UInt8 := dkwX9_seesDigit_1 ++ dktX9_seesDigit_2
def dkwX9_seesDigit_0 : List UInt8 := [42, 180, 0, 29, 42, 180, 0, 18, 185, 0, 33, 1, 0, 162, 0, 41, 42, 180, 0, 18, 42, 180, 0, 29]
abbrev dktX9_seesDigit_0 : List UInt8 := dkwX9_seesDigit_0 ++ dktX9_seesDigit_1
theorem dksX9_seesDigit_0 : cX9_seesDigit.data.toList.drop 0 = dktX9_seesDigit_0 := by decide +kernel
theorem dksX9_seesDigit_1 : cX9_seesDigit.data.toList.drop 24 = dktX9_seesDigit_1 := dk_seg dksX9_seesDigit_0 24 rfl rfl
theorem dksX9_seesDigit_2 : cX9_seesDigit.data.toList.drop 47 = dktX9_seesDigit_2 := dk_seg dksX9_seesDigit_1 23 rfl rfl
theorem dX9_seesDigit_0 : decode cX9_seesDigit 0 = .ok (.aload_n 0, 1) := dk_42 (dk_at dksX9_seesDigit_0 0 rfl rfl)
theorem dX9_seesDigit_1 : decode cX9_seesDigit 1 = .ok (.getfield 29, 3) := dk_180 0 29 (dk_at dksX9_seesDigit_0 1 rfl rfl)
theorem dX9_seesDigit_4 : decode cX9_seesDigit 4 = .ok (.aload_n 0, 1) := dk_42 (dk_at dksX9_seesDigit_0 4 rfl rfl)
theorem dX9_seesDigit_5 : decode cX9_seesDigit 5 = .ok (.getfield 18, 3) := dk_180 0 18 (dk_at dksX9_seesDigit_0 5 rfl rfl)
theorem dX9_seesDigit_8 : decode cX9_seesDigit 8 = .ok (.invokeinterface 33 1, 5) := by decide +kernel
theorem dX9_seesDigit_13 : decode cX9_seesDigit 13 = .ok (.if_icmp .ge 41, 3) := dk_162 0 41 (dk_at dksX9_seesDigit_0 13 rfl rfl)
theorem dX9_seesDigit_16 : decode cX9_seesDigit 16 = .ok (.aload_n 0, 1) := dk_42 (dk_at dksX9_seesDigit_0 16 rfl rfl)
theorem dX9_seesDigit_17 : decode cX9_seesDigit 17 = .ok (.getfield 18, 3) := dk_180 0 18 (dk_at dksX9_seesDigit_0 17 rfl rfl)
theorem dX9_seesDigit_20 : decode cX9_seesDigit 20 = .ok (.aload_n 0, 1) := dk_42 (dk_at dksX9_seesDigit_0 20 rfl rfl)
theorem dX9_seesDigit_21 : decode cX9_seesDigit 21 = .ok (.getfield 29, 3) := dk_180 0 29 (dk_at dksX9_seesDigit_0 21 rfl rfl)
theorem dX9_seesDigit_24 : decode cX9_seesDigit 24 = .ok (.invokeinterface 43 2, 5) := by decide +kernel
theorem dX9_seesDigit_29 : decode cX9_seesDigit 29 = .ok (.iload_n 1, 1) := dk_27 (dk_at dksX9_seesDigit_1 5 rfl rfl)
theorem dX9_seesDigit_30 : decode cX9_seesDigit 30 = .ok (.if_icmp .lt 24, 3) := dk_161 0 24 (dk_at dksX9_seesDigit_1 6 rfl rfl)
theorem dX9_seesDigit_33 : decode cX9_seesDigit 33 = .ok (.aload_n 0, 1) := dk_42 (dk_at dksX9_seesDigit_1 9 rfl rfl)
theorem dX9_seesDigit_34 : decode cX9_seesDigit 34 = .ok (.getfield 18, 3) := dk_180 0 18 (dk_at dksX9_seesDigit_1 10 rfl rfl)
theorem dX9_seesDigit_37 : decode cX9_seesDigit 37 = .ok (.aload_n 0, 1) := dk_42 (dk_at dksX9_seesDigit_1 13 rfl rfl)
theorem dX9_seesDigit_38 : decode cX9_seesDigit 38 = .ok (.getfield 29, 3) := dk_180 0 29 (dk_at dksX9_seesDigit_1 14 rfl rfl)
theorem dX9_seesDigit_41 : decode cX9_seesDigit 41 = .ok (.invokeinterface 43 2, 5) := by decide +kernel
theorem dX9_seesDigit_46 : decode cX9_seesDigit 46 = .ok (.iload_n 2, 1) := dk_28 (dk_at dksX9_seesDigit_1 22 rfl rfl)
theorem dX9_seesDigit_47 : decode cX9_seesDigit 47 = .ok (.if_icmp .gt 7, 3) := dk_163 0 7 (dk_at dksX9_seesDigit_2 0 rfl rfl)
theorem dX9_seesDigit_50 : decode cX9_seesDigit 50 = .ok (.iconst 1, 1) := dk_4 (dk_at dksX9_seesDigit_2 3 rfl rfl)
theorem dX9_seesDigit_51 : decode cX9_seesDigit 51 = .ok (.goto 4, 3) := dk_167 0 4 (dk_at dksX9_seesDigit_2 4 rfl rfl)
theorem dX9_seesDigit_54 : decode cX9_seesDigit 54 = .ok (.iconst 0, 1) := dk_3 (dk_at dksX9_seesDigit_2 7 rfl rfl)
theorem dX9_seesDigit_55 : decode cX9_seesDigit 55 = .ok (.ireturn, 1) := dk_172 (dk_at dksX9_seesDigit_2 8 rfl rfl)
abbrev cX9_take : ByteArray := prog_8_method_5_code
def yX9_take : MethodName := ⟨RX9, "take", "(C)V"⟩
def dkwX9_take_0 : List UInt8 := [42, 42, 27, 182, 0, 51, 154, 0, 7, 4, 167, 0, 4, 3, 181, 0, 25, 177]
abbrev dktX9_take_0 : List UInt8 := dkwX9_take_0 ++ []
theorem dksX9_take_0 : cX9_take.data.toList.drop 0 = dktX9_take_0 := by decide +kernel
theorem dX9_take_0 : decode cX9_take 0 = .ok (.aload_n 0, 1) := dk_42 (dk_at dksX9_take_0 0 rfl rfl)
theorem dX9_take_1 : decode cX9_take 1 = .ok (.aload_n 0, 1) := dk_42 (dk_at dksX9_take_0 1 rfl rfl)
theorem dX9_take_2 : decode cX9_take 2 = .ok (.iload_n 1, 1) := dk_27 (dk_at dksX9_take_0 2 rfl rfl)
theorem dX9_take_3 : decode cX9_take 3 = .ok (.invokevirtual 51, 3) := dk_182 0 51 (dk_at dksX9_take_0 3 rfl rfl)
theorem dX9_take_6 : decode cX9_take 6 = .ok (.ifCond .ne 7, 3) := dk_154 0 7 (dk_at dksX9_take_0 6 rfl rfl)
theorem dX9_take_9 : decode cX9_take 9 = .ok (.iconst 1, 1) := dk_4 (dk_at dksX9_take_0 9 rfl rfl)
theorem dX9_take_10 : decode cX9_take 10 = .ok (.goto 4, 3) := dk_167 0 4 (dk_at dksX9_take_0 10 rfl rfl)
theorem dX9_take_13 : decode cX9_take 13 = .ok (.iconst 0, 1) := dk_3 (dk_at dksX9_take_0 13 rfl rfl)
theorem dX9_take_14 : decode cX9_take 14 = .ok (.putfield 25, 3) := dk_181 0 25 (dk_at dksX9_take_0 14 rfl rfl)
theorem dX9_take_17 : decode cX9_take 17 = .ok (.return_, 1) := dk_177 (dk_at dksX9_take_0 17 rfl rfl)
abbrev cX9_takes : ByteArray := prog_8_method_4_code
def yX9_takes : MethodName := ⟨RX9, "takes", "(C)Z"⟩
def dkwX9_takes_1 : List UInt8 := [180, 0, 29, 28, 153, 0, 7, 4, 167, 0, 4, 3, 96, 181, 0, 29, 28, 172]
abbrev dktX9_takes_1 : List UInt8 := dkwX9_takes_1 ++ []
def dkwX9_takes_0 : List UInt8 := [42, 180, 0, 25, 154, 0, 15, 42, 27, 182, 0, 47, 153, 0, 7, 4, 167, 0, 4, 3, 61, 42, 89]
abbrev dktX9_takes_0 : List UInt8 := dkwX9_takes_0 ++ dktX9_takes_1
theorem dksX9_takes_0 : cX9_takes.data.toList.drop 0 = dktX9_takes_0 := by decide +kernel
theorem dksX9_takes_1 : cX9_takes.data.toList.drop 23 = dktX9_takes_1 := dk_seg dksX9_takes_0 23 rfl rfl
theorem dX9_takes_0 : decode cX9_takes 0 = .ok (.aload_n 0, 1) := dk_42 (dk_at dksX9_takes_0 0 rfl rfl)
theorem dX9_takes_1 : decode cX9_takes 1 = .ok (.getfield 25, 3) := dk_180 0 25 (dk_at dksX9_takes_0 1 rfl rfl)
theorem dX9_takes_4 : decode cX9_takes 4 = .ok (.ifCond .ne 15, 3) := dk_154 0 15 (dk_at dksX9_takes_0 4 rfl rfl)
theorem dX9_takes_7 : decode cX9_takes 7 = .ok (.aload_n 0, 1) := dk_42 (dk_at dksX9_takes_0 7 rfl rfl)
theorem dX9_takes_8 : decode cX9_takes 8 = .ok (.iload_n 1, 1) := dk_27 (dk_at dksX9_takes_0 8 rfl rfl)
theorem dX9_takes_9 : decode cX9_takes 9 = .ok (.invokevirtual 47, 3) := dk_182 0 47 (dk_at dksX9_takes_0 9 rfl rfl)
theorem dX9_takes_12 : decode cX9_takes 12 = .ok (.ifCond .eq 7, 3) := dk_153 0 7 (dk_at dksX9_takes_0 12 rfl rfl)
theorem dX9_takes_15 : decode cX9_takes 15 = .ok (.iconst 1, 1) := dk_4 (dk_at dksX9_takes_0 15 rfl rfl)
theorem dX9_takes_16 : decode cX9_takes 16 = .ok (.goto 4, 3) := dk_167 0 4 (dk_at dksX9_takes_0 16 rfl rfl)
theorem dX9_takes_19 : decode cX9_takes 19 = .ok (.iconst 0, 1) := dk_3 (dk_at dksX9_takes_0 19 rfl rfl)
theorem dX9_takes_20 : decode cX9_takes 20 = .ok (.istore_n 2, 1) := dk_61 (dk_at dksX9_takes_0 20 rfl rfl)
theorem dX9_takes_21 : decode cX9_takes 21 = .ok (.aload_n 0, 1) := dk_42 (dk_at dksX9_takes_0 21 rfl rfl)
theorem dX9_takes_22 : decode cX9_takes 22 = .ok (.dup, 1) := dk_89 (dk_at dksX9_takes_0 22 rfl rfl)
theorem dX9_takes_23 : decode cX9_takes 23 = .ok (.getfield 29, 3) := dk_180 0 29 (dk_at dksX9_takes_1 0 rfl rfl)
theorem dX9_takes_26 : decode cX9_takes 26 = .ok (.iload_n 2, 1) := dk_28 (dk_at dksX9_takes_1 3 rfl rfl)
theorem dX9_takes_27 : decode cX9_takes 27 = .ok (.ifCond .eq 7, 3) := dk_153 0 7 (dk_at dksX9_takes_1 4 rfl rfl)
theorem dX9_takes_30 : decode cX9_takes 30 = .ok (.iconst 1, 1) := dk_4 (dk_at dksX9_takes_1 7 rfl rfl)
theorem dX9_takes_31 : decode cX9_takes 31 = .ok (.goto 4, 3) := dk_167 0 4 (dk_at dksX9_takes_1 8 rfl rfl)
theorem dX9_takes_34 : decode cX9_takes 34 = .ok (.iconst 0, 1) := dk_3 (dk_at dksX9_takes_1 11 rfl rfl)
theorem dX9_takes_35 : decode cX9_takes 35 = .ok (.iadd, 1) := dk_96 (dk_at dksX9_takes_1 12 rfl rfl)
theorem dX9_takes_36 : decode cX9_takes 36 = .ok (.putfield 29, 3) := dk_181 0 29 (dk_at dksX9_takes_1 13 rfl rfl)
theorem dX9_takes_39 : decode cX9_takes 39 = .ok (.iload_n 2, 1) := dk_28 (dk_at dksX9_takes_1 16 rfl rfl)
theorem dX9_takes_40 : decode cX9_takes 40 = .ok (.ireturn, 1) := dk_172 (dk_at dksX9_takes_1 17 rfl rfl)
theorem q119 : (Jvm.Cond.initialized "DomeNights$Reader") ∈ lw_all := lw_g (lw_at lw_m1 43 rfl) rfl
theorem q484 : (Jvm.Cond.selects "DomeNights$Reader" ({ cls := "java/lang/Object", name := "getClass", desc := "()Ljava/lang/Class;" } : Jvm.MethodName) ({ cls := "java/lang/Object", name := "getClass", desc := "()Ljava/lang/Class;" } : Jvm.MethodName)) ∈ lw_all := lw_g (lw_at lw_m2 168 rfl) rfl
theorem q1102 : (Jvm.Cond.selects "DomeNights$Reader" ({ cls := "java/lang/Object", name := "hashCode", desc := "()I" } : Jvm.MethodName) ({ cls := "java/lang/Object", name := "hashCode", desc := "()I" } : Jvm.MethodName)) ∈ lw_all := lw_g (lw_at lw_m5 66 rfl) rfl
theorem q1136 : (Jvm.Cond.selects "DomeNights$Reader" ({ cls := "java/lang/Object", name := "equals", desc := "(Ljava/lang/Object;)Z" } : Jvm.MethodName) ({ cls := "java/lang/Object", name := "equals", desc := "(Ljava/lang/Object;)Z" } : Jvm.MethodName)) ∈ lw_all := lw_g (lw_at lw_m5 100 rfl) rfl
theorem q1826 : (Jvm.Cond.instantiable "DomeNights$Reader" (4 : Nat)) ∈ lw_all := lw_g (lw_at lw_m8 70 rfl) rfl
theorem q1828 : (Jvm.Cond.instanceMethod ({ cls := "DomeNights$Reader", name := "<init>", desc := "(Ljava/lang/CharSequence;)V" } : Jvm.MethodName)) ∈ lw_all := lw_g (lw_at lw_m8 72 rfl) rfl
theorem q1829 : (Jvm.Cond.code ({ cls := "DomeNights$Reader", name := "<init>", desc := "(Ljava/lang/CharSequence;)V" } : Jvm.MethodName) prog_8_method_1_code (2 : Nat) (Option.none : Option Jvm.ClassFile.FieldType)) ∈ lw_all := lw_g (lw_at lw_m8 73 rfl) rfl
theorem q1830 : (Jvm.Cond.methodLink "DomeNights$Reader" (3 : Nat) ({ cls := "java/lang/Object", name := "<init>", desc := "()V" } : Jvm.MethodName)) ∈ lw_all := lw_g (lw_at lw_m8 74 rfl) rfl
theorem q1831 : (Jvm.Cond.classLink "DomeNights$Reader" (9 : Nat) "java/util/ArrayList") ∈ lw_all := lw_g (lw_at lw_m8 75 rfl) rfl
theorem q1832 : (Jvm.Cond.methodLink "DomeNights$Reader" (11 : Nat) ({ cls := "java/util/ArrayList", name := "<init>", desc := "()V" } : Jvm.MethodName)) ∈ lw_all := lw_g (lw_at lw_m8 76 rfl) rfl
theorem q1833 : (Jvm.Cond.methodLink "DomeNights$Reader" (22 : Nat) ({ cls := "DomeNights$Reader", name := "read", desc := "()V" } : Jvm.MethodName)) ∈ lw_all := lw_g (lw_at lw_m8 77 rfl) rfl
theorem q1834 : (Jvm.Cond.privateMethod ({ cls := "DomeNights$Reader", name := "read", desc := "()V" } : Jvm.MethodName)) ∈ lw_tbl := lw_at lw_m8 78 rfl
theorem q1835 : (Jvm.Cond.instanceMethod ({ cls := "DomeNights$Reader", name := "read", desc := "()V" } : Jvm.MethodName)) ∈ lw_all := lw_g (lw_at lw_m8 79 rfl) rfl
theorem q1836 : (Jvm.Cond.code ({ cls := "DomeNights$Reader", name := "read", desc := "()V" } : Jvm.MethodName) prog_8_method_8_code (2 : Nat) (Option.none : Option Jvm.ClassFile.FieldType)) ∈ lw_all := lw_g (lw_at lw_m8 80 rfl) rfl
theorem q1837 : (Jvm.Cond.methodLink "DomeNights$Reader" (47 : Nat) ({ cls := "DomeNights$Reader", name := "sees", desc := "(C)Z" } : Jvm.MethodName)) ∈ lw_all := lw_g (lw_at lw_m8 81 rfl) rfl
theorem q1838 : (Jvm.Cond.privateMethod ({ cls := "DomeNights$Reader", name := "sees", desc := "(C)Z" } : Jvm.MethodName)) ∈ lw_tbl := lw_at lw_m8 82 rfl
theorem q1839 : (Jvm.Cond.instanceMethod ({ cls := "DomeNights$Reader", name := "sees", desc := "(C)Z" } : Jvm.MethodName)) ∈ lw_all := lw_g (lw_at lw_m8 83 rfl) rfl
theorem q1840 : (Jvm.Cond.code ({ cls := "DomeNights$Reader", name := "sees", desc := "(C)Z" } : Jvm.MethodName) prog_8_method_2_code (2 : Nat) (Option.some Jvm.ClassFile.FieldType.boolean)) ∈ lw_all := lw_g (lw_at lw_m8 84 rfl) rfl
theorem q1841 : (Jvm.Cond.interfaceEntry "DomeNights$Reader" (33 : Nat)) ∈ lw_tbl := lw_at lw_m8 85 rfl
theorem q1842 : (Jvm.Cond.methodLink "DomeNights$Reader" (33 : Nat) ({ cls := "java/lang/CharSequence", name := "length", desc := "()I" } : Jvm.MethodName)) ∈ lw_all := lw_g (lw_at lw_m8 86 rfl) rfl
theorem q1849 : (Jvm.Cond.interfaceEntry "DomeNights$Reader" (43 : Nat)) ∈ lw_tbl := lw_at lw_m8 93 rfl
theorem q1850 : (Jvm.Cond.methodLink "DomeNights$Reader" (43 : Nat) ({ cls := "java/lang/CharSequence", name := "charAt", desc := "(I)C" } : Jvm.MethodName)) ∈ lw_all := lw_g (lw_at lw_m8 94 rfl) rfl
theorem q1864 : (Jvm.Cond.classLink "DomeNights$Reader" (62 : Nat) "DomeNights$Order") ∈ lw_all := lw_g (lw_at lw_m8 108 rfl) rfl
theorem q1866 : (Jvm.Cond.methodLink "DomeNights$Reader" (64 : Nat) ({ cls := "DomeNights$Order", name := "<init>", desc := "(C)V" } : Jvm.MethodName)) ∈ lw_all := lw_g (lw_at lw_m8 110 rfl) rfl
theorem q1871 : (Jvm.Cond.fieldLinkNest "DomeNights$Reader" (73 : Nat) "DomeNights$Order" "sort" "C" "DomeNights") ∈ lw_tbl := lw_at lw_m8 115 rfl
theorem q1874 : (Jvm.Cond.fieldLinkNest "DomeNights$Reader" (66 : Nat) "DomeNights$Order" "numbers" "[I" "DomeNights") ∈ lw_tbl := lw_at lw_m8 118 rfl
theorem q1881 : (Jvm.Cond.methodLink "DomeNights$Reader" (70 : Nat) ({ cls := "DomeNights$Reader", name := "number", desc := "()I" } : Jvm.MethodName)) ∈ lw_all := lw_g (lw_at lw_m8 125 rfl) rfl
theorem q1882 : (Jvm.Cond.privateMethod ({ cls := "DomeNights$Reader", name := "number", desc := "()I" } : Jvm.MethodName)) ∈ lw_tbl := lw_at lw_m8 126 rfl
theorem q1883 : (Jvm.Cond.instanceMethod ({ cls := "DomeNights$Reader", name := "number", desc := "()I" } : Jvm.MethodName)) ∈ lw_all := lw_g (lw_at lw_m8 127 rfl) rfl
theorem q1884 : (Jvm.Cond.code ({ cls := "DomeNights$Reader", name := "number", desc := "()I" } : Jvm.MethodName) prog_8_method_7_code (3 : Nat) (Option.some Jvm.ClassFile.FieldType.int)) ∈ lw_all := lw_g (lw_at lw_m8 128 rfl) rfl
theorem q1885 : (Jvm.Cond.methodLink "DomeNights$Reader" (58 : Nat) ({ cls := "DomeNights$Reader", name := "digit", desc := "(CC)I" } : Jvm.MethodName)) ∈ lw_all := lw_g (lw_at lw_m8 129 rfl) rfl
theorem q1886 : (Jvm.Cond.privateMethod ({ cls := "DomeNights$Reader", name := "digit", desc := "(CC)I" } : Jvm.MethodName)) ∈ lw_tbl := lw_at lw_m8 130 rfl
theorem q1887 : (Jvm.Cond.instanceMethod ({ cls := "DomeNights$Reader", name := "digit", desc := "(CC)I" } : Jvm.MethodName)) ∈ lw_all := lw_g (lw_at lw_m8 131 rfl) rfl
theorem q1888 : (Jvm.Cond.code ({ cls := "DomeNights$Reader", name := "digit", desc := "(CC)I" } : Jvm.MethodName) prog_8_method_6_code (3 : Nat) (Option.some Jvm.ClassFile.FieldType.int)) ∈ lw_all := lw_g (lw_at lw_m8 132 rfl) rfl
theorem q1889 : (Jvm.Cond.methodLink "DomeNights$Reader" (54 : Nat) ({ cls := "DomeNights$Reader", name := "seesDigit", desc := "(CC)Z" } : Jvm.MethodName)) ∈ lw_all := lw_g (lw_at lw_m8 133 rfl) rfl
theorem q1890 : (Jvm.Cond.privateMethod ({ cls := "DomeNights$Reader", name := "seesDigit", desc := "(CC)Z" } : Jvm.MethodName)) ∈ lw_tbl := lw_at lw_m8 134 rfl
theorem q1891 : (Jvm.Cond.instanceMethod ({ cls := "DomeNights$Reader", name := "seesDigit", desc := "(CC)Z" } : Jvm.MethodName)) ∈ lw_all := lw_g (lw_at lw_m8 135 rfl) rfl
theorem q1892 : (Jvm.Cond.code ({ cls := "DomeNights$Reader", name := "seesDigit", desc := "(CC)Z" } : Jvm.MethodName) prog_8_method_3_code (3 : Nat) (Option.some Jvm.ClassFile.FieldType.boolean)) ∈ lw_all := lw_g (lw_at lw_m8 136 rfl) rfl
theorem q1893 : (Jvm.Cond.methodLink "DomeNights$Reader" (39 : Nat) ({ cls := "DomeNights$Reader", name := "take", desc := "(C)V" } : Jvm.MethodName)) ∈ lw_all := lw_g (lw_at lw_m8 137 rfl) rfl
theorem q1894 : (Jvm.Cond.privateMethod ({ cls := "DomeNights$Reader", name := "take", desc := "(C)V" } : Jvm.MethodName)) ∈ lw_tbl := lw_at lw_m8 138 rfl
theorem q1895 : (Jvm.Cond.instanceMethod ({ cls := "DomeNights$Reader", name := "take", desc := "(C)V" } : Jvm.MethodName)) ∈ lw_all := lw_g (lw_at lw_m8 139 rfl) rfl
theorem q1896 : (Jvm.Cond.code ({ cls := "DomeNights$Reader", name := "take", desc := "(C)V" } : Jvm.MethodName) prog_8_method_5_code (2 : Nat) (Option.none : Option Jvm.ClassFile.FieldType)) ∈ lw_all := lw_g (lw_at lw_m8 140 rfl) rfl
theorem q1897 : (Jvm.Cond.methodLink "DomeNights$Reader" (51 : Nat) ({ cls := "DomeNights$Reader", name := "takes", desc := "(C)Z" } : Jvm.MethodName)) ∈ lw_all := lw_g (lw_at lw_m8 141 rfl) rfl
theorem q1898 : (Jvm.Cond.privateMethod ({ cls := "DomeNights$Reader", name := "takes", desc := "(C)Z" } : Jvm.MethodName)) ∈ lw_tbl := lw_at lw_m8 142 rfl
theorem q1899 : (Jvm.Cond.instanceMethod ({ cls := "DomeNights$Reader", name := "takes", desc := "(C)Z" } : Jvm.MethodName)) ∈ lw_all := lw_g (lw_at lw_m8 143 rfl) rfl
theorem q1900 : (Jvm.Cond.code ({ cls := "DomeNights$Reader", name := "takes", desc := "(C)Z" } : Jvm.MethodName) prog_8_method_4_code (3 : Nat) (Option.some Jvm.ClassFile.FieldType.boolean)) ∈ lw_all := lw_g (lw_at lw_m8 144 rfl) rfl
theorem q1901 : (Jvm.Cond.interfaceEntry "DomeNights$Reader" (77 : Nat)) ∈ lw_tbl := lw_at lw_m8 145 rfl
theorem q1902 : (Jvm.Cond.methodLink "DomeNights$Reader" (77 : Nat) ({ cls := "java/util/List", name := "add", desc := "(Ljava/lang/Object;)Z" } : Jvm.MethodName)) ∈ lw_all := lw_g (lw_at lw_m8 146 rfl) rfl
theorem q1903 : (Jvm.Cond.fieldLink "DomeNights$Reader" (18 : Nat) "DomeNights$Reader" "text" "Ljava/lang/CharSequence;") ∈ lw_all := lw_g (lw_at lw_m8 147 rfl) rfl
theorem q1904 : (Jvm.Cond.fieldLink "DomeNights$Reader" (12 : Nat) "DomeNights$Reader" "orders" "Ljava/util/List;") ∈ lw_all := lw_g (lw_at lw_m8 148 rfl) rfl
theorem q1906 : (Jvm.Cond.fieldLink "DomeNights$Reader" (29 : Nat) "DomeNights$Reader" "spot" "I") ∈ lw_all := lw_g (lw_at lw_m8 150 rfl) rfl
theorem q1908 : (Jvm.Cond.fieldLink "DomeNights$Reader" (25 : Nat) "DomeNights$Reader" "isWrong" "Z") ∈ lw_all := lw_g (lw_at lw_m8 152 rfl) rfl
theorem q1910 : (Jvm.Cond.laysFinal "DomeNights$Reader" "DomeNights$Reader" "text" "Ljava/lang/CharSequence;") ∈ lw_all := lw_g (lw_at lw_m8 154 rfl) rfl
theorem q1911 : (Jvm.Cond.soleField "DomeNights$Reader" "text") ∈ lw_all := lw_g (lw_at lw_m8 155 rfl) rfl
theorem q1912 : (Jvm.Cond.laysFinal "DomeNights$Reader" "DomeNights$Reader" "orders" "Ljava/util/List;") ∈ lw_all := lw_g (lw_at lw_m8 156 rfl) rfl
theorem q1913 : (Jvm.Cond.soleField "DomeNights$Reader" "orders") ∈ lw_all := lw_g (lw_at lw_m8 157 rfl) rfl
theorem q1914 : (Jvm.Cond.lays "DomeNights$Reader" "DomeNights$Reader" "spot" "I") ∈ lw_all := lw_g (lw_at lw_m8 158 rfl) rfl
theorem q1915 : (Jvm.Cond.soleField "DomeNights$Reader" "spot") ∈ lw_all := lw_g (lw_at lw_m8 159 rfl) rfl
theorem q1916 : (Jvm.Cond.lays "DomeNights$Reader" "DomeNights$Reader" "isWrong" "Z") ∈ lw_all := lw_g (lw_at lw_m8 160 rfl) rfl
theorem q1917 : (Jvm.Cond.soleField "DomeNights$Reader" "isWrong") ∈ lw_all := lw_g (lw_at lw_m8 161 rfl) rfl
theorem q1918 : (Jvm.Cond.superclass "DomeNights$Reader" "java/lang/Object") ∈ lw_all := lw_g (lw_at lw_m8 162 rfl) rfl
theorem q2368 : (Jvm.Cond.castable "DomeNights$Reader" "java/lang/Object") ∈ lw_tbl := lw_at lw_m10 132 rfl
theorem in_X9 : ∀ w ∈ wsX90, w ∈ lw_all := lw_in wsX90 [1910, 1912, 1914, 1916] (by decide +kernel) (by decide +kernel)
/-! DomeNights$Order -/
set_option maxRecDepth 100000
def RX10 : String := "DomeNights$Order"
def TX10 : u_T := fun k => match k with
  | 0 => ("DomeNights$Order", "sort", "C", true)
  | _ => ("DomeNights$Order", "numbers", "[I", true)
def tyX10 : Nat → FieldType := fun k => match k with
  | 0 => .char
  | _ => .array .int
abbrev wsX100 : List Cond := u_ws RX10 TX10 2
theorem nmX10 : ∀ a, a < 2 → ∀ b, b < 2 → a ≠ b → (TX10 a).2.1 ≠ (TX10 b).2.1 := by decide +kernel
theorem tyX10_ok : ∀ k, k < 2 → parseFieldDescriptor (TX10 k).2.2.1 = some (tyX10 k) := by decide +kernel
abbrev cX10_init : ByteArray := prog_5_method_1_code
def yX10_init : MethodName := ⟨RX10, "<init>", "(C)V"⟩
def dkwX10_init_1 : List UInt8 := [79, 181, 0, 9, 42, 27, 181, 0, 15, 177]
abbrev dktX10_init_1 : List UInt8 := dkwX10_init_1 ++ []
def dkwX10_init_0 : List UInt8 := [42, 183, 0, 3, 42, 7, 188, 10, 89, 3, 3, 79, 89, 4, 3, 79, 89, 5, 16, 250, 79, 89, 6, 3]
abbrev dktX10_init_0 : List UInt8 := dkwX10_init_0 ++ dktX10_init_1
theorem dksX10_init_0 : cX10_init.data.toList.drop 0 = dktX10_init_0 := by decide +kernel
theorem dksX10_init_1 : cX10_init.data.toList.drop 24 = dktX10_init_1 := dk_seg dksX10_init_0 24 rfl rfl
theorem dX10_init_0 : decode cX10_init 0 = .ok (.aload_n 0, 1) := dk_42 (dk_at dksX10_init_0 0 rfl rfl)
theorem dX10_init_1 : decode cX10_init 1 = .ok (.invokespecial 3, 3) := dk_183 0 3 (dk_at dksX10_init_0 1 rfl rfl)
theorem dX10_init_4 : decode cX10_init 4 = .ok (.aload_n 0, 1) := dk_42 (dk_at dksX10_init_0 4 rfl rfl)
theorem dX10_init_5 : decode cX10_init 5 = .ok (.iconst 4, 1) := dk_7 (dk_at dksX10_init_0 5 rfl rfl)
theorem dX10_init_6 : decode cX10_init 6 = .ok (.newarray .int, 2) := dk_188_10 (dk_at dksX10_init_0 6 rfl rfl)
theorem dX10_init_8 : decode cX10_init 8 = .ok (.dup, 1) := dk_89 (dk_at dksX10_init_0 8 rfl rfl)
theorem dX10_init_9 : decode cX10_init 9 = .ok (.iconst 0, 1) := dk_3 (dk_at dksX10_init_0 9 rfl rfl)
theorem dX10_init_10 : decode cX10_init 10 = .ok (.iconst 0, 1) := dk_3 (dk_at dksX10_init_0 10 rfl rfl)
theorem dX10_init_11 : decode cX10_init 11 = .ok (.iastore, 1) := dk_79 (dk_at dksX10_init_0 11 rfl rfl)
theorem dX10_init_12 : decode cX10_init 12 = .ok (.dup, 1) := dk_89 (dk_at dksX10_init_0 12 rfl rfl)
theorem dX10_init_13 : decode cX10_init 13 = .ok (.iconst 1, 1) := dk_4 (dk_at dksX10_init_0 13 rfl rfl)
theorem dX10_init_14 : decode cX10_init 14 = .ok (.iconst 0, 1) := dk_3 (dk_at dksX10_init_0 14 rfl rfl)
theorem dX10_init_15 : decode cX10_init 15 = .ok (.iastore, 1) := dk_79 (dk_at dksX10_init_0 15 rfl rfl)
theorem dX10_init_16 : decode cX10_init 16 = .ok (.dup, 1) := dk_89 (dk_at dksX10_init_0 16 rfl rfl)
theorem dX10_init_17 : decode cX10_init 17 = .ok (.iconst 2, 1) := dk_5 (dk_at dksX10_init_0 17 rfl rfl)
theorem dX10_init_18 : decode cX10_init 18 = .ok (.bipush (-6), 2) := dk_16 250 (dk_at dksX10_init_0 18 rfl rfl)
theorem dX10_init_20 : decode cX10_init 20 = .ok (.iastore, 1) := dk_79 (dk_at dksX10_init_0 20 rfl rfl)
theorem dX10_init_21 : decode cX10_init 21 = .ok (.dup, 1) := dk_89 (dk_at dksX10_init_0 21 rfl rfl)
theorem dX10_init_22 : decode cX10_init 22 = .ok (.iconst 3, 1) := dk_6 (dk_at dksX10_init_0 22 rfl rfl)
theorem dX10_init_23 : decode cX10_init 23 = .ok (.iconst 0, 1) := dk_3 (dk_at dksX10_init_0 23 rfl rfl)
theorem dX10_init_24 : decode cX10_init 24 = .ok (.iastore, 1) := dk_79 (dk_at dksX10_init_1 0 rfl rfl)
theorem dX10_init_25 : decode cX10_init 25 = .ok (.putfield 9, 3) := dk_181 0 9 (dk_at dksX10_init_1 1 rfl rfl)
theorem dX10_init_28 : decode cX10_init 28 = .ok (.aload_n 0, 1) := dk_42 (dk_at dksX10_init_1 4 rfl rfl)
theorem dX10_init_29 : decode cX10_init 29 = .ok (.iload_n 1, 1) := dk_27 (dk_at dksX10_init_1 5 rfl rfl)
theorem dX10_init_30 : decode cX10_init 30 = .ok (.putfield 15, 3) := dk_181 0 15 (dk_at dksX10_init_1 6 rfl rfl)
theorem dX10_init_33 : decode cX10_init 33 = .ok (.return_, 1) := dk_177 (dk_at dksX10_init_1 9 rfl rfl)
theorem q120 : (Jvm.Cond.initialized "DomeNights$Order") ∈ lw_all := lw_g (lw_at lw_m1 44 rfl) rfl
theorem q481 : (Jvm.Cond.selects "DomeNights$Order" ({ cls := "java/lang/Object", name := "getClass", desc := "()Ljava/lang/Class;" } : Jvm.MethodName) ({ cls := "java/lang/Object", name := "getClass", desc := "()Ljava/lang/Class;" } : Jvm.MethodName)) ∈ lw_all := lw_g (lw_at lw_m2 165 rfl) rfl
theorem q1099 : (Jvm.Cond.selects "DomeNights$Order" ({ cls := "java/lang/Object", name := "hashCode", desc := "()I" } : Jvm.MethodName) ({ cls := "java/lang/Object", name := "hashCode", desc := "()I" } : Jvm.MethodName)) ∈ lw_all := lw_g (lw_at lw_m5 63 rfl) rfl
theorem q1133 : (Jvm.Cond.selects "DomeNights$Order" ({ cls := "java/lang/Object", name := "equals", desc := "(Ljava/lang/Object;)Z" } : Jvm.MethodName) ({ cls := "java/lang/Object", name := "equals", desc := "(Ljava/lang/Object;)Z" } : Jvm.MethodName)) ∈ lw_all := lw_g (lw_at lw_m5 97 rfl) rfl
theorem q1865 : (Jvm.Cond.instantiable "DomeNights$Order" (2 : Nat)) ∈ lw_all := lw_g (lw_at lw_m8 109 rfl) rfl
theorem q1867 : (Jvm.Cond.instanceMethod ({ cls := "DomeNights$Order", name := "<init>", desc := "(C)V" } : Jvm.MethodName)) ∈ lw_all := lw_g (lw_at lw_m8 111 rfl) rfl
theorem q1868 : (Jvm.Cond.code ({ cls := "DomeNights$Order", name := "<init>", desc := "(C)V" } : Jvm.MethodName) prog_5_method_1_code (2 : Nat) (Option.none : Option Jvm.ClassFile.FieldType)) ∈ lw_all := lw_g (lw_at lw_m8 112 rfl) rfl
theorem q1869 : (Jvm.Cond.methodLink "DomeNights$Order" (3 : Nat) ({ cls := "java/lang/Object", name := "<init>", desc := "()V" } : Jvm.MethodName)) ∈ lw_all := lw_g (lw_at lw_m8 113 rfl) rfl
theorem q1870 : (Jvm.Cond.fieldLink "DomeNights$Order" (15 : Nat) "DomeNights$Order" "sort" "C") ∈ lw_all := lw_g (lw_at lw_m8 114 rfl) rfl
theorem q1873 : (Jvm.Cond.fieldLink "DomeNights$Order" (9 : Nat) "DomeNights$Order" "numbers" "[I") ∈ lw_all := lw_g (lw_at lw_m8 117 rfl) rfl
theorem q1876 : (Jvm.Cond.laysFinal "DomeNights$Order" "DomeNights$Order" "sort" "C") ∈ lw_all := lw_g (lw_at lw_m8 120 rfl) rfl
theorem q1877 : (Jvm.Cond.soleField "DomeNights$Order" "sort") ∈ lw_all := lw_g (lw_at lw_m8 121 rfl) rfl
theorem q1878 : (Jvm.Cond.laysFinal "DomeNights$Order" "DomeNights$Order" "numbers" "[I") ∈ lw_all := lw_g (lw_at lw_m8 122 rfl) rfl
theorem q1879 : (Jvm.Cond.soleField "DomeNights$Order" "numbers") ∈ lw_all := lw_g (lw_at lw_m8 123 rfl) rfl
theorem q1880 : (Jvm.Cond.superclass "DomeNights$Order" "java/lang/Object") ∈ lw_all := lw_g (lw_at lw_m8 124 rfl) rfl
theorem q2369 : (Jvm.Cond.castable "DomeNights$Order" "java/lang/Object") ∈ lw_tbl := lw_at lw_m10 133 rfl
theorem in_X10 : ∀ w ∈ wsX100, w ∈ lw_all := lw_in wsX100 [1876, 1878] (by decide +kernel) (by decide +kernel)
/-! DomeNights$Programme -/
set_option maxRecDepth 100000
def RX1 : String := "DomeNights$Programme"
def TX1 : u_T := fun k => match k with
  | 0 => ("DomeNights$Programme", "settings", "[I", true)
  | 1 => ("DomeNights$Programme", "kinds", "Ljava/util/List;", true)
  | 2 => ("DomeNights$Programme", "lamps", "Ljava/util/List;", true)
  | 3 => ("DomeNights$Programme", "shows", "Ljava/util/List;", true)
  | 4 => ("DomeNights$Programme", "bookings", "Ljava/util/List;", true)
  | 5 => ("DomeNights$Programme", "promises", "Ljava/util/List;", true)
  | 6 => ("DomeNights$Programme", "planned", "Ljava/util/Map;", true)
  | 7 => ("DomeNights$Programme", "inEvents", "Ljava/util/Map;", true)
  | 8 => ("DomeNights$Programme", "events", "I", false)
  | 9 => ("DomeNights$Programme", "today", "I", false)
  | _ => ("DomeNights$Programme", "held", "I", false)
def tyX1 : Nat → FieldType := fun k => match k with
  | 0 => .array .int
  | 1 => .object "java/util/List"
  | 2 => .object "java/util/List"
  | 3 => .object "java/util/List"
  | 4 => .object "java/util/List"
  | 5 => .object "java/util/List"
  | 6 => .object "java/util/Map"
  | 7 => .object "java/util/Map"
  | 8 => .int
  | 9 => .int
  | _ => .int
abbrev wsX10 : List Cond := u_ws RX1 TX1 11
theorem nmX1 : ∀ a, a < 11 → ∀ b, b < 11 → a ≠ b → (TX1 a).2.1 ≠ (TX1 b).2.1 := by decide +kernel
theorem tyX1_ok : ∀ k, k < 11 → parseFieldDescriptor (TX1 k).2.2.1 = some (tyX1 k) := by decide +kernel
abbrev cX1_init : ByteArray := prog_6_method_1_code
def yX1_init : MethodName := ⟨RX1, "<init>", "()V"⟩
def dkwX1_init_5 : List UInt8 := [181, 0, 41, 177]
abbrev dktX1_init_5 : List UInt8 := dkwX1_init_5 ++ []
def dkwX1_init_4 : List UInt8 := [181, 0, 31, 42, 187, 0, 34, 89, 183, 0, 36, 181, 0, 37, 42, 187, 0, 34, 89, 183, 0, 36]
abbrev dktX1_init_4 : List UInt8 := dkwX1_init_4 ++ dktX1_init_5
def dkwX1_init_3 : List UInt8 := [181, 0, 25, 42, 187, 0, 15, 89, 183, 0, 17, 181, 0, 28, 42, 187, 0, 15, 89, 183, 0, 17]
abbrev dktX1_init_3 : List UInt8 := dkwX1_init_3 ++ dktX1_init_4
def dkwX1_init_2 : List UInt8 := [181, 0, 18, 42, 187, 0, 15, 89, 183, 0, 17, 181, 0, 22, 42, 187, 0, 15, 89, 183, 0, 17]
abbrev dktX1_init_2 : List UInt8 := dkwX1_init_2 ++ dktX1_init_3
def dkwX1_init_1 : List UInt8 := [6, 16, 50, 79, 89, 7, 16, 60, 79, 89, 8, 4, 79, 181, 0, 9, 42, 187, 0, 15, 89, 183, 0, 17]
abbrev dktX1_init_1 : List UInt8 := dkwX1_init_1 ++ dktX1_init_2
def dkwX1_init_0 : List UInt8 := [42, 183, 0, 3, 42, 16, 6, 188, 10, 89, 3, 6, 79, 89, 4, 16, 7, 79, 89, 5, 16, 50, 79, 89]
abbrev dktX1_init_0 : List UInt8 := dkwX1_init_0 ++ dktX1_init_1
theorem dksX1_init_0 : cX1_init.data.toList.drop 0 = dktX1_init_0 := by decide +kernel
theorem dksX1_init_1 : cX1_init.data.toList.drop 24 = dktX1_init_1 := dk_seg dksX1_init_0 24 rfl rfl
theorem dksX1_init_2 : cX1_init.data.toList.drop 48 = dktX1_init_2 := dk_seg dksX1_init_1 24 rfl rfl
theorem dksX1_init_3 : cX1_init.data.toList.drop 70 = dktX1_init_3 := dk_seg dksX1_init_2 22 rfl rfl
theorem dksX1_init_4 : cX1_init.data.toList.drop 92 = dktX1_init_4 := dk_seg dksX1_init_3 22 rfl rfl
theorem dksX1_init_5 : cX1_init.data.toList.drop 114 = dktX1_init_5 := dk_seg dksX1_init_4 22 rfl rfl
theorem dX1_init_0 : decode cX1_init 0 = .ok (.aload_n 0, 1) := dk_42 (dk_at dksX1_init_0 0 rfl rfl)
theorem dX1_init_1 : decode cX1_init 1 = .ok (.invokespecial 3, 3) := dk_183 0 3 (dk_at dksX1_init_0 1 rfl rfl)
theorem dX1_init_4 : decode cX1_init 4 = .ok (.aload_n 0, 1) := dk_42 (dk_at dksX1_init_0 4 rfl rfl)
theorem dX1_init_5 : decode cX1_init 5 = .ok (.bipush 6, 2) := dk_16 6 (dk_at dksX1_init_0 5 rfl rfl)
theorem dX1_init_7 : decode cX1_init 7 = .ok (.newarray .int, 2) := dk_188_10 (dk_at dksX1_init_0 7 rfl rfl)
theorem dX1_init_9 : decode cX1_init 9 = .ok (.dup, 1) := dk_89 (dk_at dksX1_init_0 9 rfl rfl)
theorem dX1_init_10 : decode cX1_init 10 = .ok (.iconst 0, 1) := dk_3 (dk_at dksX1_init_0 10 rfl rfl)
theorem dX1_init_11 : decode cX1_init 11 = .ok (.iconst 3, 1) := dk_6 (dk_at dksX1_init_0 11 rfl rfl)
theorem dX1_init_12 : decode cX1_init 12 = .ok (.iastore, 1) := dk_79 (dk_at dksX1_init_0 12 rfl rfl)
theorem dX1_init_13 : decode cX1_init 13 = .ok (.dup, 1) := dk_89 (dk_at dksX1_init_0 13 rfl rfl)
theorem dX1_init_14 : decode cX1_init 14 = .ok (.iconst 1, 1) := dk_4 (dk_at dksX1_init_0 14 rfl rfl)
theorem dX1_init_15 : decode cX1_init 15 = .ok (.bipush 7, 2) := dk_16 7 (dk_at dksX1_init_0 15 rfl rfl)
theorem dX1_init_17 : decode cX1_init 17 = .ok (.iastore, 1) := dk_79 (dk_at dksX1_init_0 17 rfl rfl)
theorem dX1_init_18 : decode cX1_init 18 = .ok (.dup, 1) := dk_89 (dk_at dksX1_init_0 18 rfl rfl)
theorem dX1_init_19 : decode cX1_init 19 = .ok (.iconst 2, 1) := dk_5 (dk_at dksX1_init_0 19 rfl rfl)
theorem dX1_init_20 : decode cX1_init 20 = .ok (.bipush 50, 2) := dk_16 50 (dk_at dksX1_init_0 20 rfl rfl)
theorem dX1_init_22 : decode cX1_init 22 = .ok (.iastore, 1) := dk_79 (dk_at dksX1_init_0 22 rfl rfl)
theorem dX1_init_23 : decode cX1_init 23 = .ok (.dup, 1) := dk_89 (dk_at dksX1_init_0 23 rfl rfl)
theorem dX1_init_24 : decode cX1_init 24 = .ok (.iconst 3, 1) := dk_6 (dk_at dksX1_init_1 0 rfl rfl)
theorem dX1_init_25 : decode cX1_init 25 = .ok (.bipush 50, 2) := dk_16 50 (dk_at dksX1_init_1 1 rfl rfl)
theorem dX1_init_27 : decode cX1_init 27 = .ok (.iastore, 1) := dk_79 (dk_at dksX1_init_1 3 rfl rfl)
theorem dX1_init_28 : decode cX1_init 28 = .ok (.dup, 1) := dk_89 (dk_at dksX1_init_1 4 rfl rfl)
theorem dX1_init_29 : decode cX1_init 29 = .ok (.iconst 4, 1) := dk_7 (dk_at dksX1_init_1 5 rfl rfl)
theorem dX1_init_30 : decode cX1_init 30 = .ok (.bipush 60, 2) := dk_16 60 (dk_at dksX1_init_1 6 rfl rfl)
theorem dX1_init_32 : decode cX1_init 32 = .ok (.iastore, 1) := dk_79 (dk_at dksX1_init_1 8 rfl rfl)
theorem dX1_init_33 : decode cX1_init 33 = .ok (.dup, 1) := dk_89 (dk_at dksX1_init_1 9 rfl rfl)
theorem dX1_init_34 : decode cX1_init 34 = .ok (.iconst 5, 1) := dk_8 (dk_at dksX1_init_1 10 rfl rfl)
theorem dX1_init_35 : decode cX1_init 35 = .ok (.iconst 1, 1) := dk_4 (dk_at dksX1_init_1 11 rfl rfl)
theorem dX1_init_36 : decode cX1_init 36 = .ok (.iastore, 1) := dk_79 (dk_at dksX1_init_1 12 rfl rfl)
theorem dX1_init_37 : decode cX1_init 37 = .ok (.putfield 9, 3) := dk_181 0 9 (dk_at dksX1_init_1 13 rfl rfl)
theorem dX1_init_40 : decode cX1_init 40 = .ok (.aload_n 0, 1) := dk_42 (dk_at dksX1_init_1 16 rfl rfl)
theorem dX1_init_41 : decode cX1_init 41 = .ok (.new 15, 3) := dk_187 0 15 (dk_at dksX1_init_1 17 rfl rfl)
theorem dX1_init_44 : decode cX1_init 44 = .ok (.dup, 1) := dk_89 (dk_at dksX1_init_1 20 rfl rfl)
theorem dX1_init_45 : decode cX1_init 45 = .ok (.invokespecial 17, 3) := dk_183 0 17 (dk_at dksX1_init_1 21 rfl rfl)
theorem dX1_init_48 : decode cX1_init 48 = .ok (.putfield 18, 3) := dk_181 0 18 (dk_at dksX1_init_2 0 rfl rfl)
theorem dX1_init_51 : decode cX1_init 51 = .ok (.aload_n 0, 1) := dk_42 (dk_at dksX1_init_2 3 rfl rfl)
theorem dX1_init_52 : decode cX1_init 52 = .ok (.new 15, 3) := dk_187 0 15 (dk_at dksX1_init_2 4 rfl rfl)
theorem dX1_init_55 : decode cX1_init 55 = .ok (.dup, 1) := dk_89 (dk_at dksX1_init_2 7 rfl rfl)
theorem dX1_init_56 : decode cX1_init 56 = .ok (.invokespecial 17, 3) := dk_183 0 17 (dk_at dksX1_init_2 8 rfl rfl)
theorem dX1_init_59 : decode cX1_init 59 = .ok (.putfield 22, 3) := dk_181 0 22 (dk_at dksX1_init_2 11 rfl rfl)
theorem dX1_init_62 : decode cX1_init 62 = .ok (.aload_n 0, 1) := dk_42 (dk_at dksX1_init_2 14 rfl rfl)
theorem dX1_init_63 : decode cX1_init 63 = .ok (.new 15, 3) := dk_187 0 15 (dk_at dksX1_init_2 15 rfl rfl)
theorem dX1_init_66 : decode cX1_init 66 = .ok (.dup, 1) := dk_89 (dk_at dksX1_init_2 18 rfl rfl)
theorem dX1_init_67 : decode cX1_init 67 = .ok (.invokespecial 17, 3) := dk_183 0 17 (dk_at dksX1_init_2 19 rfl rfl)
theorem dX1_init_70 : decode cX1_init 70 = .ok (.putfield 25, 3) := dk_181 0 25 (dk_at dksX1_init_3 0 rfl rfl)
theorem dX1_init_73 : decode cX1_init 73 = .ok (.aload_n 0, 1) := dk_42 (dk_at dksX1_init_3 3 rfl rfl)
theorem dX1_init_74 : decode cX1_init 74 = .ok (.new 15, 3) := dk_187 0 15 (dk_at dksX1_init_3 4 rfl rfl)
theorem dX1_init_77 : decode cX1_init 77 = .ok (.dup, 1) := dk_89 (dk_at dksX1_init_3 7 rfl rfl)
theorem dX1_init_78 : decode cX1_init 78 = .ok (.invokespecial 17, 3) := dk_183 0 17 (dk_at dksX1_init_3 8 rfl rfl)
theorem dX1_init_81 : decode cX1_init 81 = .ok (.putfield 28, 3) := dk_181 0 28 (dk_at dksX1_init_3 11 rfl rfl)
theorem dX1_init_84 : decode cX1_init 84 = .ok (.aload_n 0, 1) := dk_42 (dk_at dksX1_init_3 14 rfl rfl)
theorem dX1_init_85 : decode cX1_init 85 = .ok (.new 15, 3) := dk_187 0 15 (dk_at dksX1_init_3 15 rfl rfl)
theorem dX1_init_88 : decode cX1_init 88 = .ok (.dup, 1) := dk_89 (dk_at dksX1_init_3 18 rfl rfl)
theorem dX1_init_89 : decode cX1_init 89 = .ok (.invokespecial 17, 3) := dk_183 0 17 (dk_at dksX1_init_3 19 rfl rfl)
theorem dX1_init_92 : decode cX1_init 92 = .ok (.putfield 31, 3) := dk_181 0 31 (dk_at dksX1_init_4 0 rfl rfl)
theorem dX1_init_95 : decode cX1_init 95 = .ok (.aload_n 0, 1) := dk_42 (dk_at dksX1_init_4 3 rfl rfl)
theorem dX1_init_96 : decode cX1_init 96 = .ok (.new 34, 3) := dk_187 0 34 (dk_at dksX1_init_4 4 rfl rfl)
theorem dX1_init_99 : decode cX1_init 99 = .ok (.dup, 1) := dk_89 (dk_at dksX1_init_4 7 rfl rfl)
theorem dX1_init_100 : decode cX1_init 100 = .ok (.invokespecial 36, 3) := dk_183 0 36 (dk_at dksX1_init_4 8 rfl rfl)
theorem dX1_init_103 : decode cX1_init 103 = .ok (.putfield 37, 3) := dk_181 0 37 (dk_at dksX1_init_4 11 rfl rfl)
theorem dX1_init_106 : decode cX1_init 106 = .ok (.aload_n 0, 1) := dk_42 (dk_at dksX1_init_4 14 rfl rfl)
theorem dX1_init_107 : decode cX1_init 107 = .ok (.new 34, 3) := dk_187 0 34 (dk_at dksX1_init_4 15 rfl rfl)
theorem dX1_init_110 : decode cX1_init 110 = .ok (.dup, 1) := dk_89 (dk_at dksX1_init_4 18 rfl rfl)
theorem dX1_init_111 : decode cX1_init 111 = .ok (.invokespecial 36, 3) := dk_183 0 36 (dk_at dksX1_init_4 19 rfl rfl)
theorem dX1_init_114 : decode cX1_init 114 = .ok (.putfield 41, 3) := dk_181 0 41 (dk_at dksX1_init_5 0 rfl rfl)
theorem dX1_init_117 : decode cX1_init 117 = .ok (.return_, 1) := dk_177 (dk_at dksX1_init_5 3 rfl rfl)
abbrev cX1_init_2 : ByteArray := prog_6_method_2_code
def yX1_init_2 : MethodName := ⟨RX1, "<init>", "(LDomeNights$Programme;)V"⟩
def dkwX1_init_2_19 : List UInt8 := [180, 0, 108, 181, 0, 108, 177]
abbrev dktX1_init_2_19 : List UInt8 := dkwX1_init_2_19 ++ []
def dkwX1_init_2_18 : List UInt8 := [185, 0, 95, 2, 0, 42, 43, 180, 0, 101, 181, 0, 101, 42, 43, 180, 0, 105, 181, 0, 105, 42, 43]
abbrev dktX1_init_2_18 : List UInt8 := dkwX1_init_2_18 ++ dktX1_init_2_19
def dkwX1_init_2_17 : List UInt8 := [167, 255, 219, 42, 180, 0, 37, 43, 180, 0, 37, 185, 0, 95, 2, 0, 42, 180, 0, 41, 43, 180, 0, 41]
abbrev dktX1_init_2_17 : List UInt8 := dkwX1_init_2_17 ++ dktX1_init_2_18
def dkwX1_init_2_16 : List UInt8 := [192, 0, 90, 78, 42, 180, 0, 31, 187, 0, 90, 89, 45, 183, 0, 92, 185, 0, 71, 2, 0, 87]
abbrev dktX1_init_2_16 : List UInt8 := dkwX1_init_2_16 ++ dktX1_init_2_17
def dkwX1_init_2_15 : List UInt8 := [180, 0, 31, 185, 0, 50, 1, 0, 77, 44, 185, 0, 56, 1, 0, 153, 0, 34, 44, 185, 0, 62, 1, 0]
abbrev dktX1_init_2_15 : List UInt8 := dkwX1_init_2_15 ++ dktX1_init_2_16
def dkwX1_init_2_14 : List UInt8 := [78, 42, 180, 0, 28, 187, 0, 85, 89, 45, 183, 0, 87, 185, 0, 71, 2, 0, 87, 167, 255, 219, 43]
abbrev dktX1_init_2_14 : List UInt8 := dkwX1_init_2_14 ++ dktX1_init_2_15
def dkwX1_init_2_13 : List UInt8 := [185, 0, 50, 1, 0, 77, 44, 185, 0, 56, 1, 0, 153, 0, 34, 44, 185, 0, 62, 1, 0, 192, 0, 85]
abbrev dktX1_init_2_13 : List UInt8 := dkwX1_init_2_13 ++ dktX1_init_2_14
def dkwX1_init_2_12 : List UInt8 := [187, 0, 80, 89, 45, 183, 0, 82, 185, 0, 71, 2, 0, 87, 167, 255, 219, 43, 180, 0, 28]
abbrev dktX1_init_2_12 : List UInt8 := dkwX1_init_2_12 ++ dktX1_init_2_13
def dkwX1_init_2_11 : List UInt8 := [185, 0, 56, 1, 0, 153, 0, 34, 44, 185, 0, 62, 1, 0, 192, 0, 80, 78, 42, 180, 0, 25]
abbrev dktX1_init_2_11 : List UInt8 := dkwX1_init_2_11 ++ dktX1_init_2_12
def dkwX1_init_2_10 : List UInt8 := [185, 0, 71, 2, 0, 87, 167, 255, 219, 43, 180, 0, 25, 185, 0, 50, 1, 0, 77, 44]
abbrev dktX1_init_2_10 : List UInt8 := dkwX1_init_2_10 ++ dktX1_init_2_11
def dkwX1_init_2_9 : List UInt8 := [185, 0, 62, 1, 0, 192, 0, 75, 78, 42, 180, 0, 22, 187, 0, 75, 89, 45, 183, 0, 77]
abbrev dktX1_init_2_9 : List UInt8 := dkwX1_init_2_9 ++ dktX1_init_2_10
def dkwX1_init_2_8 : List UInt8 := [167, 255, 219, 43, 180, 0, 22, 185, 0, 50, 1, 0, 77, 44, 185, 0, 56, 1, 0, 153, 0, 34, 44]
abbrev dktX1_init_2_8 : List UInt8 := dkwX1_init_2_8 ++ dktX1_init_2_9
def dkwX1_init_2_7 : List UInt8 := [192, 0, 66, 78, 42, 180, 0, 18, 187, 0, 66, 89, 45, 183, 0, 68, 185, 0, 71, 2, 0, 87]
abbrev dktX1_init_2_7 : List UInt8 := dkwX1_init_2_7 ++ dktX1_init_2_8
def dkwX1_init_2_6 : List UInt8 := [180, 0, 18, 185, 0, 50, 1, 0, 77, 44, 185, 0, 56, 1, 0, 153, 0, 34, 44, 185, 0, 62, 1, 0]
abbrev dktX1_init_2_6 : List UInt8 := dkwX1_init_2_6 ++ dktX1_init_2_7
def dkwX1_init_2_5 : List UInt8 := [181, 0, 41, 43, 180, 0, 9, 3, 42, 180, 0, 9, 3, 42, 180, 0, 9, 190, 184, 0, 44, 43]
abbrev dktX1_init_2_5 : List UInt8 := dkwX1_init_2_5 ++ dktX1_init_2_6
def dkwX1_init_2_4 : List UInt8 := [181, 0, 31, 42, 187, 0, 34, 89, 183, 0, 36, 181, 0, 37, 42, 187, 0, 34, 89, 183, 0, 36]
abbrev dktX1_init_2_4 : List UInt8 := dkwX1_init_2_4 ++ dktX1_init_2_5
def dkwX1_init_2_3 : List UInt8 := [181, 0, 25, 42, 187, 0, 15, 89, 183, 0, 17, 181, 0, 28, 42, 187, 0, 15, 89, 183, 0, 17]
abbrev dktX1_init_2_3 : List UInt8 := dkwX1_init_2_3 ++ dktX1_init_2_4
def dkwX1_init_2_2 : List UInt8 := [181, 0, 18, 42, 187, 0, 15, 89, 183, 0, 17, 181, 0, 22, 42, 187, 0, 15, 89, 183, 0, 17]
abbrev dktX1_init_2_2 : List UInt8 := dkwX1_init_2_2 ++ dktX1_init_2_3
def dkwX1_init_2_1 : List UInt8 := [6, 16, 50, 79, 89, 7, 16, 60, 79, 89, 8, 4, 79, 181, 0, 9, 42, 187, 0, 15, 89, 183, 0, 17]
abbrev dktX1_init_2_1 : List UInt8 := dkwX1_init_2_1 ++ dktX1_init_2_2
def dkwX1_init_2_0 : List UInt8 := [42, 183, 0, 3, 42, 16, 6, 188, 10, 89, 3, 6, 79, 89, 4, 16, 7, 79, 89, 5, 16, 50, 79, 89]
abbrev dktX1_init_2_0 : List UInt8 := dkwX1_init_2_0 ++ dktX1_init_2_1
theorem dksX1_init_2_0 : cX1_init_2.data.toList.drop 0 = dktX1_init_2_0 := by decide +kernel
theorem dksX1_init_2_1 : cX1_init_2.data.toList.drop 24 = dktX1_init_2_1 := dk_seg dksX1_init_2_0 24 rfl rfl
theorem dksX1_init_2_2 : cX1_init_2.data.toList.drop 48 = dktX1_init_2_2 := dk_seg dksX1_init_2_1 24 rfl rfl
theorem dksX1_init_2_3 : cX1_init_2.data.toList.drop 70 = dktX1_init_2_3 := dk_seg dksX1_init_2_2 22 rfl rfl
theorem dksX1_init_2_4 : cX1_init_2.data.toList.drop 92 = dktX1_init_2_4 := dk_seg dksX1_init_2_3 22 rfl rfl
theorem dksX1_init_2_5 : cX1_init_2.data.toList.drop 114 = dktX1_init_2_5 := dk_seg dksX1_init_2_4 22 rfl rfl
theorem dksX1_init_2_6 : cX1_init_2.data.toList.drop 136 = dktX1_init_2_6 := dk_seg dksX1_init_2_5 22 rfl rfl
theorem dksX1_init_2_7 : cX1_init_2.data.toList.drop 160 = dktX1_init_2_7 := dk_seg dksX1_init_2_6 24 rfl rfl
theorem dksX1_init_2_8 : cX1_init_2.data.toList.drop 182 = dktX1_init_2_8 := dk_seg dksX1_init_2_7 22 rfl rfl
theorem dksX1_init_2_9 : cX1_init_2.data.toList.drop 205 = dktX1_init_2_9 := dk_seg dksX1_init_2_8 23 rfl rfl
theorem dksX1_init_2_10 : cX1_init_2.data.toList.drop 226 = dktX1_init_2_10 := dk_seg dksX1_init_2_9 21 rfl rfl
theorem dksX1_init_2_11 : cX1_init_2.data.toList.drop 246 = dktX1_init_2_11 := dk_seg dksX1_init_2_10 20 rfl rfl
theorem dksX1_init_2_12 : cX1_init_2.data.toList.drop 268 = dktX1_init_2_12 := dk_seg dksX1_init_2_11 22 rfl rfl
theorem dksX1_init_2_13 : cX1_init_2.data.toList.drop 289 = dktX1_init_2_13 := dk_seg dksX1_init_2_12 21 rfl rfl
theorem dksX1_init_2_14 : cX1_init_2.data.toList.drop 313 = dktX1_init_2_14 := dk_seg dksX1_init_2_13 24 rfl rfl
theorem dksX1_init_2_15 : cX1_init_2.data.toList.drop 336 = dktX1_init_2_15 := dk_seg dksX1_init_2_14 23 rfl rfl
theorem dksX1_init_2_16 : cX1_init_2.data.toList.drop 360 = dktX1_init_2_16 := dk_seg dksX1_init_2_15 24 rfl rfl
theorem dksX1_init_2_17 : cX1_init_2.data.toList.drop 382 = dktX1_init_2_17 := dk_seg dksX1_init_2_16 22 rfl rfl
theorem dksX1_init_2_18 : cX1_init_2.data.toList.drop 406 = dktX1_init_2_18 := dk_seg dksX1_init_2_17 24 rfl rfl
theorem dksX1_init_2_19 : cX1_init_2.data.toList.drop 429 = dktX1_init_2_19 := dk_seg dksX1_init_2_18 23 rfl rfl
theorem dX1_init_2_0 : decode cX1_init_2 0 = .ok (.aload_n 0, 1) := dk_42 (dk_at dksX1_init_2_0 0 rfl rfl)
theorem dX1_init_2_1 : decode cX1_init_2 1 = .ok (.invokespecial 3, 3) := dk_183 0 3 (dk_at dksX1_init_2_0 1 rfl rfl)
theorem dX1_init_2_4 : decode cX1_init_2 4 = .ok (.aload_n 0, 1) := dk_42 (dk_at dksX1_init_2_0 4 rfl rfl)
theorem dX1_init_2_5 : decode cX1_init_2 5 = .ok (.bipush 6, 2) := dk_16 6 (dk_at dksX1_init_2_0 5 rfl rfl)
theorem dX1_init_2_7 : decode cX1_init_2 7 = .ok (.newarray .int, 2) := dk_188_10 (dk_at dksX1_init_2_0 7 rfl rfl)
theorem dX1_init_2_9 : decode cX1_init_2 9 = .ok (.dup, 1) := dk_89 (dk_at dksX1_init_2_0 9 rfl rfl)
theorem dX1_init_2_10 : decode cX1_init_2 10 = .ok (.iconst 0, 1) := dk_3 (dk_at dksX1_init_2_0 10 rfl rfl)
theorem dX1_init_2_11 : decode cX1_init_2 11 = .ok (.iconst 3, 1) := dk_6 (dk_at dksX1_init_2_0 11 rfl rfl)
theorem dX1_init_2_12 : decode cX1_init_2 12 = .ok (.iastore, 1) := dk_79 (dk_at dksX1_init_2_0 12 rfl rfl)
theorem dX1_init_2_13 : decode cX1_init_2 13 = .ok (.dup, 1) := dk_89 (dk_at dksX1_init_2_0 13 rfl rfl)
theorem dX1_init_2_14 : decode cX1_init_2 14 = .ok (.iconst 1, 1) := dk_4 (dk_at dksX1_init_2_0 14 rfl rfl)
theorem dX1_init_2_15 : decode cX1_init_2 15 = .ok (.bipush 7, 2) := dk_16 7 (dk_at dksX1_init_2_0 15 rfl rfl)
theorem dX1_init_2_17 : decode cX1_init_2 17 = .ok (.iastore, 1) := dk_79 (dk_at dksX1_init_2_0 17 rfl rfl)
theorem dX1_init_2_18 : decode cX1_init_2 18 = .ok (.dup, 1) := dk_89 (dk_at dksX1_init_2_0 18 rfl rfl)
theorem dX1_init_2_19 : decode cX1_init_2 19 = .ok (.iconst 2, 1) := dk_5 (dk_at dksX1_init_2_0 19 rfl rfl)
theorem dX1_init_2_20 : decode cX1_init_2 20 = .ok (.bipush 50, 2) := dk_16 50 (dk_at dksX1_init_2_0 20 rfl rfl)
theorem dX1_init_2_22 : decode cX1_init_2 22 = .ok (.iastore, 1) := dk_79 (dk_at dksX1_init_2_0 22 rfl rfl)
theorem dX1_init_2_23 : decode cX1_init_2 23 = .ok (.dup, 1) := dk_89 (dk_at dksX1_init_2_0 23 rfl rfl)
theorem dX1_init_2_24 : decode cX1_init_2 24 = .ok (.iconst 3, 1) := dk_6 (dk_at dksX1_init_2_1 0 rfl rfl)
theorem dX1_init_2_25 : decode cX1_init_2 25 = .ok (.bipush 50, 2) := dk_16 50 (dk_at dksX1_init_2_1 1 rfl rfl)
theorem dX1_init_2_27 : decode cX1_init_2 27 = .ok (.iastore, 1) := dk_79 (dk_at dksX1_init_2_1 3 rfl rfl)
theorem dX1_init_2_28 : decode cX1_init_2 28 = .ok (.dup, 1) := dk_89 (dk_at dksX1_init_2_1 4 rfl rfl)
theorem dX1_init_2_29 : decode cX1_init_2 29 = .ok (.iconst 4, 1) := dk_7 (dk_at dksX1_init_2_1 5 rfl rfl)
theorem dX1_init_2_30 : decode cX1_init_2 30 = .ok (.bipush 60, 2) := dk_16 60 (dk_at dksX1_init_2_1 6 rfl rfl)
theorem dX1_init_2_32 : decode cX1_init_2 32 = .ok (.iastore, 1) := dk_79 (dk_at dksX1_init_2_1 8 rfl rfl)
theorem dX1_init_2_33 : decode cX1_init_2 33 = .ok (.dup, 1) := dk_89 (dk_at dksX1_init_2_1 9 rfl rfl)
theorem dX1_init_2_34 : decode cX1_init_2 34 = .ok (.iconst 5, 1) := dk_8 (dk_at dksX1_init_2_1 10 rfl rfl)
theorem dX1_init_2_35 : decode cX1_init_2 35 = .ok (.iconst 1, 1) := dk_4 (dk_at dksX1_init_2_1 11 rfl rfl)
theorem dX1_init_2_36 : decode cX1_init_2 36 = .ok (.iastore, 1) := dk_79 (dk_at dksX1_init_2_1 12 rfl rfl)
theorem dX1_init_2_37 : decode cX1_init_2 37 = .ok (.putfield 9, 3) := dk_181 0 9 (dk_at dksX1_init_2_1 13 rfl rfl)
theorem dX1_init_2_40 : decode cX1_init_2 40 = .ok (.aload_n 0, 1) := dk_42 (dk_at dksX1_init_2_1 16 rfl rfl)
theorem dX1_init_2_41 : decode cX1_init_2 41 = .ok (.new 15, 3) := dk_187 0 15 (dk_at dksX1_init_2_1 17 rfl rfl)
theorem dX1_init_2_44 : decode cX1_init_2 44 = .ok (.dup, 1) := dk_89 (dk_at dksX1_init_2_1 20 rfl rfl)
theorem dX1_init_2_45 : decode cX1_init_2 45 = .ok (.invokespecial 17, 3) := dk_183 0 17 (dk_at dksX1_init_2_1 21 rfl rfl)
theorem dX1_init_2_48 : decode cX1_init_2 48 = .ok (.putfield 18, 3) := dk_181 0 18 (dk_at dksX1_init_2_2 0 rfl rfl)
theorem dX1_init_2_51 : decode cX1_init_2 51 = .ok (.aload_n 0, 1) := dk_42 (dk_at dksX1_init_2_2 3 rfl rfl)
theorem dX1_init_2_52 : decode cX1_init_2 52 = .ok (.new 15, 3) := dk_187 0 15 (dk_at dksX1_init_2_2 4 rfl rfl)
theorem dX1_init_2_55 : decode cX1_init_2 55 = .ok (.dup, 1) := dk_89 (dk_at dksX1_init_2_2 7 rfl rfl)
theorem dX1_init_2_56 : decode cX1_init_2 56 = .ok (.invokespecial 17, 3) := dk_183 0 17 (dk_at dksX1_init_2_2 8 rfl rfl)
theorem dX1_init_2_59 : decode cX1_init_2 59 = .ok (.putfield 22, 3) := dk_181 0 22 (dk_at dksX1_init_2_2 11 rfl rfl)
theorem dX1_init_2_62 : decode cX1_init_2 62 = .ok (.aload_n 0, 1) := dk_42 (dk_at dksX1_init_2_2 14 rfl rfl)
theorem dX1_init_2_63 : decode cX1_init_2 63 = .ok (.new 15, 3) := dk_187 0 15 (dk_at dksX1_init_2_2 15 rfl rfl)
theorem dX1_init_2_66 : decode cX1_init_2 66 = .ok (.dup, 1) := dk_89 (dk_at dksX1_init_2_2 18 rfl rfl)
theorem dX1_init_2_67 : decode cX1_init_2 67 = .ok (.invokespecial 17, 3) := dk_183 0 17 (dk_at dksX1_init_2_2 19 rfl rfl)
theorem dX1_init_2_70 : decode cX1_init_2 70 = .ok (.putfield 25, 3) := dk_181 0 25 (dk_at dksX1_init_2_3 0 rfl rfl)
theorem dX1_init_2_73 : decode cX1_init_2 73 = .ok (.aload_n 0, 1) := dk_42 (dk_at dksX1_init_2_3 3 rfl rfl)
theorem dX1_init_2_74 : decode cX1_init_2 74 = .ok (.new 15, 3) := dk_187 0 15 (dk_at dksX1_init_2_3 4 rfl rfl)
theorem dX1_init_2_77 : decode cX1_init_2 77 = .ok (.dup, 1) := dk_89 (dk_at dksX1_init_2_3 7 rfl rfl)
theorem dX1_init_2_78 : decode cX1_init_2 78 = .ok (.invokespecial 17, 3) := dk_183 0 17 (dk_at dksX1_init_2_3 8 rfl rfl)
theorem dX1_init_2_81 : decode cX1_init_2 81 = .ok (.putfield 28, 3) := dk_181 0 28 (dk_at dksX1_init_2_3 11 rfl rfl)
theorem dX1_init_2_84 : decode cX1_init_2 84 = .ok (.aload_n 0, 1) := dk_42 (dk_at dksX1_init_2_3 14 rfl rfl)
theorem dX1_init_2_85 : decode cX1_init_2 85 = .ok (.new 15, 3) := dk_187 0 15 (dk_at dksX1_init_2_3 15 rfl rfl)
theorem dX1_init_2_88 : decode cX1_init_2 88 = .ok (.dup, 1) := dk_89 (dk_at dksX1_init_2_3 18 rfl rfl)
theorem dX1_init_2_89 : decode cX1_init_2 89 = .ok (.invokespecial 17, 3) := dk_183 0 17 (dk_at dksX1_init_2_3 19 rfl rfl)
theorem dX1_init_2_92 : decode cX1_init_2 92 = .ok (.putfield 31, 3) := dk_181 0 31 (dk_at dksX1_init_2_4 0 rfl rfl)
theorem dX1_init_2_95 : decode cX1_init_2 95 = .ok (.aload_n 0, 1) := dk_42 (dk_at dksX1_init_2_4 3 rfl rfl)
theorem dX1_init_2_96 : decode cX1_init_2 96 = .ok (.new 34, 3) := dk_187 0 34 (dk_at dksX1_init_2_4 4 rfl rfl)
theorem dX1_init_2_99 : decode cX1_init_2 99 = .ok (.dup, 1) := dk_89 (dk_at dksX1_init_2_4 7 rfl rfl)
theorem dX1_init_2_100 : decode cX1_init_2 100 = .ok (.invokespecial 36, 3) := dk_183 0 36 (dk_at dksX1_init_2_4 8 rfl rfl)
theorem dX1_init_2_103 : decode cX1_init_2 103 = .ok (.putfield 37, 3) := dk_181 0 37 (dk_at dksX1_init_2_4 11 rfl rfl)
theorem dX1_init_2_106 : decode cX1_init_2 106 = .ok (.aload_n 0, 1) := dk_42 (dk_at dksX1_init_2_4 14 rfl rfl)
theorem dX1_init_2_107 : decode cX1_init_2 107 = .ok (.new 34, 3) := dk_187 0 34 (dk_at dksX1_init_2_4 15 rfl rfl)
theorem dX1_init_2_110 : decode cX1_init_2 110 = .ok (.dup, 1) := dk_89 (dk_at dksX1_init_2_4 18 rfl rfl)
theorem dX1_init_2_111 : decode cX1_init_2 111 = .ok (.invokespecial 36, 3) := dk_183 0 36 (dk_at dksX1_init_2_4 19 rfl rfl)
theorem dX1_init_2_114 : decode cX1_init_2 114 = .ok (.putfield 41, 3) := dk_181 0 41 (dk_at dksX1_init_2_5 0 rfl rfl)
theorem dX1_init_2_117 : decode cX1_init_2 117 = .ok (.aload_n 1, 1) := dk_43 (dk_at dksX1_init_2_5 3 rfl rfl)
theorem dX1_init_2_118 : decode cX1_init_2 118 = .ok (.getfield 9, 3) := dk_180 0 9 (dk_at dksX1_init_2_5 4 rfl rfl)
theorem dX1_init_2_121 : decode cX1_init_2 121 = .ok (.iconst 0, 1) := dk_3 (dk_at dksX1_init_2_5 7 rfl rfl)
theorem dX1_init_2_122 : decode cX1_init_2 122 = .ok (.aload_n 0, 1) := dk_42 (dk_at dksX1_init_2_5 8 rfl rfl)
theorem dX1_init_2_123 : decode cX1_init_2 123 = .ok (.getfield 9, 3) := dk_180 0 9 (dk_at dksX1_init_2_5 9 rfl rfl)
theorem dX1_init_2_126 : decode cX1_init_2 126 = .ok (.iconst 0, 1) := dk_3 (dk_at dksX1_init_2_5 12 rfl rfl)
theorem dX1_init_2_127 : decode cX1_init_2 127 = .ok (.aload_n 0, 1) := dk_42 (dk_at dksX1_init_2_5 13 rfl rfl)
theorem dX1_init_2_128 : decode cX1_init_2 128 = .ok (.getfield 9, 3) := dk_180 0 9 (dk_at dksX1_init_2_5 14 rfl rfl)
theorem dX1_init_2_131 : decode cX1_init_2 131 = .ok (.arraylength, 1) := dk_190 (dk_at dksX1_init_2_5 17 rfl rfl)
theorem dX1_init_2_132 : decode cX1_init_2 132 = .ok (.invokestatic 44, 3) := dk_184 0 44 (dk_at dksX1_init_2_5 18 rfl rfl)
theorem dX1_init_2_135 : decode cX1_init_2 135 = .ok (.aload_n 1, 1) := dk_43 (dk_at dksX1_init_2_5 21 rfl rfl)
theorem dX1_init_2_136 : decode cX1_init_2 136 = .ok (.getfield 18, 3) := dk_180 0 18 (dk_at dksX1_init_2_6 0 rfl rfl)
theorem dX1_init_2_139 : decode cX1_init_2 139 = .ok (.invokeinterface 50 1, 5) := by decide +kernel
theorem dX1_init_2_144 : decode cX1_init_2 144 = .ok (.astore_n 2, 1) := dk_77 (dk_at dksX1_init_2_6 8 rfl rfl)
theorem dX1_init_2_145 : decode cX1_init_2 145 = .ok (.aload_n 2, 1) := dk_44 (dk_at dksX1_init_2_6 9 rfl rfl)
theorem dX1_init_2_146 : decode cX1_init_2 146 = .ok (.invokeinterface 56 1, 5) := by decide +kernel
theorem dX1_init_2_151 : decode cX1_init_2 151 = .ok (.ifCond .eq 34, 3) := dk_153 0 34 (dk_at dksX1_init_2_6 15 rfl rfl)
theorem dX1_init_2_154 : decode cX1_init_2 154 = .ok (.aload_n 2, 1) := dk_44 (dk_at dksX1_init_2_6 18 rfl rfl)
theorem dX1_init_2_155 : decode cX1_init_2 155 = .ok (.invokeinterface 62 1, 5) := by decide +kernel
theorem dX1_init_2_160 : decode cX1_init_2 160 = .ok (.checkcast 66, 3) := dk_192 0 66 (dk_at dksX1_init_2_7 0 rfl rfl)
theorem dX1_init_2_163 : decode cX1_init_2 163 = .ok (.astore_n 3, 1) := dk_78 (dk_at dksX1_init_2_7 3 rfl rfl)
theorem dX1_init_2_164 : decode cX1_init_2 164 = .ok (.aload_n 0, 1) := dk_42 (dk_at dksX1_init_2_7 4 rfl rfl)
theorem dX1_init_2_165 : decode cX1_init_2 165 = .ok (.getfield 18, 3) := dk_180 0 18 (dk_at dksX1_init_2_7 5 rfl rfl)
theorem dX1_init_2_168 : decode cX1_init_2 168 = .ok (.new 66, 3) := dk_187 0 66 (dk_at dksX1_init_2_7 8 rfl rfl)
theorem dX1_init_2_171 : decode cX1_init_2 171 = .ok (.dup, 1) := dk_89 (dk_at dksX1_init_2_7 11 rfl rfl)
theorem dX1_init_2_172 : decode cX1_init_2 172 = .ok (.aload_n 3, 1) := dk_45 (dk_at dksX1_init_2_7 12 rfl rfl)
theorem dX1_init_2_173 : decode cX1_init_2 173 = .ok (.invokespecial 68, 3) := dk_183 0 68 (dk_at dksX1_init_2_7 13 rfl rfl)
theorem dX1_init_2_176 : decode cX1_init_2 176 = .ok (.invokeinterface 71 2, 5) := by decide +kernel
theorem dX1_init_2_181 : decode cX1_init_2 181 = .ok (.pop, 1) := dk_87 (dk_at dksX1_init_2_7 21 rfl rfl)
theorem dX1_init_2_182 : decode cX1_init_2 182 = .ok (.goto (-37), 3) := dk_167 255 219 (dk_at dksX1_init_2_8 0 rfl rfl)
theorem dX1_init_2_185 : decode cX1_init_2 185 = .ok (.aload_n 1, 1) := dk_43 (dk_at dksX1_init_2_8 3 rfl rfl)
theorem dX1_init_2_186 : decode cX1_init_2 186 = .ok (.getfield 22, 3) := dk_180 0 22 (dk_at dksX1_init_2_8 4 rfl rfl)
theorem dX1_init_2_189 : decode cX1_init_2 189 = .ok (.invokeinterface 50 1, 5) := by decide +kernel
theorem dX1_init_2_194 : decode cX1_init_2 194 = .ok (.astore_n 2, 1) := dk_77 (dk_at dksX1_init_2_8 12 rfl rfl)
theorem dX1_init_2_195 : decode cX1_init_2 195 = .ok (.aload_n 2, 1) := dk_44 (dk_at dksX1_init_2_8 13 rfl rfl)
theorem dX1_init_2_196 : decode cX1_init_2 196 = .ok (.invokeinterface 56 1, 5) := by decide +kernel
theorem dX1_init_2_201 : decode cX1_init_2 201 = .ok (.ifCond .eq 34, 3) := dk_153 0 34 (dk_at dksX1_init_2_8 19 rfl rfl)
theorem dX1_init_2_204 : decode cX1_init_2 204 = .ok (.aload_n 2, 1) := dk_44 (dk_at dksX1_init_2_8 22 rfl rfl)
theorem dX1_init_2_205 : decode cX1_init_2 205 = .ok (.invokeinterface 62 1, 5) := by decide +kernel
theorem dX1_init_2_210 : decode cX1_init_2 210 = .ok (.checkcast 75, 3) := dk_192 0 75 (dk_at dksX1_init_2_9 5 rfl rfl)
theorem dX1_init_2_213 : decode cX1_init_2 213 = .ok (.astore_n 3, 1) := dk_78 (dk_at dksX1_init_2_9 8 rfl rfl)
theorem dX1_init_2_214 : decode cX1_init_2 214 = .ok (.aload_n 0, 1) := dk_42 (dk_at dksX1_init_2_9 9 rfl rfl)
theorem dX1_init_2_215 : decode cX1_init_2 215 = .ok (.getfield 22, 3) := dk_180 0 22 (dk_at dksX1_init_2_9 10 rfl rfl)
theorem dX1_init_2_218 : decode cX1_init_2 218 = .ok (.new 75, 3) := dk_187 0 75 (dk_at dksX1_init_2_9 13 rfl rfl)
theorem dX1_init_2_221 : decode cX1_init_2 221 = .ok (.dup, 1) := dk_89 (dk_at dksX1_init_2_9 16 rfl rfl)
theorem dX1_init_2_222 : decode cX1_init_2 222 = .ok (.aload_n 3, 1) := dk_45 (dk_at dksX1_init_2_9 17 rfl rfl)
theorem dX1_init_2_223 : decode cX1_init_2 223 = .ok (.invokespecial 77, 3) := dk_183 0 77 (dk_at dksX1_init_2_9 18 rfl rfl)
theorem dX1_init_2_226 : decode cX1_init_2 226 = .ok (.invokeinterface 71 2, 5) := by decide +kernel
theorem dX1_init_2_231 : decode cX1_init_2 231 = .ok (.pop, 1) := dk_87 (dk_at dksX1_init_2_10 5 rfl rfl)
theorem dX1_init_2_232 : decode cX1_init_2 232 = .ok (.goto (-37), 3) := dk_167 255 219 (dk_at dksX1_init_2_10 6 rfl rfl)
theorem dX1_init_2_235 : decode cX1_init_2 235 = .ok (.aload_n 1, 1) := dk_43 (dk_at dksX1_init_2_10 9 rfl rfl)
theorem dX1_init_2_236 : decode cX1_init_2 236 = .ok (.getfield 25, 3) := dk_180 0 25 (dk_at dksX1_init_2_10 10 rfl rfl)
theorem dX1_init_2_239 : decode cX1_init_2 239 = .ok (.invokeinterface 50 1, 5) := by decide +kernel
theorem dX1_init_2_244 : decode cX1_init_2 244 = .ok (.astore_n 2, 1) := dk_77 (dk_at dksX1_init_2_10 18 rfl rfl)
theorem dX1_init_2_245 : decode cX1_init_2 245 = .ok (.aload_n 2, 1) := dk_44 (dk_at dksX1_init_2_10 19 rfl rfl)
theorem dX1_init_2_246 : decode cX1_init_2 246 = .ok (.invokeinterface 56 1, 5) := by decide +kernel
theorem dX1_init_2_251 : decode cX1_init_2 251 = .ok (.ifCond .eq 34, 3) := dk_153 0 34 (dk_at dksX1_init_2_11 5 rfl rfl)
theorem dX1_init_2_254 : decode cX1_init_2 254 = .ok (.aload_n 2, 1) := dk_44 (dk_at dksX1_init_2_11 8 rfl rfl)
theorem dX1_init_2_255 : decode cX1_init_2 255 = .ok (.invokeinterface 62 1, 5) := by decide +kernel
theorem dX1_init_2_260 : decode cX1_init_2 260 = .ok (.checkcast 80, 3) := dk_192 0 80 (dk_at dksX1_init_2_11 14 rfl rfl)
theorem dX1_init_2_263 : decode cX1_init_2 263 = .ok (.astore_n 3, 1) := dk_78 (dk_at dksX1_init_2_11 17 rfl rfl)
theorem dX1_init_2_264 : decode cX1_init_2 264 = .ok (.aload_n 0, 1) := dk_42 (dk_at dksX1_init_2_11 18 rfl rfl)
theorem dX1_init_2_265 : decode cX1_init_2 265 = .ok (.getfield 25, 3) := dk_180 0 25 (dk_at dksX1_init_2_11 19 rfl rfl)
theorem dX1_init_2_268 : decode cX1_init_2 268 = .ok (.new 80, 3) := dk_187 0 80 (dk_at dksX1_init_2_12 0 rfl rfl)
theorem dX1_init_2_271 : decode cX1_init_2 271 = .ok (.dup, 1) := dk_89 (dk_at dksX1_init_2_12 3 rfl rfl)
theorem dX1_init_2_272 : decode cX1_init_2 272 = .ok (.aload_n 3, 1) := dk_45 (dk_at dksX1_init_2_12 4 rfl rfl)
theorem dX1_init_2_273 : decode cX1_init_2 273 = .ok (.invokespecial 82, 3) := dk_183 0 82 (dk_at dksX1_init_2_12 5 rfl rfl)
theorem dX1_init_2_276 : decode cX1_init_2 276 = .ok (.invokeinterface 71 2, 5) := by decide +kernel
theorem dX1_init_2_281 : decode cX1_init_2 281 = .ok (.pop, 1) := dk_87 (dk_at dksX1_init_2_12 13 rfl rfl)
theorem dX1_init_2_282 : decode cX1_init_2 282 = .ok (.goto (-37), 3) := dk_167 255 219 (dk_at dksX1_init_2_12 14 rfl rfl)
theorem dX1_init_2_285 : decode cX1_init_2 285 = .ok (.aload_n 1, 1) := dk_43 (dk_at dksX1_init_2_12 17 rfl rfl)
theorem dX1_init_2_286 : decode cX1_init_2 286 = .ok (.getfield 28, 3) := dk_180 0 28 (dk_at dksX1_init_2_12 18 rfl rfl)
theorem dX1_init_2_289 : decode cX1_init_2 289 = .ok (.invokeinterface 50 1, 5) := by decide +kernel
theorem dX1_init_2_294 : decode cX1_init_2 294 = .ok (.astore_n 2, 1) := dk_77 (dk_at dksX1_init_2_13 5 rfl rfl)
theorem dX1_init_2_295 : decode cX1_init_2 295 = .ok (.aload_n 2, 1) := dk_44 (dk_at dksX1_init_2_13 6 rfl rfl)
theorem dX1_init_2_296 : decode cX1_init_2 296 = .ok (.invokeinterface 56 1, 5) := by decide +kernel
theorem dX1_init_2_301 : decode cX1_init_2 301 = .ok (.ifCond .eq 34, 3) := dk_153 0 34 (dk_at dksX1_init_2_13 12 rfl rfl)
theorem dX1_init_2_304 : decode cX1_init_2 304 = .ok (.aload_n 2, 1) := dk_44 (dk_at dksX1_init_2_13 15 rfl rfl)
theorem dX1_init_2_305 : decode cX1_init_2 305 = .ok (.invokeinterface 62 1, 5) := by decide +kernel
theorem dX1_init_2_310 : decode cX1_init_2 310 = .ok (.checkcast 85, 3) := dk_192 0 85 (dk_at dksX1_init_2_13 21 rfl rfl)
theorem dX1_init_2_313 : decode cX1_init_2 313 = .ok (.astore_n 3, 1) := dk_78 (dk_at dksX1_init_2_14 0 rfl rfl)
theorem dX1_init_2_314 : decode cX1_init_2 314 = .ok (.aload_n 0, 1) := dk_42 (dk_at dksX1_init_2_14 1 rfl rfl)
theorem dX1_init_2_315 : decode cX1_init_2 315 = .ok (.getfield 28, 3) := dk_180 0 28 (dk_at dksX1_init_2_14 2 rfl rfl)
theorem dX1_init_2_318 : decode cX1_init_2 318 = .ok (.new 85, 3) := dk_187 0 85 (dk_at dksX1_init_2_14 5 rfl rfl)
theorem dX1_init_2_321 : decode cX1_init_2 321 = .ok (.dup, 1) := dk_89 (dk_at dksX1_init_2_14 8 rfl rfl)
theorem dX1_init_2_322 : decode cX1_init_2 322 = .ok (.aload_n 3, 1) := dk_45 (dk_at dksX1_init_2_14 9 rfl rfl)
theorem dX1_init_2_323 : decode cX1_init_2 323 = .ok (.invokespecial 87, 3) := dk_183 0 87 (dk_at dksX1_init_2_14 10 rfl rfl)
theorem dX1_init_2_326 : decode cX1_init_2 326 = .ok (.invokeinterface 71 2, 5) := by decide +kernel
theorem dX1_init_2_331 : decode cX1_init_2 331 = .ok (.pop, 1) := dk_87 (dk_at dksX1_init_2_14 18 rfl rfl)
theorem dX1_init_2_332 : decode cX1_init_2 332 = .ok (.goto (-37), 3) := dk_167 255 219 (dk_at dksX1_init_2_14 19 rfl rfl)
theorem dX1_init_2_335 : decode cX1_init_2 335 = .ok (.aload_n 1, 1) := dk_43 (dk_at dksX1_init_2_14 22 rfl rfl)
theorem dX1_init_2_336 : decode cX1_init_2 336 = .ok (.getfield 31, 3) := dk_180 0 31 (dk_at dksX1_init_2_15 0 rfl rfl)
theorem dX1_init_2_339 : decode cX1_init_2 339 = .ok (.invokeinterface 50 1, 5) := by decide +kernel
theorem dX1_init_2_344 : decode cX1_init_2 344 = .ok (.astore_n 2, 1) := dk_77 (dk_at dksX1_init_2_15 8 rfl rfl)
theorem dX1_init_2_345 : decode cX1_init_2 345 = .ok (.aload_n 2, 1) := dk_44 (dk_at dksX1_init_2_15 9 rfl rfl)
theorem dX1_init_2_346 : decode cX1_init_2 346 = .ok (.invokeinterface 56 1, 5) := by decide +kernel
theorem dX1_init_2_351 : decode cX1_init_2 351 = .ok (.ifCond .eq 34, 3) := dk_153 0 34 (dk_at dksX1_init_2_15 15 rfl rfl)
theorem dX1_init_2_354 : decode cX1_init_2 354 = .ok (.aload_n 2, 1) := dk_44 (dk_at dksX1_init_2_15 18 rfl rfl)
theorem dX1_init_2_355 : decode cX1_init_2 355 = .ok (.invokeinterface 62 1, 5) := by decide +kernel
theorem dX1_init_2_360 : decode cX1_init_2 360 = .ok (.checkcast 90, 3) := dk_192 0 90 (dk_at dksX1_init_2_16 0 rfl rfl)
theorem dX1_init_2_363 : decode cX1_init_2 363 = .ok (.astore_n 3, 1) := dk_78 (dk_at dksX1_init_2_16 3 rfl rfl)
theorem dX1_init_2_364 : decode cX1_init_2 364 = .ok (.aload_n 0, 1) := dk_42 (dk_at dksX1_init_2_16 4 rfl rfl)
theorem dX1_init_2_365 : decode cX1_init_2 365 = .ok (.getfield 31, 3) := dk_180 0 31 (dk_at dksX1_init_2_16 5 rfl rfl)
theorem dX1_init_2_368 : decode cX1_init_2 368 = .ok (.new 90, 3) := dk_187 0 90 (dk_at dksX1_init_2_16 8 rfl rfl)
theorem dX1_init_2_371 : decode cX1_init_2 371 = .ok (.dup, 1) := dk_89 (dk_at dksX1_init_2_16 11 rfl rfl)
theorem dX1_init_2_372 : decode cX1_init_2 372 = .ok (.aload_n 3, 1) := dk_45 (dk_at dksX1_init_2_16 12 rfl rfl)
theorem dX1_init_2_373 : decode cX1_init_2 373 = .ok (.invokespecial 92, 3) := dk_183 0 92 (dk_at dksX1_init_2_16 13 rfl rfl)
theorem dX1_init_2_376 : decode cX1_init_2 376 = .ok (.invokeinterface 71 2, 5) := by decide +kernel
theorem dX1_init_2_381 : decode cX1_init_2 381 = .ok (.pop, 1) := dk_87 (dk_at dksX1_init_2_16 21 rfl rfl)
theorem dX1_init_2_382 : decode cX1_init_2 382 = .ok (.goto (-37), 3) := dk_167 255 219 (dk_at dksX1_init_2_17 0 rfl rfl)
theorem dX1_init_2_385 : decode cX1_init_2 385 = .ok (.aload_n 0, 1) := dk_42 (dk_at dksX1_init_2_17 3 rfl rfl)
theorem dX1_init_2_386 : decode cX1_init_2 386 = .ok (.getfield 37, 3) := dk_180 0 37 (dk_at dksX1_init_2_17 4 rfl rfl)
theorem dX1_init_2_389 : decode cX1_init_2 389 = .ok (.aload_n 1, 1) := dk_43 (dk_at dksX1_init_2_17 7 rfl rfl)
theorem dX1_init_2_390 : decode cX1_init_2 390 = .ok (.getfield 37, 3) := dk_180 0 37 (dk_at dksX1_init_2_17 8 rfl rfl)
theorem dX1_init_2_393 : decode cX1_init_2 393 = .ok (.invokeinterface 95 2, 5) := by decide +kernel
theorem dX1_init_2_398 : decode cX1_init_2 398 = .ok (.aload_n 0, 1) := dk_42 (dk_at dksX1_init_2_17 16 rfl rfl)
theorem dX1_init_2_399 : decode cX1_init_2 399 = .ok (.getfield 41, 3) := dk_180 0 41 (dk_at dksX1_init_2_17 17 rfl rfl)
theorem dX1_init_2_402 : decode cX1_init_2 402 = .ok (.aload_n 1, 1) := dk_43 (dk_at dksX1_init_2_17 20 rfl rfl)
theorem dX1_init_2_403 : decode cX1_init_2 403 = .ok (.getfield 41, 3) := dk_180 0 41 (dk_at dksX1_init_2_17 21 rfl rfl)
theorem dX1_init_2_406 : decode cX1_init_2 406 = .ok (.invokeinterface 95 2, 5) := by decide +kernel
theorem dX1_init_2_411 : decode cX1_init_2 411 = .ok (.aload_n 0, 1) := dk_42 (dk_at dksX1_init_2_18 5 rfl rfl)
theorem dX1_init_2_412 : decode cX1_init_2 412 = .ok (.aload_n 1, 1) := dk_43 (dk_at dksX1_init_2_18 6 rfl rfl)
theorem dX1_init_2_413 : decode cX1_init_2 413 = .ok (.getfield 101, 3) := dk_180 0 101 (dk_at dksX1_init_2_18 7 rfl rfl)
theorem dX1_init_2_416 : decode cX1_init_2 416 = .ok (.putfield 101, 3) := dk_181 0 101 (dk_at dksX1_init_2_18 10 rfl rfl)
theorem dX1_init_2_419 : decode cX1_init_2 419 = .ok (.aload_n 0, 1) := dk_42 (dk_at dksX1_init_2_18 13 rfl rfl)
theorem dX1_init_2_420 : decode cX1_init_2 420 = .ok (.aload_n 1, 1) := dk_43 (dk_at dksX1_init_2_18 14 rfl rfl)
theorem dX1_init_2_421 : decode cX1_init_2 421 = .ok (.getfield 105, 3) := dk_180 0 105 (dk_at dksX1_init_2_18 15 rfl rfl)
theorem dX1_init_2_424 : decode cX1_init_2 424 = .ok (.putfield 105, 3) := dk_181 0 105 (dk_at dksX1_init_2_18 18 rfl rfl)
theorem dX1_init_2_427 : decode cX1_init_2 427 = .ok (.aload_n 0, 1) := dk_42 (dk_at dksX1_init_2_18 21 rfl rfl)
theorem dX1_init_2_428 : decode cX1_init_2 428 = .ok (.aload_n 1, 1) := dk_43 (dk_at dksX1_init_2_18 22 rfl rfl)
theorem dX1_init_2_429 : decode cX1_init_2 429 = .ok (.getfield 108, 3) := dk_180 0 108 (dk_at dksX1_init_2_19 0 rfl rfl)
theorem dX1_init_2_432 : decode cX1_init_2 432 = .ok (.putfield 108, 3) := dk_181 0 108 (dk_at dksX1_init_2_19 3 rfl rfl)
theorem dX1_init_2_435 : decode cX1_init_2 435 = .ok (.return_, 1) := dk_177 (dk_at dksX1_init_2_19 6 rfl rfl)
abbrev cX1_fitted : ByteArray := prog_6_method_3_code
def yX1_fitted : MethodName := ⟨RX1, "fitted", "()I"⟩
def dkwX1_fitted_2 : List UInt8 := [16, 250, 172]
abbrev dktX1_fitted_2 : List UInt8 := dkwX1_fitted_2 ++ []
def dkwX1_fitted_1 : List UInt8 := [185, 0, 115, 2, 0, 192, 0, 75, 180, 0, 119, 4, 160, 0, 5, 27, 172, 132, 1, 1, 167, 255, 218]
abbrev dktX1_fitted_1 : List UInt8 := dkwX1_fitted_1 ++ dktX1_fitted_2
def dkwX1_fitted_0 : List UInt8 := [3, 60, 27, 42, 180, 0, 22, 185, 0, 111, 1, 0, 162, 0, 31, 42, 180, 0, 22, 27]
abbrev dktX1_fitted_0 : List UInt8 := dkwX1_fitted_0 ++ dktX1_fitted_1
theorem dksX1_fitted_0 : cX1_fitted.data.toList.drop 0 = dktX1_fitted_0 := by decide +kernel
theorem dksX1_fitted_1 : cX1_fitted.data.toList.drop 20 = dktX1_fitted_1 := dk_seg dksX1_fitted_0 20 rfl rfl
theorem dksX1_fitted_2 : cX1_fitted.data.toList.drop 43 = dktX1_fitted_2 := dk_seg dksX1_fitted_1 23 rfl rfl
theorem dX1_fitted_0 : decode cX1_fitted 0 = .ok (.iconst 0, 1) := dk_3 (dk_at dksX1_fitted_0 0 rfl rfl)
theorem dX1_fitted_1 : decode cX1_fitted 1 = .ok (.istore_n 1, 1) := dk_60 (dk_at dksX1_fitted_0 1 rfl rfl)
theorem dX1_fitted_2 : decode cX1_fitted 2 = .ok (.iload_n 1, 1) := dk_27 (dk_at dksX1_fitted_0 2 rfl rfl)
theorem dX1_fitted_3 : decode cX1_fitted 3 = .ok (.aload_n 0, 1) := dk_42 (dk_at dksX1_fitted_0 3 rfl rfl)
theorem dX1_fitted_4 : decode cX1_fitted 4 = .ok (.getfield 22, 3) := dk_180 0 22 (dk_at dksX1_fitted_0 4 rfl rfl)
theorem dX1_fitted_7 : decode cX1_fitted 7 = .ok (.invokeinterface 111 1, 5) := by decide +kernel
theorem dX1_fitted_12 : decode cX1_fitted 12 = .ok (.if_icmp .ge 31, 3) := dk_162 0 31 (dk_at dksX1_fitted_0 12 rfl rfl)
theorem dX1_fitted_15 : decode cX1_fitted 15 = .ok (.aload_n 0, 1) := dk_42 (dk_at dksX1_fitted_0 15 rfl rfl)
theorem dX1_fitted_16 : decode cX1_fitted 16 = .ok (.getfield 22, 3) := dk_180 0 22 (dk_at dksX1_fitted_0 16 rfl rfl)
theorem dX1_fitted_19 : decode cX1_fitted 19 = .ok (.iload_n 1, 1) := dk_27 (dk_at dksX1_fitted_0 19 rfl rfl)
theorem dX1_fitted_20 : decode cX1_fitted 20 = .ok (.invokeinterface 115 2, 5) := by decide +kernel
theorem dX1_fitted_25 : decode cX1_fitted 25 = .ok (.checkcast 75, 3) := dk_192 0 75 (dk_at dksX1_fitted_1 5 rfl rfl)
theorem dX1_fitted_28 : decode cX1_fitted 28 = .ok (.getfield 119, 3) := dk_180 0 119 (dk_at dksX1_fitted_1 8 rfl rfl)
theorem dX1_fitted_31 : decode cX1_fitted 31 = .ok (.iconst 1, 1) := dk_4 (dk_at dksX1_fitted_1 11 rfl rfl)
theorem dX1_fitted_32 : decode cX1_fitted 32 = .ok (.if_icmp .ne 5, 3) := dk_160 0 5 (dk_at dksX1_fitted_1 12 rfl rfl)
theorem dX1_fitted_35 : decode cX1_fitted 35 = .ok (.iload_n 1, 1) := dk_27 (dk_at dksX1_fitted_1 15 rfl rfl)
theorem dX1_fitted_36 : decode cX1_fitted 36 = .ok (.ireturn, 1) := dk_172 (dk_at dksX1_fitted_1 16 rfl rfl)
theorem dX1_fitted_37 : decode cX1_fitted 37 = .ok (.iinc 1 1, 3) := dk_132 1 1 (dk_at dksX1_fitted_1 17 rfl rfl)
theorem dX1_fitted_40 : decode cX1_fitted 40 = .ok (.goto (-38), 3) := dk_167 255 218 (dk_at dksX1_fitted_1 20 rfl rfl)
theorem dX1_fitted_43 : decode cX1_fitted 43 = .ok (.bipush (-6), 2) := dk_16 250 (dk_at dksX1_fitted_2 0 rfl rfl)
theorem dX1_fitted_45 : decode cX1_fitted 45 = .ok (.ireturn, 1) := dk_172 (dk_at dksX1_fitted_2 2 rfl rfl)
abbrev cX1_fit : ByteArray := prog_6_method_4_code
def yX1_fit : MethodName := ⟨RX1, "fit", "(I)V"⟩
def dkwX1_fit_1 : List UInt8 := [181, 0, 119, 42, 180, 0, 22, 27, 185, 0, 115, 2, 0, 192, 0, 75, 4, 181, 0, 119, 177]
abbrev dktX1_fit_1 : List UInt8 := dkwX1_fit_1 ++ []
def dkwX1_fit_0 : List UInt8 := [42, 182, 0, 122, 61, 28, 155, 0, 20, 42, 180, 0, 22, 28, 185, 0, 115, 2, 0, 192, 0, 75, 3]
abbrev dktX1_fit_0 : List UInt8 := dkwX1_fit_0 ++ dktX1_fit_1
theorem dksX1_fit_0 : cX1_fit.data.toList.drop 0 = dktX1_fit_0 := by decide +kernel
theorem dksX1_fit_1 : cX1_fit.data.toList.drop 23 = dktX1_fit_1 := dk_seg dksX1_fit_0 23 rfl rfl
theorem dX1_fit_0 : decode cX1_fit 0 = .ok (.aload_n 0, 1) := dk_42 (dk_at dksX1_fit_0 0 rfl rfl)
theorem dX1_fit_1 : decode cX1_fit 1 = .ok (.invokevirtual 122, 3) := dk_182 0 122 (dk_at dksX1_fit_0 1 rfl rfl)
theorem dX1_fit_4 : decode cX1_fit 4 = .ok (.istore_n 2, 1) := dk_61 (dk_at dksX1_fit_0 4 rfl rfl)
theorem dX1_fit_5 : decode cX1_fit 5 = .ok (.iload_n 2, 1) := dk_28 (dk_at dksX1_fit_0 5 rfl rfl)
theorem dX1_fit_6 : decode cX1_fit 6 = .ok (.ifCond .lt 20, 3) := dk_155 0 20 (dk_at dksX1_fit_0 6 rfl rfl)
theorem dX1_fit_9 : decode cX1_fit 9 = .ok (.aload_n 0, 1) := dk_42 (dk_at dksX1_fit_0 9 rfl rfl)
theorem dX1_fit_10 : decode cX1_fit 10 = .ok (.getfield 22, 3) := dk_180 0 22 (dk_at dksX1_fit_0 10 rfl rfl)
theorem dX1_fit_13 : decode cX1_fit 13 = .ok (.iload_n 2, 1) := dk_28 (dk_at dksX1_fit_0 13 rfl rfl)
theorem dX1_fit_14 : decode cX1_fit 14 = .ok (.invokeinterface 115 2, 5) := by decide +kernel
theorem dX1_fit_19 : decode cX1_fit 19 = .ok (.checkcast 75, 3) := dk_192 0 75 (dk_at dksX1_fit_0 19 rfl rfl)
theorem dX1_fit_22 : decode cX1_fit 22 = .ok (.iconst 0, 1) := dk_3 (dk_at dksX1_fit_0 22 rfl rfl)
theorem dX1_fit_23 : decode cX1_fit 23 = .ok (.putfield 119, 3) := dk_181 0 119 (dk_at dksX1_fit_1 0 rfl rfl)
theorem dX1_fit_26 : decode cX1_fit 26 = .ok (.aload_n 0, 1) := dk_42 (dk_at dksX1_fit_1 3 rfl rfl)
theorem dX1_fit_27 : decode cX1_fit 27 = .ok (.getfield 22, 3) := dk_180 0 22 (dk_at dksX1_fit_1 4 rfl rfl)
theorem dX1_fit_30 : decode cX1_fit 30 = .ok (.iload_n 1, 1) := dk_27 (dk_at dksX1_fit_1 7 rfl rfl)
theorem dX1_fit_31 : decode cX1_fit 31 = .ok (.invokeinterface 115 2, 5) := by decide +kernel
theorem dX1_fit_36 : decode cX1_fit 36 = .ok (.checkcast 75, 3) := dk_192 0 75 (dk_at dksX1_fit_1 13 rfl rfl)
theorem dX1_fit_39 : decode cX1_fit 39 = .ok (.iconst 1, 1) := dk_4 (dk_at dksX1_fit_1 16 rfl rfl)
theorem dX1_fit_40 : decode cX1_fit 40 = .ok (.putfield 119, 3) := dk_181 0 119 (dk_at dksX1_fit_1 17 rfl rfl)
theorem dX1_fit_43 : decode cX1_fit 43 = .ok (.return_, 1) := dk_177 (dk_at dksX1_fit_1 20 rfl rfl)
abbrev cX1_isFree : ByteArray := prog_6_method_13_code
def yX1_isFree : MethodName := ⟨RX1, "isFree", "(LDomeNights$Time;)Z"⟩
def dkwX1_isFree_1 : List UInt8 := [154, 0, 7, 4, 167, 0, 4, 3, 172]
abbrev dktX1_isFree_1 : List UInt8 := dkwX1_isFree_1 ++ []
def dkwX1_isFree_0 : List UInt8 := [42, 180, 0, 37, 43, 185, 0, 211, 2, 0, 154, 0, 20, 42, 180, 0, 41, 43, 185, 0, 211, 2, 0]
abbrev dktX1_isFree_0 : List UInt8 := dkwX1_isFree_0 ++ dktX1_isFree_1
theorem dksX1_isFree_0 : cX1_isFree.data.toList.drop 0 = dktX1_isFree_0 := by decide +kernel
theorem dksX1_isFree_1 : cX1_isFree.data.toList.drop 23 = dktX1_isFree_1 := dk_seg dksX1_isFree_0 23 rfl rfl
theorem dX1_isFree_0 : decode cX1_isFree 0 = .ok (.aload_n 0, 1) := dk_42 (dk_at dksX1_isFree_0 0 rfl rfl)
theorem dX1_isFree_1 : decode cX1_isFree 1 = .ok (.getfield 37, 3) := dk_180 0 37 (dk_at dksX1_isFree_0 1 rfl rfl)
theorem dX1_isFree_4 : decode cX1_isFree 4 = .ok (.aload_n 1, 1) := dk_43 (dk_at dksX1_isFree_0 4 rfl rfl)
theorem dX1_isFree_5 : decode cX1_isFree 5 = .ok (.invokeinterface 211 2, 5) := by decide +kernel
theorem dX1_isFree_10 : decode cX1_isFree 10 = .ok (.ifCond .ne 20, 3) := dk_154 0 20 (dk_at dksX1_isFree_0 10 rfl rfl)
theorem dX1_isFree_13 : decode cX1_isFree 13 = .ok (.aload_n 0, 1) := dk_42 (dk_at dksX1_isFree_0 13 rfl rfl)
theorem dX1_isFree_14 : decode cX1_isFree 14 = .ok (.getfield 41, 3) := dk_180 0 41 (dk_at dksX1_isFree_0 14 rfl rfl)
theorem dX1_isFree_17 : decode cX1_isFree 17 = .ok (.aload_n 1, 1) := dk_43 (dk_at dksX1_isFree_0 17 rfl rfl)
theorem dX1_isFree_18 : decode cX1_isFree 18 = .ok (.invokeinterface 211 2, 5) := by decide +kernel
theorem dX1_isFree_23 : decode cX1_isFree 23 = .ok (.ifCond .ne 7, 3) := dk_154 0 7 (dk_at dksX1_isFree_1 0 rfl rfl)
theorem dX1_isFree_26 : decode cX1_isFree 26 = .ok (.iconst 1, 1) := dk_4 (dk_at dksX1_isFree_1 3 rfl rfl)
theorem dX1_isFree_27 : decode cX1_isFree 27 = .ok (.goto 4, 3) := dk_167 0 4 (dk_at dksX1_isFree_1 4 rfl rfl)
theorem dX1_isFree_30 : decode cX1_isFree 30 = .ok (.iconst 0, 1) := dk_3 (dk_at dksX1_isFree_1 7 rfl rfl)
theorem dX1_isFree_31 : decode cX1_isFree 31 = .ok (.ireturn, 1) := dk_172 (dk_at dksX1_isFree_1 8 rfl rfl)
abbrev cX1_plan : ByteArray := prog_6_method_15_code
def yX1_plan : MethodName := ⟨RX1, "plan", "(ILDomeNights$Time;)I"⟩
def dkwX1_plan_2 : List UInt8 := [185, 0, 111, 1, 0, 4, 100, 172]
abbrev dktX1_plan_2 : List UInt8 := dkwX1_plan_2 ++ []
def dkwX1_plan_1 : List UInt8 := [42, 180, 0, 25, 185, 0, 111, 1, 0, 4, 100, 184, 0, 224, 185, 0, 230, 3, 0, 87, 42, 180, 0, 25]
abbrev dktX1_plan_1 : List UInt8 := dkwX1_plan_1 ++ dktX1_plan_2
def dkwX1_plan_0 : List UInt8 := [42, 180, 0, 25, 187, 0, 80, 89, 27, 44, 183, 0, 221, 185, 0, 71, 2, 0, 87, 42, 180, 0, 37, 44]
abbrev dktX1_plan_0 : List UInt8 := dkwX1_plan_0 ++ dktX1_plan_1
theorem dksX1_plan_0 : cX1_plan.data.toList.drop 0 = dktX1_plan_0 := by decide +kernel
theorem dksX1_plan_1 : cX1_plan.data.toList.drop 24 = dktX1_plan_1 := dk_seg dksX1_plan_0 24 rfl rfl
theorem dksX1_plan_2 : cX1_plan.data.toList.drop 48 = dktX1_plan_2 := dk_seg dksX1_plan_1 24 rfl rfl
theorem dX1_plan_0 : decode cX1_plan 0 = .ok (.aload_n 0, 1) := dk_42 (dk_at dksX1_plan_0 0 rfl rfl)
theorem dX1_plan_1 : decode cX1_plan 1 = .ok (.getfield 25, 3) := dk_180 0 25 (dk_at dksX1_plan_0 1 rfl rfl)
theorem dX1_plan_4 : decode cX1_plan 4 = .ok (.new 80, 3) := dk_187 0 80 (dk_at dksX1_plan_0 4 rfl rfl)
theorem dX1_plan_7 : decode cX1_plan 7 = .ok (.dup, 1) := dk_89 (dk_at dksX1_plan_0 7 rfl rfl)
theorem dX1_plan_8 : decode cX1_plan 8 = .ok (.iload_n 1, 1) := dk_27 (dk_at dksX1_plan_0 8 rfl rfl)
theorem dX1_plan_9 : decode cX1_plan 9 = .ok (.aload_n 2, 1) := dk_44 (dk_at dksX1_plan_0 9 rfl rfl)
theorem dX1_plan_10 : decode cX1_plan 10 = .ok (.invokespecial 221, 3) := dk_183 0 221 (dk_at dksX1_plan_0 10 rfl rfl)
theorem dX1_plan_13 : decode cX1_plan 13 = .ok (.invokeinterface 71 2, 5) := by decide +kernel
theorem dX1_plan_18 : decode cX1_plan 18 = .ok (.pop, 1) := dk_87 (dk_at dksX1_plan_0 18 rfl rfl)
theorem dX1_plan_19 : decode cX1_plan 19 = .ok (.aload_n 0, 1) := dk_42 (dk_at dksX1_plan_0 19 rfl rfl)
theorem dX1_plan_20 : decode cX1_plan 20 = .ok (.getfield 37, 3) := dk_180 0 37 (dk_at dksX1_plan_0 20 rfl rfl)
theorem dX1_plan_23 : decode cX1_plan 23 = .ok (.aload_n 2, 1) := dk_44 (dk_at dksX1_plan_0 23 rfl rfl)
theorem dX1_plan_24 : decode cX1_plan 24 = .ok (.aload_n 0, 1) := dk_42 (dk_at dksX1_plan_1 0 rfl rfl)
theorem dX1_plan_25 : decode cX1_plan 25 = .ok (.getfield 25, 3) := dk_180 0 25 (dk_at dksX1_plan_1 1 rfl rfl)
theorem dX1_plan_28 : decode cX1_plan 28 = .ok (.invokeinterface 111 1, 5) := by decide +kernel
theorem dX1_plan_33 : decode cX1_plan 33 = .ok (.iconst 1, 1) := dk_4 (dk_at dksX1_plan_1 9 rfl rfl)
theorem dX1_plan_34 : decode cX1_plan 34 = .ok (.isub, 1) := dk_100 (dk_at dksX1_plan_1 10 rfl rfl)
theorem dX1_plan_35 : decode cX1_plan 35 = .ok (.invokestatic 224, 3) := dk_184 0 224 (dk_at dksX1_plan_1 11 rfl rfl)
theorem dX1_plan_38 : decode cX1_plan 38 = .ok (.invokeinterface 230 3, 5) := by decide +kernel
theorem dX1_plan_43 : decode cX1_plan 43 = .ok (.pop, 1) := dk_87 (dk_at dksX1_plan_1 19 rfl rfl)
theorem dX1_plan_44 : decode cX1_plan 44 = .ok (.aload_n 0, 1) := dk_42 (dk_at dksX1_plan_1 20 rfl rfl)
theorem dX1_plan_45 : decode cX1_plan 45 = .ok (.getfield 25, 3) := dk_180 0 25 (dk_at dksX1_plan_1 21 rfl rfl)
theorem dX1_plan_48 : decode cX1_plan 48 = .ok (.invokeinterface 111 1, 5) := by decide +kernel
theorem dX1_plan_53 : decode cX1_plan 53 = .ok (.iconst 1, 1) := dk_4 (dk_at dksX1_plan_2 5 rfl rfl)
theorem dX1_plan_54 : decode cX1_plan 54 = .ok (.isub, 1) := dk_100 (dk_at dksX1_plan_2 6 rfl rfl)
theorem dX1_plan_55 : decode cX1_plan 55 = .ok (.ireturn, 1) := dk_172 (dk_at dksX1_plan_2 7 rfl rfl)
abbrev cX1_event : ByteArray := prog_6_method_18_code
def yX1_event : MethodName := ⟨RX1, "event", "(III)I"⟩
def dkwX1_event_4 : List UInt8 := [25, 6, 182, 1, 11, 132, 4, 1, 132, 5, 1, 167, 255, 210, 21, 4, 172]
abbrev dktX1_event_4 : List UInt8 := dkwX1_event_4 ++ []
def dkwX1_event_3 : List UInt8 := [89, 27, 21, 5, 183, 1, 8, 58, 6, 42, 180, 0, 37, 25, 6, 185, 0, 211, 2, 0, 153, 0, 12, 42]
abbrev dktX1_event_3 : List UInt8 := dkwX1_event_3 ++ dktX1_event_4
def dkwX1_event_2 : List UInt8 := [42, 89, 180, 0, 101, 4, 96, 181, 0, 101, 28, 54, 5, 21, 5, 28, 29, 96, 162, 0, 44, 187, 0, 207]
abbrev dktX1_event_2 : List UInt8 := dkwX1_event_2 ++ dktX1_event_3
def dkwX1_event_1 : List UInt8 := [21, 5, 183, 1, 8, 42, 180, 0, 101, 184, 0, 224, 185, 0, 230, 3, 0, 87, 132, 5, 1, 167, 255, 218]
abbrev dktX1_event_1 : List UInt8 := dkwX1_event_1 ++ dktX1_event_2
def dkwX1_event_0 : List UInt8 := [3, 54, 4, 28, 54, 5, 21, 5, 28, 29, 96, 162, 0, 36, 42, 180, 0, 41, 187, 0, 207, 89, 27]
abbrev dktX1_event_0 : List UInt8 := dkwX1_event_0 ++ dktX1_event_1
theorem dksX1_event_0 : cX1_event.data.toList.drop 0 = dktX1_event_0 := by decide +kernel
theorem dksX1_event_1 : cX1_event.data.toList.drop 23 = dktX1_event_1 := dk_seg dksX1_event_0 23 rfl rfl
theorem dksX1_event_2 : cX1_event.data.toList.drop 47 = dktX1_event_2 := dk_seg dksX1_event_1 24 rfl rfl
theorem dksX1_event_3 : cX1_event.data.toList.drop 71 = dktX1_event_3 := dk_seg dksX1_event_2 24 rfl rfl
theorem dksX1_event_4 : cX1_event.data.toList.drop 95 = dktX1_event_4 := dk_seg dksX1_event_3 24 rfl rfl
theorem dX1_event_0 : decode cX1_event 0 = .ok (.iconst 0, 1) := dk_3 (dk_at dksX1_event_0 0 rfl rfl)
theorem dX1_event_1 : decode cX1_event 1 = .ok (.istore 4, 2) := dk_54 4 (dk_at dksX1_event_0 1 rfl rfl)
theorem dX1_event_3 : decode cX1_event 3 = .ok (.iload_n 2, 1) := dk_28 (dk_at dksX1_event_0 3 rfl rfl)
theorem dX1_event_4 : decode cX1_event 4 = .ok (.istore 5, 2) := dk_54 5 (dk_at dksX1_event_0 4 rfl rfl)
theorem dX1_event_6 : decode cX1_event 6 = .ok (.iload 5, 2) := dk_21 5 (dk_at dksX1_event_0 6 rfl rfl)
theorem dX1_event_8 : decode cX1_event 8 = .ok (.iload_n 2, 1) := dk_28 (dk_at dksX1_event_0 8 rfl rfl)
theorem dX1_event_9 : decode cX1_event 9 = .ok (.iload_n 3, 1) := dk_29 (dk_at dksX1_event_0 9 rfl rfl)
theorem dX1_event_10 : decode cX1_event 10 = .ok (.iadd, 1) := dk_96 (dk_at dksX1_event_0 10 rfl rfl)
theorem dX1_event_11 : decode cX1_event 11 = .ok (.if_icmp .ge 36, 3) := dk_162 0 36 (dk_at dksX1_event_0 11 rfl rfl)
theorem dX1_event_14 : decode cX1_event 14 = .ok (.aload_n 0, 1) := dk_42 (dk_at dksX1_event_0 14 rfl rfl)
theorem dX1_event_15 : decode cX1_event 15 = .ok (.getfield 41, 3) := dk_180 0 41 (dk_at dksX1_event_0 15 rfl rfl)
theorem dX1_event_18 : decode cX1_event 18 = .ok (.new 207, 3) := dk_187 0 207 (dk_at dksX1_event_0 18 rfl rfl)
theorem dX1_event_21 : decode cX1_event 21 = .ok (.dup, 1) := dk_89 (dk_at dksX1_event_0 21 rfl rfl)
theorem dX1_event_22 : decode cX1_event 22 = .ok (.iload_n 1, 1) := dk_27 (dk_at dksX1_event_0 22 rfl rfl)
theorem dX1_event_23 : decode cX1_event 23 = .ok (.iload 5, 2) := dk_21 5 (dk_at dksX1_event_1 0 rfl rfl)
theorem dX1_event_25 : decode cX1_event 25 = .ok (.invokespecial 264, 3) := dk_183 1 8 (dk_at dksX1_event_1 2 rfl rfl)
theorem dX1_event_28 : decode cX1_event 28 = .ok (.aload_n 0, 1) := dk_42 (dk_at dksX1_event_1 5 rfl rfl)
theorem dX1_event_29 : decode cX1_event 29 = .ok (.getfield 101, 3) := dk_180 0 101 (dk_at dksX1_event_1 6 rfl rfl)
theorem dX1_event_32 : decode cX1_event 32 = .ok (.invokestatic 224, 3) := dk_184 0 224 (dk_at dksX1_event_1 9 rfl rfl)
theorem dX1_event_35 : decode cX1_event 35 = .ok (.invokeinterface 230 3, 5) := by decide +kernel
theorem dX1_event_40 : decode cX1_event 40 = .ok (.pop, 1) := dk_87 (dk_at dksX1_event_1 17 rfl rfl)
theorem dX1_event_41 : decode cX1_event 41 = .ok (.iinc 5 1, 3) := dk_132 5 1 (dk_at dksX1_event_1 18 rfl rfl)
theorem dX1_event_44 : decode cX1_event 44 = .ok (.goto (-38), 3) := dk_167 255 218 (dk_at dksX1_event_1 21 rfl rfl)
theorem dX1_event_47 : decode cX1_event 47 = .ok (.aload_n 0, 1) := dk_42 (dk_at dksX1_event_2 0 rfl rfl)
theorem dX1_event_48 : decode cX1_event 48 = .ok (.dup, 1) := dk_89 (dk_at dksX1_event_2 1 rfl rfl)
theorem dX1_event_49 : decode cX1_event 49 = .ok (.getfield 101, 3) := dk_180 0 101 (dk_at dksX1_event_2 2 rfl rfl)
theorem dX1_event_52 : decode cX1_event 52 = .ok (.iconst 1, 1) := dk_4 (dk_at dksX1_event_2 5 rfl rfl)
theorem dX1_event_53 : decode cX1_event 53 = .ok (.iadd, 1) := dk_96 (dk_at dksX1_event_2 6 rfl rfl)
theorem dX1_event_54 : decode cX1_event 54 = .ok (.putfield 101, 3) := dk_181 0 101 (dk_at dksX1_event_2 7 rfl rfl)
theorem dX1_event_57 : decode cX1_event 57 = .ok (.iload_n 2, 1) := dk_28 (dk_at dksX1_event_2 10 rfl rfl)
theorem dX1_event_58 : decode cX1_event 58 = .ok (.istore 5, 2) := dk_54 5 (dk_at dksX1_event_2 11 rfl rfl)
theorem dX1_event_60 : decode cX1_event 60 = .ok (.iload 5, 2) := dk_21 5 (dk_at dksX1_event_2 13 rfl rfl)
theorem dX1_event_62 : decode cX1_event 62 = .ok (.iload_n 2, 1) := dk_28 (dk_at dksX1_event_2 15 rfl rfl)
theorem dX1_event_63 : decode cX1_event 63 = .ok (.iload_n 3, 1) := dk_29 (dk_at dksX1_event_2 16 rfl rfl)
theorem dX1_event_64 : decode cX1_event 64 = .ok (.iadd, 1) := dk_96 (dk_at dksX1_event_2 17 rfl rfl)
theorem dX1_event_65 : decode cX1_event 65 = .ok (.if_icmp .ge 44, 3) := dk_162 0 44 (dk_at dksX1_event_2 18 rfl rfl)
theorem dX1_event_68 : decode cX1_event 68 = .ok (.new 207, 3) := dk_187 0 207 (dk_at dksX1_event_2 21 rfl rfl)
theorem dX1_event_71 : decode cX1_event 71 = .ok (.dup, 1) := dk_89 (dk_at dksX1_event_3 0 rfl rfl)
theorem dX1_event_72 : decode cX1_event 72 = .ok (.iload_n 1, 1) := dk_27 (dk_at dksX1_event_3 1 rfl rfl)
theorem dX1_event_73 : decode cX1_event 73 = .ok (.iload 5, 2) := dk_21 5 (dk_at dksX1_event_3 2 rfl rfl)
theorem dX1_event_75 : decode cX1_event 75 = .ok (.invokespecial 264, 3) := dk_183 1 8 (dk_at dksX1_event_3 4 rfl rfl)
theorem dX1_event_78 : decode cX1_event 78 = .ok (.astore 6, 2) := dk_58 6 (dk_at dksX1_event_3 7 rfl rfl)
theorem dX1_event_80 : decode cX1_event 80 = .ok (.aload_n 0, 1) := dk_42 (dk_at dksX1_event_3 9 rfl rfl)
theorem dX1_event_81 : decode cX1_event 81 = .ok (.getfield 37, 3) := dk_180 0 37 (dk_at dksX1_event_3 10 rfl rfl)
theorem dX1_event_84 : decode cX1_event 84 = .ok (.aload 6, 2) := dk_25 6 (dk_at dksX1_event_3 13 rfl rfl)
theorem dX1_event_86 : decode cX1_event 86 = .ok (.invokeinterface 211 2, 5) := by decide +kernel
theorem dX1_event_91 : decode cX1_event 91 = .ok (.ifCond .eq 12, 3) := dk_153 0 12 (dk_at dksX1_event_3 20 rfl rfl)
theorem dX1_event_94 : decode cX1_event 94 = .ok (.aload_n 0, 1) := dk_42 (dk_at dksX1_event_3 23 rfl rfl)
theorem dX1_event_95 : decode cX1_event 95 = .ok (.aload 6, 2) := dk_25 6 (dk_at dksX1_event_4 0 rfl rfl)
theorem dX1_event_97 : decode cX1_event 97 = .ok (.invokevirtual 267, 3) := dk_182 1 11 (dk_at dksX1_event_4 2 rfl rfl)
theorem dX1_event_100 : decode cX1_event 100 = .ok (.iinc 4 1, 3) := dk_132 4 1 (dk_at dksX1_event_4 5 rfl rfl)
theorem dX1_event_103 : decode cX1_event 103 = .ok (.iinc 5 1, 3) := dk_132 5 1 (dk_at dksX1_event_4 8 rfl rfl)
theorem dX1_event_106 : decode cX1_event 106 = .ok (.goto (-46), 3) := dk_167 255 210 (dk_at dksX1_event_4 11 rfl rfl)
theorem dX1_event_109 : decode cX1_event 109 = .ok (.iload 4, 2) := dk_21 4 (dk_at dksX1_event_4 14 rfl rfl)
theorem dX1_event_111 : decode cX1_event 111 = .ok (.ireturn, 1) := dk_172 (dk_at dksX1_event_4 16 rfl rfl)
abbrev cX1_displaces : ByteArray := prog_6_method_17_code
def yX1_displaces : MethodName := ⟨RX1, "displaces", "(LDomeNights$Time;)V"⟩
def dkwX1_displaces_3 : List UInt8 := [192, 0, 80, 7, 181, 1, 7, 42, 28, 5, 3, 182, 0, 234, 177]
abbrev dktX1_displaces_3 : List UInt8 := dkwX1_displaces_3 ++ []
def dkwX1_displaces_2 : List UInt8 := [182, 1, 2, 192, 0, 207, 182, 1, 4, 167, 0, 27, 42, 180, 0, 25, 28, 185, 0, 115, 2, 0]
abbrev dktX1_displaces_2 : List UInt8 := dkwX1_displaces_2 ++ dktX1_displaces_3
def dkwX1_displaces_1 : List UInt8 := [180, 0, 206, 42, 180, 0, 9, 3, 46, 96, 182, 0, 251, 78, 45, 182, 0, 255, 153, 0, 18, 42, 28, 45]
abbrev dktX1_displaces_1 : List UInt8 := dkwX1_displaces_1 ++ dktX1_displaces_2
def dkwX1_displaces_0 : List UInt8 := [42, 180, 0, 37, 43, 185, 0, 244, 2, 0, 192, 0, 225, 182, 0, 248, 61, 42, 43, 182, 0, 218, 43]
abbrev dktX1_displaces_0 : List UInt8 := dkwX1_displaces_0 ++ dktX1_displaces_1
theorem dksX1_displaces_0 : cX1_displaces.data.toList.drop 0 = dktX1_displaces_0 := by decide +kernel
theorem dksX1_displaces_1 : cX1_displaces.data.toList.drop 23 = dktX1_displaces_1 := dk_seg dksX1_displaces_0 23 rfl rfl
theorem dksX1_displaces_2 : cX1_displaces.data.toList.drop 47 = dktX1_displaces_2 := dk_seg dksX1_displaces_1 24 rfl rfl
theorem dksX1_displaces_3 : cX1_displaces.data.toList.drop 69 = dktX1_displaces_3 := dk_seg dksX1_displaces_2 22 rfl rfl
theorem dX1_displaces_0 : decode cX1_displaces 0 = .ok (.aload_n 0, 1) := dk_42 (dk_at dksX1_displaces_0 0 rfl rfl)
theorem dX1_displaces_1 : decode cX1_displaces 1 = .ok (.getfield 37, 3) := dk_180 0 37 (dk_at dksX1_displaces_0 1 rfl rfl)
theorem dX1_displaces_4 : decode cX1_displaces 4 = .ok (.aload_n 1, 1) := dk_43 (dk_at dksX1_displaces_0 4 rfl rfl)
theorem dX1_displaces_5 : decode cX1_displaces 5 = .ok (.invokeinterface 244 2, 5) := by decide +kernel
theorem dX1_displaces_10 : decode cX1_displaces 10 = .ok (.checkcast 225, 3) := dk_192 0 225 (dk_at dksX1_displaces_0 10 rfl rfl)
theorem dX1_displaces_13 : decode cX1_displaces 13 = .ok (.invokevirtual 248, 3) := dk_182 0 248 (dk_at dksX1_displaces_0 13 rfl rfl)
theorem dX1_displaces_16 : decode cX1_displaces 16 = .ok (.istore_n 2, 1) := dk_61 (dk_at dksX1_displaces_0 16 rfl rfl)
theorem dX1_displaces_17 : decode cX1_displaces 17 = .ok (.aload_n 0, 1) := dk_42 (dk_at dksX1_displaces_0 17 rfl rfl)
theorem dX1_displaces_18 : decode cX1_displaces 18 = .ok (.aload_n 1, 1) := dk_43 (dk_at dksX1_displaces_0 18 rfl rfl)
theorem dX1_displaces_19 : decode cX1_displaces 19 = .ok (.invokevirtual 218, 3) := dk_182 0 218 (dk_at dksX1_displaces_0 19 rfl rfl)
theorem dX1_displaces_22 : decode cX1_displaces 22 = .ok (.aload_n 1, 1) := dk_43 (dk_at dksX1_displaces_0 22 rfl rfl)
theorem dX1_displaces_23 : decode cX1_displaces 23 = .ok (.getfield 206, 3) := dk_180 0 206 (dk_at dksX1_displaces_1 0 rfl rfl)
theorem dX1_displaces_26 : decode cX1_displaces 26 = .ok (.aload_n 0, 1) := dk_42 (dk_at dksX1_displaces_1 3 rfl rfl)
theorem dX1_displaces_27 : decode cX1_displaces 27 = .ok (.getfield 9, 3) := dk_180 0 9 (dk_at dksX1_displaces_1 4 rfl rfl)
theorem dX1_displaces_30 : decode cX1_displaces 30 = .ok (.iconst 0, 1) := dk_3 (dk_at dksX1_displaces_1 7 rfl rfl)
theorem dX1_displaces_31 : decode cX1_displaces 31 = .ok (.iaload, 1) := dk_46 (dk_at dksX1_displaces_1 8 rfl rfl)
theorem dX1_displaces_32 : decode cX1_displaces 32 = .ok (.iadd, 1) := dk_96 (dk_at dksX1_displaces_1 9 rfl rfl)
theorem dX1_displaces_33 : decode cX1_displaces 33 = .ok (.invokevirtual 251, 3) := dk_182 0 251 (dk_at dksX1_displaces_1 10 rfl rfl)
theorem dX1_displaces_36 : decode cX1_displaces 36 = .ok (.astore_n 3, 1) := dk_78 (dk_at dksX1_displaces_1 13 rfl rfl)
theorem dX1_displaces_37 : decode cX1_displaces 37 = .ok (.aload_n 3, 1) := dk_45 (dk_at dksX1_displaces_1 14 rfl rfl)
theorem dX1_displaces_38 : decode cX1_displaces 38 = .ok (.invokevirtual 255, 3) := dk_182 0 255 (dk_at dksX1_displaces_1 15 rfl rfl)
theorem dX1_displaces_41 : decode cX1_displaces 41 = .ok (.ifCond .eq 18, 3) := dk_153 0 18 (dk_at dksX1_displaces_1 18 rfl rfl)
theorem dX1_displaces_44 : decode cX1_displaces 44 = .ok (.aload_n 0, 1) := dk_42 (dk_at dksX1_displaces_1 21 rfl rfl)
theorem dX1_displaces_45 : decode cX1_displaces 45 = .ok (.iload_n 2, 1) := dk_28 (dk_at dksX1_displaces_1 22 rfl rfl)
theorem dX1_displaces_46 : decode cX1_displaces 46 = .ok (.aload_n 3, 1) := dk_45 (dk_at dksX1_displaces_1 23 rfl rfl)
theorem dX1_displaces_47 : decode cX1_displaces 47 = .ok (.invokevirtual 258, 3) := dk_182 1 2 (dk_at dksX1_displaces_2 0 rfl rfl)
theorem dX1_displaces_50 : decode cX1_displaces 50 = .ok (.checkcast 207, 3) := dk_192 0 207 (dk_at dksX1_displaces_2 3 rfl rfl)
theorem dX1_displaces_53 : decode cX1_displaces 53 = .ok (.invokevirtual 260, 3) := dk_182 1 4 (dk_at dksX1_displaces_2 6 rfl rfl)
theorem dX1_displaces_56 : decode cX1_displaces 56 = .ok (.goto 27, 3) := dk_167 0 27 (dk_at dksX1_displaces_2 9 rfl rfl)
theorem dX1_displaces_59 : decode cX1_displaces 59 = .ok (.aload_n 0, 1) := dk_42 (dk_at dksX1_displaces_2 12 rfl rfl)
theorem dX1_displaces_60 : decode cX1_displaces 60 = .ok (.getfield 25, 3) := dk_180 0 25 (dk_at dksX1_displaces_2 13 rfl rfl)
theorem dX1_displaces_63 : decode cX1_displaces 63 = .ok (.iload_n 2, 1) := dk_28 (dk_at dksX1_displaces_2 16 rfl rfl)
theorem dX1_displaces_64 : decode cX1_displaces 64 = .ok (.invokeinterface 115 2, 5) := by decide +kernel
theorem dX1_displaces_69 : decode cX1_displaces 69 = .ok (.checkcast 80, 3) := dk_192 0 80 (dk_at dksX1_displaces_3 0 rfl rfl)
theorem dX1_displaces_72 : decode cX1_displaces 72 = .ok (.iconst 4, 1) := dk_7 (dk_at dksX1_displaces_3 3 rfl rfl)
theorem dX1_displaces_73 : decode cX1_displaces 73 = .ok (.putfield 263, 3) := dk_181 1 7 (dk_at dksX1_displaces_3 4 rfl rfl)
theorem dX1_displaces_76 : decode cX1_displaces 76 = .ok (.aload_n 0, 1) := dk_42 (dk_at dksX1_displaces_3 7 rfl rfl)
theorem dX1_displaces_77 : decode cX1_displaces 77 = .ok (.iload_n 2, 1) := dk_28 (dk_at dksX1_displaces_3 8 rfl rfl)
theorem dX1_displaces_78 : decode cX1_displaces 78 = .ok (.iconst 2, 1) := dk_5 (dk_at dksX1_displaces_3 9 rfl rfl)
theorem dX1_displaces_79 : decode cX1_displaces 79 = .ok (.iconst 0, 1) := dk_3 (dk_at dksX1_displaces_3 10 rfl rfl)
theorem dX1_displaces_80 : decode cX1_displaces 80 = .ok (.invokevirtual 234, 3) := dk_182 0 234 (dk_at dksX1_displaces_3 11 rfl rfl)
theorem dX1_displaces_83 : decode cX1_displaces 83 = .ok (.return_, 1) := dk_177 (dk_at dksX1_displaces_3 14 rfl rfl)
abbrev cX1_freeFrom : ByteArray := prog_6_method_14_code
def yX1_freeFrom : MethodName := ⟨RX1, "freeFrom", "(LDomeNights$Time;I)Ljava/util/Optional;"⟩
def dkwX1_freeFrom_1 : List UInt8 := [167, 255, 235, 45, 180, 0, 206, 28, 163, 0, 10, 45, 184, 0, 148, 167, 0, 6, 184, 0, 138, 176]
abbrev dktX1_freeFrom_1 : List UInt8 := dkwX1_freeFrom_1 ++ []
def dkwX1_freeFrom_0 : List UInt8 := [43, 78, 45, 180, 0, 206, 28, 163, 0, 19, 42, 45, 182, 0, 214, 154, 0, 11, 45, 182, 0, 218, 78]
abbrev dktX1_freeFrom_0 : List UInt8 := dkwX1_freeFrom_0 ++ dktX1_freeFrom_1
theorem dksX1_freeFrom_0 : cX1_freeFrom.data.toList.drop 0 = dktX1_freeFrom_0 := by decide +kernel
theorem dksX1_freeFrom_1 : cX1_freeFrom.data.toList.drop 23 = dktX1_freeFrom_1 := dk_seg dksX1_freeFrom_0 23 rfl rfl
theorem dX1_freeFrom_0 : decode cX1_freeFrom 0 = .ok (.aload_n 1, 1) := dk_43 (dk_at dksX1_freeFrom_0 0 rfl rfl)
theorem dX1_freeFrom_1 : decode cX1_freeFrom 1 = .ok (.astore_n 3, 1) := dk_78 (dk_at dksX1_freeFrom_0 1 rfl rfl)
theorem dX1_freeFrom_2 : decode cX1_freeFrom 2 = .ok (.aload_n 3, 1) := dk_45 (dk_at dksX1_freeFrom_0 2 rfl rfl)
theorem dX1_freeFrom_3 : decode cX1_freeFrom 3 = .ok (.getfield 206, 3) := dk_180 0 206 (dk_at dksX1_freeFrom_0 3 rfl rfl)
theorem dX1_freeFrom_6 : decode cX1_freeFrom 6 = .ok (.iload_n 2, 1) := dk_28 (dk_at dksX1_freeFrom_0 6 rfl rfl)
theorem dX1_freeFrom_7 : decode cX1_freeFrom 7 = .ok (.if_icmp .gt 19, 3) := dk_163 0 19 (dk_at dksX1_freeFrom_0 7 rfl rfl)
theorem dX1_freeFrom_10 : decode cX1_freeFrom 10 = .ok (.aload_n 0, 1) := dk_42 (dk_at dksX1_freeFrom_0 10 rfl rfl)
theorem dX1_freeFrom_11 : decode cX1_freeFrom 11 = .ok (.aload_n 3, 1) := dk_45 (dk_at dksX1_freeFrom_0 11 rfl rfl)
theorem dX1_freeFrom_12 : decode cX1_freeFrom 12 = .ok (.invokevirtual 214, 3) := dk_182 0 214 (dk_at dksX1_freeFrom_0 12 rfl rfl)
theorem dX1_freeFrom_15 : decode cX1_freeFrom 15 = .ok (.ifCond .ne 11, 3) := dk_154 0 11 (dk_at dksX1_freeFrom_0 15 rfl rfl)
theorem dX1_freeFrom_18 : decode cX1_freeFrom 18 = .ok (.aload_n 3, 1) := dk_45 (dk_at dksX1_freeFrom_0 18 rfl rfl)
theorem dX1_freeFrom_19 : decode cX1_freeFrom 19 = .ok (.invokevirtual 218, 3) := dk_182 0 218 (dk_at dksX1_freeFrom_0 19 rfl rfl)
theorem dX1_freeFrom_22 : decode cX1_freeFrom 22 = .ok (.astore_n 3, 1) := dk_78 (dk_at dksX1_freeFrom_0 22 rfl rfl)
theorem dX1_freeFrom_23 : decode cX1_freeFrom 23 = .ok (.goto (-21), 3) := dk_167 255 235 (dk_at dksX1_freeFrom_1 0 rfl rfl)
theorem dX1_freeFrom_26 : decode cX1_freeFrom 26 = .ok (.aload_n 3, 1) := dk_45 (dk_at dksX1_freeFrom_1 3 rfl rfl)
theorem dX1_freeFrom_27 : decode cX1_freeFrom 27 = .ok (.getfield 206, 3) := dk_180 0 206 (dk_at dksX1_freeFrom_1 4 rfl rfl)
theorem dX1_freeFrom_30 : decode cX1_freeFrom 30 = .ok (.iload_n 2, 1) := dk_28 (dk_at dksX1_freeFrom_1 7 rfl rfl)
theorem dX1_freeFrom_31 : decode cX1_freeFrom 31 = .ok (.if_icmp .gt 10, 3) := dk_163 0 10 (dk_at dksX1_freeFrom_1 8 rfl rfl)
theorem dX1_freeFrom_34 : decode cX1_freeFrom 34 = .ok (.aload_n 3, 1) := dk_45 (dk_at dksX1_freeFrom_1 11 rfl rfl)
theorem dX1_freeFrom_35 : decode cX1_freeFrom 35 = .ok (.invokestatic 148, 3) := dk_184 0 148 (dk_at dksX1_freeFrom_1 12 rfl rfl)
theorem dX1_freeFrom_38 : decode cX1_freeFrom 38 = .ok (.goto 6, 3) := dk_167 0 6 (dk_at dksX1_freeFrom_1 15 rfl rfl)
theorem dX1_freeFrom_41 : decode cX1_freeFrom 41 = .ok (.invokestatic 138, 3) := dk_184 0 138 (dk_at dksX1_freeFrom_1 18 rfl rfl)
theorem dX1_freeFrom_44 : decode cX1_freeFrom 44 = .ok (.areturn, 1) := dk_176 (dk_at dksX1_freeFrom_1 21 rfl rfl)
abbrev cX1_moves : ByteArray := prog_6_method_16_code
def yX1_moves : MethodName := ⟨RX1, "moves", "(ILDomeNights$Time;)V"⟩
def dkwX1_moves_8 : List UInt8 := [185, 0, 230, 3, 0, 87, 177]
abbrev dktX1_moves_8 : List UInt8 := dkwX1_moves_8 ++ []
def dkwX1_moves_7 : List UInt8 := [45, 44, 181, 0, 202, 45, 89, 180, 0, 241, 4, 96, 181, 0, 241, 42, 180, 0, 37, 44, 27, 184, 0, 224]
abbrev dktX1_moves_7 : List UInt8 := dkwX1_moves_7 ++ dktX1_moves_8
def dkwX1_moves_6 : List UInt8 := [92, 46, 21, 8, 153, 0, 11, 25, 5, 180, 0, 162, 167, 0, 4, 3, 96, 79, 167, 255, 180, 167, 255, 127]
abbrev dktX1_moves_6 : List UInt8 := dkwX1_moves_6 ++ dktX1_moves_7
def dkwX1_moves_5 : List UInt8 := [180, 0, 206, 25, 7, 180, 0, 238, 164, 0, 7, 4, 167, 0, 4, 3, 54, 8, 25, 7, 180, 0, 152, 5]
abbrev dktX1_moves_5 : List UInt8 := dkwX1_moves_5 ++ dktX1_moves_6
def dkwX1_moves_4 : List UInt8 := [25, 6, 185, 0, 62, 1, 0, 192, 0, 90, 58, 7, 25, 7, 25, 5, 45, 182, 0, 158, 153, 0, 19, 44]
abbrev dktX1_moves_4 : List UInt8 := dkwX1_moves_4 ++ dktX1_moves_5
def dkwX1_moves_3 : List UInt8 := [154, 0, 93, 42, 180, 0, 31, 185, 0, 50, 1, 0, 58, 6, 25, 6, 185, 0, 56, 1, 0, 153, 0, 72]
abbrev dktX1_moves_3 : List UInt8 := dkwX1_moves_3 ++ dktX1_moves_4
def dkwX1_moves_2 : List UInt8 := [185, 0, 62, 1, 0, 192, 0, 85, 58, 5, 25, 5, 180, 0, 155, 27, 160, 0, 101, 25, 5, 180, 0, 176]
abbrev dktX1_moves_2 : List UInt8 := dkwX1_moves_2 ++ dktX1_moves_3
def dkwX1_moves_1 : List UInt8 := [180, 0, 28, 185, 0, 50, 1, 0, 58, 4, 25, 4, 185, 0, 56, 1, 0, 153, 0, 125, 25, 4]
abbrev dktX1_moves_1 : List UInt8 := dkwX1_moves_1 ++ dktX1_moves_2
def dkwX1_moves_0 : List UInt8 := [42, 180, 0, 25, 27, 185, 0, 115, 2, 0, 192, 0, 80, 78, 42, 27, 5, 4, 182, 0, 234, 42]
abbrev dktX1_moves_0 : List UInt8 := dkwX1_moves_0 ++ dktX1_moves_1
theorem dksX1_moves_0 : cX1_moves.data.toList.drop 0 = dktX1_moves_0 := by decide +kernel
theorem dksX1_moves_1 : cX1_moves.data.toList.drop 22 = dktX1_moves_1 := dk_seg dksX1_moves_0 22 rfl rfl
theorem dksX1_moves_2 : cX1_moves.data.toList.drop 44 = dktX1_moves_2 := dk_seg dksX1_moves_1 22 rfl rfl
theorem dksX1_moves_3 : cX1_moves.data.toList.drop 68 = dktX1_moves_3 := dk_seg dksX1_moves_2 24 rfl rfl
theorem dksX1_moves_4 : cX1_moves.data.toList.drop 92 = dktX1_moves_4 := dk_seg dksX1_moves_3 24 rfl rfl
theorem dksX1_moves_5 : cX1_moves.data.toList.drop 116 = dktX1_moves_5 := dk_seg dksX1_moves_4 24 rfl rfl
theorem dksX1_moves_6 : cX1_moves.data.toList.drop 140 = dktX1_moves_6 := dk_seg dksX1_moves_5 24 rfl rfl
theorem dksX1_moves_7 : cX1_moves.data.toList.drop 164 = dktX1_moves_7 := dk_seg dksX1_moves_6 24 rfl rfl
theorem dksX1_moves_8 : cX1_moves.data.toList.drop 188 = dktX1_moves_8 := dk_seg dksX1_moves_7 24 rfl rfl
theorem dX1_moves_0 : decode cX1_moves 0 = .ok (.aload_n 0, 1) := dk_42 (dk_at dksX1_moves_0 0 rfl rfl)
theorem dX1_moves_1 : decode cX1_moves 1 = .ok (.getfield 25, 3) := dk_180 0 25 (dk_at dksX1_moves_0 1 rfl rfl)
theorem dX1_moves_4 : decode cX1_moves 4 = .ok (.iload_n 1, 1) := dk_27 (dk_at dksX1_moves_0 4 rfl rfl)
theorem dX1_moves_5 : decode cX1_moves 5 = .ok (.invokeinterface 115 2, 5) := by decide +kernel
theorem dX1_moves_10 : decode cX1_moves 10 = .ok (.checkcast 80, 3) := dk_192 0 80 (dk_at dksX1_moves_0 10 rfl rfl)
theorem dX1_moves_13 : decode cX1_moves 13 = .ok (.astore_n 3, 1) := dk_78 (dk_at dksX1_moves_0 13 rfl rfl)
theorem dX1_moves_14 : decode cX1_moves 14 = .ok (.aload_n 0, 1) := dk_42 (dk_at dksX1_moves_0 14 rfl rfl)
theorem dX1_moves_15 : decode cX1_moves 15 = .ok (.iload_n 1, 1) := dk_27 (dk_at dksX1_moves_0 15 rfl rfl)
theorem dX1_moves_16 : decode cX1_moves 16 = .ok (.iconst 2, 1) := dk_5 (dk_at dksX1_moves_0 16 rfl rfl)
theorem dX1_moves_17 : decode cX1_moves 17 = .ok (.iconst 1, 1) := dk_4 (dk_at dksX1_moves_0 17 rfl rfl)
theorem dX1_moves_18 : decode cX1_moves 18 = .ok (.invokevirtual 234, 3) := dk_182 0 234 (dk_at dksX1_moves_0 18 rfl rfl)
theorem dX1_moves_21 : decode cX1_moves 21 = .ok (.aload_n 0, 1) := dk_42 (dk_at dksX1_moves_0 21 rfl rfl)
theorem dX1_moves_22 : decode cX1_moves 22 = .ok (.getfield 28, 3) := dk_180 0 28 (dk_at dksX1_moves_1 0 rfl rfl)
theorem dX1_moves_25 : decode cX1_moves 25 = .ok (.invokeinterface 50 1, 5) := by decide +kernel
theorem dX1_moves_30 : decode cX1_moves 30 = .ok (.astore 4, 2) := dk_58 4 (dk_at dksX1_moves_1 8 rfl rfl)
theorem dX1_moves_32 : decode cX1_moves 32 = .ok (.aload 4, 2) := dk_25 4 (dk_at dksX1_moves_1 10 rfl rfl)
theorem dX1_moves_34 : decode cX1_moves 34 = .ok (.invokeinterface 56 1, 5) := by decide +kernel
theorem dX1_moves_39 : decode cX1_moves 39 = .ok (.ifCond .eq 125, 3) := dk_153 0 125 (dk_at dksX1_moves_1 17 rfl rfl)
theorem dX1_moves_42 : decode cX1_moves 42 = .ok (.aload 4, 2) := dk_25 4 (dk_at dksX1_moves_1 20 rfl rfl)
theorem dX1_moves_44 : decode cX1_moves 44 = .ok (.invokeinterface 62 1, 5) := by decide +kernel
theorem dX1_moves_49 : decode cX1_moves 49 = .ok (.checkcast 85, 3) := dk_192 0 85 (dk_at dksX1_moves_2 5 rfl rfl)
theorem dX1_moves_52 : decode cX1_moves 52 = .ok (.astore 5, 2) := dk_58 5 (dk_at dksX1_moves_2 8 rfl rfl)
theorem dX1_moves_54 : decode cX1_moves 54 = .ok (.aload 5, 2) := dk_25 5 (dk_at dksX1_moves_2 10 rfl rfl)
theorem dX1_moves_56 : decode cX1_moves 56 = .ok (.getfield 155, 3) := dk_180 0 155 (dk_at dksX1_moves_2 12 rfl rfl)
theorem dX1_moves_59 : decode cX1_moves 59 = .ok (.iload_n 1, 1) := dk_27 (dk_at dksX1_moves_2 15 rfl rfl)
theorem dX1_moves_60 : decode cX1_moves 60 = .ok (.if_icmp .ne 101, 3) := dk_160 0 101 (dk_at dksX1_moves_2 16 rfl rfl)
theorem dX1_moves_63 : decode cX1_moves 63 = .ok (.aload 5, 2) := dk_25 5 (dk_at dksX1_moves_2 19 rfl rfl)
theorem dX1_moves_65 : decode cX1_moves 65 = .ok (.getfield 176, 3) := dk_180 0 176 (dk_at dksX1_moves_2 21 rfl rfl)
theorem dX1_moves_68 : decode cX1_moves 68 = .ok (.ifCond .ne 93, 3) := dk_154 0 93 (dk_at dksX1_moves_3 0 rfl rfl)
theorem dX1_moves_71 : decode cX1_moves 71 = .ok (.aload_n 0, 1) := dk_42 (dk_at dksX1_moves_3 3 rfl rfl)
theorem dX1_moves_72 : decode cX1_moves 72 = .ok (.getfield 31, 3) := dk_180 0 31 (dk_at dksX1_moves_3 4 rfl rfl)
theorem dX1_moves_75 : decode cX1_moves 75 = .ok (.invokeinterface 50 1, 5) := by decide +kernel
theorem dX1_moves_80 : decode cX1_moves 80 = .ok (.astore 6, 2) := dk_58 6 (dk_at dksX1_moves_3 12 rfl rfl)
theorem dX1_moves_82 : decode cX1_moves 82 = .ok (.aload 6, 2) := dk_25 6 (dk_at dksX1_moves_3 14 rfl rfl)
theorem dX1_moves_84 : decode cX1_moves 84 = .ok (.invokeinterface 56 1, 5) := by decide +kernel
theorem dX1_moves_89 : decode cX1_moves 89 = .ok (.ifCond .eq 72, 3) := dk_153 0 72 (dk_at dksX1_moves_3 21 rfl rfl)
theorem dX1_moves_92 : decode cX1_moves 92 = .ok (.aload 6, 2) := dk_25 6 (dk_at dksX1_moves_4 0 rfl rfl)
theorem dX1_moves_94 : decode cX1_moves 94 = .ok (.invokeinterface 62 1, 5) := by decide +kernel
theorem dX1_moves_99 : decode cX1_moves 99 = .ok (.checkcast 90, 3) := dk_192 0 90 (dk_at dksX1_moves_4 7 rfl rfl)
theorem dX1_moves_102 : decode cX1_moves 102 = .ok (.astore 7, 2) := dk_58 7 (dk_at dksX1_moves_4 10 rfl rfl)
theorem dX1_moves_104 : decode cX1_moves 104 = .ok (.aload 7, 2) := dk_25 7 (dk_at dksX1_moves_4 12 rfl rfl)
theorem dX1_moves_106 : decode cX1_moves 106 = .ok (.aload 5, 2) := dk_25 5 (dk_at dksX1_moves_4 14 rfl rfl)
theorem dX1_moves_108 : decode cX1_moves 108 = .ok (.aload_n 3, 1) := dk_45 (dk_at dksX1_moves_4 16 rfl rfl)
theorem dX1_moves_109 : decode cX1_moves 109 = .ok (.invokevirtual 158, 3) := dk_182 0 158 (dk_at dksX1_moves_4 17 rfl rfl)
theorem dX1_moves_112 : decode cX1_moves 112 = .ok (.ifCond .eq 19, 3) := dk_153 0 19 (dk_at dksX1_moves_4 20 rfl rfl)
theorem dX1_moves_115 : decode cX1_moves 115 = .ok (.aload_n 2, 1) := dk_44 (dk_at dksX1_moves_4 23 rfl rfl)
theorem dX1_moves_116 : decode cX1_moves 116 = .ok (.getfield 206, 3) := dk_180 0 206 (dk_at dksX1_moves_5 0 rfl rfl)
theorem dX1_moves_119 : decode cX1_moves 119 = .ok (.aload 7, 2) := dk_25 7 (dk_at dksX1_moves_5 3 rfl rfl)
theorem dX1_moves_121 : decode cX1_moves 121 = .ok (.getfield 238, 3) := dk_180 0 238 (dk_at dksX1_moves_5 5 rfl rfl)
theorem dX1_moves_124 : decode cX1_moves 124 = .ok (.if_icmp .le 7, 3) := dk_164 0 7 (dk_at dksX1_moves_5 8 rfl rfl)
theorem dX1_moves_127 : decode cX1_moves 127 = .ok (.iconst 1, 1) := dk_4 (dk_at dksX1_moves_5 11 rfl rfl)
theorem dX1_moves_128 : decode cX1_moves 128 = .ok (.goto 4, 3) := dk_167 0 4 (dk_at dksX1_moves_5 12 rfl rfl)
theorem dX1_moves_131 : decode cX1_moves 131 = .ok (.iconst 0, 1) := dk_3 (dk_at dksX1_moves_5 15 rfl rfl)
theorem dX1_moves_132 : decode cX1_moves 132 = .ok (.istore 8, 2) := dk_54 8 (dk_at dksX1_moves_5 16 rfl rfl)
theorem dX1_moves_134 : decode cX1_moves 134 = .ok (.aload 7, 2) := dk_25 7 (dk_at dksX1_moves_5 18 rfl rfl)
theorem dX1_moves_136 : decode cX1_moves 136 = .ok (.getfield 152, 3) := dk_180 0 152 (dk_at dksX1_moves_5 20 rfl rfl)
theorem dX1_moves_139 : decode cX1_moves 139 = .ok (.iconst 2, 1) := dk_5 (dk_at dksX1_moves_5 23 rfl rfl)
theorem dX1_moves_140 : decode cX1_moves 140 = .ok (.dup2, 1) := dk_92 (dk_at dksX1_moves_6 0 rfl rfl)
theorem dX1_moves_141 : decode cX1_moves 141 = .ok (.iaload, 1) := dk_46 (dk_at dksX1_moves_6 1 rfl rfl)
theorem dX1_moves_142 : decode cX1_moves 142 = .ok (.iload 8, 2) := dk_21 8 (dk_at dksX1_moves_6 2 rfl rfl)
theorem dX1_moves_144 : decode cX1_moves 144 = .ok (.ifCond .eq 11, 3) := dk_153 0 11 (dk_at dksX1_moves_6 4 rfl rfl)
theorem dX1_moves_147 : decode cX1_moves 147 = .ok (.aload 5, 2) := dk_25 5 (dk_at dksX1_moves_6 7 rfl rfl)
theorem dX1_moves_149 : decode cX1_moves 149 = .ok (.getfield 162, 3) := dk_180 0 162 (dk_at dksX1_moves_6 9 rfl rfl)
theorem dX1_moves_152 : decode cX1_moves 152 = .ok (.goto 4, 3) := dk_167 0 4 (dk_at dksX1_moves_6 12 rfl rfl)
theorem dX1_moves_155 : decode cX1_moves 155 = .ok (.iconst 0, 1) := dk_3 (dk_at dksX1_moves_6 15 rfl rfl)
theorem dX1_moves_156 : decode cX1_moves 156 = .ok (.iadd, 1) := dk_96 (dk_at dksX1_moves_6 16 rfl rfl)
theorem dX1_moves_157 : decode cX1_moves 157 = .ok (.iastore, 1) := dk_79 (dk_at dksX1_moves_6 17 rfl rfl)
theorem dX1_moves_158 : decode cX1_moves 158 = .ok (.goto (-76), 3) := dk_167 255 180 (dk_at dksX1_moves_6 18 rfl rfl)
theorem dX1_moves_161 : decode cX1_moves 161 = .ok (.goto (-129), 3) := dk_167 255 127 (dk_at dksX1_moves_6 21 rfl rfl)
theorem dX1_moves_164 : decode cX1_moves 164 = .ok (.aload_n 3, 1) := dk_45 (dk_at dksX1_moves_7 0 rfl rfl)
theorem dX1_moves_165 : decode cX1_moves 165 = .ok (.aload_n 2, 1) := dk_44 (dk_at dksX1_moves_7 1 rfl rfl)
theorem dX1_moves_166 : decode cX1_moves 166 = .ok (.putfield 202, 3) := dk_181 0 202 (dk_at dksX1_moves_7 2 rfl rfl)
theorem dX1_moves_169 : decode cX1_moves 169 = .ok (.aload_n 3, 1) := dk_45 (dk_at dksX1_moves_7 5 rfl rfl)
theorem dX1_moves_170 : decode cX1_moves 170 = .ok (.dup, 1) := dk_89 (dk_at dksX1_moves_7 6 rfl rfl)
theorem dX1_moves_171 : decode cX1_moves 171 = .ok (.getfield 241, 3) := dk_180 0 241 (dk_at dksX1_moves_7 7 rfl rfl)
theorem dX1_moves_174 : decode cX1_moves 174 = .ok (.iconst 1, 1) := dk_4 (dk_at dksX1_moves_7 10 rfl rfl)
theorem dX1_moves_175 : decode cX1_moves 175 = .ok (.iadd, 1) := dk_96 (dk_at dksX1_moves_7 11 rfl rfl)
theorem dX1_moves_176 : decode cX1_moves 176 = .ok (.putfield 241, 3) := dk_181 0 241 (dk_at dksX1_moves_7 12 rfl rfl)
theorem dX1_moves_179 : decode cX1_moves 179 = .ok (.aload_n 0, 1) := dk_42 (dk_at dksX1_moves_7 15 rfl rfl)
theorem dX1_moves_180 : decode cX1_moves 180 = .ok (.getfield 37, 3) := dk_180 0 37 (dk_at dksX1_moves_7 16 rfl rfl)
theorem dX1_moves_183 : decode cX1_moves 183 = .ok (.aload_n 2, 1) := dk_44 (dk_at dksX1_moves_7 19 rfl rfl)
theorem dX1_moves_184 : decode cX1_moves 184 = .ok (.iload_n 1, 1) := dk_27 (dk_at dksX1_moves_7 20 rfl rfl)
theorem dX1_moves_185 : decode cX1_moves 185 = .ok (.invokestatic 224, 3) := dk_184 0 224 (dk_at dksX1_moves_7 21 rfl rfl)
theorem dX1_moves_188 : decode cX1_moves 188 = .ok (.invokeinterface 230 3, 5) := by decide +kernel
theorem dX1_moves_193 : decode cX1_moves 193 = .ok (.pop, 1) := dk_87 (dk_at dksX1_moves_8 5 rfl rfl)
theorem dX1_moves_194 : decode cX1_moves 194 = .ok (.return_, 1) := dk_177 (dk_at dksX1_moves_8 6 rfl rfl)
abbrev cX1_losesAll : ByteArray := prog_6_method_10_code
def yX1_losesAll : MethodName := ⟨RX1, "losesAll", "(IIZ)V"⟩
def dkwX1_losesAll_3 : List UInt8 := [167, 255, 198, 177]
abbrev dktX1_losesAll_3 : List UInt8 := dkwX1_losesAll_3 ++ []
def dkwX1_losesAll_2 : List UInt8 := [154, 0, 22, 25, 5, 180, 0, 179, 154, 0, 7, 29, 154, 0, 10, 42, 25, 5, 28, 182, 0, 183]
abbrev dktX1_losesAll_2 : List UInt8 := dkwX1_losesAll_2 ++ dktX1_losesAll_3
def dkwX1_losesAll_1 : List UInt8 := [185, 0, 62, 1, 0, 192, 0, 85, 58, 5, 25, 5, 180, 0, 155, 27, 160, 0, 30, 25, 5, 180, 0, 176]
abbrev dktX1_losesAll_1 : List UInt8 := dkwX1_losesAll_1 ++ dktX1_losesAll_2
def dkwX1_losesAll_0 : List UInt8 := [42, 180, 0, 28, 185, 0, 50, 1, 0, 58, 4, 25, 4, 185, 0, 56, 1, 0, 153, 0, 54, 25, 4]
abbrev dktX1_losesAll_0 : List UInt8 := dkwX1_losesAll_0 ++ dktX1_losesAll_1
theorem dksX1_losesAll_0 : cX1_losesAll.data.toList.drop 0 = dktX1_losesAll_0 := by decide +kernel
theorem dksX1_losesAll_1 : cX1_losesAll.data.toList.drop 23 = dktX1_losesAll_1 := dk_seg dksX1_losesAll_0 23 rfl rfl
theorem dksX1_losesAll_2 : cX1_losesAll.data.toList.drop 47 = dktX1_losesAll_2 := dk_seg dksX1_losesAll_1 24 rfl rfl
theorem dksX1_losesAll_3 : cX1_losesAll.data.toList.drop 69 = dktX1_losesAll_3 := dk_seg dksX1_losesAll_2 22 rfl rfl
theorem dX1_losesAll_0 : decode cX1_losesAll 0 = .ok (.aload_n 0, 1) := dk_42 (dk_at dksX1_losesAll_0 0 rfl rfl)
theorem dX1_losesAll_1 : decode cX1_losesAll 1 = .ok (.getfield 28, 3) := dk_180 0 28 (dk_at dksX1_losesAll_0 1 rfl rfl)
theorem dX1_losesAll_4 : decode cX1_losesAll 4 = .ok (.invokeinterface 50 1, 5) := by decide +kernel
theorem dX1_losesAll_9 : decode cX1_losesAll 9 = .ok (.astore 4, 2) := dk_58 4 (dk_at dksX1_losesAll_0 9 rfl rfl)
theorem dX1_losesAll_11 : decode cX1_losesAll 11 = .ok (.aload 4, 2) := dk_25 4 (dk_at dksX1_losesAll_0 11 rfl rfl)
theorem dX1_losesAll_13 : decode cX1_losesAll 13 = .ok (.invokeinterface 56 1, 5) := by decide +kernel
theorem dX1_losesAll_18 : decode cX1_losesAll 18 = .ok (.ifCond .eq 54, 3) := dk_153 0 54 (dk_at dksX1_losesAll_0 18 rfl rfl)
theorem dX1_losesAll_21 : decode cX1_losesAll 21 = .ok (.aload 4, 2) := dk_25 4 (dk_at dksX1_losesAll_0 21 rfl rfl)
theorem dX1_losesAll_23 : decode cX1_losesAll 23 = .ok (.invokeinterface 62 1, 5) := by decide +kernel
theorem dX1_losesAll_28 : decode cX1_losesAll 28 = .ok (.checkcast 85, 3) := dk_192 0 85 (dk_at dksX1_losesAll_1 5 rfl rfl)
theorem dX1_losesAll_31 : decode cX1_losesAll 31 = .ok (.astore 5, 2) := dk_58 5 (dk_at dksX1_losesAll_1 8 rfl rfl)
theorem dX1_losesAll_33 : decode cX1_losesAll 33 = .ok (.aload 5, 2) := dk_25 5 (dk_at dksX1_losesAll_1 10 rfl rfl)
theorem dX1_losesAll_35 : decode cX1_losesAll 35 = .ok (.getfield 155, 3) := dk_180 0 155 (dk_at dksX1_losesAll_1 12 rfl rfl)
theorem dX1_losesAll_38 : decode cX1_losesAll 38 = .ok (.iload_n 1, 1) := dk_27 (dk_at dksX1_losesAll_1 15 rfl rfl)
theorem dX1_losesAll_39 : decode cX1_losesAll 39 = .ok (.if_icmp .ne 30, 3) := dk_160 0 30 (dk_at dksX1_losesAll_1 16 rfl rfl)
theorem dX1_losesAll_42 : decode cX1_losesAll 42 = .ok (.aload 5, 2) := dk_25 5 (dk_at dksX1_losesAll_1 19 rfl rfl)
theorem dX1_losesAll_44 : decode cX1_losesAll 44 = .ok (.getfield 176, 3) := dk_180 0 176 (dk_at dksX1_losesAll_1 21 rfl rfl)
theorem dX1_losesAll_47 : decode cX1_losesAll 47 = .ok (.ifCond .ne 22, 3) := dk_154 0 22 (dk_at dksX1_losesAll_2 0 rfl rfl)
theorem dX1_losesAll_50 : decode cX1_losesAll 50 = .ok (.aload 5, 2) := dk_25 5 (dk_at dksX1_losesAll_2 3 rfl rfl)
theorem dX1_losesAll_52 : decode cX1_losesAll 52 = .ok (.getfield 179, 3) := dk_180 0 179 (dk_at dksX1_losesAll_2 5 rfl rfl)
theorem dX1_losesAll_55 : decode cX1_losesAll 55 = .ok (.ifCond .ne 7, 3) := dk_154 0 7 (dk_at dksX1_losesAll_2 8 rfl rfl)
theorem dX1_losesAll_58 : decode cX1_losesAll 58 = .ok (.iload_n 3, 1) := dk_29 (dk_at dksX1_losesAll_2 11 rfl rfl)
theorem dX1_losesAll_59 : decode cX1_losesAll 59 = .ok (.ifCond .ne 10, 3) := dk_154 0 10 (dk_at dksX1_losesAll_2 12 rfl rfl)
theorem dX1_losesAll_62 : decode cX1_losesAll 62 = .ok (.aload_n 0, 1) := dk_42 (dk_at dksX1_losesAll_2 15 rfl rfl)
theorem dX1_losesAll_63 : decode cX1_losesAll 63 = .ok (.aload 5, 2) := dk_25 5 (dk_at dksX1_losesAll_2 16 rfl rfl)
theorem dX1_losesAll_65 : decode cX1_losesAll 65 = .ok (.iload_n 2, 1) := dk_28 (dk_at dksX1_losesAll_2 18 rfl rfl)
theorem dX1_losesAll_66 : decode cX1_losesAll 66 = .ok (.invokevirtual 183, 3) := dk_182 0 183 (dk_at dksX1_losesAll_2 19 rfl rfl)
theorem dX1_losesAll_69 : decode cX1_losesAll 69 = .ok (.goto (-58), 3) := dk_167 255 198 (dk_at dksX1_losesAll_3 0 rfl rfl)
theorem dX1_losesAll_72 : decode cX1_losesAll 72 = .ok (.return_, 1) := dk_177 (dk_at dksX1_losesAll_3 3 rfl rfl)
abbrev cX1_loses : ByteArray := prog_6_method_9_code
def yX1_loses : MethodName := ⟨RX1, "loses", "(LDomeNights$Booking;I)V"⟩
def dkwX1_loses_1 : List UInt8 := [43, 180, 0, 169, 182, 0, 172, 177]
abbrev dktX1_loses_1 : List UInt8 := dkwX1_loses_1 ++ []
def dkwX1_loses_0 : List UInt8 := [42, 43, 28, 182, 0, 165, 43, 42, 180, 0, 25, 43, 180, 0, 155, 185, 0, 115, 2, 0, 192, 0, 80, 7]
abbrev dktX1_loses_0 : List UInt8 := dkwX1_loses_0 ++ dktX1_loses_1
theorem dksX1_loses_0 : cX1_loses.data.toList.drop 0 = dktX1_loses_0 := by decide +kernel
theorem dksX1_loses_1 : cX1_loses.data.toList.drop 24 = dktX1_loses_1 := dk_seg dksX1_loses_0 24 rfl rfl
theorem dX1_loses_0 : decode cX1_loses 0 = .ok (.aload_n 0, 1) := dk_42 (dk_at dksX1_loses_0 0 rfl rfl)
theorem dX1_loses_1 : decode cX1_loses 1 = .ok (.aload_n 1, 1) := dk_43 (dk_at dksX1_loses_0 1 rfl rfl)
theorem dX1_loses_2 : decode cX1_loses 2 = .ok (.iload_n 2, 1) := dk_28 (dk_at dksX1_loses_0 2 rfl rfl)
theorem dX1_loses_3 : decode cX1_loses 3 = .ok (.invokevirtual 165, 3) := dk_182 0 165 (dk_at dksX1_loses_0 3 rfl rfl)
theorem dX1_loses_6 : decode cX1_loses 6 = .ok (.aload_n 1, 1) := dk_43 (dk_at dksX1_loses_0 6 rfl rfl)
theorem dX1_loses_7 : decode cX1_loses 7 = .ok (.aload_n 0, 1) := dk_42 (dk_at dksX1_loses_0 7 rfl rfl)
theorem dX1_loses_8 : decode cX1_loses 8 = .ok (.getfield 25, 3) := dk_180 0 25 (dk_at dksX1_loses_0 8 rfl rfl)
theorem dX1_loses_11 : decode cX1_loses 11 = .ok (.aload_n 1, 1) := dk_43 (dk_at dksX1_loses_0 11 rfl rfl)
theorem dX1_loses_12 : decode cX1_loses 12 = .ok (.getfield 155, 3) := dk_180 0 155 (dk_at dksX1_loses_0 12 rfl rfl)
theorem dX1_loses_15 : decode cX1_loses 15 = .ok (.invokeinterface 115 2, 5) := by decide +kernel
theorem dX1_loses_20 : decode cX1_loses 20 = .ok (.checkcast 80, 3) := dk_192 0 80 (dk_at dksX1_loses_0 20 rfl rfl)
theorem dX1_loses_23 : decode cX1_loses 23 = .ok (.iconst 4, 1) := dk_7 (dk_at dksX1_loses_0 23 rfl rfl)
theorem dX1_loses_24 : decode cX1_loses 24 = .ok (.aload_n 1, 1) := dk_43 (dk_at dksX1_loses_1 0 rfl rfl)
theorem dX1_loses_25 : decode cX1_loses 25 = .ok (.getfield 169, 3) := dk_180 0 169 (dk_at dksX1_loses_1 1 rfl rfl)
theorem dX1_loses_28 : decode cX1_loses 28 = .ok (.invokevirtual 172, 3) := dk_182 0 172 (dk_at dksX1_loses_1 4 rfl rfl)
theorem dX1_loses_31 : decode cX1_loses 31 = .ok (.return_, 1) := dk_177 (dk_at dksX1_loses_1 7 rfl rfl)
abbrev cX1_counts : ByteArray := prog_6_method_8_code
def yX1_counts : MethodName := ⟨RX1, "counts", "(LDomeNights$Booking;I)V"⟩
def dkwX1_counts_3 : List UInt8 := [180, 0, 162, 167, 0, 4, 3, 96, 79, 167, 255, 193, 177]
abbrev dktX1_counts_3 : List UInt8 := dkwX1_counts_3 ++ []
def dkwX1_counts_2 : List UInt8 := [180, 0, 25, 43, 180, 0, 155, 185, 0, 115, 2, 0, 192, 0, 80, 182, 0, 158, 153, 0, 10, 43]
abbrev dktX1_counts_2 : List UInt8 := dkwX1_counts_2 ++ dktX1_counts_3
def dkwX1_counts_1 : List UInt8 := [185, 0, 62, 1, 0, 192, 0, 90, 58, 4, 25, 4, 180, 0, 152, 28, 92, 46, 25, 4, 43, 42]
abbrev dktX1_counts_1 : List UInt8 := dkwX1_counts_1 ++ dktX1_counts_2
def dkwX1_counts_0 : List UInt8 := [42, 180, 0, 31, 185, 0, 50, 1, 0, 78, 45, 185, 0, 56, 1, 0, 153, 0, 60, 45]
abbrev dktX1_counts_0 : List UInt8 := dkwX1_counts_0 ++ dktX1_counts_1
theorem dksX1_counts_0 : cX1_counts.data.toList.drop 0 = dktX1_counts_0 := by decide +kernel
theorem dksX1_counts_1 : cX1_counts.data.toList.drop 20 = dktX1_counts_1 := dk_seg dksX1_counts_0 20 rfl rfl
theorem dksX1_counts_2 : cX1_counts.data.toList.drop 42 = dktX1_counts_2 := dk_seg dksX1_counts_1 22 rfl rfl
theorem dksX1_counts_3 : cX1_counts.data.toList.drop 64 = dktX1_counts_3 := dk_seg dksX1_counts_2 22 rfl rfl
theorem dX1_counts_0 : decode cX1_counts 0 = .ok (.aload_n 0, 1) := dk_42 (dk_at dksX1_counts_0 0 rfl rfl)
theorem dX1_counts_1 : decode cX1_counts 1 = .ok (.getfield 31, 3) := dk_180 0 31 (dk_at dksX1_counts_0 1 rfl rfl)
theorem dX1_counts_4 : decode cX1_counts 4 = .ok (.invokeinterface 50 1, 5) := by decide +kernel
theorem dX1_counts_9 : decode cX1_counts 9 = .ok (.astore_n 3, 1) := dk_78 (dk_at dksX1_counts_0 9 rfl rfl)
theorem dX1_counts_10 : decode cX1_counts 10 = .ok (.aload_n 3, 1) := dk_45 (dk_at dksX1_counts_0 10 rfl rfl)
theorem dX1_counts_11 : decode cX1_counts 11 = .ok (.invokeinterface 56 1, 5) := by decide +kernel
theorem dX1_counts_16 : decode cX1_counts 16 = .ok (.ifCond .eq 60, 3) := dk_153 0 60 (dk_at dksX1_counts_0 16 rfl rfl)
theorem dX1_counts_19 : decode cX1_counts 19 = .ok (.aload_n 3, 1) := dk_45 (dk_at dksX1_counts_0 19 rfl rfl)
theorem dX1_counts_20 : decode cX1_counts 20 = .ok (.invokeinterface 62 1, 5) := by decide +kernel
theorem dX1_counts_25 : decode cX1_counts 25 = .ok (.checkcast 90, 3) := dk_192 0 90 (dk_at dksX1_counts_1 5 rfl rfl)
theorem dX1_counts_28 : decode cX1_counts 28 = .ok (.astore 4, 2) := dk_58 4 (dk_at dksX1_counts_1 8 rfl rfl)
theorem dX1_counts_30 : decode cX1_counts 30 = .ok (.aload 4, 2) := dk_25 4 (dk_at dksX1_counts_1 10 rfl rfl)
theorem dX1_counts_32 : decode cX1_counts 32 = .ok (.getfield 152, 3) := dk_180 0 152 (dk_at dksX1_counts_1 12 rfl rfl)
theorem dX1_counts_35 : decode cX1_counts 35 = .ok (.iload_n 2, 1) := dk_28 (dk_at dksX1_counts_1 15 rfl rfl)
theorem dX1_counts_36 : decode cX1_counts 36 = .ok (.dup2, 1) := dk_92 (dk_at dksX1_counts_1 16 rfl rfl)
theorem dX1_counts_37 : decode cX1_counts 37 = .ok (.iaload, 1) := dk_46 (dk_at dksX1_counts_1 17 rfl rfl)
theorem dX1_counts_38 : decode cX1_counts 38 = .ok (.aload 4, 2) := dk_25 4 (dk_at dksX1_counts_1 18 rfl rfl)
theorem dX1_counts_40 : decode cX1_counts 40 = .ok (.aload_n 1, 1) := dk_43 (dk_at dksX1_counts_1 20 rfl rfl)
theorem dX1_counts_41 : decode cX1_counts 41 = .ok (.aload_n 0, 1) := dk_42 (dk_at dksX1_counts_1 21 rfl rfl)
theorem dX1_counts_42 : decode cX1_counts 42 = .ok (.getfield 25, 3) := dk_180 0 25 (dk_at dksX1_counts_2 0 rfl rfl)
theorem dX1_counts_45 : decode cX1_counts 45 = .ok (.aload_n 1, 1) := dk_43 (dk_at dksX1_counts_2 3 rfl rfl)
theorem dX1_counts_46 : decode cX1_counts 46 = .ok (.getfield 155, 3) := dk_180 0 155 (dk_at dksX1_counts_2 4 rfl rfl)
theorem dX1_counts_49 : decode cX1_counts 49 = .ok (.invokeinterface 115 2, 5) := by decide +kernel
theorem dX1_counts_54 : decode cX1_counts 54 = .ok (.checkcast 80, 3) := dk_192 0 80 (dk_at dksX1_counts_2 12 rfl rfl)
theorem dX1_counts_57 : decode cX1_counts 57 = .ok (.invokevirtual 158, 3) := dk_182 0 158 (dk_at dksX1_counts_2 15 rfl rfl)
theorem dX1_counts_60 : decode cX1_counts 60 = .ok (.ifCond .eq 10, 3) := dk_153 0 10 (dk_at dksX1_counts_2 18 rfl rfl)
theorem dX1_counts_63 : decode cX1_counts 63 = .ok (.aload_n 1, 1) := dk_43 (dk_at dksX1_counts_2 21 rfl rfl)
theorem dX1_counts_64 : decode cX1_counts 64 = .ok (.getfield 162, 3) := dk_180 0 162 (dk_at dksX1_counts_3 0 rfl rfl)
theorem dX1_counts_67 : decode cX1_counts 67 = .ok (.goto 4, 3) := dk_167 0 4 (dk_at dksX1_counts_3 3 rfl rfl)
theorem dX1_counts_70 : decode cX1_counts 70 = .ok (.iconst 0, 1) := dk_3 (dk_at dksX1_counts_3 6 rfl rfl)
theorem dX1_counts_71 : decode cX1_counts 71 = .ok (.iadd, 1) := dk_96 (dk_at dksX1_counts_3 7 rfl rfl)
theorem dX1_counts_72 : decode cX1_counts 72 = .ok (.iastore, 1) := dk_79 (dk_at dksX1_counts_3 8 rfl rfl)
theorem dX1_counts_73 : decode cX1_counts 73 = .ok (.goto (-63), 3) := dk_167 255 193 (dk_at dksX1_counts_3 9 rfl rfl)
theorem dX1_counts_76 : decode cX1_counts 76 = .ok (.return_, 1) := dk_177 (dk_at dksX1_counts_3 12 rfl rfl)
abbrev cX1_book : ByteArray := prog_6_method_11_code
def yX1_book : MethodName := ⟨RX1, "book", "(IIIZ)I"⟩
def dkwX1_book_4 : List UInt8 := [25, 8, 185, 0, 71, 2, 0, 87, 42, 180, 0, 28, 185, 0, 111, 1, 0, 4, 100, 172]
abbrev dktX1_book_4 : List UInt8 := dkwX1_book_4 ++ []
def dkwX1_book_3 : List UInt8 := [21, 7, 104, 183, 0, 192, 58, 8, 25, 5, 25, 8, 180, 0, 195, 28, 182, 0, 198, 42, 180, 0, 28]
abbrev dktX1_book_3 : List UInt8 := dkwX1_book_3 ++ dktX1_book_4
def dkwX1_book_2 : List UInt8 := [21, 6, 42, 180, 0, 9, 7, 46, 104, 16, 100, 108, 54, 7, 187, 0, 85, 89, 27, 28, 29, 21, 4, 28]
abbrev dktX1_book_2 : List UInt8 := dkwX1_book_2 ++ dktX1_book_3
def dkwX1_book_1 : List UInt8 := [185, 0, 115, 2, 0, 192, 0, 66, 180, 0, 189, 54, 6, 29, 16, 250, 160, 0, 8, 21, 6, 167, 0, 15]
abbrev dktX1_book_1 : List UInt8 := dkwX1_book_1 ++ dktX1_book_2
def dkwX1_book_0 : List UInt8 := [42, 180, 0, 25, 27, 185, 0, 115, 2, 0, 192, 0, 80, 58, 5, 42, 180, 0, 18, 25, 5, 180, 0, 186]
abbrev dktX1_book_0 : List UInt8 := dkwX1_book_0 ++ dktX1_book_1
theorem dksX1_book_0 : cX1_book.data.toList.drop 0 = dktX1_book_0 := by decide +kernel
theorem dksX1_book_1 : cX1_book.data.toList.drop 24 = dktX1_book_1 := dk_seg dksX1_book_0 24 rfl rfl
theorem dksX1_book_2 : cX1_book.data.toList.drop 48 = dktX1_book_2 := dk_seg dksX1_book_1 24 rfl rfl
theorem dksX1_book_3 : cX1_book.data.toList.drop 72 = dktX1_book_3 := dk_seg dksX1_book_2 24 rfl rfl
theorem dksX1_book_4 : cX1_book.data.toList.drop 95 = dktX1_book_4 := dk_seg dksX1_book_3 23 rfl rfl
theorem dX1_book_0 : decode cX1_book 0 = .ok (.aload_n 0, 1) := dk_42 (dk_at dksX1_book_0 0 rfl rfl)
theorem dX1_book_1 : decode cX1_book 1 = .ok (.getfield 25, 3) := dk_180 0 25 (dk_at dksX1_book_0 1 rfl rfl)
theorem dX1_book_4 : decode cX1_book 4 = .ok (.iload_n 1, 1) := dk_27 (dk_at dksX1_book_0 4 rfl rfl)
theorem dX1_book_5 : decode cX1_book 5 = .ok (.invokeinterface 115 2, 5) := by decide +kernel
theorem dX1_book_10 : decode cX1_book 10 = .ok (.checkcast 80, 3) := dk_192 0 80 (dk_at dksX1_book_0 10 rfl rfl)
theorem dX1_book_13 : decode cX1_book 13 = .ok (.astore 5, 2) := dk_58 5 (dk_at dksX1_book_0 13 rfl rfl)
theorem dX1_book_15 : decode cX1_book 15 = .ok (.aload_n 0, 1) := dk_42 (dk_at dksX1_book_0 15 rfl rfl)
theorem dX1_book_16 : decode cX1_book 16 = .ok (.getfield 18, 3) := dk_180 0 18 (dk_at dksX1_book_0 16 rfl rfl)
theorem dX1_book_19 : decode cX1_book 19 = .ok (.aload 5, 2) := dk_25 5 (dk_at dksX1_book_0 19 rfl rfl)
theorem dX1_book_21 : decode cX1_book 21 = .ok (.getfield 186, 3) := dk_180 0 186 (dk_at dksX1_book_0 21 rfl rfl)
theorem dX1_book_24 : decode cX1_book 24 = .ok (.invokeinterface 115 2, 5) := by decide +kernel
theorem dX1_book_29 : decode cX1_book 29 = .ok (.checkcast 66, 3) := dk_192 0 66 (dk_at dksX1_book_1 5 rfl rfl)
theorem dX1_book_32 : decode cX1_book 32 = .ok (.getfield 189, 3) := dk_180 0 189 (dk_at dksX1_book_1 8 rfl rfl)
theorem dX1_book_35 : decode cX1_book 35 = .ok (.istore 6, 2) := dk_54 6 (dk_at dksX1_book_1 11 rfl rfl)
theorem dX1_book_37 : decode cX1_book 37 = .ok (.iload_n 3, 1) := dk_29 (dk_at dksX1_book_1 13 rfl rfl)
theorem dX1_book_38 : decode cX1_book 38 = .ok (.bipush (-6), 2) := dk_16 250 (dk_at dksX1_book_1 14 rfl rfl)
theorem dX1_book_40 : decode cX1_book 40 = .ok (.if_icmp .ne 8, 3) := dk_160 0 8 (dk_at dksX1_book_1 16 rfl rfl)
theorem dX1_book_43 : decode cX1_book 43 = .ok (.iload 6, 2) := dk_21 6 (dk_at dksX1_book_1 19 rfl rfl)
theorem dX1_book_45 : decode cX1_book 45 = .ok (.goto 15, 3) := dk_167 0 15 (dk_at dksX1_book_1 21 rfl rfl)
theorem dX1_book_48 : decode cX1_book 48 = .ok (.iload 6, 2) := dk_21 6 (dk_at dksX1_book_2 0 rfl rfl)
theorem dX1_book_50 : decode cX1_book 50 = .ok (.aload_n 0, 1) := dk_42 (dk_at dksX1_book_2 2 rfl rfl)
theorem dX1_book_51 : decode cX1_book 51 = .ok (.getfield 9, 3) := dk_180 0 9 (dk_at dksX1_book_2 3 rfl rfl)
theorem dX1_book_54 : decode cX1_book 54 = .ok (.iconst 4, 1) := dk_7 (dk_at dksX1_book_2 6 rfl rfl)
theorem dX1_book_55 : decode cX1_book 55 = .ok (.iaload, 1) := dk_46 (dk_at dksX1_book_2 7 rfl rfl)
theorem dX1_book_56 : decode cX1_book 56 = .ok (.imul, 1) := dk_104 (dk_at dksX1_book_2 8 rfl rfl)
theorem dX1_book_57 : decode cX1_book 57 = .ok (.bipush 100, 2) := dk_16 100 (dk_at dksX1_book_2 9 rfl rfl)
theorem dX1_book_59 : decode cX1_book 59 = .ok (.idiv, 1) := dk_108 (dk_at dksX1_book_2 11 rfl rfl)
theorem dX1_book_60 : decode cX1_book 60 = .ok (.istore 7, 2) := dk_54 7 (dk_at dksX1_book_2 12 rfl rfl)
theorem dX1_book_62 : decode cX1_book 62 = .ok (.new 85, 3) := dk_187 0 85 (dk_at dksX1_book_2 14 rfl rfl)
theorem dX1_book_65 : decode cX1_book 65 = .ok (.dup, 1) := dk_89 (dk_at dksX1_book_2 17 rfl rfl)
theorem dX1_book_66 : decode cX1_book 66 = .ok (.iload_n 1, 1) := dk_27 (dk_at dksX1_book_2 18 rfl rfl)
theorem dX1_book_67 : decode cX1_book 67 = .ok (.iload_n 2, 1) := dk_28 (dk_at dksX1_book_2 19 rfl rfl)
theorem dX1_book_68 : decode cX1_book 68 = .ok (.iload_n 3, 1) := dk_29 (dk_at dksX1_book_2 20 rfl rfl)
theorem dX1_book_69 : decode cX1_book 69 = .ok (.iload 4, 2) := dk_21 4 (dk_at dksX1_book_2 21 rfl rfl)
theorem dX1_book_71 : decode cX1_book 71 = .ok (.iload_n 2, 1) := dk_28 (dk_at dksX1_book_2 23 rfl rfl)
theorem dX1_book_72 : decode cX1_book 72 = .ok (.iload 7, 2) := dk_21 7 (dk_at dksX1_book_3 0 rfl rfl)
theorem dX1_book_74 : decode cX1_book 74 = .ok (.imul, 1) := dk_104 (dk_at dksX1_book_3 2 rfl rfl)
theorem dX1_book_75 : decode cX1_book 75 = .ok (.invokespecial 192, 3) := dk_183 0 192 (dk_at dksX1_book_3 3 rfl rfl)
theorem dX1_book_78 : decode cX1_book 78 = .ok (.astore 8, 2) := dk_58 8 (dk_at dksX1_book_3 6 rfl rfl)
theorem dX1_book_80 : decode cX1_book 80 = .ok (.aload 5, 2) := dk_25 5 (dk_at dksX1_book_3 8 rfl rfl)
theorem dX1_book_82 : decode cX1_book 82 = .ok (.aload 8, 2) := dk_25 8 (dk_at dksX1_book_3 10 rfl rfl)
theorem dX1_book_84 : decode cX1_book 84 = .ok (.getfield 195, 3) := dk_180 0 195 (dk_at dksX1_book_3 12 rfl rfl)
theorem dX1_book_87 : decode cX1_book 87 = .ok (.iload_n 2, 1) := dk_28 (dk_at dksX1_book_3 15 rfl rfl)
theorem dX1_book_88 : decode cX1_book 88 = .ok (.invokevirtual 198, 3) := dk_182 0 198 (dk_at dksX1_book_3 16 rfl rfl)
theorem dX1_book_91 : decode cX1_book 91 = .ok (.aload_n 0, 1) := dk_42 (dk_at dksX1_book_3 19 rfl rfl)
theorem dX1_book_92 : decode cX1_book 92 = .ok (.getfield 28, 3) := dk_180 0 28 (dk_at dksX1_book_3 20 rfl rfl)
theorem dX1_book_95 : decode cX1_book 95 = .ok (.aload 8, 2) := dk_25 8 (dk_at dksX1_book_4 0 rfl rfl)
theorem dX1_book_97 : decode cX1_book 97 = .ok (.invokeinterface 71 2, 5) := by decide +kernel
theorem dX1_book_102 : decode cX1_book 102 = .ok (.pop, 1) := dk_87 (dk_at dksX1_book_4 7 rfl rfl)
theorem dX1_book_103 : decode cX1_book 103 = .ok (.aload_n 0, 1) := dk_42 (dk_at dksX1_book_4 8 rfl rfl)
theorem dX1_book_104 : decode cX1_book 104 = .ok (.getfield 28, 3) := dk_180 0 28 (dk_at dksX1_book_4 9 rfl rfl)
theorem dX1_book_107 : decode cX1_book 107 = .ok (.invokeinterface 111 1, 5) := by decide +kernel
theorem dX1_book_112 : decode cX1_book 112 = .ok (.iconst 1, 1) := dk_4 (dk_at dksX1_book_4 17 rfl rfl)
theorem dX1_book_113 : decode cX1_book 113 = .ok (.isub, 1) := dk_100 (dk_at dksX1_book_4 18 rfl rfl)
theorem dX1_book_114 : decode cX1_book 114 = .ok (.ireturn, 1) := dk_172 (dk_at dksX1_book_4 19 rfl rfl)
abbrev cX1_giveBack : ByteArray := prog_6_method_12_code
def yX1_giveBack : MethodName := ⟨RX1, "giveBack", "(LDomeNights$Booking;)I"⟩
def dkwX1_giveBack_3 : List UInt8 := [43, 7, 182, 0, 165, 43, 44, 6, 21, 4, 182, 0, 172, 21, 4, 172]
abbrev dktX1_giveBack_3 : List UInt8 := dkwX1_giveBack_3 ++ []
def dkwX1_giveBack_2 : List UInt8 := [158, 0, 20, 43, 180, 0, 169, 42, 180, 0, 9, 5, 46, 104, 16, 100, 108, 167, 0, 4, 3, 54, 4, 42]
abbrev dktX1_giveBack_2 : List UInt8 := dkwX1_giveBack_2 ++ dktX1_giveBack_3
def dkwX1_giveBack_1 : List UInt8 := [42, 180, 0, 105, 100, 62, 29, 42, 180, 0, 9, 4, 46, 161, 0, 10, 43, 180, 0, 169, 167, 0, 25, 29]
abbrev dktX1_giveBack_1 : List UInt8 := dkwX1_giveBack_1 ++ dktX1_giveBack_2
def dkwX1_giveBack_0 : List UInt8 := [42, 180, 0, 25, 43, 180, 0, 155, 185, 0, 115, 2, 0, 192, 0, 80, 77, 44, 180, 0, 202, 180, 0, 206]
abbrev dktX1_giveBack_0 : List UInt8 := dkwX1_giveBack_0 ++ dktX1_giveBack_1
theorem dksX1_giveBack_0 : cX1_giveBack.data.toList.drop 0 = dktX1_giveBack_0 := by decide +kernel
theorem dksX1_giveBack_1 : cX1_giveBack.data.toList.drop 24 = dktX1_giveBack_1 := dk_seg dksX1_giveBack_0 24 rfl rfl
theorem dksX1_giveBack_2 : cX1_giveBack.data.toList.drop 48 = dktX1_giveBack_2 := dk_seg dksX1_giveBack_1 24 rfl rfl
theorem dksX1_giveBack_3 : cX1_giveBack.data.toList.drop 72 = dktX1_giveBack_3 := dk_seg dksX1_giveBack_2 24 rfl rfl
theorem dX1_giveBack_0 : decode cX1_giveBack 0 = .ok (.aload_n 0, 1) := dk_42 (dk_at dksX1_giveBack_0 0 rfl rfl)
theorem dX1_giveBack_1 : decode cX1_giveBack 1 = .ok (.getfield 25, 3) := dk_180 0 25 (dk_at dksX1_giveBack_0 1 rfl rfl)
theorem dX1_giveBack_4 : decode cX1_giveBack 4 = .ok (.aload_n 1, 1) := dk_43 (dk_at dksX1_giveBack_0 4 rfl rfl)
theorem dX1_giveBack_5 : decode cX1_giveBack 5 = .ok (.getfield 155, 3) := dk_180 0 155 (dk_at dksX1_giveBack_0 5 rfl rfl)
theorem dX1_giveBack_8 : decode cX1_giveBack 8 = .ok (.invokeinterface 115 2, 5) := by decide +kernel
theorem dX1_giveBack_13 : decode cX1_giveBack 13 = .ok (.checkcast 80, 3) := dk_192 0 80 (dk_at dksX1_giveBack_0 13 rfl rfl)
theorem dX1_giveBack_16 : decode cX1_giveBack 16 = .ok (.astore_n 2, 1) := dk_77 (dk_at dksX1_giveBack_0 16 rfl rfl)
theorem dX1_giveBack_17 : decode cX1_giveBack 17 = .ok (.aload_n 2, 1) := dk_44 (dk_at dksX1_giveBack_0 17 rfl rfl)
theorem dX1_giveBack_18 : decode cX1_giveBack 18 = .ok (.getfield 202, 3) := dk_180 0 202 (dk_at dksX1_giveBack_0 18 rfl rfl)
theorem dX1_giveBack_21 : decode cX1_giveBack 21 = .ok (.getfield 206, 3) := dk_180 0 206 (dk_at dksX1_giveBack_0 21 rfl rfl)
theorem dX1_giveBack_24 : decode cX1_giveBack 24 = .ok (.aload_n 0, 1) := dk_42 (dk_at dksX1_giveBack_1 0 rfl rfl)
theorem dX1_giveBack_25 : decode cX1_giveBack 25 = .ok (.getfield 105, 3) := dk_180 0 105 (dk_at dksX1_giveBack_1 1 rfl rfl)
theorem dX1_giveBack_28 : decode cX1_giveBack 28 = .ok (.isub, 1) := dk_100 (dk_at dksX1_giveBack_1 4 rfl rfl)
theorem dX1_giveBack_29 : decode cX1_giveBack 29 = .ok (.istore_n 3, 1) := dk_62 (dk_at dksX1_giveBack_1 5 rfl rfl)
theorem dX1_giveBack_30 : decode cX1_giveBack 30 = .ok (.iload_n 3, 1) := dk_29 (dk_at dksX1_giveBack_1 6 rfl rfl)
theorem dX1_giveBack_31 : decode cX1_giveBack 31 = .ok (.aload_n 0, 1) := dk_42 (dk_at dksX1_giveBack_1 7 rfl rfl)
theorem dX1_giveBack_32 : decode cX1_giveBack 32 = .ok (.getfield 9, 3) := dk_180 0 9 (dk_at dksX1_giveBack_1 8 rfl rfl)
theorem dX1_giveBack_35 : decode cX1_giveBack 35 = .ok (.iconst 1, 1) := dk_4 (dk_at dksX1_giveBack_1 11 rfl rfl)
theorem dX1_giveBack_36 : decode cX1_giveBack 36 = .ok (.iaload, 1) := dk_46 (dk_at dksX1_giveBack_1 12 rfl rfl)
theorem dX1_giveBack_37 : decode cX1_giveBack 37 = .ok (.if_icmp .lt 10, 3) := dk_161 0 10 (dk_at dksX1_giveBack_1 13 rfl rfl)
theorem dX1_giveBack_40 : decode cX1_giveBack 40 = .ok (.aload_n 1, 1) := dk_43 (dk_at dksX1_giveBack_1 16 rfl rfl)
theorem dX1_giveBack_41 : decode cX1_giveBack 41 = .ok (.getfield 169, 3) := dk_180 0 169 (dk_at dksX1_giveBack_1 17 rfl rfl)
theorem dX1_giveBack_44 : decode cX1_giveBack 44 = .ok (.goto 25, 3) := dk_167 0 25 (dk_at dksX1_giveBack_1 20 rfl rfl)
theorem dX1_giveBack_47 : decode cX1_giveBack 47 = .ok (.iload_n 3, 1) := dk_29 (dk_at dksX1_giveBack_1 23 rfl rfl)
theorem dX1_giveBack_48 : decode cX1_giveBack 48 = .ok (.ifCond .le 20, 3) := dk_158 0 20 (dk_at dksX1_giveBack_2 0 rfl rfl)
theorem dX1_giveBack_51 : decode cX1_giveBack 51 = .ok (.aload_n 1, 1) := dk_43 (dk_at dksX1_giveBack_2 3 rfl rfl)
theorem dX1_giveBack_52 : decode cX1_giveBack 52 = .ok (.getfield 169, 3) := dk_180 0 169 (dk_at dksX1_giveBack_2 4 rfl rfl)
theorem dX1_giveBack_55 : decode cX1_giveBack 55 = .ok (.aload_n 0, 1) := dk_42 (dk_at dksX1_giveBack_2 7 rfl rfl)
theorem dX1_giveBack_56 : decode cX1_giveBack 56 = .ok (.getfield 9, 3) := dk_180 0 9 (dk_at dksX1_giveBack_2 8 rfl rfl)
theorem dX1_giveBack_59 : decode cX1_giveBack 59 = .ok (.iconst 2, 1) := dk_5 (dk_at dksX1_giveBack_2 11 rfl rfl)
theorem dX1_giveBack_60 : decode cX1_giveBack 60 = .ok (.iaload, 1) := dk_46 (dk_at dksX1_giveBack_2 12 rfl rfl)
theorem dX1_giveBack_61 : decode cX1_giveBack 61 = .ok (.imul, 1) := dk_104 (dk_at dksX1_giveBack_2 13 rfl rfl)
theorem dX1_giveBack_62 : decode cX1_giveBack 62 = .ok (.bipush 100, 2) := dk_16 100 (dk_at dksX1_giveBack_2 14 rfl rfl)
theorem dX1_giveBack_64 : decode cX1_giveBack 64 = .ok (.idiv, 1) := dk_108 (dk_at dksX1_giveBack_2 16 rfl rfl)
theorem dX1_giveBack_65 : decode cX1_giveBack 65 = .ok (.goto 4, 3) := dk_167 0 4 (dk_at dksX1_giveBack_2 17 rfl rfl)
theorem dX1_giveBack_68 : decode cX1_giveBack 68 = .ok (.iconst 0, 1) := dk_3 (dk_at dksX1_giveBack_2 20 rfl rfl)
theorem dX1_giveBack_69 : decode cX1_giveBack 69 = .ok (.istore 4, 2) := dk_54 4 (dk_at dksX1_giveBack_2 21 rfl rfl)
theorem dX1_giveBack_71 : decode cX1_giveBack 71 = .ok (.aload_n 0, 1) := dk_42 (dk_at dksX1_giveBack_2 23 rfl rfl)
theorem dX1_giveBack_72 : decode cX1_giveBack 72 = .ok (.aload_n 1, 1) := dk_43 (dk_at dksX1_giveBack_3 0 rfl rfl)
theorem dX1_giveBack_73 : decode cX1_giveBack 73 = .ok (.iconst 4, 1) := dk_7 (dk_at dksX1_giveBack_3 1 rfl rfl)
theorem dX1_giveBack_74 : decode cX1_giveBack 74 = .ok (.invokevirtual 165, 3) := dk_182 0 165 (dk_at dksX1_giveBack_3 2 rfl rfl)
theorem dX1_giveBack_77 : decode cX1_giveBack 77 = .ok (.aload_n 1, 1) := dk_43 (dk_at dksX1_giveBack_3 5 rfl rfl)
theorem dX1_giveBack_78 : decode cX1_giveBack 78 = .ok (.aload_n 2, 1) := dk_44 (dk_at dksX1_giveBack_3 6 rfl rfl)
theorem dX1_giveBack_79 : decode cX1_giveBack 79 = .ok (.iconst 3, 1) := dk_6 (dk_at dksX1_giveBack_3 7 rfl rfl)
theorem dX1_giveBack_80 : decode cX1_giveBack 80 = .ok (.iload 4, 2) := dk_21 4 (dk_at dksX1_giveBack_3 8 rfl rfl)
theorem dX1_giveBack_82 : decode cX1_giveBack 82 = .ok (.invokevirtual 172, 3) := dk_182 0 172 (dk_at dksX1_giveBack_3 10 rfl rfl)
theorem dX1_giveBack_85 : decode cX1_giveBack 85 = .ok (.iload 4, 2) := dk_21 4 (dk_at dksX1_giveBack_3 13 rfl rfl)
theorem dX1_giveBack_87 : decode cX1_giveBack 87 = .ok (.ireturn, 1) := dk_172 (dk_at dksX1_giveBack_3 15 rfl rfl)
abbrev cX1_passDay : ByteArray := prog_6_method_20_code
def yX1_passDay : MethodName := ⟨RX1, "passDay", "()V"⟩
def dkwX1_passDay_4 : List UInt8 := [160, 0, 7, 44, 182, 1, 41, 167, 255, 215, 42, 89, 180, 0, 105, 4, 96, 181, 0, 105, 177]
abbrev dktX1_passDay_4 : List UInt8 := dkwX1_passDay_4 ++ []
def dkwX1_passDay_3 : List UInt8 := [185, 0, 62, 1, 0, 192, 0, 90, 77, 44, 180, 1, 40, 154, 0, 18, 44, 180, 0, 238, 42, 180, 0, 105]
abbrev dktX1_passDay_3 : List UInt8 := dkwX1_passDay_3 ++ dktX1_passDay_4
def dkwX1_passDay_2 : List UInt8 := [167, 255, 210, 42, 180, 0, 31, 185, 0, 50, 1, 0, 76, 43, 185, 0, 56, 1, 0, 153, 0, 38, 43]
abbrev dktX1_passDay_2 : List UInt8 := dkwX1_passDay_2 ++ dktX1_passDay_3
def dkwX1_passDay_1 : List UInt8 := [185, 0, 244, 2, 0, 192, 0, 225, 77, 44, 198, 0, 11, 42, 44, 182, 0, 248, 182, 1, 37, 132, 1, 1]
abbrev dktX1_passDay_1 : List UInt8 := dkwX1_passDay_1 ++ dktX1_passDay_2
def dkwX1_passDay_0 : List UInt8 := [3, 60, 27, 16, 6, 162, 0, 46, 42, 180, 0, 37, 187, 0, 207, 89, 42, 180, 0, 105, 27, 183, 1, 8]
abbrev dktX1_passDay_0 : List UInt8 := dkwX1_passDay_0 ++ dktX1_passDay_1
theorem dksX1_passDay_0 : cX1_passDay.data.toList.drop 0 = dktX1_passDay_0 := by decide +kernel
theorem dksX1_passDay_1 : cX1_passDay.data.toList.drop 24 = dktX1_passDay_1 := dk_seg dksX1_passDay_0 24 rfl rfl
theorem dksX1_passDay_2 : cX1_passDay.data.toList.drop 48 = dktX1_passDay_2 := dk_seg dksX1_passDay_1 24 rfl rfl
theorem dksX1_passDay_3 : cX1_passDay.data.toList.drop 71 = dktX1_passDay_3 := dk_seg dksX1_passDay_2 23 rfl rfl
theorem dksX1_passDay_4 : cX1_passDay.data.toList.drop 95 = dktX1_passDay_4 := dk_seg dksX1_passDay_3 24 rfl rfl
theorem dX1_passDay_0 : decode cX1_passDay 0 = .ok (.iconst 0, 1) := dk_3 (dk_at dksX1_passDay_0 0 rfl rfl)
theorem dX1_passDay_1 : decode cX1_passDay 1 = .ok (.istore_n 1, 1) := dk_60 (dk_at dksX1_passDay_0 1 rfl rfl)
theorem dX1_passDay_2 : decode cX1_passDay 2 = .ok (.iload_n 1, 1) := dk_27 (dk_at dksX1_passDay_0 2 rfl rfl)
theorem dX1_passDay_3 : decode cX1_passDay 3 = .ok (.bipush 6, 2) := dk_16 6 (dk_at dksX1_passDay_0 3 rfl rfl)
theorem dX1_passDay_5 : decode cX1_passDay 5 = .ok (.if_icmp .ge 46, 3) := dk_162 0 46 (dk_at dksX1_passDay_0 5 rfl rfl)
theorem dX1_passDay_8 : decode cX1_passDay 8 = .ok (.aload_n 0, 1) := dk_42 (dk_at dksX1_passDay_0 8 rfl rfl)
theorem dX1_passDay_9 : decode cX1_passDay 9 = .ok (.getfield 37, 3) := dk_180 0 37 (dk_at dksX1_passDay_0 9 rfl rfl)
theorem dX1_passDay_12 : decode cX1_passDay 12 = .ok (.new 207, 3) := dk_187 0 207 (dk_at dksX1_passDay_0 12 rfl rfl)
theorem dX1_passDay_15 : decode cX1_passDay 15 = .ok (.dup, 1) := dk_89 (dk_at dksX1_passDay_0 15 rfl rfl)
theorem dX1_passDay_16 : decode cX1_passDay 16 = .ok (.aload_n 0, 1) := dk_42 (dk_at dksX1_passDay_0 16 rfl rfl)
theorem dX1_passDay_17 : decode cX1_passDay 17 = .ok (.getfield 105, 3) := dk_180 0 105 (dk_at dksX1_passDay_0 17 rfl rfl)
theorem dX1_passDay_20 : decode cX1_passDay 20 = .ok (.iload_n 1, 1) := dk_27 (dk_at dksX1_passDay_0 20 rfl rfl)
theorem dX1_passDay_21 : decode cX1_passDay 21 = .ok (.invokespecial 264, 3) := dk_183 1 8 (dk_at dksX1_passDay_0 21 rfl rfl)
theorem dX1_passDay_24 : decode cX1_passDay 24 = .ok (.invokeinterface 244 2, 5) := by decide +kernel
theorem dX1_passDay_29 : decode cX1_passDay 29 = .ok (.checkcast 225, 3) := dk_192 0 225 (dk_at dksX1_passDay_1 5 rfl rfl)
theorem dX1_passDay_32 : decode cX1_passDay 32 = .ok (.astore_n 2, 1) := dk_77 (dk_at dksX1_passDay_1 8 rfl rfl)
theorem dX1_passDay_33 : decode cX1_passDay 33 = .ok (.aload_n 2, 1) := dk_44 (dk_at dksX1_passDay_1 9 rfl rfl)
theorem dX1_passDay_34 : decode cX1_passDay 34 = .ok (.ifnull 11, 3) := dk_198 0 11 (dk_at dksX1_passDay_1 10 rfl rfl)
theorem dX1_passDay_37 : decode cX1_passDay 37 = .ok (.aload_n 0, 1) := dk_42 (dk_at dksX1_passDay_1 13 rfl rfl)
theorem dX1_passDay_38 : decode cX1_passDay 38 = .ok (.aload_n 2, 1) := dk_44 (dk_at dksX1_passDay_1 14 rfl rfl)
theorem dX1_passDay_39 : decode cX1_passDay 39 = .ok (.invokevirtual 248, 3) := dk_182 0 248 (dk_at dksX1_passDay_1 15 rfl rfl)
theorem dX1_passDay_42 : decode cX1_passDay 42 = .ok (.invokevirtual 293, 3) := dk_182 1 37 (dk_at dksX1_passDay_1 18 rfl rfl)
theorem dX1_passDay_45 : decode cX1_passDay 45 = .ok (.iinc 1 1, 3) := dk_132 1 1 (dk_at dksX1_passDay_1 21 rfl rfl)
theorem dX1_passDay_48 : decode cX1_passDay 48 = .ok (.goto (-46), 3) := dk_167 255 210 (dk_at dksX1_passDay_2 0 rfl rfl)
theorem dX1_passDay_51 : decode cX1_passDay 51 = .ok (.aload_n 0, 1) := dk_42 (dk_at dksX1_passDay_2 3 rfl rfl)
theorem dX1_passDay_52 : decode cX1_passDay 52 = .ok (.getfield 31, 3) := dk_180 0 31 (dk_at dksX1_passDay_2 4 rfl rfl)
theorem dX1_passDay_55 : decode cX1_passDay 55 = .ok (.invokeinterface 50 1, 5) := by decide +kernel
theorem dX1_passDay_60 : decode cX1_passDay 60 = .ok (.astore_n 1, 1) := dk_76 (dk_at dksX1_passDay_2 12 rfl rfl)
theorem dX1_passDay_61 : decode cX1_passDay 61 = .ok (.aload_n 1, 1) := dk_43 (dk_at dksX1_passDay_2 13 rfl rfl)
theorem dX1_passDay_62 : decode cX1_passDay 62 = .ok (.invokeinterface 56 1, 5) := by decide +kernel
theorem dX1_passDay_67 : decode cX1_passDay 67 = .ok (.ifCond .eq 38, 3) := dk_153 0 38 (dk_at dksX1_passDay_2 19 rfl rfl)
theorem dX1_passDay_70 : decode cX1_passDay 70 = .ok (.aload_n 1, 1) := dk_43 (dk_at dksX1_passDay_2 22 rfl rfl)
theorem dX1_passDay_71 : decode cX1_passDay 71 = .ok (.invokeinterface 62 1, 5) := by decide +kernel
theorem dX1_passDay_76 : decode cX1_passDay 76 = .ok (.checkcast 90, 3) := dk_192 0 90 (dk_at dksX1_passDay_3 5 rfl rfl)
theorem dX1_passDay_79 : decode cX1_passDay 79 = .ok (.astore_n 2, 1) := dk_77 (dk_at dksX1_passDay_3 8 rfl rfl)
theorem dX1_passDay_80 : decode cX1_passDay 80 = .ok (.aload_n 2, 1) := dk_44 (dk_at dksX1_passDay_3 9 rfl rfl)
theorem dX1_passDay_81 : decode cX1_passDay 81 = .ok (.getfield 296, 3) := dk_180 1 40 (dk_at dksX1_passDay_3 10 rfl rfl)
theorem dX1_passDay_84 : decode cX1_passDay 84 = .ok (.ifCond .ne 18, 3) := dk_154 0 18 (dk_at dksX1_passDay_3 13 rfl rfl)
theorem dX1_passDay_87 : decode cX1_passDay 87 = .ok (.aload_n 2, 1) := dk_44 (dk_at dksX1_passDay_3 16 rfl rfl)
theorem dX1_passDay_88 : decode cX1_passDay 88 = .ok (.getfield 238, 3) := dk_180 0 238 (dk_at dksX1_passDay_3 17 rfl rfl)
theorem dX1_passDay_91 : decode cX1_passDay 91 = .ok (.aload_n 0, 1) := dk_42 (dk_at dksX1_passDay_3 20 rfl rfl)
theorem dX1_passDay_92 : decode cX1_passDay 92 = .ok (.getfield 105, 3) := dk_180 0 105 (dk_at dksX1_passDay_3 21 rfl rfl)
theorem dX1_passDay_95 : decode cX1_passDay 95 = .ok (.if_icmp .ne 7, 3) := dk_160 0 7 (dk_at dksX1_passDay_4 0 rfl rfl)
theorem dX1_passDay_98 : decode cX1_passDay 98 = .ok (.aload_n 2, 1) := dk_44 (dk_at dksX1_passDay_4 3 rfl rfl)
theorem dX1_passDay_99 : decode cX1_passDay 99 = .ok (.invokevirtual 297, 3) := dk_182 1 41 (dk_at dksX1_passDay_4 4 rfl rfl)
theorem dX1_passDay_102 : decode cX1_passDay 102 = .ok (.goto (-41), 3) := dk_167 255 215 (dk_at dksX1_passDay_4 7 rfl rfl)
theorem dX1_passDay_105 : decode cX1_passDay 105 = .ok (.aload_n 0, 1) := dk_42 (dk_at dksX1_passDay_4 10 rfl rfl)
theorem dX1_passDay_106 : decode cX1_passDay 106 = .ok (.dup, 1) := dk_89 (dk_at dksX1_passDay_4 11 rfl rfl)
theorem dX1_passDay_107 : decode cX1_passDay 107 = .ok (.getfield 105, 3) := dk_180 0 105 (dk_at dksX1_passDay_4 12 rfl rfl)
theorem dX1_passDay_110 : decode cX1_passDay 110 = .ok (.iconst 1, 1) := dk_4 (dk_at dksX1_passDay_4 15 rfl rfl)
theorem dX1_passDay_111 : decode cX1_passDay 111 = .ok (.iadd, 1) := dk_96 (dk_at dksX1_passDay_4 16 rfl rfl)
theorem dX1_passDay_112 : decode cX1_passDay 112 = .ok (.putfield 105, 3) := dk_181 0 105 (dk_at dksX1_passDay_4 17 rfl rfl)
theorem dX1_passDay_115 : decode cX1_passDay 115 = .ok (.return_, 1) := dk_177 (dk_at dksX1_passDay_4 20 rfl rfl)
abbrev cX1_holds : ByteArray := prog_6_method_19_code
def yX1_holds : MethodName := ⟨RX1, "holds", "(I)V"⟩
def dkwX1_holds_10 : List UInt8 := [44, 180, 1, 7, 4, 160, 0, 7, 3, 167, 0, 4, 6, 182, 0, 165, 167, 255, 148, 177]
abbrev dktX1_holds_10 : List UInt8 := dkwX1_holds_10 ++ []
def dkwX1_holds_9 : List UInt8 := [167, 0, 18, 25, 6, 180, 0, 169, 42, 180, 0, 9, 6, 46, 104, 16, 100, 108, 181, 1, 34, 42, 25, 6]
abbrev dktX1_holds_9 : List UInt8 := dkwX1_holds_9 ++ dktX1_holds_10
def dkwX1_holds_8 : List UInt8 := [160, 0, 7, 4, 167, 0, 4, 5, 181, 0, 176, 25, 6, 44, 180, 1, 7, 4, 160, 0, 7, 3]
abbrev dktX1_holds_8 : List UInt8 := dkwX1_holds_8 ++ dktX1_holds_9
def dkwX1_holds_7 : List UInt8 := [180, 0, 155, 27, 160, 0, 80, 25, 6, 180, 0, 176, 154, 0, 72, 25, 6, 44, 180, 1, 7, 4]
abbrev dktX1_holds_7 : List UInt8 := dkwX1_holds_7 ++ dktX1_holds_8
def dkwX1_holds_6 : List UInt8 := [25, 5, 185, 0, 56, 1, 0, 153, 0, 104, 25, 5, 185, 0, 62, 1, 0, 192, 0, 85, 58, 6, 25, 6]
abbrev dktX1_holds_6 : List UInt8 := dkwX1_holds_6 ++ dktX1_holds_7
def dkwX1_holds_5 : List UInt8 := [160, 0, 7, 4, 167, 0, 4, 3, 96, 181, 0, 108, 42, 180, 0, 28, 185, 0, 50, 1, 0, 58, 5]
abbrev dktX1_holds_5 : List UInt8 := dkwX1_holds_5 ++ dktX1_holds_6
def dkwX1_holds_4 : List UInt8 := [180, 1, 25, 162, 0, 7, 5, 167, 0, 4, 4, 181, 1, 7, 42, 89, 180, 0, 108, 44, 180, 1, 7, 4]
abbrev dktX1_holds_4 : List UInt8 := dkwX1_holds_4 ++ dktX1_holds_5
def dkwX1_holds_3 : List UInt8 := [182, 1, 2, 192, 0, 75, 45, 180, 1, 25, 182, 1, 28, 181, 1, 31, 44, 44, 180, 1, 31, 45]
abbrev dktX1_holds_3 : List UInt8 := dkwX1_holds_3 ++ dktX1_holds_4
def dkwX1_holds_2 : List UInt8 := [44, 6, 181, 1, 7, 42, 27, 4, 3, 182, 0, 234, 177, 44, 42, 182, 0, 122, 181, 1, 22, 44, 25, 4]
abbrev dktX1_holds_2 : List UInt8 := dkwX1_holds_2 ++ dktX1_holds_3
def dkwX1_holds_1 : List UInt8 := [185, 0, 115, 2, 0, 192, 0, 66, 78, 42, 45, 182, 1, 15, 58, 4, 25, 4, 182, 1, 19, 153, 0, 16]
abbrev dktX1_holds_1 : List UInt8 := dkwX1_holds_1 ++ dktX1_holds_2
def dkwX1_holds_0 : List UInt8 := [42, 180, 0, 25, 27, 185, 0, 115, 2, 0, 192, 0, 80, 77, 42, 180, 0, 18, 44, 180, 0, 186]
abbrev dktX1_holds_0 : List UInt8 := dkwX1_holds_0 ++ dktX1_holds_1
theorem dksX1_holds_0 : cX1_holds.data.toList.drop 0 = dktX1_holds_0 := by decide +kernel
theorem dksX1_holds_1 : cX1_holds.data.toList.drop 22 = dktX1_holds_1 := dk_seg dksX1_holds_0 22 rfl rfl
theorem dksX1_holds_2 : cX1_holds.data.toList.drop 46 = dktX1_holds_2 := dk_seg dksX1_holds_1 24 rfl rfl
theorem dksX1_holds_3 : cX1_holds.data.toList.drop 70 = dktX1_holds_3 := dk_seg dksX1_holds_2 24 rfl rfl
theorem dksX1_holds_4 : cX1_holds.data.toList.drop 92 = dktX1_holds_4 := dk_seg dksX1_holds_3 22 rfl rfl
theorem dksX1_holds_5 : cX1_holds.data.toList.drop 116 = dktX1_holds_5 := dk_seg dksX1_holds_4 24 rfl rfl
theorem dksX1_holds_6 : cX1_holds.data.toList.drop 139 = dktX1_holds_6 := dk_seg dksX1_holds_5 23 rfl rfl
theorem dksX1_holds_7 : cX1_holds.data.toList.drop 163 = dktX1_holds_7 := dk_seg dksX1_holds_6 24 rfl rfl
theorem dksX1_holds_8 : cX1_holds.data.toList.drop 185 = dktX1_holds_8 := dk_seg dksX1_holds_7 22 rfl rfl
theorem dksX1_holds_9 : cX1_holds.data.toList.drop 207 = dktX1_holds_9 := dk_seg dksX1_holds_8 22 rfl rfl
theorem dksX1_holds_10 : cX1_holds.data.toList.drop 231 = dktX1_holds_10 := dk_seg dksX1_holds_9 24 rfl rfl
theorem dX1_holds_0 : decode cX1_holds 0 = .ok (.aload_n 0, 1) := dk_42 (dk_at dksX1_holds_0 0 rfl rfl)
theorem dX1_holds_1 : decode cX1_holds 1 = .ok (.getfield 25, 3) := dk_180 0 25 (dk_at dksX1_holds_0 1 rfl rfl)
theorem dX1_holds_4 : decode cX1_holds 4 = .ok (.iload_n 1, 1) := dk_27 (dk_at dksX1_holds_0 4 rfl rfl)
theorem dX1_holds_5 : decode cX1_holds 5 = .ok (.invokeinterface 115 2, 5) := by decide +kernel
theorem dX1_holds_10 : decode cX1_holds 10 = .ok (.checkcast 80, 3) := dk_192 0 80 (dk_at dksX1_holds_0 10 rfl rfl)
theorem dX1_holds_13 : decode cX1_holds 13 = .ok (.astore_n 2, 1) := dk_77 (dk_at dksX1_holds_0 13 rfl rfl)
theorem dX1_holds_14 : decode cX1_holds 14 = .ok (.aload_n 0, 1) := dk_42 (dk_at dksX1_holds_0 14 rfl rfl)
theorem dX1_holds_15 : decode cX1_holds 15 = .ok (.getfield 18, 3) := dk_180 0 18 (dk_at dksX1_holds_0 15 rfl rfl)
theorem dX1_holds_18 : decode cX1_holds 18 = .ok (.aload_n 2, 1) := dk_44 (dk_at dksX1_holds_0 18 rfl rfl)
theorem dX1_holds_19 : decode cX1_holds 19 = .ok (.getfield 186, 3) := dk_180 0 186 (dk_at dksX1_holds_0 19 rfl rfl)
theorem dX1_holds_22 : decode cX1_holds 22 = .ok (.invokeinterface 115 2, 5) := by decide +kernel
theorem dX1_holds_27 : decode cX1_holds 27 = .ok (.checkcast 66, 3) := dk_192 0 66 (dk_at dksX1_holds_1 5 rfl rfl)
theorem dX1_holds_30 : decode cX1_holds 30 = .ok (.astore_n 3, 1) := dk_78 (dk_at dksX1_holds_1 8 rfl rfl)
theorem dX1_holds_31 : decode cX1_holds 31 = .ok (.aload_n 0, 1) := dk_42 (dk_at dksX1_holds_1 9 rfl rfl)
theorem dX1_holds_32 : decode cX1_holds 32 = .ok (.aload_n 3, 1) := dk_45 (dk_at dksX1_holds_1 10 rfl rfl)
theorem dX1_holds_33 : decode cX1_holds 33 = .ok (.invokevirtual 271, 3) := dk_182 1 15 (dk_at dksX1_holds_1 11 rfl rfl)
theorem dX1_holds_36 : decode cX1_holds 36 = .ok (.astore 4, 2) := dk_58 4 (dk_at dksX1_holds_1 14 rfl rfl)
theorem dX1_holds_38 : decode cX1_holds 38 = .ok (.aload 4, 2) := dk_25 4 (dk_at dksX1_holds_1 16 rfl rfl)
theorem dX1_holds_40 : decode cX1_holds 40 = .ok (.invokevirtual 275, 3) := dk_182 1 19 (dk_at dksX1_holds_1 18 rfl rfl)
theorem dX1_holds_43 : decode cX1_holds 43 = .ok (.ifCond .eq 16, 3) := dk_153 0 16 (dk_at dksX1_holds_1 21 rfl rfl)
theorem dX1_holds_46 : decode cX1_holds 46 = .ok (.aload_n 2, 1) := dk_44 (dk_at dksX1_holds_2 0 rfl rfl)
theorem dX1_holds_47 : decode cX1_holds 47 = .ok (.iconst 3, 1) := dk_6 (dk_at dksX1_holds_2 1 rfl rfl)
theorem dX1_holds_48 : decode cX1_holds 48 = .ok (.putfield 263, 3) := dk_181 1 7 (dk_at dksX1_holds_2 2 rfl rfl)
theorem dX1_holds_51 : decode cX1_holds 51 = .ok (.aload_n 0, 1) := dk_42 (dk_at dksX1_holds_2 5 rfl rfl)
theorem dX1_holds_52 : decode cX1_holds 52 = .ok (.iload_n 1, 1) := dk_27 (dk_at dksX1_holds_2 6 rfl rfl)
theorem dX1_holds_53 : decode cX1_holds 53 = .ok (.iconst 1, 1) := dk_4 (dk_at dksX1_holds_2 7 rfl rfl)
theorem dX1_holds_54 : decode cX1_holds 54 = .ok (.iconst 0, 1) := dk_3 (dk_at dksX1_holds_2 8 rfl rfl)
theorem dX1_holds_55 : decode cX1_holds 55 = .ok (.invokevirtual 234, 3) := dk_182 0 234 (dk_at dksX1_holds_2 9 rfl rfl)
theorem dX1_holds_58 : decode cX1_holds 58 = .ok (.return_, 1) := dk_177 (dk_at dksX1_holds_2 12 rfl rfl)
theorem dX1_holds_59 : decode cX1_holds 59 = .ok (.aload_n 2, 1) := dk_44 (dk_at dksX1_holds_2 13 rfl rfl)
theorem dX1_holds_60 : decode cX1_holds 60 = .ok (.aload_n 0, 1) := dk_42 (dk_at dksX1_holds_2 14 rfl rfl)
theorem dX1_holds_61 : decode cX1_holds 61 = .ok (.invokevirtual 122, 3) := dk_182 0 122 (dk_at dksX1_holds_2 15 rfl rfl)
theorem dX1_holds_64 : decode cX1_holds 64 = .ok (.putfield 278, 3) := dk_181 1 22 (dk_at dksX1_holds_2 18 rfl rfl)
theorem dX1_holds_67 : decode cX1_holds 67 = .ok (.aload_n 2, 1) := dk_44 (dk_at dksX1_holds_2 21 rfl rfl)
theorem dX1_holds_68 : decode cX1_holds 68 = .ok (.aload 4, 2) := dk_25 4 (dk_at dksX1_holds_2 22 rfl rfl)
theorem dX1_holds_70 : decode cX1_holds 70 = .ok (.invokevirtual 258, 3) := dk_182 1 2 (dk_at dksX1_holds_3 0 rfl rfl)
theorem dX1_holds_73 : decode cX1_holds 73 = .ok (.checkcast 75, 3) := dk_192 0 75 (dk_at dksX1_holds_3 3 rfl rfl)
theorem dX1_holds_76 : decode cX1_holds 76 = .ok (.aload_n 3, 1) := dk_45 (dk_at dksX1_holds_3 6 rfl rfl)
theorem dX1_holds_77 : decode cX1_holds 77 = .ok (.getfield 281, 3) := dk_180 1 25 (dk_at dksX1_holds_3 7 rfl rfl)
theorem dX1_holds_80 : decode cX1_holds 80 = .ok (.invokevirtual 284, 3) := dk_182 1 28 (dk_at dksX1_holds_3 10 rfl rfl)
theorem dX1_holds_83 : decode cX1_holds 83 = .ok (.putfield 287, 3) := dk_181 1 31 (dk_at dksX1_holds_3 13 rfl rfl)
theorem dX1_holds_86 : decode cX1_holds 86 = .ok (.aload_n 2, 1) := dk_44 (dk_at dksX1_holds_3 16 rfl rfl)
theorem dX1_holds_87 : decode cX1_holds 87 = .ok (.aload_n 2, 1) := dk_44 (dk_at dksX1_holds_3 17 rfl rfl)
theorem dX1_holds_88 : decode cX1_holds 88 = .ok (.getfield 287, 3) := dk_180 1 31 (dk_at dksX1_holds_3 18 rfl rfl)
theorem dX1_holds_91 : decode cX1_holds 91 = .ok (.aload_n 3, 1) := dk_45 (dk_at dksX1_holds_3 21 rfl rfl)
theorem dX1_holds_92 : decode cX1_holds 92 = .ok (.getfield 281, 3) := dk_180 1 25 (dk_at dksX1_holds_4 0 rfl rfl)
theorem dX1_holds_95 : decode cX1_holds 95 = .ok (.if_icmp .ge 7, 3) := dk_162 0 7 (dk_at dksX1_holds_4 3 rfl rfl)
theorem dX1_holds_98 : decode cX1_holds 98 = .ok (.iconst 2, 1) := dk_5 (dk_at dksX1_holds_4 6 rfl rfl)
theorem dX1_holds_99 : decode cX1_holds 99 = .ok (.goto 4, 3) := dk_167 0 4 (dk_at dksX1_holds_4 7 rfl rfl)
theorem dX1_holds_102 : decode cX1_holds 102 = .ok (.iconst 1, 1) := dk_4 (dk_at dksX1_holds_4 10 rfl rfl)
theorem dX1_holds_103 : decode cX1_holds 103 = .ok (.putfield 263, 3) := dk_181 1 7 (dk_at dksX1_holds_4 11 rfl rfl)
theorem dX1_holds_106 : decode cX1_holds 106 = .ok (.aload_n 0, 1) := dk_42 (dk_at dksX1_holds_4 14 rfl rfl)
theorem dX1_holds_107 : decode cX1_holds 107 = .ok (.dup, 1) := dk_89 (dk_at dksX1_holds_4 15 rfl rfl)
theorem dX1_holds_108 : decode cX1_holds 108 = .ok (.getfield 108, 3) := dk_180 0 108 (dk_at dksX1_holds_4 16 rfl rfl)
theorem dX1_holds_111 : decode cX1_holds 111 = .ok (.aload_n 2, 1) := dk_44 (dk_at dksX1_holds_4 19 rfl rfl)
theorem dX1_holds_112 : decode cX1_holds 112 = .ok (.getfield 263, 3) := dk_180 1 7 (dk_at dksX1_holds_4 20 rfl rfl)
theorem dX1_holds_115 : decode cX1_holds 115 = .ok (.iconst 1, 1) := dk_4 (dk_at dksX1_holds_4 23 rfl rfl)
theorem dX1_holds_116 : decode cX1_holds 116 = .ok (.if_icmp .ne 7, 3) := dk_160 0 7 (dk_at dksX1_holds_5 0 rfl rfl)
theorem dX1_holds_119 : decode cX1_holds 119 = .ok (.iconst 1, 1) := dk_4 (dk_at dksX1_holds_5 3 rfl rfl)
theorem dX1_holds_120 : decode cX1_holds 120 = .ok (.goto 4, 3) := dk_167 0 4 (dk_at dksX1_holds_5 4 rfl rfl)
theorem dX1_holds_123 : decode cX1_holds 123 = .ok (.iconst 0, 1) := dk_3 (dk_at dksX1_holds_5 7 rfl rfl)
theorem dX1_holds_124 : decode cX1_holds 124 = .ok (.iadd, 1) := dk_96 (dk_at dksX1_holds_5 8 rfl rfl)
theorem dX1_holds_125 : decode cX1_holds 125 = .ok (.putfield 108, 3) := dk_181 0 108 (dk_at dksX1_holds_5 9 rfl rfl)
theorem dX1_holds_128 : decode cX1_holds 128 = .ok (.aload_n 0, 1) := dk_42 (dk_at dksX1_holds_5 12 rfl rfl)
theorem dX1_holds_129 : decode cX1_holds 129 = .ok (.getfield 28, 3) := dk_180 0 28 (dk_at dksX1_holds_5 13 rfl rfl)
theorem dX1_holds_132 : decode cX1_holds 132 = .ok (.invokeinterface 50 1, 5) := by decide +kernel
theorem dX1_holds_137 : decode cX1_holds 137 = .ok (.astore 5, 2) := dk_58 5 (dk_at dksX1_holds_5 21 rfl rfl)
theorem dX1_holds_139 : decode cX1_holds 139 = .ok (.aload 5, 2) := dk_25 5 (dk_at dksX1_holds_6 0 rfl rfl)
theorem dX1_holds_141 : decode cX1_holds 141 = .ok (.invokeinterface 56 1, 5) := by decide +kernel
theorem dX1_holds_146 : decode cX1_holds 146 = .ok (.ifCond .eq 104, 3) := dk_153 0 104 (dk_at dksX1_holds_6 7 rfl rfl)
theorem dX1_holds_149 : decode cX1_holds 149 = .ok (.aload 5, 2) := dk_25 5 (dk_at dksX1_holds_6 10 rfl rfl)
theorem dX1_holds_151 : decode cX1_holds 151 = .ok (.invokeinterface 62 1, 5) := by decide +kernel
theorem dX1_holds_156 : decode cX1_holds 156 = .ok (.checkcast 85, 3) := dk_192 0 85 (dk_at dksX1_holds_6 17 rfl rfl)
theorem dX1_holds_159 : decode cX1_holds 159 = .ok (.astore 6, 2) := dk_58 6 (dk_at dksX1_holds_6 20 rfl rfl)
theorem dX1_holds_161 : decode cX1_holds 161 = .ok (.aload 6, 2) := dk_25 6 (dk_at dksX1_holds_6 22 rfl rfl)
theorem dX1_holds_163 : decode cX1_holds 163 = .ok (.getfield 155, 3) := dk_180 0 155 (dk_at dksX1_holds_7 0 rfl rfl)
theorem dX1_holds_166 : decode cX1_holds 166 = .ok (.iload_n 1, 1) := dk_27 (dk_at dksX1_holds_7 3 rfl rfl)
theorem dX1_holds_167 : decode cX1_holds 167 = .ok (.if_icmp .ne 80, 3) := dk_160 0 80 (dk_at dksX1_holds_7 4 rfl rfl)
theorem dX1_holds_170 : decode cX1_holds 170 = .ok (.aload 6, 2) := dk_25 6 (dk_at dksX1_holds_7 7 rfl rfl)
theorem dX1_holds_172 : decode cX1_holds 172 = .ok (.getfield 176, 3) := dk_180 0 176 (dk_at dksX1_holds_7 9 rfl rfl)
theorem dX1_holds_175 : decode cX1_holds 175 = .ok (.ifCond .ne 72, 3) := dk_154 0 72 (dk_at dksX1_holds_7 12 rfl rfl)
theorem dX1_holds_178 : decode cX1_holds 178 = .ok (.aload 6, 2) := dk_25 6 (dk_at dksX1_holds_7 15 rfl rfl)
theorem dX1_holds_180 : decode cX1_holds 180 = .ok (.aload_n 2, 1) := dk_44 (dk_at dksX1_holds_7 17 rfl rfl)
theorem dX1_holds_181 : decode cX1_holds 181 = .ok (.getfield 263, 3) := dk_180 1 7 (dk_at dksX1_holds_7 18 rfl rfl)
theorem dX1_holds_184 : decode cX1_holds 184 = .ok (.iconst 1, 1) := dk_4 (dk_at dksX1_holds_7 21 rfl rfl)
theorem dX1_holds_185 : decode cX1_holds 185 = .ok (.if_icmp .ne 7, 3) := dk_160 0 7 (dk_at dksX1_holds_8 0 rfl rfl)
theorem dX1_holds_188 : decode cX1_holds 188 = .ok (.iconst 1, 1) := dk_4 (dk_at dksX1_holds_8 3 rfl rfl)
theorem dX1_holds_189 : decode cX1_holds 189 = .ok (.goto 4, 3) := dk_167 0 4 (dk_at dksX1_holds_8 4 rfl rfl)
theorem dX1_holds_192 : decode cX1_holds 192 = .ok (.iconst 2, 1) := dk_5 (dk_at dksX1_holds_8 7 rfl rfl)
theorem dX1_holds_193 : decode cX1_holds 193 = .ok (.putfield 176, 3) := dk_181 0 176 (dk_at dksX1_holds_8 8 rfl rfl)
theorem dX1_holds_196 : decode cX1_holds 196 = .ok (.aload 6, 2) := dk_25 6 (dk_at dksX1_holds_8 11 rfl rfl)
theorem dX1_holds_198 : decode cX1_holds 198 = .ok (.aload_n 2, 1) := dk_44 (dk_at dksX1_holds_8 13 rfl rfl)
theorem dX1_holds_199 : decode cX1_holds 199 = .ok (.getfield 263, 3) := dk_180 1 7 (dk_at dksX1_holds_8 14 rfl rfl)
theorem dX1_holds_202 : decode cX1_holds 202 = .ok (.iconst 1, 1) := dk_4 (dk_at dksX1_holds_8 17 rfl rfl)
theorem dX1_holds_203 : decode cX1_holds 203 = .ok (.if_icmp .ne 7, 3) := dk_160 0 7 (dk_at dksX1_holds_8 18 rfl rfl)
theorem dX1_holds_206 : decode cX1_holds 206 = .ok (.iconst 0, 1) := dk_3 (dk_at dksX1_holds_8 21 rfl rfl)
theorem dX1_holds_207 : decode cX1_holds 207 = .ok (.goto 18, 3) := dk_167 0 18 (dk_at dksX1_holds_9 0 rfl rfl)
theorem dX1_holds_210 : decode cX1_holds 210 = .ok (.aload 6, 2) := dk_25 6 (dk_at dksX1_holds_9 3 rfl rfl)
theorem dX1_holds_212 : decode cX1_holds 212 = .ok (.getfield 169, 3) := dk_180 0 169 (dk_at dksX1_holds_9 5 rfl rfl)
theorem dX1_holds_215 : decode cX1_holds 215 = .ok (.aload_n 0, 1) := dk_42 (dk_at dksX1_holds_9 8 rfl rfl)
theorem dX1_holds_216 : decode cX1_holds 216 = .ok (.getfield 9, 3) := dk_180 0 9 (dk_at dksX1_holds_9 9 rfl rfl)
theorem dX1_holds_219 : decode cX1_holds 219 = .ok (.iconst 3, 1) := dk_6 (dk_at dksX1_holds_9 12 rfl rfl)
theorem dX1_holds_220 : decode cX1_holds 220 = .ok (.iaload, 1) := dk_46 (dk_at dksX1_holds_9 13 rfl rfl)
theorem dX1_holds_221 : decode cX1_holds 221 = .ok (.imul, 1) := dk_104 (dk_at dksX1_holds_9 14 rfl rfl)
theorem dX1_holds_222 : decode cX1_holds 222 = .ok (.bipush 100, 2) := dk_16 100 (dk_at dksX1_holds_9 15 rfl rfl)
theorem dX1_holds_224 : decode cX1_holds 224 = .ok (.idiv, 1) := dk_108 (dk_at dksX1_holds_9 17 rfl rfl)
theorem dX1_holds_225 : decode cX1_holds 225 = .ok (.putfield 290, 3) := dk_181 1 34 (dk_at dksX1_holds_9 18 rfl rfl)
theorem dX1_holds_228 : decode cX1_holds 228 = .ok (.aload_n 0, 1) := dk_42 (dk_at dksX1_holds_9 21 rfl rfl)
theorem dX1_holds_229 : decode cX1_holds 229 = .ok (.aload 6, 2) := dk_25 6 (dk_at dksX1_holds_9 22 rfl rfl)
theorem dX1_holds_231 : decode cX1_holds 231 = .ok (.aload_n 2, 1) := dk_44 (dk_at dksX1_holds_10 0 rfl rfl)
theorem dX1_holds_232 : decode cX1_holds 232 = .ok (.getfield 263, 3) := dk_180 1 7 (dk_at dksX1_holds_10 1 rfl rfl)
theorem dX1_holds_235 : decode cX1_holds 235 = .ok (.iconst 1, 1) := dk_4 (dk_at dksX1_holds_10 4 rfl rfl)
theorem dX1_holds_236 : decode cX1_holds 236 = .ok (.if_icmp .ne 7, 3) := dk_160 0 7 (dk_at dksX1_holds_10 5 rfl rfl)
theorem dX1_holds_239 : decode cX1_holds 239 = .ok (.iconst 0, 1) := dk_3 (dk_at dksX1_holds_10 8 rfl rfl)
theorem dX1_holds_240 : decode cX1_holds 240 = .ok (.goto 4, 3) := dk_167 0 4 (dk_at dksX1_holds_10 9 rfl rfl)
theorem dX1_holds_243 : decode cX1_holds 243 = .ok (.iconst 3, 1) := dk_6 (dk_at dksX1_holds_10 12 rfl rfl)
theorem dX1_holds_244 : decode cX1_holds 244 = .ok (.invokevirtual 165, 3) := dk_182 0 165 (dk_at dksX1_holds_10 13 rfl rfl)
theorem dX1_holds_247 : decode cX1_holds 247 = .ok (.goto (-108), 3) := dk_167 255 148 (dk_at dksX1_holds_10 16 rfl rfl)
theorem dX1_holds_250 : decode cX1_holds 250 = .ok (.return_, 1) := dk_177 (dk_at dksX1_holds_10 19 rfl rfl)
abbrev cX1_lampFor : ByteArray := prog_6_method_7_code
def yX1_lampFor : MethodName := ⟨RX1, "lampFor", "(LDomeNights$Kind;)Ljava/util/Optional;"⟩
def dkwX1_lampFor_2 : List UInt8 := [182, 0, 144, 42, 180, 0, 22, 42, 182, 0, 122, 185, 0, 115, 2, 0, 192, 0, 75, 184, 0, 148, 176]
abbrev dktX1_lampFor_2 : List UInt8 := dkwX1_lampFor_2 ++ []
def dkwX1_lampFor_1 : List UInt8 := [8, 46, 153, 0, 15, 42, 28, 43, 180, 0, 128, 182, 0, 131, 154, 0, 7, 184, 0, 138, 176, 42, 28]
abbrev dktX1_lampFor_1 : List UInt8 := dkwX1_lampFor_1 ++ dktX1_lampFor_2
def dkwX1_lampFor_0 : List UInt8 := [42, 42, 182, 0, 122, 43, 180, 0, 128, 182, 0, 131, 154, 0, 38, 42, 182, 0, 135, 61, 42, 180, 0, 9]
abbrev dktX1_lampFor_0 : List UInt8 := dkwX1_lampFor_0 ++ dktX1_lampFor_1
theorem dksX1_lampFor_0 : cX1_lampFor.data.toList.drop 0 = dktX1_lampFor_0 := by decide +kernel
theorem dksX1_lampFor_1 : cX1_lampFor.data.toList.drop 24 = dktX1_lampFor_1 := dk_seg dksX1_lampFor_0 24 rfl rfl
theorem dksX1_lampFor_2 : cX1_lampFor.data.toList.drop 47 = dktX1_lampFor_2 := dk_seg dksX1_lampFor_1 23 rfl rfl
theorem dX1_lampFor_0 : decode cX1_lampFor 0 = .ok (.aload_n 0, 1) := dk_42 (dk_at dksX1_lampFor_0 0 rfl rfl)
theorem dX1_lampFor_1 : decode cX1_lampFor 1 = .ok (.aload_n 0, 1) := dk_42 (dk_at dksX1_lampFor_0 1 rfl rfl)
theorem dX1_lampFor_2 : decode cX1_lampFor 2 = .ok (.invokevirtual 122, 3) := dk_182 0 122 (dk_at dksX1_lampFor_0 2 rfl rfl)
theorem dX1_lampFor_5 : decode cX1_lampFor 5 = .ok (.aload_n 1, 1) := dk_43 (dk_at dksX1_lampFor_0 5 rfl rfl)
theorem dX1_lampFor_6 : decode cX1_lampFor 6 = .ok (.getfield 128, 3) := dk_180 0 128 (dk_at dksX1_lampFor_0 6 rfl rfl)
theorem dX1_lampFor_9 : decode cX1_lampFor 9 = .ok (.invokevirtual 131, 3) := dk_182 0 131 (dk_at dksX1_lampFor_0 9 rfl rfl)
theorem dX1_lampFor_12 : decode cX1_lampFor 12 = .ok (.ifCond .ne 38, 3) := dk_154 0 38 (dk_at dksX1_lampFor_0 12 rfl rfl)
theorem dX1_lampFor_15 : decode cX1_lampFor 15 = .ok (.aload_n 0, 1) := dk_42 (dk_at dksX1_lampFor_0 15 rfl rfl)
theorem dX1_lampFor_16 : decode cX1_lampFor 16 = .ok (.invokevirtual 135, 3) := dk_182 0 135 (dk_at dksX1_lampFor_0 16 rfl rfl)
theorem dX1_lampFor_19 : decode cX1_lampFor 19 = .ok (.istore_n 2, 1) := dk_61 (dk_at dksX1_lampFor_0 19 rfl rfl)
theorem dX1_lampFor_20 : decode cX1_lampFor 20 = .ok (.aload_n 0, 1) := dk_42 (dk_at dksX1_lampFor_0 20 rfl rfl)
theorem dX1_lampFor_21 : decode cX1_lampFor 21 = .ok (.getfield 9, 3) := dk_180 0 9 (dk_at dksX1_lampFor_0 21 rfl rfl)
theorem dX1_lampFor_24 : decode cX1_lampFor 24 = .ok (.iconst 5, 1) := dk_8 (dk_at dksX1_lampFor_1 0 rfl rfl)
theorem dX1_lampFor_25 : decode cX1_lampFor 25 = .ok (.iaload, 1) := dk_46 (dk_at dksX1_lampFor_1 1 rfl rfl)
theorem dX1_lampFor_26 : decode cX1_lampFor 26 = .ok (.ifCond .eq 15, 3) := dk_153 0 15 (dk_at dksX1_lampFor_1 2 rfl rfl)
theorem dX1_lampFor_29 : decode cX1_lampFor 29 = .ok (.aload_n 0, 1) := dk_42 (dk_at dksX1_lampFor_1 5 rfl rfl)
theorem dX1_lampFor_30 : decode cX1_lampFor 30 = .ok (.iload_n 2, 1) := dk_28 (dk_at dksX1_lampFor_1 6 rfl rfl)
theorem dX1_lampFor_31 : decode cX1_lampFor 31 = .ok (.aload_n 1, 1) := dk_43 (dk_at dksX1_lampFor_1 7 rfl rfl)
theorem dX1_lampFor_32 : decode cX1_lampFor 32 = .ok (.getfield 128, 3) := dk_180 0 128 (dk_at dksX1_lampFor_1 8 rfl rfl)
theorem dX1_lampFor_35 : decode cX1_lampFor 35 = .ok (.invokevirtual 131, 3) := dk_182 0 131 (dk_at dksX1_lampFor_1 11 rfl rfl)
theorem dX1_lampFor_38 : decode cX1_lampFor 38 = .ok (.ifCond .ne 7, 3) := dk_154 0 7 (dk_at dksX1_lampFor_1 14 rfl rfl)
theorem dX1_lampFor_41 : decode cX1_lampFor 41 = .ok (.invokestatic 138, 3) := dk_184 0 138 (dk_at dksX1_lampFor_1 17 rfl rfl)
theorem dX1_lampFor_44 : decode cX1_lampFor 44 = .ok (.areturn, 1) := dk_176 (dk_at dksX1_lampFor_1 20 rfl rfl)
theorem dX1_lampFor_45 : decode cX1_lampFor 45 = .ok (.aload_n 0, 1) := dk_42 (dk_at dksX1_lampFor_1 21 rfl rfl)
theorem dX1_lampFor_46 : decode cX1_lampFor 46 = .ok (.iload_n 2, 1) := dk_28 (dk_at dksX1_lampFor_1 22 rfl rfl)
theorem dX1_lampFor_47 : decode cX1_lampFor 47 = .ok (.invokevirtual 144, 3) := dk_182 0 144 (dk_at dksX1_lampFor_2 0 rfl rfl)
theorem dX1_lampFor_50 : decode cX1_lampFor 50 = .ok (.aload_n 0, 1) := dk_42 (dk_at dksX1_lampFor_2 3 rfl rfl)
theorem dX1_lampFor_51 : decode cX1_lampFor 51 = .ok (.getfield 22, 3) := dk_180 0 22 (dk_at dksX1_lampFor_2 4 rfl rfl)
theorem dX1_lampFor_54 : decode cX1_lampFor 54 = .ok (.aload_n 0, 1) := dk_42 (dk_at dksX1_lampFor_2 7 rfl rfl)
theorem dX1_lampFor_55 : decode cX1_lampFor 55 = .ok (.invokevirtual 122, 3) := dk_182 0 122 (dk_at dksX1_lampFor_2 8 rfl rfl)
theorem dX1_lampFor_58 : decode cX1_lampFor 58 = .ok (.invokeinterface 115 2, 5) := by decide +kernel
theorem dX1_lampFor_63 : decode cX1_lampFor 63 = .ok (.checkcast 75, 3) := dk_192 0 75 (dk_at dksX1_lampFor_2 16 rfl rfl)
theorem dX1_lampFor_66 : decode cX1_lampFor 66 = .ok (.invokestatic 148, 3) := dk_184 0 148 (dk_at dksX1_lampFor_2 19 rfl rfl)
theorem dX1_lampFor_69 : decode cX1_lampFor 69 = .ok (.areturn, 1) := dk_176 (dk_at dksX1_lampFor_2 22 rfl rfl)
abbrev cX1_hasLight : ByteArray := prog_6_method_5_code
def yX1_hasLight : MethodName := ⟨RX1, "hasLight", "(II)Z"⟩
def dkwX1_hasLight_1 : List UInt8 := [4, 167, 0, 4, 3, 172]
abbrev dktX1_hasLight_1 : List UInt8 := dkwX1_hasLight_1 ++ []
def dkwX1_hasLight_0 : List UInt8 := [27, 155, 0, 27, 42, 180, 0, 22, 27, 185, 0, 115, 2, 0, 192, 0, 75, 182, 0, 125, 28, 161, 0, 7]
abbrev dktX1_hasLight_0 : List UInt8 := dkwX1_hasLight_0 ++ dktX1_hasLight_1
theorem dksX1_hasLight_0 : cX1_hasLight.data.toList.drop 0 = dktX1_hasLight_0 := by decide +kernel
theorem dksX1_hasLight_1 : cX1_hasLight.data.toList.drop 24 = dktX1_hasLight_1 := dk_seg dksX1_hasLight_0 24 rfl rfl
theorem dX1_hasLight_0 : decode cX1_hasLight 0 = .ok (.iload_n 1, 1) := dk_27 (dk_at dksX1_hasLight_0 0 rfl rfl)
theorem dX1_hasLight_1 : decode cX1_hasLight 1 = .ok (.ifCond .lt 27, 3) := dk_155 0 27 (dk_at dksX1_hasLight_0 1 rfl rfl)
theorem dX1_hasLight_4 : decode cX1_hasLight 4 = .ok (.aload_n 0, 1) := dk_42 (dk_at dksX1_hasLight_0 4 rfl rfl)
theorem dX1_hasLight_5 : decode cX1_hasLight 5 = .ok (.getfield 22, 3) := dk_180 0 22 (dk_at dksX1_hasLight_0 5 rfl rfl)
theorem dX1_hasLight_8 : decode cX1_hasLight 8 = .ok (.iload_n 1, 1) := dk_27 (dk_at dksX1_hasLight_0 8 rfl rfl)
theorem dX1_hasLight_9 : decode cX1_hasLight 9 = .ok (.invokeinterface 115 2, 5) := by decide +kernel
theorem dX1_hasLight_14 : decode cX1_hasLight 14 = .ok (.checkcast 75, 3) := dk_192 0 75 (dk_at dksX1_hasLight_0 14 rfl rfl)
theorem dX1_hasLight_17 : decode cX1_hasLight 17 = .ok (.invokevirtual 125, 3) := dk_182 0 125 (dk_at dksX1_hasLight_0 17 rfl rfl)
theorem dX1_hasLight_20 : decode cX1_hasLight 20 = .ok (.iload_n 2, 1) := dk_28 (dk_at dksX1_hasLight_0 20 rfl rfl)
theorem dX1_hasLight_21 : decode cX1_hasLight 21 = .ok (.if_icmp .lt 7, 3) := dk_161 0 7 (dk_at dksX1_hasLight_0 21 rfl rfl)
theorem dX1_hasLight_24 : decode cX1_hasLight 24 = .ok (.iconst 1, 1) := dk_4 (dk_at dksX1_hasLight_1 0 rfl rfl)
theorem dX1_hasLight_25 : decode cX1_hasLight 25 = .ok (.goto 4, 3) := dk_167 0 4 (dk_at dksX1_hasLight_1 1 rfl rfl)
theorem dX1_hasLight_28 : decode cX1_hasLight 28 = .ok (.iconst 0, 1) := dk_3 (dk_at dksX1_hasLight_1 4 rfl rfl)
theorem dX1_hasLight_29 : decode cX1_hasLight 29 = .ok (.ireturn, 1) := dk_172 (dk_at dksX1_hasLight_1 5 rfl rfl)
abbrev cX1_brightestSpare : ByteArray := prog_6_method_6_code
def yX1_brightestSpare : MethodName := ⟨RX1, "brightestSpare", "()I"⟩
def dkwX1_brightestSpare_5 : List UInt8 := [167, 255, 147, 27, 172]
abbrev dktX1_brightestSpare_5 : List UInt8 := dkwX1_brightestSpare_5 ++ []
def dkwX1_brightestSpare_4 : List UInt8 := [185, 0, 115, 2, 0, 192, 0, 75, 182, 0, 125, 164, 0, 7, 28, 167, 0, 4, 27, 60, 132, 2, 1]
abbrev dktX1_brightestSpare_4 : List UInt8 := dkwX1_brightestSpare_4 ++ dktX1_brightestSpare_5
def dkwX1_brightestSpare_3 : List UInt8 := [180, 0, 22, 28, 185, 0, 115, 2, 0, 192, 0, 75, 182, 0, 125, 42, 180, 0, 22, 27]
abbrev dktX1_brightestSpare_3 : List UInt8 := dkwX1_brightestSpare_3 ++ dktX1_brightestSpare_4
def dkwX1_brightestSpare_2 : List UInt8 := [192, 0, 75, 182, 0, 125, 158, 0, 7, 4, 167, 0, 4, 3, 62, 29, 153, 0, 46, 27, 155, 0, 38, 42]
abbrev dktX1_brightestSpare_2 : List UInt8 := dkwX1_brightestSpare_2 ++ dktX1_brightestSpare_3
def dkwX1_brightestSpare_1 : List UInt8 := [185, 0, 115, 2, 0, 192, 0, 75, 180, 0, 119, 154, 0, 26, 42, 180, 0, 22, 28, 185, 0, 115, 2, 0]
abbrev dktX1_brightestSpare_1 : List UInt8 := dkwX1_brightestSpare_1 ++ dktX1_brightestSpare_2
def dkwX1_brightestSpare_0 : List UInt8 := [16, 250, 60, 3, 61, 28, 42, 180, 0, 22, 185, 0, 111, 1, 0, 162, 0, 102, 42, 180, 0, 22, 28]
abbrev dktX1_brightestSpare_0 : List UInt8 := dkwX1_brightestSpare_0 ++ dktX1_brightestSpare_1
theorem dksX1_brightestSpare_0 : cX1_brightestSpare.data.toList.drop 0 = dktX1_brightestSpare_0 := by decide +kernel
theorem dksX1_brightestSpare_1 : cX1_brightestSpare.data.toList.drop 23 = dktX1_brightestSpare_1 := dk_seg dksX1_brightestSpare_0 23 rfl rfl
theorem dksX1_brightestSpare_2 : cX1_brightestSpare.data.toList.drop 47 = dktX1_brightestSpare_2 := dk_seg dksX1_brightestSpare_1 24 rfl rfl
theorem dksX1_brightestSpare_3 : cX1_brightestSpare.data.toList.drop 71 = dktX1_brightestSpare_3 := dk_seg dksX1_brightestSpare_2 24 rfl rfl
theorem dksX1_brightestSpare_4 : cX1_brightestSpare.data.toList.drop 91 = dktX1_brightestSpare_4 := dk_seg dksX1_brightestSpare_3 20 rfl rfl
theorem dksX1_brightestSpare_5 : cX1_brightestSpare.data.toList.drop 114 = dktX1_brightestSpare_5 := dk_seg dksX1_brightestSpare_4 23 rfl rfl
theorem dX1_brightestSpare_0 : decode cX1_brightestSpare 0 = .ok (.bipush (-6), 2) := dk_16 250 (dk_at dksX1_brightestSpare_0 0 rfl rfl)
theorem dX1_brightestSpare_2 : decode cX1_brightestSpare 2 = .ok (.istore_n 1, 1) := dk_60 (dk_at dksX1_brightestSpare_0 2 rfl rfl)
theorem dX1_brightestSpare_3 : decode cX1_brightestSpare 3 = .ok (.iconst 0, 1) := dk_3 (dk_at dksX1_brightestSpare_0 3 rfl rfl)
theorem dX1_brightestSpare_4 : decode cX1_brightestSpare 4 = .ok (.istore_n 2, 1) := dk_61 (dk_at dksX1_brightestSpare_0 4 rfl rfl)
theorem dX1_brightestSpare_5 : decode cX1_brightestSpare 5 = .ok (.iload_n 2, 1) := dk_28 (dk_at dksX1_brightestSpare_0 5 rfl rfl)
theorem dX1_brightestSpare_6 : decode cX1_brightestSpare 6 = .ok (.aload_n 0, 1) := dk_42 (dk_at dksX1_brightestSpare_0 6 rfl rfl)
theorem dX1_brightestSpare_7 : decode cX1_brightestSpare 7 = .ok (.getfield 22, 3) := dk_180 0 22 (dk_at dksX1_brightestSpare_0 7 rfl rfl)
theorem dX1_brightestSpare_10 : decode cX1_brightestSpare 10 = .ok (.invokeinterface 111 1, 5) := by decide +kernel
theorem dX1_brightestSpare_15 : decode cX1_brightestSpare 15 = .ok (.if_icmp .ge 102, 3) := dk_162 0 102 (dk_at dksX1_brightestSpare_0 15 rfl rfl)
theorem dX1_brightestSpare_18 : decode cX1_brightestSpare 18 = .ok (.aload_n 0, 1) := dk_42 (dk_at dksX1_brightestSpare_0 18 rfl rfl)
theorem dX1_brightestSpare_19 : decode cX1_brightestSpare 19 = .ok (.getfield 22, 3) := dk_180 0 22 (dk_at dksX1_brightestSpare_0 19 rfl rfl)
theorem dX1_brightestSpare_22 : decode cX1_brightestSpare 22 = .ok (.iload_n 2, 1) := dk_28 (dk_at dksX1_brightestSpare_0 22 rfl rfl)
theorem dX1_brightestSpare_23 : decode cX1_brightestSpare 23 = .ok (.invokeinterface 115 2, 5) := by decide +kernel
theorem dX1_brightestSpare_28 : decode cX1_brightestSpare 28 = .ok (.checkcast 75, 3) := dk_192 0 75 (dk_at dksX1_brightestSpare_1 5 rfl rfl)
theorem dX1_brightestSpare_31 : decode cX1_brightestSpare 31 = .ok (.getfield 119, 3) := dk_180 0 119 (dk_at dksX1_brightestSpare_1 8 rfl rfl)
theorem dX1_brightestSpare_34 : decode cX1_brightestSpare 34 = .ok (.ifCond .ne 26, 3) := dk_154 0 26 (dk_at dksX1_brightestSpare_1 11 rfl rfl)
theorem dX1_brightestSpare_37 : decode cX1_brightestSpare 37 = .ok (.aload_n 0, 1) := dk_42 (dk_at dksX1_brightestSpare_1 14 rfl rfl)
theorem dX1_brightestSpare_38 : decode cX1_brightestSpare 38 = .ok (.getfield 22, 3) := dk_180 0 22 (dk_at dksX1_brightestSpare_1 15 rfl rfl)
theorem dX1_brightestSpare_41 : decode cX1_brightestSpare 41 = .ok (.iload_n 2, 1) := dk_28 (dk_at dksX1_brightestSpare_1 18 rfl rfl)
theorem dX1_brightestSpare_42 : decode cX1_brightestSpare 42 = .ok (.invokeinterface 115 2, 5) := by decide +kernel
theorem dX1_brightestSpare_47 : decode cX1_brightestSpare 47 = .ok (.checkcast 75, 3) := dk_192 0 75 (dk_at dksX1_brightestSpare_2 0 rfl rfl)
theorem dX1_brightestSpare_50 : decode cX1_brightestSpare 50 = .ok (.invokevirtual 125, 3) := dk_182 0 125 (dk_at dksX1_brightestSpare_2 3 rfl rfl)
theorem dX1_brightestSpare_53 : decode cX1_brightestSpare 53 = .ok (.ifCond .le 7, 3) := dk_158 0 7 (dk_at dksX1_brightestSpare_2 6 rfl rfl)
theorem dX1_brightestSpare_56 : decode cX1_brightestSpare 56 = .ok (.iconst 1, 1) := dk_4 (dk_at dksX1_brightestSpare_2 9 rfl rfl)
theorem dX1_brightestSpare_57 : decode cX1_brightestSpare 57 = .ok (.goto 4, 3) := dk_167 0 4 (dk_at dksX1_brightestSpare_2 10 rfl rfl)
theorem dX1_brightestSpare_60 : decode cX1_brightestSpare 60 = .ok (.iconst 0, 1) := dk_3 (dk_at dksX1_brightestSpare_2 13 rfl rfl)
theorem dX1_brightestSpare_61 : decode cX1_brightestSpare 61 = .ok (.istore_n 3, 1) := dk_62 (dk_at dksX1_brightestSpare_2 14 rfl rfl)
theorem dX1_brightestSpare_62 : decode cX1_brightestSpare 62 = .ok (.iload_n 3, 1) := dk_29 (dk_at dksX1_brightestSpare_2 15 rfl rfl)
theorem dX1_brightestSpare_63 : decode cX1_brightestSpare 63 = .ok (.ifCond .eq 46, 3) := dk_153 0 46 (dk_at dksX1_brightestSpare_2 16 rfl rfl)
theorem dX1_brightestSpare_66 : decode cX1_brightestSpare 66 = .ok (.iload_n 1, 1) := dk_27 (dk_at dksX1_brightestSpare_2 19 rfl rfl)
theorem dX1_brightestSpare_67 : decode cX1_brightestSpare 67 = .ok (.ifCond .lt 38, 3) := dk_155 0 38 (dk_at dksX1_brightestSpare_2 20 rfl rfl)
theorem dX1_brightestSpare_70 : decode cX1_brightestSpare 70 = .ok (.aload_n 0, 1) := dk_42 (dk_at dksX1_brightestSpare_2 23 rfl rfl)
theorem dX1_brightestSpare_71 : decode cX1_brightestSpare 71 = .ok (.getfield 22, 3) := dk_180 0 22 (dk_at dksX1_brightestSpare_3 0 rfl rfl)
theorem dX1_brightestSpare_74 : decode cX1_brightestSpare 74 = .ok (.iload_n 2, 1) := dk_28 (dk_at dksX1_brightestSpare_3 3 rfl rfl)
theorem dX1_brightestSpare_75 : decode cX1_brightestSpare 75 = .ok (.invokeinterface 115 2, 5) := by decide +kernel
theorem dX1_brightestSpare_80 : decode cX1_brightestSpare 80 = .ok (.checkcast 75, 3) := dk_192 0 75 (dk_at dksX1_brightestSpare_3 9 rfl rfl)
theorem dX1_brightestSpare_83 : decode cX1_brightestSpare 83 = .ok (.invokevirtual 125, 3) := dk_182 0 125 (dk_at dksX1_brightestSpare_3 12 rfl rfl)
theorem dX1_brightestSpare_86 : decode cX1_brightestSpare 86 = .ok (.aload_n 0, 1) := dk_42 (dk_at dksX1_brightestSpare_3 15 rfl rfl)
theorem dX1_brightestSpare_87 : decode cX1_brightestSpare 87 = .ok (.getfield 22, 3) := dk_180 0 22 (dk_at dksX1_brightestSpare_3 16 rfl rfl)
theorem dX1_brightestSpare_90 : decode cX1_brightestSpare 90 = .ok (.iload_n 1, 1) := dk_27 (dk_at dksX1_brightestSpare_3 19 rfl rfl)
theorem dX1_brightestSpare_91 : decode cX1_brightestSpare 91 = .ok (.invokeinterface 115 2, 5) := by decide +kernel
theorem dX1_brightestSpare_96 : decode cX1_brightestSpare 96 = .ok (.checkcast 75, 3) := dk_192 0 75 (dk_at dksX1_brightestSpare_4 5 rfl rfl)
theorem dX1_brightestSpare_99 : decode cX1_brightestSpare 99 = .ok (.invokevirtual 125, 3) := dk_182 0 125 (dk_at dksX1_brightestSpare_4 8 rfl rfl)
theorem dX1_brightestSpare_102 : decode cX1_brightestSpare 102 = .ok (.if_icmp .le 7, 3) := dk_164 0 7 (dk_at dksX1_brightestSpare_4 11 rfl rfl)
theorem dX1_brightestSpare_105 : decode cX1_brightestSpare 105 = .ok (.iload_n 2, 1) := dk_28 (dk_at dksX1_brightestSpare_4 14 rfl rfl)
theorem dX1_brightestSpare_106 : decode cX1_brightestSpare 106 = .ok (.goto 4, 3) := dk_167 0 4 (dk_at dksX1_brightestSpare_4 15 rfl rfl)
theorem dX1_brightestSpare_109 : decode cX1_brightestSpare 109 = .ok (.iload_n 1, 1) := dk_27 (dk_at dksX1_brightestSpare_4 18 rfl rfl)
theorem dX1_brightestSpare_110 : decode cX1_brightestSpare 110 = .ok (.istore_n 1, 1) := dk_60 (dk_at dksX1_brightestSpare_4 19 rfl rfl)
theorem dX1_brightestSpare_111 : decode cX1_brightestSpare 111 = .ok (.iinc 2 1, 3) := dk_132 2 1 (dk_at dksX1_brightestSpare_4 20 rfl rfl)
theorem dX1_brightestSpare_114 : decode cX1_brightestSpare 114 = .ok (.goto (-109), 3) := dk_167 255 147 (dk_at dksX1_brightestSpare_5 0 rfl rfl)
theorem dX1_brightestSpare_117 : decode cX1_brightestSpare 117 = .ok (.iload_n 1, 1) := dk_27 (dk_at dksX1_brightestSpare_5 3 rfl rfl)
theorem dX1_brightestSpare_118 : decode cX1_brightestSpare 118 = .ok (.ireturn, 1) := dk_172 (dk_at dksX1_brightestSpare_5 4 rfl rfl)
abbrev cX1_showsOf : ByteArray := prog_6_method_23_code
def yX1_showsOf : MethodName := ⟨RX1, "showsOf", "(II)I"⟩
def dkwX1_showsOf_2 : List UInt8 := [180, 1, 7, 28, 160, 0, 7, 4, 167, 0, 4, 3, 96, 62, 167, 255, 208, 29, 172]
abbrev dktX1_showsOf_2 : List UInt8 := dkwX1_showsOf_2 ++ []
def dkwX1_showsOf_1 : List UInt8 := [25, 4, 185, 0, 62, 1, 0, 192, 0, 80, 58, 5, 29, 25, 5, 180, 0, 186, 27, 160, 0, 16, 25, 5]
abbrev dktX1_showsOf_1 : List UInt8 := dkwX1_showsOf_1 ++ dktX1_showsOf_2
def dkwX1_showsOf_0 : List UInt8 := [3, 62, 42, 180, 0, 25, 185, 0, 50, 1, 0, 58, 4, 25, 4, 185, 0, 56, 1, 0, 153, 0, 44]
abbrev dktX1_showsOf_0 : List UInt8 := dkwX1_showsOf_0 ++ dktX1_showsOf_1
theorem dksX1_showsOf_0 : cX1_showsOf.data.toList.drop 0 = dktX1_showsOf_0 := by decide +kernel
theorem dksX1_showsOf_1 : cX1_showsOf.data.toList.drop 23 = dktX1_showsOf_1 := dk_seg dksX1_showsOf_0 23 rfl rfl
theorem dksX1_showsOf_2 : cX1_showsOf.data.toList.drop 47 = dktX1_showsOf_2 := dk_seg dksX1_showsOf_1 24 rfl rfl
theorem dX1_showsOf_0 : decode cX1_showsOf 0 = .ok (.iconst 0, 1) := dk_3 (dk_at dksX1_showsOf_0 0 rfl rfl)
theorem dX1_showsOf_1 : decode cX1_showsOf 1 = .ok (.istore_n 3, 1) := dk_62 (dk_at dksX1_showsOf_0 1 rfl rfl)
theorem dX1_showsOf_2 : decode cX1_showsOf 2 = .ok (.aload_n 0, 1) := dk_42 (dk_at dksX1_showsOf_0 2 rfl rfl)
theorem dX1_showsOf_3 : decode cX1_showsOf 3 = .ok (.getfield 25, 3) := dk_180 0 25 (dk_at dksX1_showsOf_0 3 rfl rfl)
theorem dX1_showsOf_6 : decode cX1_showsOf 6 = .ok (.invokeinterface 50 1, 5) := by decide +kernel
theorem dX1_showsOf_11 : decode cX1_showsOf 11 = .ok (.astore 4, 2) := dk_58 4 (dk_at dksX1_showsOf_0 11 rfl rfl)
theorem dX1_showsOf_13 : decode cX1_showsOf 13 = .ok (.aload 4, 2) := dk_25 4 (dk_at dksX1_showsOf_0 13 rfl rfl)
theorem dX1_showsOf_15 : decode cX1_showsOf 15 = .ok (.invokeinterface 56 1, 5) := by decide +kernel
theorem dX1_showsOf_20 : decode cX1_showsOf 20 = .ok (.ifCond .eq 44, 3) := dk_153 0 44 (dk_at dksX1_showsOf_0 20 rfl rfl)
theorem dX1_showsOf_23 : decode cX1_showsOf 23 = .ok (.aload 4, 2) := dk_25 4 (dk_at dksX1_showsOf_1 0 rfl rfl)
theorem dX1_showsOf_25 : decode cX1_showsOf 25 = .ok (.invokeinterface 62 1, 5) := by decide +kernel
theorem dX1_showsOf_30 : decode cX1_showsOf 30 = .ok (.checkcast 80, 3) := dk_192 0 80 (dk_at dksX1_showsOf_1 7 rfl rfl)
theorem dX1_showsOf_33 : decode cX1_showsOf 33 = .ok (.astore 5, 2) := dk_58 5 (dk_at dksX1_showsOf_1 10 rfl rfl)
theorem dX1_showsOf_35 : decode cX1_showsOf 35 = .ok (.iload_n 3, 1) := dk_29 (dk_at dksX1_showsOf_1 12 rfl rfl)
theorem dX1_showsOf_36 : decode cX1_showsOf 36 = .ok (.aload 5, 2) := dk_25 5 (dk_at dksX1_showsOf_1 13 rfl rfl)
theorem dX1_showsOf_38 : decode cX1_showsOf 38 = .ok (.getfield 186, 3) := dk_180 0 186 (dk_at dksX1_showsOf_1 15 rfl rfl)
theorem dX1_showsOf_41 : decode cX1_showsOf 41 = .ok (.iload_n 1, 1) := dk_27 (dk_at dksX1_showsOf_1 18 rfl rfl)
theorem dX1_showsOf_42 : decode cX1_showsOf 42 = .ok (.if_icmp .ne 16, 3) := dk_160 0 16 (dk_at dksX1_showsOf_1 19 rfl rfl)
theorem dX1_showsOf_45 : decode cX1_showsOf 45 = .ok (.aload 5, 2) := dk_25 5 (dk_at dksX1_showsOf_1 22 rfl rfl)
theorem dX1_showsOf_47 : decode cX1_showsOf 47 = .ok (.getfield 263, 3) := dk_180 1 7 (dk_at dksX1_showsOf_2 0 rfl rfl)
theorem dX1_showsOf_50 : decode cX1_showsOf 50 = .ok (.iload_n 2, 1) := dk_28 (dk_at dksX1_showsOf_2 3 rfl rfl)
theorem dX1_showsOf_51 : decode cX1_showsOf 51 = .ok (.if_icmp .ne 7, 3) := dk_160 0 7 (dk_at dksX1_showsOf_2 4 rfl rfl)
theorem dX1_showsOf_54 : decode cX1_showsOf 54 = .ok (.iconst 1, 1) := dk_4 (dk_at dksX1_showsOf_2 7 rfl rfl)
theorem dX1_showsOf_55 : decode cX1_showsOf 55 = .ok (.goto 4, 3) := dk_167 0 4 (dk_at dksX1_showsOf_2 8 rfl rfl)
theorem dX1_showsOf_58 : decode cX1_showsOf 58 = .ok (.iconst 0, 1) := dk_3 (dk_at dksX1_showsOf_2 11 rfl rfl)
theorem dX1_showsOf_59 : decode cX1_showsOf 59 = .ok (.iadd, 1) := dk_96 (dk_at dksX1_showsOf_2 12 rfl rfl)
theorem dX1_showsOf_60 : decode cX1_showsOf 60 = .ok (.istore_n 3, 1) := dk_62 (dk_at dksX1_showsOf_2 13 rfl rfl)
theorem dX1_showsOf_61 : decode cX1_showsOf 61 = .ok (.goto (-48), 3) := dk_167 255 208 (dk_at dksX1_showsOf_2 14 rfl rfl)
theorem dX1_showsOf_64 : decode cX1_showsOf 64 = .ok (.iload_n 3, 1) := dk_29 (dk_at dksX1_showsOf_2 17 rfl rfl)
theorem dX1_showsOf_65 : decode cX1_showsOf 65 = .ok (.ireturn, 1) := dk_172 (dk_at dksX1_showsOf_2 18 rfl rfl)
abbrev cX1_wornBy : ByteArray := prog_6_method_24_code
def yX1_wornBy : MethodName := ⟨RX1, "wornBy", "(I)I"⟩
def dkwX1_wornBy_2 : List UInt8 := [3, 96, 61, 167, 255, 219, 28, 172]
abbrev dktX1_wornBy_2 : List UInt8 := dkwX1_wornBy_2 ++ []
def dkwX1_wornBy_1 : List UInt8 := [185, 0, 62, 1, 0, 192, 0, 80, 58, 4, 28, 25, 4, 180, 1, 22, 27, 160, 0, 7, 4, 167, 0, 4]
abbrev dktX1_wornBy_1 : List UInt8 := dkwX1_wornBy_1 ++ dktX1_wornBy_2
def dkwX1_wornBy_0 : List UInt8 := [3, 61, 42, 180, 0, 25, 185, 0, 50, 1, 0, 78, 45, 185, 0, 56, 1, 0, 153, 0, 34, 45]
abbrev dktX1_wornBy_0 : List UInt8 := dkwX1_wornBy_0 ++ dktX1_wornBy_1
theorem dksX1_wornBy_0 : cX1_wornBy.data.toList.drop 0 = dktX1_wornBy_0 := by decide +kernel
theorem dksX1_wornBy_1 : cX1_wornBy.data.toList.drop 22 = dktX1_wornBy_1 := dk_seg dksX1_wornBy_0 22 rfl rfl
theorem dksX1_wornBy_2 : cX1_wornBy.data.toList.drop 46 = dktX1_wornBy_2 := dk_seg dksX1_wornBy_1 24 rfl rfl
theorem dX1_wornBy_0 : decode cX1_wornBy 0 = .ok (.iconst 0, 1) := dk_3 (dk_at dksX1_wornBy_0 0 rfl rfl)
theorem dX1_wornBy_1 : decode cX1_wornBy 1 = .ok (.istore_n 2, 1) := dk_61 (dk_at dksX1_wornBy_0 1 rfl rfl)
theorem dX1_wornBy_2 : decode cX1_wornBy 2 = .ok (.aload_n 0, 1) := dk_42 (dk_at dksX1_wornBy_0 2 rfl rfl)
theorem dX1_wornBy_3 : decode cX1_wornBy 3 = .ok (.getfield 25, 3) := dk_180 0 25 (dk_at dksX1_wornBy_0 3 rfl rfl)
theorem dX1_wornBy_6 : decode cX1_wornBy 6 = .ok (.invokeinterface 50 1, 5) := by decide +kernel
theorem dX1_wornBy_11 : decode cX1_wornBy 11 = .ok (.astore_n 3, 1) := dk_78 (dk_at dksX1_wornBy_0 11 rfl rfl)
theorem dX1_wornBy_12 : decode cX1_wornBy 12 = .ok (.aload_n 3, 1) := dk_45 (dk_at dksX1_wornBy_0 12 rfl rfl)
theorem dX1_wornBy_13 : decode cX1_wornBy 13 = .ok (.invokeinterface 56 1, 5) := by decide +kernel
theorem dX1_wornBy_18 : decode cX1_wornBy 18 = .ok (.ifCond .eq 34, 3) := dk_153 0 34 (dk_at dksX1_wornBy_0 18 rfl rfl)
theorem dX1_wornBy_21 : decode cX1_wornBy 21 = .ok (.aload_n 3, 1) := dk_45 (dk_at dksX1_wornBy_0 21 rfl rfl)
theorem dX1_wornBy_22 : decode cX1_wornBy 22 = .ok (.invokeinterface 62 1, 5) := by decide +kernel
theorem dX1_wornBy_27 : decode cX1_wornBy 27 = .ok (.checkcast 80, 3) := dk_192 0 80 (dk_at dksX1_wornBy_1 5 rfl rfl)
theorem dX1_wornBy_30 : decode cX1_wornBy 30 = .ok (.astore 4, 2) := dk_58 4 (dk_at dksX1_wornBy_1 8 rfl rfl)
theorem dX1_wornBy_32 : decode cX1_wornBy 32 = .ok (.iload_n 2, 1) := dk_28 (dk_at dksX1_wornBy_1 10 rfl rfl)
theorem dX1_wornBy_33 : decode cX1_wornBy 33 = .ok (.aload 4, 2) := dk_25 4 (dk_at dksX1_wornBy_1 11 rfl rfl)
theorem dX1_wornBy_35 : decode cX1_wornBy 35 = .ok (.getfield 278, 3) := dk_180 1 22 (dk_at dksX1_wornBy_1 13 rfl rfl)
theorem dX1_wornBy_38 : decode cX1_wornBy 38 = .ok (.iload_n 1, 1) := dk_27 (dk_at dksX1_wornBy_1 16 rfl rfl)
theorem dX1_wornBy_39 : decode cX1_wornBy 39 = .ok (.if_icmp .ne 7, 3) := dk_160 0 7 (dk_at dksX1_wornBy_1 17 rfl rfl)
theorem dX1_wornBy_42 : decode cX1_wornBy 42 = .ok (.iconst 1, 1) := dk_4 (dk_at dksX1_wornBy_1 20 rfl rfl)
theorem dX1_wornBy_43 : decode cX1_wornBy 43 = .ok (.goto 4, 3) := dk_167 0 4 (dk_at dksX1_wornBy_1 21 rfl rfl)
theorem dX1_wornBy_46 : decode cX1_wornBy 46 = .ok (.iconst 0, 1) := dk_3 (dk_at dksX1_wornBy_2 0 rfl rfl)
theorem dX1_wornBy_47 : decode cX1_wornBy 47 = .ok (.iadd, 1) := dk_96 (dk_at dksX1_wornBy_2 1 rfl rfl)
theorem dX1_wornBy_48 : decode cX1_wornBy 48 = .ok (.istore_n 2, 1) := dk_61 (dk_at dksX1_wornBy_2 2 rfl rfl)
theorem dX1_wornBy_49 : decode cX1_wornBy 49 = .ok (.goto (-37), 3) := dk_167 255 219 (dk_at dksX1_wornBy_2 3 rfl rfl)
theorem dX1_wornBy_52 : decode cX1_wornBy 52 = .ok (.iload_n 2, 1) := dk_28 (dk_at dksX1_wornBy_2 6 rfl rfl)
theorem dX1_wornBy_53 : decode cX1_wornBy 53 = .ok (.ireturn, 1) := dk_172 (dk_at dksX1_wornBy_2 7 rfl rfl)
abbrev cX1_costOf : ByteArray := prog_6_method_25_code
def yX1_costOf : MethodName := ⟨RX1, "costOf", "(I)I"⟩
def dkwX1_costOf_2 : List UInt8 := [180, 0, 169, 167, 0, 4, 3, 96, 61, 167, 255, 215, 28, 172]
abbrev dktX1_costOf_2 : List UInt8 := dkwX1_costOf_2 ++ []
def dkwX1_costOf_1 : List UInt8 := [185, 0, 62, 1, 0, 192, 0, 85, 58, 4, 28, 25, 4, 180, 0, 155, 27, 160, 0, 11, 25, 4]
abbrev dktX1_costOf_1 : List UInt8 := dkwX1_costOf_1 ++ dktX1_costOf_2
def dkwX1_costOf_0 : List UInt8 := [3, 61, 42, 180, 0, 28, 185, 0, 50, 1, 0, 78, 45, 185, 0, 56, 1, 0, 153, 0, 38, 45]
abbrev dktX1_costOf_0 : List UInt8 := dkwX1_costOf_0 ++ dktX1_costOf_1
theorem dksX1_costOf_0 : cX1_costOf.data.toList.drop 0 = dktX1_costOf_0 := by decide +kernel
theorem dksX1_costOf_1 : cX1_costOf.data.toList.drop 22 = dktX1_costOf_1 := dk_seg dksX1_costOf_0 22 rfl rfl
theorem dksX1_costOf_2 : cX1_costOf.data.toList.drop 44 = dktX1_costOf_2 := dk_seg dksX1_costOf_1 22 rfl rfl
theorem dX1_costOf_0 : decode cX1_costOf 0 = .ok (.iconst 0, 1) := dk_3 (dk_at dksX1_costOf_0 0 rfl rfl)
theorem dX1_costOf_1 : decode cX1_costOf 1 = .ok (.istore_n 2, 1) := dk_61 (dk_at dksX1_costOf_0 1 rfl rfl)
theorem dX1_costOf_2 : decode cX1_costOf 2 = .ok (.aload_n 0, 1) := dk_42 (dk_at dksX1_costOf_0 2 rfl rfl)
theorem dX1_costOf_3 : decode cX1_costOf 3 = .ok (.getfield 28, 3) := dk_180 0 28 (dk_at dksX1_costOf_0 3 rfl rfl)
theorem dX1_costOf_6 : decode cX1_costOf 6 = .ok (.invokeinterface 50 1, 5) := by decide +kernel
theorem dX1_costOf_11 : decode cX1_costOf 11 = .ok (.astore_n 3, 1) := dk_78 (dk_at dksX1_costOf_0 11 rfl rfl)
theorem dX1_costOf_12 : decode cX1_costOf 12 = .ok (.aload_n 3, 1) := dk_45 (dk_at dksX1_costOf_0 12 rfl rfl)
theorem dX1_costOf_13 : decode cX1_costOf 13 = .ok (.invokeinterface 56 1, 5) := by decide +kernel
theorem dX1_costOf_18 : decode cX1_costOf 18 = .ok (.ifCond .eq 38, 3) := dk_153 0 38 (dk_at dksX1_costOf_0 18 rfl rfl)
theorem dX1_costOf_21 : decode cX1_costOf 21 = .ok (.aload_n 3, 1) := dk_45 (dk_at dksX1_costOf_0 21 rfl rfl)
theorem dX1_costOf_22 : decode cX1_costOf 22 = .ok (.invokeinterface 62 1, 5) := by decide +kernel
theorem dX1_costOf_27 : decode cX1_costOf 27 = .ok (.checkcast 85, 3) := dk_192 0 85 (dk_at dksX1_costOf_1 5 rfl rfl)
theorem dX1_costOf_30 : decode cX1_costOf 30 = .ok (.astore 4, 2) := dk_58 4 (dk_at dksX1_costOf_1 8 rfl rfl)
theorem dX1_costOf_32 : decode cX1_costOf 32 = .ok (.iload_n 2, 1) := dk_28 (dk_at dksX1_costOf_1 10 rfl rfl)
theorem dX1_costOf_33 : decode cX1_costOf 33 = .ok (.aload 4, 2) := dk_25 4 (dk_at dksX1_costOf_1 11 rfl rfl)
theorem dX1_costOf_35 : decode cX1_costOf 35 = .ok (.getfield 155, 3) := dk_180 0 155 (dk_at dksX1_costOf_1 13 rfl rfl)
theorem dX1_costOf_38 : decode cX1_costOf 38 = .ok (.iload_n 1, 1) := dk_27 (dk_at dksX1_costOf_1 16 rfl rfl)
theorem dX1_costOf_39 : decode cX1_costOf 39 = .ok (.if_icmp .ne 11, 3) := dk_160 0 11 (dk_at dksX1_costOf_1 17 rfl rfl)
theorem dX1_costOf_42 : decode cX1_costOf 42 = .ok (.aload 4, 2) := dk_25 4 (dk_at dksX1_costOf_1 20 rfl rfl)
theorem dX1_costOf_44 : decode cX1_costOf 44 = .ok (.getfield 169, 3) := dk_180 0 169 (dk_at dksX1_costOf_2 0 rfl rfl)
theorem dX1_costOf_47 : decode cX1_costOf 47 = .ok (.goto 4, 3) := dk_167 0 4 (dk_at dksX1_costOf_2 3 rfl rfl)
theorem dX1_costOf_50 : decode cX1_costOf 50 = .ok (.iconst 0, 1) := dk_3 (dk_at dksX1_costOf_2 6 rfl rfl)
theorem dX1_costOf_51 : decode cX1_costOf 51 = .ok (.iadd, 1) := dk_96 (dk_at dksX1_costOf_2 7 rfl rfl)
theorem dX1_costOf_52 : decode cX1_costOf 52 = .ok (.istore_n 2, 1) := dk_61 (dk_at dksX1_costOf_2 8 rfl rfl)
theorem dX1_costOf_53 : decode cX1_costOf 53 = .ok (.goto (-41), 3) := dk_167 255 215 (dk_at dksX1_costOf_2 9 rfl rfl)
theorem dX1_costOf_56 : decode cX1_costOf 56 = .ok (.iload_n 2, 1) := dk_28 (dk_at dksX1_costOf_2 12 rfl rfl)
theorem dX1_costOf_57 : decode cX1_costOf 57 = .ok (.ireturn, 1) := dk_172 (dk_at dksX1_costOf_2 13 rfl rfl)
abbrev cX1_refundedOf : ByteArray := prog_6_method_26_code
def yX1_refundedOf : MethodName := ⟨RX1, "refundedOf", "(I)I"⟩
def dkwX1_refundedOf_2 : List UInt8 := [180, 1, 34, 167, 0, 4, 3, 96, 61, 167, 255, 215, 28, 172]
abbrev dktX1_refundedOf_2 : List UInt8 := dkwX1_refundedOf_2 ++ []
def dkwX1_refundedOf_1 : List UInt8 := [185, 0, 62, 1, 0, 192, 0, 85, 58, 4, 28, 25, 4, 180, 0, 155, 27, 160, 0, 11, 25, 4]
abbrev dktX1_refundedOf_1 : List UInt8 := dkwX1_refundedOf_1 ++ dktX1_refundedOf_2
def dkwX1_refundedOf_0 : List UInt8 := [3, 61, 42, 180, 0, 28, 185, 0, 50, 1, 0, 78, 45, 185, 0, 56, 1, 0, 153, 0, 38, 45]
abbrev dktX1_refundedOf_0 : List UInt8 := dkwX1_refundedOf_0 ++ dktX1_refundedOf_1
theorem dksX1_refundedOf_0 : cX1_refundedOf.data.toList.drop 0 = dktX1_refundedOf_0 := by decide +kernel
theorem dksX1_refundedOf_1 : cX1_refundedOf.data.toList.drop 22 = dktX1_refundedOf_1 := dk_seg dksX1_refundedOf_0 22 rfl rfl
theorem dksX1_refundedOf_2 : cX1_refundedOf.data.toList.drop 44 = dktX1_refundedOf_2 := dk_seg dksX1_refundedOf_1 22 rfl rfl
theorem dX1_refundedOf_0 : decode cX1_refundedOf 0 = .ok (.iconst 0, 1) := dk_3 (dk_at dksX1_refundedOf_0 0 rfl rfl)
theorem dX1_refundedOf_1 : decode cX1_refundedOf 1 = .ok (.istore_n 2, 1) := dk_61 (dk_at dksX1_refundedOf_0 1 rfl rfl)
theorem dX1_refundedOf_2 : decode cX1_refundedOf 2 = .ok (.aload_n 0, 1) := dk_42 (dk_at dksX1_refundedOf_0 2 rfl rfl)
theorem dX1_refundedOf_3 : decode cX1_refundedOf 3 = .ok (.getfield 28, 3) := dk_180 0 28 (dk_at dksX1_refundedOf_0 3 rfl rfl)
theorem dX1_refundedOf_6 : decode cX1_refundedOf 6 = .ok (.invokeinterface 50 1, 5) := by decide +kernel
theorem dX1_refundedOf_11 : decode cX1_refundedOf 11 = .ok (.astore_n 3, 1) := dk_78 (dk_at dksX1_refundedOf_0 11 rfl rfl)
theorem dX1_refundedOf_12 : decode cX1_refundedOf 12 = .ok (.aload_n 3, 1) := dk_45 (dk_at dksX1_refundedOf_0 12 rfl rfl)
theorem dX1_refundedOf_13 : decode cX1_refundedOf 13 = .ok (.invokeinterface 56 1, 5) := by decide +kernel
theorem dX1_refundedOf_18 : decode cX1_refundedOf 18 = .ok (.ifCond .eq 38, 3) := dk_153 0 38 (dk_at dksX1_refundedOf_0 18 rfl rfl)
theorem dX1_refundedOf_21 : decode cX1_refundedOf 21 = .ok (.aload_n 3, 1) := dk_45 (dk_at dksX1_refundedOf_0 21 rfl rfl)
theorem dX1_refundedOf_22 : decode cX1_refundedOf 22 = .ok (.invokeinterface 62 1, 5) := by decide +kernel
theorem dX1_refundedOf_27 : decode cX1_refundedOf 27 = .ok (.checkcast 85, 3) := dk_192 0 85 (dk_at dksX1_refundedOf_1 5 rfl rfl)
theorem dX1_refundedOf_30 : decode cX1_refundedOf 30 = .ok (.astore 4, 2) := dk_58 4 (dk_at dksX1_refundedOf_1 8 rfl rfl)
theorem dX1_refundedOf_32 : decode cX1_refundedOf 32 = .ok (.iload_n 2, 1) := dk_28 (dk_at dksX1_refundedOf_1 10 rfl rfl)
theorem dX1_refundedOf_33 : decode cX1_refundedOf 33 = .ok (.aload 4, 2) := dk_25 4 (dk_at dksX1_refundedOf_1 11 rfl rfl)
theorem dX1_refundedOf_35 : decode cX1_refundedOf 35 = .ok (.getfield 155, 3) := dk_180 0 155 (dk_at dksX1_refundedOf_1 13 rfl rfl)
theorem dX1_refundedOf_38 : decode cX1_refundedOf 38 = .ok (.iload_n 1, 1) := dk_27 (dk_at dksX1_refundedOf_1 16 rfl rfl)
theorem dX1_refundedOf_39 : decode cX1_refundedOf 39 = .ok (.if_icmp .ne 11, 3) := dk_160 0 11 (dk_at dksX1_refundedOf_1 17 rfl rfl)
theorem dX1_refundedOf_42 : decode cX1_refundedOf 42 = .ok (.aload 4, 2) := dk_25 4 (dk_at dksX1_refundedOf_1 20 rfl rfl)
theorem dX1_refundedOf_44 : decode cX1_refundedOf 44 = .ok (.getfield 290, 3) := dk_180 1 34 (dk_at dksX1_refundedOf_2 0 rfl rfl)
theorem dX1_refundedOf_47 : decode cX1_refundedOf 47 = .ok (.goto 4, 3) := dk_167 0 4 (dk_at dksX1_refundedOf_2 3 rfl rfl)
theorem dX1_refundedOf_50 : decode cX1_refundedOf 50 = .ok (.iconst 0, 1) := dk_3 (dk_at dksX1_refundedOf_2 6 rfl rfl)
theorem dX1_refundedOf_51 : decode cX1_refundedOf 51 = .ok (.iadd, 1) := dk_96 (dk_at dksX1_refundedOf_2 7 rfl rfl)
theorem dX1_refundedOf_52 : decode cX1_refundedOf 52 = .ok (.istore_n 2, 1) := dk_61 (dk_at dksX1_refundedOf_2 8 rfl rfl)
theorem dX1_refundedOf_53 : decode cX1_refundedOf 53 = .ok (.goto (-41), 3) := dk_167 255 215 (dk_at dksX1_refundedOf_2 9 rfl rfl)
theorem dX1_refundedOf_56 : decode cX1_refundedOf 56 = .ok (.iload_n 2, 1) := dk_28 (dk_at dksX1_refundedOf_2 12 rfl rfl)
theorem dX1_refundedOf_57 : decode cX1_refundedOf 57 = .ok (.ireturn, 1) := dk_172 (dk_at dksX1_refundedOf_2 13 rfl rfl)
abbrev cX1_willBeSeen : ByteArray := prog_6_method_30_code
def yX1_willBeSeen : MethodName := ⟨RX1, "willBeSeen", "(LDomeNights$Promise;)I"⟩
def dkwX1_willBeSeen_3 : List UInt8 := [153, 0, 11, 25, 4, 180, 0, 162, 167, 0, 4, 3, 96, 61, 167, 255, 186, 28, 172]
abbrev dktX1_willBeSeen_3 : List UInt8 := dkwX1_willBeSeen_3 ++ []
def dkwX1_willBeSeen_2 : List UInt8 := [192, 0, 80, 58, 5, 28, 25, 4, 180, 0, 176, 154, 0, 22, 43, 25, 4, 25, 5, 182, 0, 158]
abbrev dktX1_willBeSeen_2 : List UInt8 := dkwX1_willBeSeen_2 ++ dktX1_willBeSeen_3
def dkwX1_willBeSeen_1 : List UInt8 := [185, 0, 62, 1, 0, 192, 0, 85, 58, 4, 42, 180, 0, 25, 25, 4, 180, 0, 155, 185, 0, 115, 2, 0]
abbrev dktX1_willBeSeen_1 : List UInt8 := dkwX1_willBeSeen_1 ++ dktX1_willBeSeen_2
def dkwX1_willBeSeen_0 : List UInt8 := [3, 61, 42, 180, 0, 28, 185, 0, 50, 1, 0, 78, 45, 185, 0, 56, 1, 0, 153, 0, 67, 45]
abbrev dktX1_willBeSeen_0 : List UInt8 := dkwX1_willBeSeen_0 ++ dktX1_willBeSeen_1
theorem dksX1_willBeSeen_0 : cX1_willBeSeen.data.toList.drop 0 = dktX1_willBeSeen_0 := by decide +kernel
theorem dksX1_willBeSeen_1 : cX1_willBeSeen.data.toList.drop 22 = dktX1_willBeSeen_1 := dk_seg dksX1_willBeSeen_0 22 rfl rfl
theorem dksX1_willBeSeen_2 : cX1_willBeSeen.data.toList.drop 46 = dktX1_willBeSeen_2 := dk_seg dksX1_willBeSeen_1 24 rfl rfl
theorem dksX1_willBeSeen_3 : cX1_willBeSeen.data.toList.drop 68 = dktX1_willBeSeen_3 := dk_seg dksX1_willBeSeen_2 22 rfl rfl
theorem dX1_willBeSeen_0 : decode cX1_willBeSeen 0 = .ok (.iconst 0, 1) := dk_3 (dk_at dksX1_willBeSeen_0 0 rfl rfl)
theorem dX1_willBeSeen_1 : decode cX1_willBeSeen 1 = .ok (.istore_n 2, 1) := dk_61 (dk_at dksX1_willBeSeen_0 1 rfl rfl)
theorem dX1_willBeSeen_2 : decode cX1_willBeSeen 2 = .ok (.aload_n 0, 1) := dk_42 (dk_at dksX1_willBeSeen_0 2 rfl rfl)
theorem dX1_willBeSeen_3 : decode cX1_willBeSeen 3 = .ok (.getfield 28, 3) := dk_180 0 28 (dk_at dksX1_willBeSeen_0 3 rfl rfl)
theorem dX1_willBeSeen_6 : decode cX1_willBeSeen 6 = .ok (.invokeinterface 50 1, 5) := by decide +kernel
theorem dX1_willBeSeen_11 : decode cX1_willBeSeen 11 = .ok (.astore_n 3, 1) := dk_78 (dk_at dksX1_willBeSeen_0 11 rfl rfl)
theorem dX1_willBeSeen_12 : decode cX1_willBeSeen 12 = .ok (.aload_n 3, 1) := dk_45 (dk_at dksX1_willBeSeen_0 12 rfl rfl)
theorem dX1_willBeSeen_13 : decode cX1_willBeSeen 13 = .ok (.invokeinterface 56 1, 5) := by decide +kernel
theorem dX1_willBeSeen_18 : decode cX1_willBeSeen 18 = .ok (.ifCond .eq 67, 3) := dk_153 0 67 (dk_at dksX1_willBeSeen_0 18 rfl rfl)
theorem dX1_willBeSeen_21 : decode cX1_willBeSeen 21 = .ok (.aload_n 3, 1) := dk_45 (dk_at dksX1_willBeSeen_0 21 rfl rfl)
theorem dX1_willBeSeen_22 : decode cX1_willBeSeen 22 = .ok (.invokeinterface 62 1, 5) := by decide +kernel
theorem dX1_willBeSeen_27 : decode cX1_willBeSeen 27 = .ok (.checkcast 85, 3) := dk_192 0 85 (dk_at dksX1_willBeSeen_1 5 rfl rfl)
theorem dX1_willBeSeen_30 : decode cX1_willBeSeen 30 = .ok (.astore 4, 2) := dk_58 4 (dk_at dksX1_willBeSeen_1 8 rfl rfl)
theorem dX1_willBeSeen_32 : decode cX1_willBeSeen 32 = .ok (.aload_n 0, 1) := dk_42 (dk_at dksX1_willBeSeen_1 10 rfl rfl)
theorem dX1_willBeSeen_33 : decode cX1_willBeSeen 33 = .ok (.getfield 25, 3) := dk_180 0 25 (dk_at dksX1_willBeSeen_1 11 rfl rfl)
theorem dX1_willBeSeen_36 : decode cX1_willBeSeen 36 = .ok (.aload 4, 2) := dk_25 4 (dk_at dksX1_willBeSeen_1 14 rfl rfl)
theorem dX1_willBeSeen_38 : decode cX1_willBeSeen 38 = .ok (.getfield 155, 3) := dk_180 0 155 (dk_at dksX1_willBeSeen_1 16 rfl rfl)
theorem dX1_willBeSeen_41 : decode cX1_willBeSeen 41 = .ok (.invokeinterface 115 2, 5) := by decide +kernel
theorem dX1_willBeSeen_46 : decode cX1_willBeSeen 46 = .ok (.checkcast 80, 3) := dk_192 0 80 (dk_at dksX1_willBeSeen_2 0 rfl rfl)
theorem dX1_willBeSeen_49 : decode cX1_willBeSeen 49 = .ok (.astore 5, 2) := dk_58 5 (dk_at dksX1_willBeSeen_2 3 rfl rfl)
theorem dX1_willBeSeen_51 : decode cX1_willBeSeen 51 = .ok (.iload_n 2, 1) := dk_28 (dk_at dksX1_willBeSeen_2 5 rfl rfl)
theorem dX1_willBeSeen_52 : decode cX1_willBeSeen 52 = .ok (.aload 4, 2) := dk_25 4 (dk_at dksX1_willBeSeen_2 6 rfl rfl)
theorem dX1_willBeSeen_54 : decode cX1_willBeSeen 54 = .ok (.getfield 176, 3) := dk_180 0 176 (dk_at dksX1_willBeSeen_2 8 rfl rfl)
theorem dX1_willBeSeen_57 : decode cX1_willBeSeen 57 = .ok (.ifCond .ne 22, 3) := dk_154 0 22 (dk_at dksX1_willBeSeen_2 11 rfl rfl)
theorem dX1_willBeSeen_60 : decode cX1_willBeSeen 60 = .ok (.aload_n 1, 1) := dk_43 (dk_at dksX1_willBeSeen_2 14 rfl rfl)
theorem dX1_willBeSeen_61 : decode cX1_willBeSeen 61 = .ok (.aload 4, 2) := dk_25 4 (dk_at dksX1_willBeSeen_2 15 rfl rfl)
theorem dX1_willBeSeen_63 : decode cX1_willBeSeen 63 = .ok (.aload 5, 2) := dk_25 5 (dk_at dksX1_willBeSeen_2 17 rfl rfl)
theorem dX1_willBeSeen_65 : decode cX1_willBeSeen 65 = .ok (.invokevirtual 158, 3) := dk_182 0 158 (dk_at dksX1_willBeSeen_2 19 rfl rfl)
theorem dX1_willBeSeen_68 : decode cX1_willBeSeen 68 = .ok (.ifCond .eq 11, 3) := dk_153 0 11 (dk_at dksX1_willBeSeen_3 0 rfl rfl)
theorem dX1_willBeSeen_71 : decode cX1_willBeSeen 71 = .ok (.aload 4, 2) := dk_25 4 (dk_at dksX1_willBeSeen_3 3 rfl rfl)
theorem dX1_willBeSeen_73 : decode cX1_willBeSeen 73 = .ok (.getfield 162, 3) := dk_180 0 162 (dk_at dksX1_willBeSeen_3 5 rfl rfl)
theorem dX1_willBeSeen_76 : decode cX1_willBeSeen 76 = .ok (.goto 4, 3) := dk_167 0 4 (dk_at dksX1_willBeSeen_3 8 rfl rfl)
theorem dX1_willBeSeen_79 : decode cX1_willBeSeen 79 = .ok (.iconst 0, 1) := dk_3 (dk_at dksX1_willBeSeen_3 11 rfl rfl)
theorem dX1_willBeSeen_80 : decode cX1_willBeSeen 80 = .ok (.iadd, 1) := dk_96 (dk_at dksX1_willBeSeen_3 12 rfl rfl)
theorem dX1_willBeSeen_81 : decode cX1_willBeSeen 81 = .ok (.istore_n 2, 1) := dk_61 (dk_at dksX1_willBeSeen_3 13 rfl rfl)
theorem dX1_willBeSeen_82 : decode cX1_willBeSeen 82 = .ok (.goto (-70), 3) := dk_167 255 186 (dk_at dksX1_willBeSeen_3 14 rfl rfl)
theorem dX1_willBeSeen_85 : decode cX1_willBeSeen 85 = .ok (.iload_n 2, 1) := dk_28 (dk_at dksX1_willBeSeen_3 17 rfl rfl)
theorem dX1_willBeSeen_86 : decode cX1_willBeSeen 86 = .ok (.ireturn, 1) := dk_172 (dk_at dksX1_willBeSeen_3 18 rfl rfl)
abbrev cX1_showsIn : ByteArray := prog_6_method_22_code
def yX1_showsIn : MethodName := ⟨RX1, "showsIn", "(I)I"⟩
def dkwX1_showsIn_2 : List UInt8 := [3, 96, 61, 167, 255, 219, 28, 172]
abbrev dktX1_showsIn_2 : List UInt8 := dkwX1_showsIn_2 ++ []
def dkwX1_showsIn_1 : List UInt8 := [185, 0, 62, 1, 0, 192, 0, 80, 58, 4, 28, 25, 4, 180, 1, 7, 27, 160, 0, 7, 4, 167, 0, 4]
abbrev dktX1_showsIn_1 : List UInt8 := dkwX1_showsIn_1 ++ dktX1_showsIn_2
def dkwX1_showsIn_0 : List UInt8 := [3, 61, 42, 180, 0, 25, 185, 0, 50, 1, 0, 78, 45, 185, 0, 56, 1, 0, 153, 0, 34, 45]
abbrev dktX1_showsIn_0 : List UInt8 := dkwX1_showsIn_0 ++ dktX1_showsIn_1
theorem dksX1_showsIn_0 : cX1_showsIn.data.toList.drop 0 = dktX1_showsIn_0 := by decide +kernel
theorem dksX1_showsIn_1 : cX1_showsIn.data.toList.drop 22 = dktX1_showsIn_1 := dk_seg dksX1_showsIn_0 22 rfl rfl
theorem dksX1_showsIn_2 : cX1_showsIn.data.toList.drop 46 = dktX1_showsIn_2 := dk_seg dksX1_showsIn_1 24 rfl rfl
theorem dX1_showsIn_0 : decode cX1_showsIn 0 = .ok (.iconst 0, 1) := dk_3 (dk_at dksX1_showsIn_0 0 rfl rfl)
theorem dX1_showsIn_1 : decode cX1_showsIn 1 = .ok (.istore_n 2, 1) := dk_61 (dk_at dksX1_showsIn_0 1 rfl rfl)
theorem dX1_showsIn_2 : decode cX1_showsIn 2 = .ok (.aload_n 0, 1) := dk_42 (dk_at dksX1_showsIn_0 2 rfl rfl)
theorem dX1_showsIn_3 : decode cX1_showsIn 3 = .ok (.getfield 25, 3) := dk_180 0 25 (dk_at dksX1_showsIn_0 3 rfl rfl)
theorem dX1_showsIn_6 : decode cX1_showsIn 6 = .ok (.invokeinterface 50 1, 5) := by decide +kernel
theorem dX1_showsIn_11 : decode cX1_showsIn 11 = .ok (.astore_n 3, 1) := dk_78 (dk_at dksX1_showsIn_0 11 rfl rfl)
theorem dX1_showsIn_12 : decode cX1_showsIn 12 = .ok (.aload_n 3, 1) := dk_45 (dk_at dksX1_showsIn_0 12 rfl rfl)
theorem dX1_showsIn_13 : decode cX1_showsIn 13 = .ok (.invokeinterface 56 1, 5) := by decide +kernel
theorem dX1_showsIn_18 : decode cX1_showsIn 18 = .ok (.ifCond .eq 34, 3) := dk_153 0 34 (dk_at dksX1_showsIn_0 18 rfl rfl)
theorem dX1_showsIn_21 : decode cX1_showsIn 21 = .ok (.aload_n 3, 1) := dk_45 (dk_at dksX1_showsIn_0 21 rfl rfl)
theorem dX1_showsIn_22 : decode cX1_showsIn 22 = .ok (.invokeinterface 62 1, 5) := by decide +kernel
theorem dX1_showsIn_27 : decode cX1_showsIn 27 = .ok (.checkcast 80, 3) := dk_192 0 80 (dk_at dksX1_showsIn_1 5 rfl rfl)
theorem dX1_showsIn_30 : decode cX1_showsIn 30 = .ok (.astore 4, 2) := dk_58 4 (dk_at dksX1_showsIn_1 8 rfl rfl)
theorem dX1_showsIn_32 : decode cX1_showsIn 32 = .ok (.iload_n 2, 1) := dk_28 (dk_at dksX1_showsIn_1 10 rfl rfl)
theorem dX1_showsIn_33 : decode cX1_showsIn 33 = .ok (.aload 4, 2) := dk_25 4 (dk_at dksX1_showsIn_1 11 rfl rfl)
theorem dX1_showsIn_35 : decode cX1_showsIn 35 = .ok (.getfield 263, 3) := dk_180 1 7 (dk_at dksX1_showsIn_1 13 rfl rfl)
theorem dX1_showsIn_38 : decode cX1_showsIn 38 = .ok (.iload_n 1, 1) := dk_27 (dk_at dksX1_showsIn_1 16 rfl rfl)
theorem dX1_showsIn_39 : decode cX1_showsIn 39 = .ok (.if_icmp .ne 7, 3) := dk_160 0 7 (dk_at dksX1_showsIn_1 17 rfl rfl)
theorem dX1_showsIn_42 : decode cX1_showsIn 42 = .ok (.iconst 1, 1) := dk_4 (dk_at dksX1_showsIn_1 20 rfl rfl)
theorem dX1_showsIn_43 : decode cX1_showsIn 43 = .ok (.goto 4, 3) := dk_167 0 4 (dk_at dksX1_showsIn_1 21 rfl rfl)
theorem dX1_showsIn_46 : decode cX1_showsIn 46 = .ok (.iconst 0, 1) := dk_3 (dk_at dksX1_showsIn_2 0 rfl rfl)
theorem dX1_showsIn_47 : decode cX1_showsIn 47 = .ok (.iadd, 1) := dk_96 (dk_at dksX1_showsIn_2 1 rfl rfl)
theorem dX1_showsIn_48 : decode cX1_showsIn 48 = .ok (.istore_n 2, 1) := dk_61 (dk_at dksX1_showsIn_2 2 rfl rfl)
theorem dX1_showsIn_49 : decode cX1_showsIn 49 = .ok (.goto (-37), 3) := dk_167 255 219 (dk_at dksX1_showsIn_2 3 rfl rfl)
theorem dX1_showsIn_52 : decode cX1_showsIn 52 = .ok (.iload_n 2, 1) := dk_28 (dk_at dksX1_showsIn_2 6 rfl rfl)
theorem dX1_showsIn_53 : decode cX1_showsIn 53 = .ok (.ireturn, 1) := dk_172 (dk_at dksX1_showsIn_2 7 rfl rfl)
abbrev cX1_rest : ByteArray := prog_6_method_28_code
def yX1_rest : MethodName := ⟨RX1, "rest", "(Z)I"⟩
def dkwX1_rest_3 : List UInt8 := [28, 172]
abbrev dktX1_rest_3 : List UInt8 := dkwX1_rest_3 ++ []
def dkwX1_rest_2 : List UInt8 := [27, 160, 0, 17, 25, 4, 180, 0, 169, 25, 4, 180, 1, 34, 100, 167, 0, 4, 3, 96, 61, 167, 255, 201]
abbrev dktX1_rest_2 : List UInt8 := dkwX1_rest_2 ++ dktX1_rest_3
def dkwX1_rest_1 : List UInt8 := [185, 0, 62, 1, 0, 192, 0, 85, 58, 4, 28, 25, 4, 180, 1, 56, 155, 0, 7, 4, 167, 0, 4, 3]
abbrev dktX1_rest_1 : List UInt8 := dkwX1_rest_1 ++ dktX1_rest_2
def dkwX1_rest_0 : List UInt8 := [3, 61, 42, 180, 0, 28, 185, 0, 50, 1, 0, 78, 45, 185, 0, 56, 1, 0, 153, 0, 52, 45]
abbrev dktX1_rest_0 : List UInt8 := dkwX1_rest_0 ++ dktX1_rest_1
theorem dksX1_rest_0 : cX1_rest.data.toList.drop 0 = dktX1_rest_0 := by decide +kernel
theorem dksX1_rest_1 : cX1_rest.data.toList.drop 22 = dktX1_rest_1 := dk_seg dksX1_rest_0 22 rfl rfl
theorem dksX1_rest_2 : cX1_rest.data.toList.drop 46 = dktX1_rest_2 := dk_seg dksX1_rest_1 24 rfl rfl
theorem dksX1_rest_3 : cX1_rest.data.toList.drop 70 = dktX1_rest_3 := dk_seg dksX1_rest_2 24 rfl rfl
theorem dX1_rest_0 : decode cX1_rest 0 = .ok (.iconst 0, 1) := dk_3 (dk_at dksX1_rest_0 0 rfl rfl)
theorem dX1_rest_1 : decode cX1_rest 1 = .ok (.istore_n 2, 1) := dk_61 (dk_at dksX1_rest_0 1 rfl rfl)
theorem dX1_rest_2 : decode cX1_rest 2 = .ok (.aload_n 0, 1) := dk_42 (dk_at dksX1_rest_0 2 rfl rfl)
theorem dX1_rest_3 : decode cX1_rest 3 = .ok (.getfield 28, 3) := dk_180 0 28 (dk_at dksX1_rest_0 3 rfl rfl)
theorem dX1_rest_6 : decode cX1_rest 6 = .ok (.invokeinterface 50 1, 5) := by decide +kernel
theorem dX1_rest_11 : decode cX1_rest 11 = .ok (.astore_n 3, 1) := dk_78 (dk_at dksX1_rest_0 11 rfl rfl)
theorem dX1_rest_12 : decode cX1_rest 12 = .ok (.aload_n 3, 1) := dk_45 (dk_at dksX1_rest_0 12 rfl rfl)
theorem dX1_rest_13 : decode cX1_rest 13 = .ok (.invokeinterface 56 1, 5) := by decide +kernel
theorem dX1_rest_18 : decode cX1_rest 18 = .ok (.ifCond .eq 52, 3) := dk_153 0 52 (dk_at dksX1_rest_0 18 rfl rfl)
theorem dX1_rest_21 : decode cX1_rest 21 = .ok (.aload_n 3, 1) := dk_45 (dk_at dksX1_rest_0 21 rfl rfl)
theorem dX1_rest_22 : decode cX1_rest 22 = .ok (.invokeinterface 62 1, 5) := by decide +kernel
theorem dX1_rest_27 : decode cX1_rest 27 = .ok (.checkcast 85, 3) := dk_192 0 85 (dk_at dksX1_rest_1 5 rfl rfl)
theorem dX1_rest_30 : decode cX1_rest 30 = .ok (.astore 4, 2) := dk_58 4 (dk_at dksX1_rest_1 8 rfl rfl)
theorem dX1_rest_32 : decode cX1_rest 32 = .ok (.iload_n 2, 1) := dk_28 (dk_at dksX1_rest_1 10 rfl rfl)
theorem dX1_rest_33 : decode cX1_rest 33 = .ok (.aload 4, 2) := dk_25 4 (dk_at dksX1_rest_1 11 rfl rfl)
theorem dX1_rest_35 : decode cX1_rest 35 = .ok (.getfield 312, 3) := dk_180 1 56 (dk_at dksX1_rest_1 13 rfl rfl)
theorem dX1_rest_38 : decode cX1_rest 38 = .ok (.ifCond .lt 7, 3) := dk_155 0 7 (dk_at dksX1_rest_1 16 rfl rfl)
theorem dX1_rest_41 : decode cX1_rest 41 = .ok (.iconst 1, 1) := dk_4 (dk_at dksX1_rest_1 19 rfl rfl)
theorem dX1_rest_42 : decode cX1_rest 42 = .ok (.goto 4, 3) := dk_167 0 4 (dk_at dksX1_rest_1 20 rfl rfl)
theorem dX1_rest_45 : decode cX1_rest 45 = .ok (.iconst 0, 1) := dk_3 (dk_at dksX1_rest_1 23 rfl rfl)
theorem dX1_rest_46 : decode cX1_rest 46 = .ok (.iload_n 1, 1) := dk_27 (dk_at dksX1_rest_2 0 rfl rfl)
theorem dX1_rest_47 : decode cX1_rest 47 = .ok (.if_icmp .ne 17, 3) := dk_160 0 17 (dk_at dksX1_rest_2 1 rfl rfl)
theorem dX1_rest_50 : decode cX1_rest 50 = .ok (.aload 4, 2) := dk_25 4 (dk_at dksX1_rest_2 4 rfl rfl)
theorem dX1_rest_52 : decode cX1_rest 52 = .ok (.getfield 169, 3) := dk_180 0 169 (dk_at dksX1_rest_2 6 rfl rfl)
theorem dX1_rest_55 : decode cX1_rest 55 = .ok (.aload 4, 2) := dk_25 4 (dk_at dksX1_rest_2 9 rfl rfl)
theorem dX1_rest_57 : decode cX1_rest 57 = .ok (.getfield 290, 3) := dk_180 1 34 (dk_at dksX1_rest_2 11 rfl rfl)
theorem dX1_rest_60 : decode cX1_rest 60 = .ok (.isub, 1) := dk_100 (dk_at dksX1_rest_2 14 rfl rfl)
theorem dX1_rest_61 : decode cX1_rest 61 = .ok (.goto 4, 3) := dk_167 0 4 (dk_at dksX1_rest_2 15 rfl rfl)
theorem dX1_rest_64 : decode cX1_rest 64 = .ok (.iconst 0, 1) := dk_3 (dk_at dksX1_rest_2 18 rfl rfl)
theorem dX1_rest_65 : decode cX1_rest 65 = .ok (.iadd, 1) := dk_96 (dk_at dksX1_rest_2 19 rfl rfl)
theorem dX1_rest_66 : decode cX1_rest 66 = .ok (.istore_n 2, 1) := dk_61 (dk_at dksX1_rest_2 20 rfl rfl)
theorem dX1_rest_67 : decode cX1_rest 67 = .ok (.goto (-55), 3) := dk_167 255 201 (dk_at dksX1_rest_2 21 rfl rfl)
theorem dX1_rest_70 : decode cX1_rest 70 = .ok (.iload_n 2, 1) := dk_28 (dk_at dksX1_rest_3 0 rfl rfl)
theorem dX1_rest_71 : decode cX1_rest 71 = .ok (.ireturn, 1) := dk_172 (dk_at dksX1_rest_3 1 rfl rfl)
abbrev cX1_allRefunded : ByteArray := prog_6_method_27_code
def yX1_allRefunded : MethodName := ⟨RX1, "allRefunded", "()I"⟩
def dkwX1_allRefunded_1 : List UInt8 := [185, 0, 62, 1, 0, 192, 0, 85, 78, 27, 45, 180, 1, 34, 184, 1, 50, 60, 167, 255, 228, 27, 172]
abbrev dktX1_allRefunded_1 : List UInt8 := dkwX1_allRefunded_1 ++ []
def dkwX1_allRefunded_0 : List UInt8 := [3, 60, 42, 180, 0, 28, 185, 0, 50, 1, 0, 77, 44, 185, 0, 56, 1, 0, 153, 0, 25, 44]
abbrev dktX1_allRefunded_0 : List UInt8 := dkwX1_allRefunded_0 ++ dktX1_allRefunded_1
theorem dksX1_allRefunded_0 : cX1_allRefunded.data.toList.drop 0 = dktX1_allRefunded_0 := by decide +kernel
theorem dksX1_allRefunded_1 : cX1_allRefunded.data.toList.drop 22 = dktX1_allRefunded_1 := dk_seg dksX1_allRefunded_0 22 rfl rfl
theorem dX1_allRefunded_0 : decode cX1_allRefunded 0 = .ok (.iconst 0, 1) := dk_3 (dk_at dksX1_allRefunded_0 0 rfl rfl)
theorem dX1_allRefunded_1 : decode cX1_allRefunded 1 = .ok (.istore_n 1, 1) := dk_60 (dk_at dksX1_allRefunded_0 1 rfl rfl)
theorem dX1_allRefunded_2 : decode cX1_allRefunded 2 = .ok (.aload_n 0, 1) := dk_42 (dk_at dksX1_allRefunded_0 2 rfl rfl)
theorem dX1_allRefunded_3 : decode cX1_allRefunded 3 = .ok (.getfield 28, 3) := dk_180 0 28 (dk_at dksX1_allRefunded_0 3 rfl rfl)
theorem dX1_allRefunded_6 : decode cX1_allRefunded 6 = .ok (.invokeinterface 50 1, 5) := by decide +kernel
theorem dX1_allRefunded_11 : decode cX1_allRefunded 11 = .ok (.astore_n 2, 1) := dk_77 (dk_at dksX1_allRefunded_0 11 rfl rfl)
theorem dX1_allRefunded_12 : decode cX1_allRefunded 12 = .ok (.aload_n 2, 1) := dk_44 (dk_at dksX1_allRefunded_0 12 rfl rfl)
theorem dX1_allRefunded_13 : decode cX1_allRefunded 13 = .ok (.invokeinterface 56 1, 5) := by decide +kernel
theorem dX1_allRefunded_18 : decode cX1_allRefunded 18 = .ok (.ifCond .eq 25, 3) := dk_153 0 25 (dk_at dksX1_allRefunded_0 18 rfl rfl)
theorem dX1_allRefunded_21 : decode cX1_allRefunded 21 = .ok (.aload_n 2, 1) := dk_44 (dk_at dksX1_allRefunded_0 21 rfl rfl)
theorem dX1_allRefunded_22 : decode cX1_allRefunded 22 = .ok (.invokeinterface 62 1, 5) := by decide +kernel
theorem dX1_allRefunded_27 : decode cX1_allRefunded 27 = .ok (.checkcast 85, 3) := dk_192 0 85 (dk_at dksX1_allRefunded_1 5 rfl rfl)
theorem dX1_allRefunded_30 : decode cX1_allRefunded 30 = .ok (.astore_n 3, 1) := dk_78 (dk_at dksX1_allRefunded_1 8 rfl rfl)
theorem dX1_allRefunded_31 : decode cX1_allRefunded 31 = .ok (.iload_n 1, 1) := dk_27 (dk_at dksX1_allRefunded_1 9 rfl rfl)
theorem dX1_allRefunded_32 : decode cX1_allRefunded 32 = .ok (.aload_n 3, 1) := dk_45 (dk_at dksX1_allRefunded_1 10 rfl rfl)
theorem dX1_allRefunded_33 : decode cX1_allRefunded 33 = .ok (.getfield 290, 3) := dk_180 1 34 (dk_at dksX1_allRefunded_1 11 rfl rfl)
theorem dX1_allRefunded_36 : decode cX1_allRefunded 36 = .ok (.invokestatic 306, 3) := dk_184 1 50 (dk_at dksX1_allRefunded_1 14 rfl rfl)
theorem dX1_allRefunded_39 : decode cX1_allRefunded 39 = .ok (.istore_n 1, 1) := dk_60 (dk_at dksX1_allRefunded_1 17 rfl rfl)
theorem dX1_allRefunded_40 : decode cX1_allRefunded 40 = .ok (.goto (-28), 3) := dk_167 255 228 (dk_at dksX1_allRefunded_1 18 rfl rfl)
theorem dX1_allRefunded_43 : decode cX1_allRefunded 43 = .ok (.iload_n 1, 1) := dk_27 (dk_at dksX1_allRefunded_1 21 rfl rfl)
theorem dX1_allRefunded_44 : decode cX1_allRefunded 44 = .ok (.ireturn, 1) := dk_172 (dk_at dksX1_allRefunded_1 22 rfl rfl)
abbrev cX1_behind : ByteArray := prog_6_method_21_code
def yX1_behind : MethodName := ⟨RX1, "behind", "(I)LDomeNights$Programme;"⟩
def dkwX1_behind_1 : List UInt8 := [167, 255, 244, 44, 176]
abbrev dktX1_behind_1 : List UInt8 := dkwX1_behind_1 ++ []
def dkwX1_behind_0 : List UInt8 := [187, 0, 10, 89, 42, 183, 1, 44, 77, 3, 62, 29, 27, 162, 0, 13, 44, 182, 1, 47, 132, 3, 1]
abbrev dktX1_behind_0 : List UInt8 := dkwX1_behind_0 ++ dktX1_behind_1
theorem dksX1_behind_0 : cX1_behind.data.toList.drop 0 = dktX1_behind_0 := by decide +kernel
theorem dksX1_behind_1 : cX1_behind.data.toList.drop 23 = dktX1_behind_1 := dk_seg dksX1_behind_0 23 rfl rfl
theorem dX1_behind_0 : decode cX1_behind 0 = .ok (.new 10, 3) := dk_187 0 10 (dk_at dksX1_behind_0 0 rfl rfl)
theorem dX1_behind_3 : decode cX1_behind 3 = .ok (.dup, 1) := dk_89 (dk_at dksX1_behind_0 3 rfl rfl)
theorem dX1_behind_4 : decode cX1_behind 4 = .ok (.aload_n 0, 1) := dk_42 (dk_at dksX1_behind_0 4 rfl rfl)
theorem dX1_behind_5 : decode cX1_behind 5 = .ok (.invokespecial 300, 3) := dk_183 1 44 (dk_at dksX1_behind_0 5 rfl rfl)
theorem dX1_behind_8 : decode cX1_behind 8 = .ok (.astore_n 2, 1) := dk_77 (dk_at dksX1_behind_0 8 rfl rfl)
theorem dX1_behind_9 : decode cX1_behind 9 = .ok (.iconst 0, 1) := dk_3 (dk_at dksX1_behind_0 9 rfl rfl)
theorem dX1_behind_10 : decode cX1_behind 10 = .ok (.istore_n 3, 1) := dk_62 (dk_at dksX1_behind_0 10 rfl rfl)
theorem dX1_behind_11 : decode cX1_behind 11 = .ok (.iload_n 3, 1) := dk_29 (dk_at dksX1_behind_0 11 rfl rfl)
theorem dX1_behind_12 : decode cX1_behind 12 = .ok (.iload_n 1, 1) := dk_27 (dk_at dksX1_behind_0 12 rfl rfl)
theorem dX1_behind_13 : decode cX1_behind 13 = .ok (.if_icmp .ge 13, 3) := dk_162 0 13 (dk_at dksX1_behind_0 13 rfl rfl)
theorem dX1_behind_16 : decode cX1_behind 16 = .ok (.aload_n 2, 1) := dk_44 (dk_at dksX1_behind_0 16 rfl rfl)
theorem dX1_behind_17 : decode cX1_behind 17 = .ok (.invokevirtual 303, 3) := dk_182 1 47 (dk_at dksX1_behind_0 17 rfl rfl)
theorem dX1_behind_20 : decode cX1_behind 20 = .ok (.iinc 3 1, 3) := dk_132 3 1 (dk_at dksX1_behind_0 20 rfl rfl)
theorem dX1_behind_23 : decode cX1_behind 23 = .ok (.goto (-12), 3) := dk_167 255 244 (dk_at dksX1_behind_1 0 rfl rfl)
theorem dX1_behind_26 : decode cX1_behind 26 = .ok (.aload_n 2, 1) := dk_44 (dk_at dksX1_behind_1 3 rfl rfl)
theorem dX1_behind_27 : decode cX1_behind 27 = .ok (.areturn, 1) := dk_176 (dk_at dksX1_behind_1 4 rfl rfl)
abbrev cX1_lostSeats : ByteArray := prog_6_method_29_code
def yX1_lostSeats : MethodName := ⟨RX1, "lostSeats", "()I"⟩
def dkwX1_lostSeats_2 : List UInt8 := [167, 0, 4, 3, 96, 60, 167, 255, 218, 27, 172]
abbrev dktX1_lostSeats_2 : List UInt8 := dkwX1_lostSeats_2 ++ []
def dkwX1_lostSeats_1 : List UInt8 := [185, 0, 62, 1, 0, 192, 0, 85, 78, 27, 45, 180, 0, 176, 7, 160, 0, 10, 45, 180, 0, 162]
abbrev dktX1_lostSeats_1 : List UInt8 := dkwX1_lostSeats_1 ++ dktX1_lostSeats_2
def dkwX1_lostSeats_0 : List UInt8 := [3, 60, 42, 180, 0, 28, 185, 0, 50, 1, 0, 77, 44, 185, 0, 56, 1, 0, 153, 0, 35, 44]
abbrev dktX1_lostSeats_0 : List UInt8 := dkwX1_lostSeats_0 ++ dktX1_lostSeats_1
theorem dksX1_lostSeats_0 : cX1_lostSeats.data.toList.drop 0 = dktX1_lostSeats_0 := by decide +kernel
theorem dksX1_lostSeats_1 : cX1_lostSeats.data.toList.drop 22 = dktX1_lostSeats_1 := dk_seg dksX1_lostSeats_0 22 rfl rfl
theorem dksX1_lostSeats_2 : cX1_lostSeats.data.toList.drop 44 = dktX1_lostSeats_2 := dk_seg dksX1_lostSeats_1 22 rfl rfl
theorem dX1_lostSeats_0 : decode cX1_lostSeats 0 = .ok (.iconst 0, 1) := dk_3 (dk_at dksX1_lostSeats_0 0 rfl rfl)
theorem dX1_lostSeats_1 : decode cX1_lostSeats 1 = .ok (.istore_n 1, 1) := dk_60 (dk_at dksX1_lostSeats_0 1 rfl rfl)
theorem dX1_lostSeats_2 : decode cX1_lostSeats 2 = .ok (.aload_n 0, 1) := dk_42 (dk_at dksX1_lostSeats_0 2 rfl rfl)
theorem dX1_lostSeats_3 : decode cX1_lostSeats 3 = .ok (.getfield 28, 3) := dk_180 0 28 (dk_at dksX1_lostSeats_0 3 rfl rfl)
theorem dX1_lostSeats_6 : decode cX1_lostSeats 6 = .ok (.invokeinterface 50 1, 5) := by decide +kernel
theorem dX1_lostSeats_11 : decode cX1_lostSeats 11 = .ok (.astore_n 2, 1) := dk_77 (dk_at dksX1_lostSeats_0 11 rfl rfl)
theorem dX1_lostSeats_12 : decode cX1_lostSeats 12 = .ok (.aload_n 2, 1) := dk_44 (dk_at dksX1_lostSeats_0 12 rfl rfl)
theorem dX1_lostSeats_13 : decode cX1_lostSeats 13 = .ok (.invokeinterface 56 1, 5) := by decide +kernel
theorem dX1_lostSeats_18 : decode cX1_lostSeats 18 = .ok (.ifCond .eq 35, 3) := dk_153 0 35 (dk_at dksX1_lostSeats_0 18 rfl rfl)
theorem dX1_lostSeats_21 : decode cX1_lostSeats 21 = .ok (.aload_n 2, 1) := dk_44 (dk_at dksX1_lostSeats_0 21 rfl rfl)
theorem dX1_lostSeats_22 : decode cX1_lostSeats 22 = .ok (.invokeinterface 62 1, 5) := by decide +kernel
theorem dX1_lostSeats_27 : decode cX1_lostSeats 27 = .ok (.checkcast 85, 3) := dk_192 0 85 (dk_at dksX1_lostSeats_1 5 rfl rfl)
theorem dX1_lostSeats_30 : decode cX1_lostSeats 30 = .ok (.astore_n 3, 1) := dk_78 (dk_at dksX1_lostSeats_1 8 rfl rfl)
theorem dX1_lostSeats_31 : decode cX1_lostSeats 31 = .ok (.iload_n 1, 1) := dk_27 (dk_at dksX1_lostSeats_1 9 rfl rfl)
theorem dX1_lostSeats_32 : decode cX1_lostSeats 32 = .ok (.aload_n 3, 1) := dk_45 (dk_at dksX1_lostSeats_1 10 rfl rfl)
theorem dX1_lostSeats_33 : decode cX1_lostSeats 33 = .ok (.getfield 176, 3) := dk_180 0 176 (dk_at dksX1_lostSeats_1 11 rfl rfl)
theorem dX1_lostSeats_36 : decode cX1_lostSeats 36 = .ok (.iconst 4, 1) := dk_7 (dk_at dksX1_lostSeats_1 14 rfl rfl)
theorem dX1_lostSeats_37 : decode cX1_lostSeats 37 = .ok (.if_icmp .ne 10, 3) := dk_160 0 10 (dk_at dksX1_lostSeats_1 15 rfl rfl)
theorem dX1_lostSeats_40 : decode cX1_lostSeats 40 = .ok (.aload_n 3, 1) := dk_45 (dk_at dksX1_lostSeats_1 18 rfl rfl)
theorem dX1_lostSeats_41 : decode cX1_lostSeats 41 = .ok (.getfield 162, 3) := dk_180 0 162 (dk_at dksX1_lostSeats_1 19 rfl rfl)
theorem dX1_lostSeats_44 : decode cX1_lostSeats 44 = .ok (.goto 4, 3) := dk_167 0 4 (dk_at dksX1_lostSeats_2 0 rfl rfl)
theorem dX1_lostSeats_47 : decode cX1_lostSeats 47 = .ok (.iconst 0, 1) := dk_3 (dk_at dksX1_lostSeats_2 3 rfl rfl)
theorem dX1_lostSeats_48 : decode cX1_lostSeats 48 = .ok (.iadd, 1) := dk_96 (dk_at dksX1_lostSeats_2 4 rfl rfl)
theorem dX1_lostSeats_49 : decode cX1_lostSeats 49 = .ok (.istore_n 1, 1) := dk_60 (dk_at dksX1_lostSeats_2 5 rfl rfl)
theorem dX1_lostSeats_50 : decode cX1_lostSeats 50 = .ok (.goto (-38), 3) := dk_167 255 218 (dk_at dksX1_lostSeats_2 6 rfl rfl)
theorem dX1_lostSeats_53 : decode cX1_lostSeats 53 = .ok (.iload_n 1, 1) := dk_27 (dk_at dksX1_lostSeats_2 9 rfl rfl)
theorem dX1_lostSeats_54 : decode cX1_lostSeats 54 = .ok (.ireturn, 1) := dk_172 (dk_at dksX1_lostSeats_2 10 rfl rfl)
theorem q78 : (Jvm.Cond.initialized "DomeNights$Programme") ∈ lw_all := lw_g (lw_at lw_m1 2 rfl) rfl
theorem q130 : (Jvm.Cond.instantiable "DomeNights$Programme" (11 : Nat)) ∈ lw_all := lw_g (lw_at lw_m1 54 rfl) rfl
theorem q132 : (Jvm.Cond.instanceMethod ({ cls := "DomeNights$Programme", name := "<init>", desc := "()V" } : Jvm.MethodName)) ∈ lw_all := lw_g (lw_at lw_m1 56 rfl) rfl
theorem q133 : (Jvm.Cond.code ({ cls := "DomeNights$Programme", name := "<init>", desc := "()V" } : Jvm.MethodName) prog_6_method_1_code (1 : Nat) (Option.none : Option Jvm.ClassFile.FieldType)) ∈ lw_all := lw_g (lw_at lw_m1 57 rfl) rfl
theorem q134 : (Jvm.Cond.methodLink "DomeNights$Programme" (3 : Nat) ({ cls := "java/lang/Object", name := "<init>", desc := "()V" } : Jvm.MethodName)) ∈ lw_all := lw_g (lw_at lw_m1 58 rfl) rfl
theorem q135 : (Jvm.Cond.classLink "DomeNights$Programme" (15 : Nat) "java/util/ArrayList") ∈ lw_all := lw_g (lw_at lw_m1 59 rfl) rfl
theorem q137 : (Jvm.Cond.methodLink "DomeNights$Programme" (17 : Nat) ({ cls := "java/util/ArrayList", name := "<init>", desc := "()V" } : Jvm.MethodName)) ∈ lw_all := lw_g (lw_at lw_m1 61 rfl) rfl
theorem q165 : (Jvm.Cond.classLink "DomeNights$Programme" (34 : Nat) "java/util/HashMap") ∈ lw_all := lw_g (lw_at lw_m1 89 rfl) rfl
theorem q167 : (Jvm.Cond.methodLink "DomeNights$Programme" (36 : Nat) ({ cls := "java/util/HashMap", name := "<init>", desc := "()V" } : Jvm.MethodName)) ∈ lw_all := lw_g (lw_at lw_m1 91 rfl) rfl
theorem q201 : (Jvm.Cond.fieldLink "DomeNights$Programme" (9 : Nat) "DomeNights$Programme" "settings" "[I") ∈ lw_all := lw_g (lw_at lw_m1 125 rfl) rfl
theorem q203 : (Jvm.Cond.fieldLink "DomeNights$Programme" (18 : Nat) "DomeNights$Programme" "kinds" "Ljava/util/List;") ∈ lw_all := lw_g (lw_at lw_m1 127 rfl) rfl
theorem q205 : (Jvm.Cond.fieldLink "DomeNights$Programme" (22 : Nat) "DomeNights$Programme" "lamps" "Ljava/util/List;") ∈ lw_all := lw_g (lw_at lw_m1 129 rfl) rfl
theorem q207 : (Jvm.Cond.fieldLink "DomeNights$Programme" (25 : Nat) "DomeNights$Programme" "shows" "Ljava/util/List;") ∈ lw_all := lw_g (lw_at lw_m1 131 rfl) rfl
theorem q209 : (Jvm.Cond.fieldLink "DomeNights$Programme" (28 : Nat) "DomeNights$Programme" "bookings" "Ljava/util/List;") ∈ lw_all := lw_g (lw_at lw_m1 133 rfl) rfl
theorem q211 : (Jvm.Cond.fieldLink "DomeNights$Programme" (31 : Nat) "DomeNights$Programme" "promises" "Ljava/util/List;") ∈ lw_all := lw_g (lw_at lw_m1 135 rfl) rfl
theorem q213 : (Jvm.Cond.fieldLink "DomeNights$Programme" (37 : Nat) "DomeNights$Programme" "planned" "Ljava/util/Map;") ∈ lw_all := lw_g (lw_at lw_m1 137 rfl) rfl
theorem q215 : (Jvm.Cond.fieldLink "DomeNights$Programme" (41 : Nat) "DomeNights$Programme" "inEvents" "Ljava/util/Map;") ∈ lw_all := lw_g (lw_at lw_m1 139 rfl) rfl
theorem q217 : (Jvm.Cond.fieldLink "DomeNights$Programme" (101 : Nat) "DomeNights$Programme" "events" "I") ∈ lw_all := lw_g (lw_at lw_m1 141 rfl) rfl
theorem q219 : (Jvm.Cond.fieldLink "DomeNights$Programme" (105 : Nat) "DomeNights$Programme" "today" "I") ∈ lw_all := lw_g (lw_at lw_m1 143 rfl) rfl
theorem q221 : (Jvm.Cond.fieldLink "DomeNights$Programme" (108 : Nat) "DomeNights$Programme" "held" "I") ∈ lw_all := lw_g (lw_at lw_m1 145 rfl) rfl
theorem q223 : (Jvm.Cond.laysFinal "DomeNights$Programme" "DomeNights$Programme" "settings" "[I") ∈ lw_all := lw_g (lw_at lw_m1 147 rfl) rfl
theorem q224 : (Jvm.Cond.soleField "DomeNights$Programme" "settings") ∈ lw_all := lw_g (lw_at lw_m1 148 rfl) rfl
theorem q225 : (Jvm.Cond.laysFinal "DomeNights$Programme" "DomeNights$Programme" "kinds" "Ljava/util/List;") ∈ lw_all := lw_g (lw_at lw_m1 149 rfl) rfl
theorem q226 : (Jvm.Cond.soleField "DomeNights$Programme" "kinds") ∈ lw_all := lw_g (lw_at lw_m1 150 rfl) rfl
theorem q227 : (Jvm.Cond.laysFinal "DomeNights$Programme" "DomeNights$Programme" "lamps" "Ljava/util/List;") ∈ lw_all := lw_g (lw_at lw_m1 151 rfl) rfl
theorem q228 : (Jvm.Cond.soleField "DomeNights$Programme" "lamps") ∈ lw_all := lw_g (lw_at lw_m1 152 rfl) rfl
theorem q229 : (Jvm.Cond.laysFinal "DomeNights$Programme" "DomeNights$Programme" "shows" "Ljava/util/List;") ∈ lw_all := lw_g (lw_at lw_m1 153 rfl) rfl
theorem q230 : (Jvm.Cond.soleField "DomeNights$Programme" "shows") ∈ lw_all := lw_g (lw_at lw_m1 154 rfl) rfl
theorem q231 : (Jvm.Cond.laysFinal "DomeNights$Programme" "DomeNights$Programme" "bookings" "Ljava/util/List;") ∈ lw_all := lw_g (lw_at lw_m1 155 rfl) rfl
theorem q232 : (Jvm.Cond.soleField "DomeNights$Programme" "bookings") ∈ lw_all := lw_g (lw_at lw_m1 156 rfl) rfl
theorem q233 : (Jvm.Cond.laysFinal "DomeNights$Programme" "DomeNights$Programme" "promises" "Ljava/util/List;") ∈ lw_all := lw_g (lw_at lw_m1 157 rfl) rfl
theorem q234 : (Jvm.Cond.soleField "DomeNights$Programme" "promises") ∈ lw_all := lw_g (lw_at lw_m1 158 rfl) rfl
theorem q235 : (Jvm.Cond.laysFinal "DomeNights$Programme" "DomeNights$Programme" "planned" "Ljava/util/Map;") ∈ lw_all := lw_g (lw_at lw_m1 159 rfl) rfl
theorem q236 : (Jvm.Cond.soleField "DomeNights$Programme" "planned") ∈ lw_all := lw_g (lw_at lw_m1 160 rfl) rfl
theorem q237 : (Jvm.Cond.laysFinal "DomeNights$Programme" "DomeNights$Programme" "inEvents" "Ljava/util/Map;") ∈ lw_all := lw_g (lw_at lw_m1 161 rfl) rfl
theorem q238 : (Jvm.Cond.soleField "DomeNights$Programme" "inEvents") ∈ lw_all := lw_g (lw_at lw_m1 162 rfl) rfl
theorem q239 : (Jvm.Cond.lays "DomeNights$Programme" "DomeNights$Programme" "events" "I") ∈ lw_all := lw_g (lw_at lw_m1 163 rfl) rfl
theorem q240 : (Jvm.Cond.soleField "DomeNights$Programme" "events") ∈ lw_all := lw_g (lw_at lw_m1 164 rfl) rfl
theorem q241 : (Jvm.Cond.lays "DomeNights$Programme" "DomeNights$Programme" "today" "I") ∈ lw_all := lw_g (lw_at lw_m1 165 rfl) rfl
theorem q242 : (Jvm.Cond.soleField "DomeNights$Programme" "today") ∈ lw_all := lw_g (lw_at lw_m1 166 rfl) rfl
theorem q243 : (Jvm.Cond.lays "DomeNights$Programme" "DomeNights$Programme" "held" "I") ∈ lw_all := lw_g (lw_at lw_m1 167 rfl) rfl
theorem q244 : (Jvm.Cond.soleField "DomeNights$Programme" "held") ∈ lw_all := lw_g (lw_at lw_m1 168 rfl) rfl
theorem q245 : (Jvm.Cond.superclass "DomeNights$Programme" "java/lang/Object") ∈ lw_all := lw_g (lw_at lw_m1 169 rfl) rfl
theorem q340 : (Jvm.Cond.instanceMethod ({ cls := "DomeNights$Programme", name := "<init>", desc := "(LDomeNights$Programme;)V" } : Jvm.MethodName)) ∈ lw_all := lw_g (lw_at lw_m2 24 rfl) rfl
theorem q341 : (Jvm.Cond.code ({ cls := "DomeNights$Programme", name := "<init>", desc := "(LDomeNights$Programme;)V" } : Jvm.MethodName) prog_6_method_2_code (4 : Nat) (Option.none : Option Jvm.ClassFile.FieldType)) ∈ lw_all := lw_g (lw_at lw_m2 25 rfl) rfl
theorem q342 : (Jvm.Cond.methodLink "DomeNights$Programme" (44 : Nat) ({ cls := "java/lang/System", name := "arraycopy", desc := "(Ljava/lang/Object;ILjava/lang/Object;II)V" } : Jvm.MethodName)) ∈ lw_all := lw_g (lw_at lw_m2 26 rfl) rfl
theorem q343 : (Jvm.Cond.interfaceEntry "DomeNights$Programme" (50 : Nat)) ∈ lw_tbl := lw_at lw_m2 27 rfl
theorem q344 : (Jvm.Cond.methodLink "DomeNights$Programme" (50 : Nat) ({ cls := "java/util/List", name := "iterator", desc := "()Ljava/util/Iterator;" } : Jvm.MethodName)) ∈ lw_all := lw_g (lw_at lw_m2 28 rfl) rfl
theorem q371 : (Jvm.Cond.interfaceEntry "DomeNights$Programme" (56 : Nat)) ∈ lw_tbl := lw_at lw_m2 55 rfl
theorem q372 : (Jvm.Cond.methodLink "DomeNights$Programme" (56 : Nat) ({ cls := "java/util/Iterator", name := "hasNext", desc := "()Z" } : Jvm.MethodName)) ∈ lw_all := lw_g (lw_at lw_m2 56 rfl) rfl
theorem q387 : (Jvm.Cond.interfaceEntry "DomeNights$Programme" (62 : Nat)) ∈ lw_tbl := lw_at lw_m2 71 rfl
theorem q388 : (Jvm.Cond.methodLink "DomeNights$Programme" (62 : Nat) ({ cls := "java/util/Iterator", name := "next", desc := "()Ljava/lang/Object;" } : Jvm.MethodName)) ∈ lw_all := lw_g (lw_at lw_m2 72 rfl) rfl
theorem q415 : (Jvm.Cond.classLink "DomeNights$Programme" (66 : Nat) "DomeNights$Kind") ∈ lw_all := lw_g (lw_at lw_m2 99 rfl) rfl
theorem q417 : (Jvm.Cond.methodLink "DomeNights$Programme" (68 : Nat) ({ cls := "DomeNights$Kind", name := "<init>", desc := "(LDomeNights$Kind;)V" } : Jvm.MethodName)) ∈ lw_all := lw_g (lw_at lw_m2 101 rfl) rfl
theorem q425 : (Jvm.Cond.fieldLinkNest "DomeNights$Programme" (281 : Nat) "DomeNights$Kind" "wear" "I" "DomeNights") ∈ lw_tbl := lw_at lw_m2 109 rfl
theorem q428 : (Jvm.Cond.fieldLinkNest "DomeNights$Programme" (128 : Nat) "DomeNights$Kind" "least" "I" "DomeNights") ∈ lw_tbl := lw_at lw_m2 112 rfl
theorem q432 : (Jvm.Cond.fieldLinkNest "DomeNights$Programme" (189 : Nat) "DomeNights$Kind" "price" "I" "DomeNights") ∈ lw_tbl := lw_at lw_m2 116 rfl
theorem q440 : (Jvm.Cond.interfaceEntry "DomeNights$Programme" (71 : Nat)) ∈ lw_tbl := lw_at lw_m2 124 rfl
theorem q441 : (Jvm.Cond.methodLink "DomeNights$Programme" (71 : Nat) ({ cls := "java/util/List", name := "add", desc := "(Ljava/lang/Object;)Z" } : Jvm.MethodName)) ∈ lw_all := lw_g (lw_at lw_m2 125 rfl) rfl
theorem q482 : (Jvm.Cond.selects "DomeNights$Programme" ({ cls := "java/lang/Object", name := "getClass", desc := "()Ljava/lang/Class;" } : Jvm.MethodName) ({ cls := "java/lang/Object", name := "getClass", desc := "()Ljava/lang/Class;" } : Jvm.MethodName)) ∈ lw_all := lw_g (lw_at lw_m2 166 rfl) rfl
theorem q512 : (Jvm.Cond.classLink "DomeNights$Programme" (75 : Nat) "DomeNights$Lamp") ∈ lw_all := lw_g (lw_at lw_m2 196 rfl) rfl
theorem q514 : (Jvm.Cond.methodLink "DomeNights$Programme" (77 : Nat) ({ cls := "DomeNights$Lamp", name := "<init>", desc := "(LDomeNights$Lamp;)V" } : Jvm.MethodName)) ∈ lw_all := lw_g (lw_at lw_m2 198 rfl) rfl
theorem q526 : (Jvm.Cond.fieldLinkNest "DomeNights$Programme" (119 : Nat) "DomeNights$Lamp" "place" "I" "DomeNights") ∈ lw_tbl := lw_at lw_m2 210 rfl
theorem q535 : (Jvm.Cond.classLink "DomeNights$Programme" (80 : Nat) "DomeNights$Show") ∈ lw_all := lw_g (lw_at lw_m2 219 rfl) rfl
theorem q537 : (Jvm.Cond.methodLink "DomeNights$Programme" (82 : Nat) ({ cls := "DomeNights$Show", name := "<init>", desc := "(LDomeNights$Show;)V" } : Jvm.MethodName)) ∈ lw_all := lw_g (lw_at lw_m2 221 rfl) rfl
theorem q546 : (Jvm.Cond.fieldLinkNest "DomeNights$Programme" (186 : Nat) "DomeNights$Show" "kind" "I" "DomeNights") ∈ lw_tbl := lw_at lw_m2 230 rfl
theorem q550 : (Jvm.Cond.fieldLinkNest "DomeNights$Programme" (202 : Nat) "DomeNights$Show" "time" "LDomeNights$Time;" "DomeNights") ∈ lw_tbl := lw_at lw_m2 234 rfl
theorem q554 : (Jvm.Cond.fieldLinkNest "DomeNights$Programme" (263 : Nat) "DomeNights$Show" "state" "I" "DomeNights") ∈ lw_tbl := lw_at lw_m2 238 rfl
theorem q556 : (Jvm.Cond.fieldLinkNest "DomeNights$Programme" (278 : Nat) "DomeNights$Show" "lamp" "I" "DomeNights") ∈ lw_tbl := lw_at lw_m3 0 rfl
theorem q559 : (Jvm.Cond.fieldLinkNest "DomeNights$Programme" (287 : Nat) "DomeNights$Show" "worn" "I" "DomeNights") ∈ lw_tbl := lw_at lw_m3 3 rfl
theorem q562 : (Jvm.Cond.fieldLinkNest "DomeNights$Programme" (241 : Nat) "DomeNights$Show" "moved" "I" "DomeNights") ∈ lw_tbl := lw_at lw_m3 6 rfl
theorem q583 : (Jvm.Cond.classLink "DomeNights$Programme" (85 : Nat) "DomeNights$Booking") ∈ lw_all := lw_g (lw_at lw_m3 27 rfl) rfl
theorem q585 : (Jvm.Cond.methodLink "DomeNights$Programme" (87 : Nat) ({ cls := "DomeNights$Booking", name := "<init>", desc := "(LDomeNights$Booking;)V" } : Jvm.MethodName)) ∈ lw_all := lw_g (lw_at lw_m3 29 rfl) rfl
theorem q593 : (Jvm.Cond.fieldLinkNest "DomeNights$Programme" (155 : Nat) "DomeNights$Booking" "show" "I" "DomeNights") ∈ lw_tbl := lw_at lw_m3 37 rfl
theorem q596 : (Jvm.Cond.fieldLinkNest "DomeNights$Programme" (162 : Nat) "DomeNights$Booking" "seats" "I" "DomeNights") ∈ lw_tbl := lw_at lw_m3 40 rfl
theorem q600 : (Jvm.Cond.fieldLinkNest "DomeNights$Programme" (312 : Nat) "DomeNights$Booking" "school" "I" "DomeNights") ∈ lw_tbl := lw_at lw_m3 44 rfl
theorem q603 : (Jvm.Cond.fieldLinkNest "DomeNights$Programme" (179 : Nat) "DomeNights$Booking" "isBound" "Z" "DomeNights") ∈ lw_tbl := lw_at lw_m3 47 rfl
theorem q606 : (Jvm.Cond.fieldLinkNest "DomeNights$Programme" (169 : Nat) "DomeNights$Booking" "cost" "I" "DomeNights") ∈ lw_tbl := lw_at lw_m3 50 rfl
theorem q609 : (Jvm.Cond.fieldLinkNest "DomeNights$Programme" (176 : Nat) "DomeNights$Booking" "state" "I" "DomeNights") ∈ lw_tbl := lw_at lw_m3 53 rfl
theorem q612 : (Jvm.Cond.fieldLinkNest "DomeNights$Programme" (290 : Nat) "DomeNights$Booking" "refunded" "I" "DomeNights") ∈ lw_tbl := lw_at lw_m3 56 rfl
theorem q615 : (Jvm.Cond.fieldLinkNest "DomeNights$Programme" (195 : Nat) "DomeNights$Booking" "inRow" "[I" "DomeNights") ∈ lw_tbl := lw_at lw_m3 59 rfl
theorem q635 : (Jvm.Cond.classLink "DomeNights$Programme" (90 : Nat) "DomeNights$Promise") ∈ lw_all := lw_g (lw_at lw_m3 79 rfl) rfl
theorem q637 : (Jvm.Cond.methodLink "DomeNights$Programme" (92 : Nat) ({ cls := "DomeNights$Promise", name := "<init>", desc := "(LDomeNights$Promise;)V" } : Jvm.MethodName)) ∈ lw_all := lw_g (lw_at lw_m3 81 rfl) rfl
theorem q651 : (Jvm.Cond.fieldLinkNest "DomeNights$Programme" (238 : Nat) "DomeNights$Promise" "last" "I" "DomeNights") ∈ lw_tbl := lw_at lw_m3 95 rfl
theorem q654 : (Jvm.Cond.fieldLinkNest "DomeNights$Programme" (296 : Nat) "DomeNights$Promise" "state" "I" "DomeNights") ∈ lw_tbl := lw_at lw_m3 98 rfl
theorem q657 : (Jvm.Cond.fieldLinkNest "DomeNights$Programme" (152 : Nat) "DomeNights$Promise" "counted" "[I" "DomeNights") ∈ lw_tbl := lw_at lw_m3 101 rfl
theorem q673 : (Jvm.Cond.interfaceEntry "DomeNights$Programme" (95 : Nat)) ∈ lw_tbl := lw_at lw_m3 117 rfl
theorem q674 : (Jvm.Cond.methodLink "DomeNights$Programme" (95 : Nat) ({ cls := "java/util/Map", name := "putAll", desc := "(Ljava/util/Map;)V" } : Jvm.MethodName)) ∈ lw_all := lw_g (lw_at lw_m3 118 rfl) rfl
theorem q1100 : (Jvm.Cond.selects "DomeNights$Programme" ({ cls := "java/lang/Object", name := "hashCode", desc := "()I" } : Jvm.MethodName) ({ cls := "java/lang/Object", name := "hashCode", desc := "()I" } : Jvm.MethodName)) ∈ lw_all := lw_g (lw_at lw_m5 64 rfl) rfl
theorem q1134 : (Jvm.Cond.selects "DomeNights$Programme" ({ cls := "java/lang/Object", name := "equals", desc := "(Ljava/lang/Object;)Z" } : Jvm.MethodName) ({ cls := "java/lang/Object", name := "equals", desc := "(Ljava/lang/Object;)Z" } : Jvm.MethodName)) ∈ lw_all := lw_g (lw_at lw_m5 98 rfl) rfl
theorem q1265 : (Jvm.Cond.instanceMethod ({ cls := "DomeNights$Programme", name := "fitted", desc := "()I" } : Jvm.MethodName)) ∈ lw_all := lw_g (lw_at lw_m5 229 rfl) rfl
theorem q1266 : (Jvm.Cond.selects "DomeNights$Programme" ({ cls := "DomeNights$Programme", name := "fitted", desc := "()I" } : Jvm.MethodName) ({ cls := "DomeNights$Programme", name := "fitted", desc := "()I" } : Jvm.MethodName)) ∈ lw_all := lw_g (lw_at lw_m5 230 rfl) rfl
theorem q1267 : (Jvm.Cond.code ({ cls := "DomeNights$Programme", name := "fitted", desc := "()I" } : Jvm.MethodName) prog_6_method_3_code (2 : Nat) (Option.some Jvm.ClassFile.FieldType.int)) ∈ lw_all := lw_g (lw_at lw_m5 231 rfl) rfl
theorem q1268 : (Jvm.Cond.interfaceEntry "DomeNights$Programme" (111 : Nat)) ∈ lw_tbl := lw_at lw_m5 232 rfl
theorem q1269 : (Jvm.Cond.methodLink "DomeNights$Programme" (111 : Nat) ({ cls := "java/util/List", name := "size", desc := "()I" } : Jvm.MethodName)) ∈ lw_all := lw_g (lw_at lw_m5 233 rfl) rfl
theorem q1270 : (Jvm.Cond.interfaceEntry "DomeNights$Programme" (115 : Nat)) ∈ lw_tbl := lw_at lw_m5 234 rfl
theorem q1271 : (Jvm.Cond.methodLink "DomeNights$Programme" (115 : Nat) ({ cls := "java/util/List", name := "get", desc := "(I)Ljava/lang/Object;" } : Jvm.MethodName)) ∈ lw_all := lw_g (lw_at lw_m5 235 rfl) rfl
theorem q1273 : (Jvm.Cond.instanceMethod ({ cls := "DomeNights$Programme", name := "fit", desc := "(I)V" } : Jvm.MethodName)) ∈ lw_all := lw_g (lw_at lw_m5 237 rfl) rfl
theorem q1274 : (Jvm.Cond.selects "DomeNights$Programme" ({ cls := "DomeNights$Programme", name := "fit", desc := "(I)V" } : Jvm.MethodName) ({ cls := "DomeNights$Programme", name := "fit", desc := "(I)V" } : Jvm.MethodName)) ∈ lw_all := lw_g (lw_at lw_m5 238 rfl) rfl
theorem q1275 : (Jvm.Cond.code ({ cls := "DomeNights$Programme", name := "fit", desc := "(I)V" } : Jvm.MethodName) prog_6_method_4_code (3 : Nat) (Option.none : Option Jvm.ClassFile.FieldType)) ∈ lw_all := lw_g (lw_at lw_m5 239 rfl) rfl
theorem q1276 : (Jvm.Cond.methodLink "DomeNights$Programme" (122 : Nat) ({ cls := "DomeNights$Programme", name := "fitted", desc := "()I" } : Jvm.MethodName)) ∈ lw_all := lw_g (lw_at lw_m6 0 rfl) rfl
theorem q1297 : (Jvm.Cond.fieldLinkNest "DomeNights$Programme" (206 : Nat) "DomeNights$Time" "day" "I" "DomeNights") ∈ lw_tbl := lw_at lw_m6 21 rfl
theorem q1307 : (Jvm.Cond.instanceMethod ({ cls := "DomeNights$Programme", name := "isFree", desc := "(LDomeNights$Time;)Z" } : Jvm.MethodName)) ∈ lw_all := lw_g (lw_at lw_m6 31 rfl) rfl
theorem q1308 : (Jvm.Cond.selects "DomeNights$Programme" ({ cls := "DomeNights$Programme", name := "isFree", desc := "(LDomeNights$Time;)Z" } : Jvm.MethodName) ({ cls := "DomeNights$Programme", name := "isFree", desc := "(LDomeNights$Time;)Z" } : Jvm.MethodName)) ∈ lw_all := lw_g (lw_at lw_m6 32 rfl) rfl
theorem q1309 : (Jvm.Cond.code ({ cls := "DomeNights$Programme", name := "isFree", desc := "(LDomeNights$Time;)Z" } : Jvm.MethodName) prog_6_method_13_code (2 : Nat) (Option.some Jvm.ClassFile.FieldType.boolean)) ∈ lw_all := lw_g (lw_at lw_m6 33 rfl) rfl
theorem q1310 : (Jvm.Cond.interfaceEntry "DomeNights$Programme" (211 : Nat)) ∈ lw_tbl := lw_at lw_m6 34 rfl
theorem q1311 : (Jvm.Cond.methodLink "DomeNights$Programme" (211 : Nat) ({ cls := "java/util/Map", name := "containsKey", desc := "(Ljava/lang/Object;)Z" } : Jvm.MethodName)) ∈ lw_all := lw_g (lw_at lw_m6 35 rfl) rfl
theorem q1328 : (Jvm.Cond.instanceMethod ({ cls := "DomeNights$Programme", name := "plan", desc := "(ILDomeNights$Time;)I" } : Jvm.MethodName)) ∈ lw_all := lw_g (lw_at lw_m6 52 rfl) rfl
theorem q1329 : (Jvm.Cond.selects "DomeNights$Programme" ({ cls := "DomeNights$Programme", name := "plan", desc := "(ILDomeNights$Time;)I" } : Jvm.MethodName) ({ cls := "DomeNights$Programme", name := "plan", desc := "(ILDomeNights$Time;)I" } : Jvm.MethodName)) ∈ lw_all := lw_g (lw_at lw_m6 53 rfl) rfl
theorem q1330 : (Jvm.Cond.code ({ cls := "DomeNights$Programme", name := "plan", desc := "(ILDomeNights$Time;)I" } : Jvm.MethodName) prog_6_method_15_code (3 : Nat) (Option.some Jvm.ClassFile.FieldType.int)) ∈ lw_all := lw_g (lw_at lw_m6 54 rfl) rfl
theorem q1331 : (Jvm.Cond.methodLink "DomeNights$Programme" (221 : Nat) ({ cls := "DomeNights$Show", name := "<init>", desc := "(ILDomeNights$Time;)V" } : Jvm.MethodName)) ∈ lw_all := lw_g (lw_at lw_m6 55 rfl) rfl
theorem q1332 : (Jvm.Cond.methodLink "DomeNights$Programme" (224 : Nat) ({ cls := "java/lang/Integer", name := "valueOf", desc := "(I)Ljava/lang/Integer;" } : Jvm.MethodName)) ∈ lw_all := lw_g (lw_at lw_m6 56 rfl) rfl
theorem q1351 : (Jvm.Cond.interfaceEntry "DomeNights$Programme" (230 : Nat)) ∈ lw_tbl := lw_at lw_m6 75 rfl
theorem q1352 : (Jvm.Cond.methodLink "DomeNights$Programme" (230 : Nat) ({ cls := "java/util/Map", name := "put", desc := "(Ljava/lang/Object;Ljava/lang/Object;)Ljava/lang/Object;" } : Jvm.MethodName)) ∈ lw_all := lw_g (lw_at lw_m6 76 rfl) rfl
theorem q1371 : (Jvm.Cond.instanceMethod ({ cls := "DomeNights$Programme", name := "event", desc := "(III)I" } : Jvm.MethodName)) ∈ lw_all := lw_g (lw_at lw_m6 95 rfl) rfl
theorem q1372 : (Jvm.Cond.selects "DomeNights$Programme" ({ cls := "DomeNights$Programme", name := "event", desc := "(III)I" } : Jvm.MethodName) ({ cls := "DomeNights$Programme", name := "event", desc := "(III)I" } : Jvm.MethodName)) ∈ lw_all := lw_g (lw_at lw_m6 96 rfl) rfl
theorem q1373 : (Jvm.Cond.code ({ cls := "DomeNights$Programme", name := "event", desc := "(III)I" } : Jvm.MethodName) prog_6_method_18_code (7 : Nat) (Option.some Jvm.ClassFile.FieldType.int)) ∈ lw_all := lw_g (lw_at lw_m6 97 rfl) rfl
theorem q1374 : (Jvm.Cond.classLink "DomeNights$Programme" (207 : Nat) "DomeNights$Time") ∈ lw_all := lw_g (lw_at lw_m6 98 rfl) rfl
theorem q1375 : (Jvm.Cond.methodLink "DomeNights$Programme" (264 : Nat) ({ cls := "DomeNights$Time", name := "<init>", desc := "(II)V" } : Jvm.MethodName)) ∈ lw_all := lw_g (lw_at lw_m6 99 rfl) rfl
theorem q1376 : (Jvm.Cond.methodLink "DomeNights$Programme" (267 : Nat) ({ cls := "DomeNights$Programme", name := "displaces", desc := "(LDomeNights$Time;)V" } : Jvm.MethodName)) ∈ lw_all := lw_g (lw_at lw_m6 100 rfl) rfl
theorem q1377 : (Jvm.Cond.privateMethod ({ cls := "DomeNights$Programme", name := "displaces", desc := "(LDomeNights$Time;)V" } : Jvm.MethodName)) ∈ lw_tbl := lw_at lw_m6 101 rfl
theorem q1378 : (Jvm.Cond.instanceMethod ({ cls := "DomeNights$Programme", name := "displaces", desc := "(LDomeNights$Time;)V" } : Jvm.MethodName)) ∈ lw_all := lw_g (lw_at lw_m6 102 rfl) rfl
theorem q1379 : (Jvm.Cond.code ({ cls := "DomeNights$Programme", name := "displaces", desc := "(LDomeNights$Time;)V" } : Jvm.MethodName) prog_6_method_17_code (4 : Nat) (Option.none : Option Jvm.ClassFile.FieldType)) ∈ lw_all := lw_g (lw_at lw_m6 103 rfl) rfl
theorem q1380 : (Jvm.Cond.interfaceEntry "DomeNights$Programme" (244 : Nat)) ∈ lw_tbl := lw_at lw_m6 104 rfl
theorem q1381 : (Jvm.Cond.methodLink "DomeNights$Programme" (244 : Nat) ({ cls := "java/util/Map", name := "remove", desc := "(Ljava/lang/Object;)Ljava/lang/Object;" } : Jvm.MethodName)) ∈ lw_all := lw_g (lw_at lw_m6 105 rfl) rfl
theorem q1404 : (Jvm.Cond.classLink "DomeNights$Programme" (225 : Nat) "java/lang/Integer") ∈ lw_all := lw_g (lw_at lw_m6 128 rfl) rfl
theorem q1405 : (Jvm.Cond.methodLink "DomeNights$Programme" (248 : Nat) ({ cls := "java/lang/Integer", name := "intValue", desc := "()I" } : Jvm.MethodName)) ∈ lw_all := lw_g (lw_at lw_m6 129 rfl) rfl
theorem q1406 : (Jvm.Cond.methodLink "DomeNights$Programme" (218 : Nat) ({ cls := "DomeNights$Time", name := "next", desc := "()LDomeNights$Time;" } : Jvm.MethodName)) ∈ lw_all := lw_g (lw_at lw_m6 130 rfl) rfl
theorem q1411 : (Jvm.Cond.methodLink "DomeNights$Programme" (251 : Nat) ({ cls := "DomeNights$Programme", name := "freeFrom", desc := "(LDomeNights$Time;I)Ljava/util/Optional;" } : Jvm.MethodName)) ∈ lw_all := lw_g (lw_at lw_m6 135 rfl) rfl
theorem q1412 : (Jvm.Cond.instanceMethod ({ cls := "DomeNights$Programme", name := "freeFrom", desc := "(LDomeNights$Time;I)Ljava/util/Optional;" } : Jvm.MethodName)) ∈ lw_all := lw_g (lw_at lw_m6 136 rfl) rfl
theorem q1413 : (Jvm.Cond.selects "DomeNights$Programme" ({ cls := "DomeNights$Programme", name := "freeFrom", desc := "(LDomeNights$Time;I)Ljava/util/Optional;" } : Jvm.MethodName) ({ cls := "DomeNights$Programme", name := "freeFrom", desc := "(LDomeNights$Time;I)Ljava/util/Optional;" } : Jvm.MethodName)) ∈ lw_all := lw_g (lw_at lw_m6 137 rfl) rfl
theorem q1414 : (Jvm.Cond.code ({ cls := "DomeNights$Programme", name := "freeFrom", desc := "(LDomeNights$Time;I)Ljava/util/Optional;" } : Jvm.MethodName) prog_6_method_14_code (4 : Nat) (Option.some (Jvm.ClassFile.FieldType.object "java/util/Optional"))) ∈ lw_all := lw_g (lw_at lw_m6 138 rfl) rfl
theorem q1415 : (Jvm.Cond.methodLink "DomeNights$Programme" (214 : Nat) ({ cls := "DomeNights$Programme", name := "isFree", desc := "(LDomeNights$Time;)Z" } : Jvm.MethodName)) ∈ lw_all := lw_g (lw_at lw_m6 139 rfl) rfl
theorem q1416 : (Jvm.Cond.methodLink "DomeNights$Programme" (148 : Nat) ({ cls := "java/util/Optional", name := "of", desc := "(Ljava/lang/Object;)Ljava/util/Optional;" } : Jvm.MethodName)) ∈ lw_all := lw_g (lw_at lw_m6 140 rfl) rfl
theorem q1432 : (Jvm.Cond.methodLink "DomeNights$Programme" (138 : Nat) ({ cls := "java/util/Optional", name := "empty", desc := "()Ljava/util/Optional;" } : Jvm.MethodName)) ∈ lw_all := lw_g (lw_at lw_m6 156 rfl) rfl
theorem q1437 : (Jvm.Cond.methodLink "DomeNights$Programme" (255 : Nat) ({ cls := "java/util/Optional", name := "isPresent", desc := "()Z" } : Jvm.MethodName)) ∈ lw_all := lw_g (lw_at lw_m6 161 rfl) rfl
theorem q1441 : (Jvm.Cond.methodLink "DomeNights$Programme" (258 : Nat) ({ cls := "java/util/Optional", name := "get", desc := "()Ljava/lang/Object;" } : Jvm.MethodName)) ∈ lw_all := lw_g (lw_at lw_m6 165 rfl) rfl
theorem q1445 : (Jvm.Cond.methodLink "DomeNights$Programme" (260 : Nat) ({ cls := "DomeNights$Programme", name := "moves", desc := "(ILDomeNights$Time;)V" } : Jvm.MethodName)) ∈ lw_all := lw_g (lw_at lw_m6 169 rfl) rfl
theorem q1446 : (Jvm.Cond.privateMethod ({ cls := "DomeNights$Programme", name := "moves", desc := "(ILDomeNights$Time;)V" } : Jvm.MethodName)) ∈ lw_tbl := lw_at lw_m6 170 rfl
theorem q1447 : (Jvm.Cond.instanceMethod ({ cls := "DomeNights$Programme", name := "moves", desc := "(ILDomeNights$Time;)V" } : Jvm.MethodName)) ∈ lw_all := lw_g (lw_at lw_m6 171 rfl) rfl
theorem q1448 : (Jvm.Cond.code ({ cls := "DomeNights$Programme", name := "moves", desc := "(ILDomeNights$Time;)V" } : Jvm.MethodName) prog_6_method_16_code (9 : Nat) (Option.none : Option Jvm.ClassFile.FieldType)) ∈ lw_all := lw_g (lw_at lw_m6 172 rfl) rfl
theorem q1449 : (Jvm.Cond.methodLink "DomeNights$Programme" (234 : Nat) ({ cls := "DomeNights$Programme", name := "losesAll", desc := "(IIZ)V" } : Jvm.MethodName)) ∈ lw_all := lw_g (lw_at lw_m6 173 rfl) rfl
theorem q1450 : (Jvm.Cond.privateMethod ({ cls := "DomeNights$Programme", name := "losesAll", desc := "(IIZ)V" } : Jvm.MethodName)) ∈ lw_tbl := lw_at lw_m6 174 rfl
theorem q1451 : (Jvm.Cond.instanceMethod ({ cls := "DomeNights$Programme", name := "losesAll", desc := "(IIZ)V" } : Jvm.MethodName)) ∈ lw_all := lw_g (lw_at lw_m6 175 rfl) rfl
theorem q1452 : (Jvm.Cond.code ({ cls := "DomeNights$Programme", name := "losesAll", desc := "(IIZ)V" } : Jvm.MethodName) prog_6_method_10_code (6 : Nat) (Option.none : Option Jvm.ClassFile.FieldType)) ∈ lw_all := lw_g (lw_at lw_m6 176 rfl) rfl
theorem q1453 : (Jvm.Cond.methodLink "DomeNights$Programme" (183 : Nat) ({ cls := "DomeNights$Programme", name := "loses", desc := "(LDomeNights$Booking;I)V" } : Jvm.MethodName)) ∈ lw_all := lw_g (lw_at lw_m6 177 rfl) rfl
theorem q1454 : (Jvm.Cond.privateMethod ({ cls := "DomeNights$Programme", name := "loses", desc := "(LDomeNights$Booking;I)V" } : Jvm.MethodName)) ∈ lw_tbl := lw_at lw_m6 178 rfl
theorem q1455 : (Jvm.Cond.instanceMethod ({ cls := "DomeNights$Programme", name := "loses", desc := "(LDomeNights$Booking;I)V" } : Jvm.MethodName)) ∈ lw_all := lw_g (lw_at lw_m6 179 rfl) rfl
theorem q1456 : (Jvm.Cond.code ({ cls := "DomeNights$Programme", name := "loses", desc := "(LDomeNights$Booking;I)V" } : Jvm.MethodName) prog_6_method_9_code (3 : Nat) (Option.none : Option Jvm.ClassFile.FieldType)) ∈ lw_all := lw_g (lw_at lw_m6 180 rfl) rfl
theorem q1457 : (Jvm.Cond.methodLink "DomeNights$Programme" (165 : Nat) ({ cls := "DomeNights$Programme", name := "counts", desc := "(LDomeNights$Booking;I)V" } : Jvm.MethodName)) ∈ lw_all := lw_g (lw_at lw_m6 181 rfl) rfl
theorem q1458 : (Jvm.Cond.privateMethod ({ cls := "DomeNights$Programme", name := "counts", desc := "(LDomeNights$Booking;I)V" } : Jvm.MethodName)) ∈ lw_tbl := lw_at lw_m6 182 rfl
theorem q1459 : (Jvm.Cond.instanceMethod ({ cls := "DomeNights$Programme", name := "counts", desc := "(LDomeNights$Booking;I)V" } : Jvm.MethodName)) ∈ lw_all := lw_g (lw_at lw_m6 183 rfl) rfl
theorem q1460 : (Jvm.Cond.code ({ cls := "DomeNights$Programme", name := "counts", desc := "(LDomeNights$Booking;I)V" } : Jvm.MethodName) prog_6_method_8_code (5 : Nat) (Option.none : Option Jvm.ClassFile.FieldType)) ∈ lw_all := lw_g (lw_at lw_m6 184 rfl) rfl
theorem q1461 : (Jvm.Cond.methodLink "DomeNights$Programme" (158 : Nat) ({ cls := "DomeNights$Promise", name := "isFor", desc := "(LDomeNights$Booking;LDomeNights$Show;)Z" } : Jvm.MethodName)) ∈ lw_all := lw_g (lw_at lw_m6 185 rfl) rfl
theorem q1465 : (Jvm.Cond.methodLink "DomeNights$Programme" (172 : Nat) ({ cls := "DomeNights$Booking", name := "leaves", desc := "(LDomeNights$Show;II)V" } : Jvm.MethodName)) ∈ lw_all := lw_g (lw_at lw_m6 189 rfl) rfl
theorem q1487 : (Jvm.Cond.instanceMethod ({ cls := "DomeNights$Programme", name := "book", desc := "(IIIZ)I" } : Jvm.MethodName)) ∈ lw_all := lw_g (lw_at lw_m6 211 rfl) rfl
theorem q1488 : (Jvm.Cond.selects "DomeNights$Programme" ({ cls := "DomeNights$Programme", name := "book", desc := "(IIIZ)I" } : Jvm.MethodName) ({ cls := "DomeNights$Programme", name := "book", desc := "(IIIZ)I" } : Jvm.MethodName)) ∈ lw_all := lw_g (lw_at lw_m6 212 rfl) rfl
theorem q1489 : (Jvm.Cond.code ({ cls := "DomeNights$Programme", name := "book", desc := "(IIIZ)I" } : Jvm.MethodName) prog_6_method_11_code (9 : Nat) (Option.some Jvm.ClassFile.FieldType.int)) ∈ lw_all := lw_g (lw_at lw_m6 213 rfl) rfl
theorem q1490 : (Jvm.Cond.methodLink "DomeNights$Programme" (192 : Nat) ({ cls := "DomeNights$Booking", name := "<init>", desc := "(IIIZI)V" } : Jvm.MethodName)) ∈ lw_all := lw_g (lw_at lw_m6 214 rfl) rfl
theorem q1491 : (Jvm.Cond.methodLink "DomeNights$Programme" (198 : Nat) ({ cls := "DomeNights$Show", name := "seat", desc := "([II)V" } : Jvm.MethodName)) ∈ lw_all := lw_g (lw_at lw_m6 215 rfl) rfl
theorem q1506 : (Jvm.Cond.instanceMethod ({ cls := "DomeNights$Programme", name := "giveBack", desc := "(LDomeNights$Booking;)I" } : Jvm.MethodName)) ∈ lw_all := lw_g (lw_at lw_m6 230 rfl) rfl
theorem q1507 : (Jvm.Cond.selects "DomeNights$Programme" ({ cls := "DomeNights$Programme", name := "giveBack", desc := "(LDomeNights$Booking;)I" } : Jvm.MethodName) ({ cls := "DomeNights$Programme", name := "giveBack", desc := "(LDomeNights$Booking;)I" } : Jvm.MethodName)) ∈ lw_all := lw_g (lw_at lw_m6 231 rfl) rfl
theorem q1508 : (Jvm.Cond.code ({ cls := "DomeNights$Programme", name := "giveBack", desc := "(LDomeNights$Booking;)I" } : Jvm.MethodName) prog_6_method_12_code (5 : Nat) (Option.some Jvm.ClassFile.FieldType.int)) ∈ lw_all := lw_g (lw_at lw_m6 232 rfl) rfl
theorem q1531 : (Jvm.Cond.instanceMethod ({ cls := "DomeNights$Programme", name := "passDay", desc := "()V" } : Jvm.MethodName)) ∈ lw_all := lw_g (lw_at lw_m7 15 rfl) rfl
theorem q1532 : (Jvm.Cond.selects "DomeNights$Programme" ({ cls := "DomeNights$Programme", name := "passDay", desc := "()V" } : Jvm.MethodName) ({ cls := "DomeNights$Programme", name := "passDay", desc := "()V" } : Jvm.MethodName)) ∈ lw_all := lw_g (lw_at lw_m7 16 rfl) rfl
theorem q1533 : (Jvm.Cond.code ({ cls := "DomeNights$Programme", name := "passDay", desc := "()V" } : Jvm.MethodName) prog_6_method_20_code (3 : Nat) (Option.none : Option Jvm.ClassFile.FieldType)) ∈ lw_all := lw_g (lw_at lw_m7 17 rfl) rfl
theorem q1534 : (Jvm.Cond.methodLink "DomeNights$Programme" (293 : Nat) ({ cls := "DomeNights$Programme", name := "holds", desc := "(I)V" } : Jvm.MethodName)) ∈ lw_all := lw_g (lw_at lw_m7 18 rfl) rfl
theorem q1535 : (Jvm.Cond.privateMethod ({ cls := "DomeNights$Programme", name := "holds", desc := "(I)V" } : Jvm.MethodName)) ∈ lw_tbl := lw_at lw_m7 19 rfl
theorem q1536 : (Jvm.Cond.instanceMethod ({ cls := "DomeNights$Programme", name := "holds", desc := "(I)V" } : Jvm.MethodName)) ∈ lw_all := lw_g (lw_at lw_m7 20 rfl) rfl
theorem q1537 : (Jvm.Cond.code ({ cls := "DomeNights$Programme", name := "holds", desc := "(I)V" } : Jvm.MethodName) prog_6_method_19_code (7 : Nat) (Option.none : Option Jvm.ClassFile.FieldType)) ∈ lw_all := lw_g (lw_at lw_m7 21 rfl) rfl
theorem q1538 : (Jvm.Cond.methodLink "DomeNights$Programme" (271 : Nat) ({ cls := "DomeNights$Programme", name := "lampFor", desc := "(LDomeNights$Kind;)Ljava/util/Optional;" } : Jvm.MethodName)) ∈ lw_all := lw_g (lw_at lw_m7 22 rfl) rfl
theorem q1539 : (Jvm.Cond.privateMethod ({ cls := "DomeNights$Programme", name := "lampFor", desc := "(LDomeNights$Kind;)Ljava/util/Optional;" } : Jvm.MethodName)) ∈ lw_tbl := lw_at lw_m7 23 rfl
theorem q1540 : (Jvm.Cond.instanceMethod ({ cls := "DomeNights$Programme", name := "lampFor", desc := "(LDomeNights$Kind;)Ljava/util/Optional;" } : Jvm.MethodName)) ∈ lw_all := lw_g (lw_at lw_m7 24 rfl) rfl
theorem q1541 : (Jvm.Cond.code ({ cls := "DomeNights$Programme", name := "lampFor", desc := "(LDomeNights$Kind;)Ljava/util/Optional;" } : Jvm.MethodName) prog_6_method_7_code (3 : Nat) (Option.some (Jvm.ClassFile.FieldType.object "java/util/Optional"))) ∈ lw_all := lw_g (lw_at lw_m7 25 rfl) rfl
theorem q1542 : (Jvm.Cond.methodLink "DomeNights$Programme" (131 : Nat) ({ cls := "DomeNights$Programme", name := "hasLight", desc := "(II)Z" } : Jvm.MethodName)) ∈ lw_all := lw_g (lw_at lw_m7 26 rfl) rfl
theorem q1543 : (Jvm.Cond.privateMethod ({ cls := "DomeNights$Programme", name := "hasLight", desc := "(II)Z" } : Jvm.MethodName)) ∈ lw_tbl := lw_at lw_m7 27 rfl
theorem q1544 : (Jvm.Cond.instanceMethod ({ cls := "DomeNights$Programme", name := "hasLight", desc := "(II)Z" } : Jvm.MethodName)) ∈ lw_all := lw_g (lw_at lw_m7 28 rfl) rfl
theorem q1545 : (Jvm.Cond.code ({ cls := "DomeNights$Programme", name := "hasLight", desc := "(II)Z" } : Jvm.MethodName) prog_6_method_5_code (3 : Nat) (Option.some Jvm.ClassFile.FieldType.boolean)) ∈ lw_all := lw_g (lw_at lw_m7 29 rfl) rfl
theorem q1546 : (Jvm.Cond.methodLink "DomeNights$Programme" (125 : Nat) ({ cls := "DomeNights$Lamp", name := "brightness", desc := "()I" } : Jvm.MethodName)) ∈ lw_all := lw_g (lw_at lw_m7 30 rfl) rfl
theorem q1550 : (Jvm.Cond.methodLink "DomeNights$Programme" (135 : Nat) ({ cls := "DomeNights$Programme", name := "brightestSpare", desc := "()I" } : Jvm.MethodName)) ∈ lw_all := lw_g (lw_at lw_m7 34 rfl) rfl
theorem q1551 : (Jvm.Cond.privateMethod ({ cls := "DomeNights$Programme", name := "brightestSpare", desc := "()I" } : Jvm.MethodName)) ∈ lw_tbl := lw_at lw_m7 35 rfl
theorem q1552 : (Jvm.Cond.instanceMethod ({ cls := "DomeNights$Programme", name := "brightestSpare", desc := "()I" } : Jvm.MethodName)) ∈ lw_all := lw_g (lw_at lw_m7 36 rfl) rfl
theorem q1553 : (Jvm.Cond.code ({ cls := "DomeNights$Programme", name := "brightestSpare", desc := "()I" } : Jvm.MethodName) prog_6_method_6_code (4 : Nat) (Option.some Jvm.ClassFile.FieldType.int)) ∈ lw_all := lw_g (lw_at lw_m7 37 rfl) rfl
theorem q1554 : (Jvm.Cond.methodLink "DomeNights$Programme" (144 : Nat) ({ cls := "DomeNights$Programme", name := "fit", desc := "(I)V" } : Jvm.MethodName)) ∈ lw_all := lw_g (lw_at lw_m7 38 rfl) rfl
theorem q1555 : (Jvm.Cond.methodLink "DomeNights$Programme" (275 : Nat) ({ cls := "java/util/Optional", name := "isEmpty", desc := "()Z" } : Jvm.MethodName)) ∈ lw_all := lw_g (lw_at lw_m7 39 rfl) rfl
theorem q1559 : (Jvm.Cond.methodLink "DomeNights$Programme" (284 : Nat) ({ cls := "DomeNights$Lamp", name := "wear", desc := "(I)I" } : Jvm.MethodName)) ∈ lw_all := lw_g (lw_at lw_m7 43 rfl) rfl
theorem q1567 : (Jvm.Cond.methodLink "DomeNights$Programme" (297 : Nat) ({ cls := "DomeNights$Promise", name := "close", desc := "()V" } : Jvm.MethodName)) ∈ lw_all := lw_g (lw_at lw_m7 51 rfl) rfl
theorem q1576 : (Jvm.Cond.instanceMethod ({ cls := "DomeNights$Programme", name := "showsOf", desc := "(II)I" } : Jvm.MethodName)) ∈ lw_all := lw_g (lw_at lw_m7 60 rfl) rfl
theorem q1577 : (Jvm.Cond.selects "DomeNights$Programme" ({ cls := "DomeNights$Programme", name := "showsOf", desc := "(II)I" } : Jvm.MethodName) ({ cls := "DomeNights$Programme", name := "showsOf", desc := "(II)I" } : Jvm.MethodName)) ∈ lw_all := lw_g (lw_at lw_m7 61 rfl) rfl
theorem q1578 : (Jvm.Cond.code ({ cls := "DomeNights$Programme", name := "showsOf", desc := "(II)I" } : Jvm.MethodName) prog_6_method_23_code (6 : Nat) (Option.some Jvm.ClassFile.FieldType.int)) ∈ lw_all := lw_g (lw_at lw_m7 62 rfl) rfl
theorem q1585 : (Jvm.Cond.instanceMethod ({ cls := "DomeNights$Programme", name := "wornBy", desc := "(I)I" } : Jvm.MethodName)) ∈ lw_all := lw_g (lw_at lw_m7 69 rfl) rfl
theorem q1586 : (Jvm.Cond.selects "DomeNights$Programme" ({ cls := "DomeNights$Programme", name := "wornBy", desc := "(I)I" } : Jvm.MethodName) ({ cls := "DomeNights$Programme", name := "wornBy", desc := "(I)I" } : Jvm.MethodName)) ∈ lw_all := lw_g (lw_at lw_m7 70 rfl) rfl
theorem q1587 : (Jvm.Cond.code ({ cls := "DomeNights$Programme", name := "wornBy", desc := "(I)I" } : Jvm.MethodName) prog_6_method_24_code (5 : Nat) (Option.some Jvm.ClassFile.FieldType.int)) ∈ lw_all := lw_g (lw_at lw_m7 71 rfl) rfl
theorem q1593 : (Jvm.Cond.instanceMethod ({ cls := "DomeNights$Programme", name := "costOf", desc := "(I)I" } : Jvm.MethodName)) ∈ lw_all := lw_g (lw_at lw_m7 77 rfl) rfl
theorem q1594 : (Jvm.Cond.selects "DomeNights$Programme" ({ cls := "DomeNights$Programme", name := "costOf", desc := "(I)I" } : Jvm.MethodName) ({ cls := "DomeNights$Programme", name := "costOf", desc := "(I)I" } : Jvm.MethodName)) ∈ lw_all := lw_g (lw_at lw_m7 78 rfl) rfl
theorem q1595 : (Jvm.Cond.code ({ cls := "DomeNights$Programme", name := "costOf", desc := "(I)I" } : Jvm.MethodName) prog_6_method_25_code (5 : Nat) (Option.some Jvm.ClassFile.FieldType.int)) ∈ lw_all := lw_g (lw_at lw_m7 79 rfl) rfl
theorem q1597 : (Jvm.Cond.instanceMethod ({ cls := "DomeNights$Programme", name := "refundedOf", desc := "(I)I" } : Jvm.MethodName)) ∈ lw_all := lw_g (lw_at lw_m7 81 rfl) rfl
theorem q1598 : (Jvm.Cond.selects "DomeNights$Programme" ({ cls := "DomeNights$Programme", name := "refundedOf", desc := "(I)I" } : Jvm.MethodName) ({ cls := "DomeNights$Programme", name := "refundedOf", desc := "(I)I" } : Jvm.MethodName)) ∈ lw_all := lw_g (lw_at lw_m7 82 rfl) rfl
theorem q1599 : (Jvm.Cond.code ({ cls := "DomeNights$Programme", name := "refundedOf", desc := "(I)I" } : Jvm.MethodName) prog_6_method_26_code (5 : Nat) (Option.some Jvm.ClassFile.FieldType.int)) ∈ lw_all := lw_g (lw_at lw_m7 83 rfl) rfl
theorem q1613 : (Jvm.Cond.instanceMethod ({ cls := "DomeNights$Programme", name := "willBeSeen", desc := "(LDomeNights$Promise;)I" } : Jvm.MethodName)) ∈ lw_all := lw_g (lw_at lw_m7 97 rfl) rfl
theorem q1614 : (Jvm.Cond.selects "DomeNights$Programme" ({ cls := "DomeNights$Programme", name := "willBeSeen", desc := "(LDomeNights$Promise;)I" } : Jvm.MethodName) ({ cls := "DomeNights$Programme", name := "willBeSeen", desc := "(LDomeNights$Promise;)I" } : Jvm.MethodName)) ∈ lw_all := lw_g (lw_at lw_m7 98 rfl) rfl
theorem q1615 : (Jvm.Cond.code ({ cls := "DomeNights$Programme", name := "willBeSeen", desc := "(LDomeNights$Promise;)I" } : Jvm.MethodName) prog_6_method_30_code (6 : Nat) (Option.some Jvm.ClassFile.FieldType.int)) ∈ lw_all := lw_g (lw_at lw_m7 99 rfl) rfl
theorem q1644 : (Jvm.Cond.instanceMethod ({ cls := "DomeNights$Programme", name := "showsIn", desc := "(I)I" } : Jvm.MethodName)) ∈ lw_all := lw_g (lw_at lw_m7 128 rfl) rfl
theorem q1645 : (Jvm.Cond.selects "DomeNights$Programme" ({ cls := "DomeNights$Programme", name := "showsIn", desc := "(I)I" } : Jvm.MethodName) ({ cls := "DomeNights$Programme", name := "showsIn", desc := "(I)I" } : Jvm.MethodName)) ∈ lw_all := lw_g (lw_at lw_m7 129 rfl) rfl
theorem q1646 : (Jvm.Cond.code ({ cls := "DomeNights$Programme", name := "showsIn", desc := "(I)I" } : Jvm.MethodName) prog_6_method_22_code (5 : Nat) (Option.some Jvm.ClassFile.FieldType.int)) ∈ lw_all := lw_g (lw_at lw_m7 130 rfl) rfl
theorem q1667 : (Jvm.Cond.instanceMethod ({ cls := "DomeNights$Programme", name := "rest", desc := "(Z)I" } : Jvm.MethodName)) ∈ lw_all := lw_g (lw_at lw_m7 151 rfl) rfl
theorem q1668 : (Jvm.Cond.selects "DomeNights$Programme" ({ cls := "DomeNights$Programme", name := "rest", desc := "(Z)I" } : Jvm.MethodName) ({ cls := "DomeNights$Programme", name := "rest", desc := "(Z)I" } : Jvm.MethodName)) ∈ lw_all := lw_g (lw_at lw_m7 152 rfl) rfl
theorem q1669 : (Jvm.Cond.code ({ cls := "DomeNights$Programme", name := "rest", desc := "(Z)I" } : Jvm.MethodName) prog_6_method_28_code (5 : Nat) (Option.some Jvm.ClassFile.FieldType.int)) ∈ lw_all := lw_g (lw_at lw_m7 153 rfl) rfl
theorem q1671 : (Jvm.Cond.instanceMethod ({ cls := "DomeNights$Programme", name := "allRefunded", desc := "()I" } : Jvm.MethodName)) ∈ lw_all := lw_g (lw_at lw_m7 155 rfl) rfl
theorem q1672 : (Jvm.Cond.selects "DomeNights$Programme" ({ cls := "DomeNights$Programme", name := "allRefunded", desc := "()I" } : Jvm.MethodName) ({ cls := "DomeNights$Programme", name := "allRefunded", desc := "()I" } : Jvm.MethodName)) ∈ lw_all := lw_g (lw_at lw_m7 156 rfl) rfl
theorem q1673 : (Jvm.Cond.code ({ cls := "DomeNights$Programme", name := "allRefunded", desc := "()I" } : Jvm.MethodName) prog_6_method_27_code (4 : Nat) (Option.some Jvm.ClassFile.FieldType.int)) ∈ lw_all := lw_g (lw_at lw_m7 157 rfl) rfl
theorem q1674 : (Jvm.Cond.methodLink "DomeNights$Programme" (306 : Nat) ({ cls := "java/lang/Math", name := "addExact", desc := "(II)I" } : Jvm.MethodName)) ∈ lw_all := lw_g (lw_at lw_m7 158 rfl) rfl
theorem q1680 : (Jvm.Cond.instanceMethod ({ cls := "DomeNights$Programme", name := "behind", desc := "(I)LDomeNights$Programme;" } : Jvm.MethodName)) ∈ lw_all := lw_g (lw_at lw_m7 164 rfl) rfl
theorem q1681 : (Jvm.Cond.selects "DomeNights$Programme" ({ cls := "DomeNights$Programme", name := "behind", desc := "(I)LDomeNights$Programme;" } : Jvm.MethodName) ({ cls := "DomeNights$Programme", name := "behind", desc := "(I)LDomeNights$Programme;" } : Jvm.MethodName)) ∈ lw_all := lw_g (lw_at lw_m7 165 rfl) rfl
theorem q1682 : (Jvm.Cond.code ({ cls := "DomeNights$Programme", name := "behind", desc := "(I)LDomeNights$Programme;" } : Jvm.MethodName) prog_6_method_21_code (4 : Nat) (Option.some (Jvm.ClassFile.FieldType.object "DomeNights$Programme"))) ∈ lw_all := lw_g (lw_at lw_m7 166 rfl) rfl
theorem q1683 : (Jvm.Cond.classLink "DomeNights$Programme" (10 : Nat) "DomeNights$Programme") ∈ lw_all := lw_g (lw_at lw_m7 167 rfl) rfl
theorem q1684 : (Jvm.Cond.methodLink "DomeNights$Programme" (300 : Nat) ({ cls := "DomeNights$Programme", name := "<init>", desc := "(LDomeNights$Programme;)V" } : Jvm.MethodName)) ∈ lw_all := lw_g (lw_at lw_m7 168 rfl) rfl
theorem q1685 : (Jvm.Cond.methodLink "DomeNights$Programme" (303 : Nat) ({ cls := "DomeNights$Programme", name := "passDay", desc := "()V" } : Jvm.MethodName)) ∈ lw_all := lw_g (lw_at lw_m7 169 rfl) rfl
theorem q1702 : (Jvm.Cond.instanceMethod ({ cls := "DomeNights$Programme", name := "lostSeats", desc := "()I" } : Jvm.MethodName)) ∈ lw_all := lw_g (lw_at lw_m7 186 rfl) rfl
theorem q1703 : (Jvm.Cond.selects "DomeNights$Programme" ({ cls := "DomeNights$Programme", name := "lostSeats", desc := "()I" } : Jvm.MethodName) ({ cls := "DomeNights$Programme", name := "lostSeats", desc := "()I" } : Jvm.MethodName)) ∈ lw_all := lw_g (lw_at lw_m7 187 rfl) rfl
theorem q1704 : (Jvm.Cond.code ({ cls := "DomeNights$Programme", name := "lostSeats", desc := "()I" } : Jvm.MethodName) prog_6_method_29_code (4 : Nat) (Option.some Jvm.ClassFile.FieldType.int)) ∈ lw_all := lw_g (lw_at lw_m7 188 rfl) rfl
theorem q2348 : (Jvm.Cond.castable "DomeNights$Programme" "java/lang/Object") ∈ lw_tbl := lw_at lw_m10 112 rfl
theorem in_X1 : ∀ w ∈ wsX10, w ∈ lw_all := lw_in wsX10 [223, 225, 227, 229, 231, 233, 235, 237, 239, 241, 243] (by decide +kernel) (by decide +kernel)
