/-! DomeNights -/
set_option maxRecDepth 100000
def RX0 : String := "DomeNights"
def TX0 : u_T := fun k => match k with
  | 0 => ("DomeNights", "now", "LDomeNights$Programme;", false)
  | 1 => ("DomeNights", "past", "Ljava/util/List;", true)
  | 2 => ("DomeNights", "saved", "[LDomeNights$Programme;", true)
  | _ => ("DomeNights", "pad", "Ljava/lang/StringBuilder;", true)
def tyX0 : Nat → FieldType := fun k => match k with
  | 0 => .object "DomeNights$Programme"
  | 1 => .object "java/util/List"
  | 2 => .array (.object "DomeNights$Programme")
  | _ => .object "java/lang/StringBuilder"
abbrev wsX00 : List Cond := u_ws RX0 TX0 4
theorem nmX0 : ∀ a, a < 4 → ∀ b, b < 4 → a ≠ b → (TX0 a).2.1 ≠ (TX0 b).2.1 := by decide +kernel
theorem tyX0_ok : ∀ k, k < 4 → parseFieldDescriptor (TX0 k).2.2.1 = some (tyX0 k) := by decide +kernel
abbrev cX0_init : ByteArray := prog_1_method_2_code
def yX0_init : MethodName := ⟨RX0, "<init>", "()V"⟩
def dkwX0_init_1 : List UInt8 := [181, 0, 19, 42, 5, 189, 0, 7, 181, 0, 23, 42, 187, 0, 27, 89, 183, 0, 29, 181, 0, 30, 177]
abbrev dktX0_init_1 : List UInt8 := dkwX0_init_1 ++ []
def dkwX0_init_0 : List UInt8 := [42, 183, 0, 1, 42, 187, 0, 7, 89, 183, 0, 9, 181, 0, 10, 42, 187, 0, 16, 89, 183, 0, 18]
abbrev dktX0_init_0 : List UInt8 := dkwX0_init_0 ++ dktX0_init_1
theorem dksX0_init_0 : cX0_init.data.toList.drop 0 = dktX0_init_0 := by decide +kernel
theorem dksX0_init_1 : cX0_init.data.toList.drop 23 = dktX0_init_1 := dk_seg dksX0_init_0 23 rfl rfl
theorem dX0_init_0 : decode cX0_init 0 = .ok (.aload_n 0, 1) := dk_42 (dk_at dksX0_init_0 0 rfl rfl)
theorem dX0_init_1 : decode cX0_init 1 = .ok (.invokespecial 1, 3) := dk_183 0 1 (dk_at dksX0_init_0 1 rfl rfl)
theorem dX0_init_4 : decode cX0_init 4 = .ok (.aload_n 0, 1) := dk_42 (dk_at dksX0_init_0 4 rfl rfl)
theorem dX0_init_5 : decode cX0_init 5 = .ok (.new 7, 3) := dk_187 0 7 (dk_at dksX0_init_0 5 rfl rfl)
theorem dX0_init_8 : decode cX0_init 8 = .ok (.dup, 1) := dk_89 (dk_at dksX0_init_0 8 rfl rfl)
theorem dX0_init_9 : decode cX0_init 9 = .ok (.invokespecial 9, 3) := dk_183 0 9 (dk_at dksX0_init_0 9 rfl rfl)
theorem dX0_init_12 : decode cX0_init 12 = .ok (.putfield 10, 3) := dk_181 0 10 (dk_at dksX0_init_0 12 rfl rfl)
theorem dX0_init_15 : decode cX0_init 15 = .ok (.aload_n 0, 1) := dk_42 (dk_at dksX0_init_0 15 rfl rfl)
theorem dX0_init_16 : decode cX0_init 16 = .ok (.new 16, 3) := dk_187 0 16 (dk_at dksX0_init_0 16 rfl rfl)
theorem dX0_init_19 : decode cX0_init 19 = .ok (.dup, 1) := dk_89 (dk_at dksX0_init_0 19 rfl rfl)
theorem dX0_init_20 : decode cX0_init 20 = .ok (.invokespecial 18, 3) := dk_183 0 18 (dk_at dksX0_init_0 20 rfl rfl)
theorem dX0_init_23 : decode cX0_init 23 = .ok (.putfield 19, 3) := dk_181 0 19 (dk_at dksX0_init_1 0 rfl rfl)
theorem dX0_init_26 : decode cX0_init 26 = .ok (.aload_n 0, 1) := dk_42 (dk_at dksX0_init_1 3 rfl rfl)
theorem dX0_init_27 : decode cX0_init 27 = .ok (.iconst 2, 1) := dk_5 (dk_at dksX0_init_1 4 rfl rfl)
theorem dX0_init_28 : decode cX0_init 28 = .ok (.anewarray 7, 3) := dk_189 0 7 (dk_at dksX0_init_1 5 rfl rfl)
theorem dX0_init_31 : decode cX0_init 31 = .ok (.putfield 23, 3) := dk_181 0 23 (dk_at dksX0_init_1 8 rfl rfl)
theorem dX0_init_34 : decode cX0_init 34 = .ok (.aload_n 0, 1) := dk_42 (dk_at dksX0_init_1 11 rfl rfl)
theorem dX0_init_35 : decode cX0_init 35 = .ok (.new 27, 3) := dk_187 0 27 (dk_at dksX0_init_1 12 rfl rfl)
theorem dX0_init_38 : decode cX0_init 38 = .ok (.dup, 1) := dk_89 (dk_at dksX0_init_1 15 rfl rfl)
theorem dX0_init_39 : decode cX0_init 39 = .ok (.invokespecial 29, 3) := dk_183 0 29 (dk_at dksX0_init_1 16 rfl rfl)
theorem dX0_init_42 : decode cX0_init 42 = .ok (.putfield 30, 3) := dk_181 0 30 (dk_at dksX0_init_1 19 rfl rfl)
theorem dX0_init_45 : decode cX0_init 45 = .ok (.return_, 1) := dk_177 (dk_at dksX0_init_1 22 rfl rfl)
abbrev cX0_set : ByteArray := prog_1_method_8_code
def yX0_set : MethodName := ⟨RX0, "set", "(II)I"⟩
def dkwX0_set_2 : List UInt8 := [180, 0, 66, 27, 28, 79, 29, 172]
abbrev dktX0_set_2 : List UInt8 := dkwX0_set_2 ++ []
def dkwX0_set_1 : List UInt8 := [154, 0, 6, 16, 254, 172, 42, 182, 0, 63, 42, 180, 0, 10, 180, 0, 66, 27, 46, 62, 42, 180, 0, 10]
abbrev dktX0_set_1 : List UInt8 := dkwX0_set_1 ++ dktX0_set_2
def dkwX0_set_0 : List UInt8 := [27, 3, 178, 0, 59, 190, 4, 100, 184, 0, 51, 153, 0, 16, 28, 3, 178, 0, 59, 27, 46, 184, 0, 51]
abbrev dktX0_set_0 : List UInt8 := dkwX0_set_0 ++ dktX0_set_1
theorem dksX0_set_0 : cX0_set.data.toList.drop 0 = dktX0_set_0 := by decide +kernel
theorem dksX0_set_1 : cX0_set.data.toList.drop 24 = dktX0_set_1 := dk_seg dksX0_set_0 24 rfl rfl
theorem dksX0_set_2 : cX0_set.data.toList.drop 48 = dktX0_set_2 := dk_seg dksX0_set_1 24 rfl rfl
theorem dX0_set_0 : decode cX0_set 0 = .ok (.iload_n 1, 1) := dk_27 (dk_at dksX0_set_0 0 rfl rfl)
theorem dX0_set_1 : decode cX0_set 1 = .ok (.iconst 0, 1) := dk_3 (dk_at dksX0_set_0 1 rfl rfl)
theorem dX0_set_2 : decode cX0_set 2 = .ok (.getstatic 59, 3) := dk_178 0 59 (dk_at dksX0_set_0 2 rfl rfl)
theorem dX0_set_5 : decode cX0_set 5 = .ok (.arraylength, 1) := dk_190 (dk_at dksX0_set_0 5 rfl rfl)
theorem dX0_set_6 : decode cX0_set 6 = .ok (.iconst 1, 1) := dk_4 (dk_at dksX0_set_0 6 rfl rfl)
theorem dX0_set_7 : decode cX0_set 7 = .ok (.isub, 1) := dk_100 (dk_at dksX0_set_0 7 rfl rfl)
theorem dX0_set_8 : decode cX0_set 8 = .ok (.invokestatic 51, 3) := dk_184 0 51 (dk_at dksX0_set_0 8 rfl rfl)
theorem dX0_set_11 : decode cX0_set 11 = .ok (.ifCond .eq 16, 3) := dk_153 0 16 (dk_at dksX0_set_0 11 rfl rfl)
theorem dX0_set_14 : decode cX0_set 14 = .ok (.iload_n 2, 1) := dk_28 (dk_at dksX0_set_0 14 rfl rfl)
theorem dX0_set_15 : decode cX0_set 15 = .ok (.iconst 0, 1) := dk_3 (dk_at dksX0_set_0 15 rfl rfl)
theorem dX0_set_16 : decode cX0_set 16 = .ok (.getstatic 59, 3) := dk_178 0 59 (dk_at dksX0_set_0 16 rfl rfl)
theorem dX0_set_19 : decode cX0_set 19 = .ok (.iload_n 1, 1) := dk_27 (dk_at dksX0_set_0 19 rfl rfl)
theorem dX0_set_20 : decode cX0_set 20 = .ok (.iaload, 1) := dk_46 (dk_at dksX0_set_0 20 rfl rfl)
theorem dX0_set_21 : decode cX0_set 21 = .ok (.invokestatic 51, 3) := dk_184 0 51 (dk_at dksX0_set_0 21 rfl rfl)
theorem dX0_set_24 : decode cX0_set 24 = .ok (.ifCond .ne 6, 3) := dk_154 0 6 (dk_at dksX0_set_1 0 rfl rfl)
theorem dX0_set_27 : decode cX0_set 27 = .ok (.bipush (-2), 2) := dk_16 254 (dk_at dksX0_set_1 3 rfl rfl)
theorem dX0_set_29 : decode cX0_set 29 = .ok (.ireturn, 1) := dk_172 (dk_at dksX0_set_1 5 rfl rfl)
theorem dX0_set_30 : decode cX0_set 30 = .ok (.aload_n 0, 1) := dk_42 (dk_at dksX0_set_1 6 rfl rfl)
theorem dX0_set_31 : decode cX0_set 31 = .ok (.invokevirtual 63, 3) := dk_182 0 63 (dk_at dksX0_set_1 7 rfl rfl)
theorem dX0_set_34 : decode cX0_set 34 = .ok (.aload_n 0, 1) := dk_42 (dk_at dksX0_set_1 10 rfl rfl)
theorem dX0_set_35 : decode cX0_set 35 = .ok (.getfield 10, 3) := dk_180 0 10 (dk_at dksX0_set_1 11 rfl rfl)
theorem dX0_set_38 : decode cX0_set 38 = .ok (.getfield 66, 3) := dk_180 0 66 (dk_at dksX0_set_1 14 rfl rfl)
theorem dX0_set_41 : decode cX0_set 41 = .ok (.iload_n 1, 1) := dk_27 (dk_at dksX0_set_1 17 rfl rfl)
theorem dX0_set_42 : decode cX0_set 42 = .ok (.iaload, 1) := dk_46 (dk_at dksX0_set_1 18 rfl rfl)
theorem dX0_set_43 : decode cX0_set 43 = .ok (.istore_n 3, 1) := dk_62 (dk_at dksX0_set_1 19 rfl rfl)
theorem dX0_set_44 : decode cX0_set 44 = .ok (.aload_n 0, 1) := dk_42 (dk_at dksX0_set_1 20 rfl rfl)
theorem dX0_set_45 : decode cX0_set 45 = .ok (.getfield 10, 3) := dk_180 0 10 (dk_at dksX0_set_1 21 rfl rfl)
theorem dX0_set_48 : decode cX0_set 48 = .ok (.getfield 66, 3) := dk_180 0 66 (dk_at dksX0_set_2 0 rfl rfl)
theorem dX0_set_51 : decode cX0_set 51 = .ok (.iload_n 1, 1) := dk_27 (dk_at dksX0_set_2 3 rfl rfl)
theorem dX0_set_52 : decode cX0_set 52 = .ok (.iload_n 2, 1) := dk_28 (dk_at dksX0_set_2 4 rfl rfl)
theorem dX0_set_53 : decode cX0_set 53 = .ok (.iastore, 1) := dk_79 (dk_at dksX0_set_2 5 rfl rfl)
theorem dX0_set_54 : decode cX0_set 54 = .ok (.iload_n 3, 1) := dk_29 (dk_at dksX0_set_2 6 rfl rfl)
theorem dX0_set_55 : decode cX0_set 55 = .ok (.ireturn, 1) := dk_172 (dk_at dksX0_set_2 7 rfl rfl)
abbrev cX0_isIn : ByteArray := prog_1_method_1_code
def yX0_isIn : MethodName := ⟨RX0, "isIn", "(III)Z"⟩
def dkwX0_isIn_0 : List UInt8 := [26, 27, 161, 0, 12, 26, 28, 163, 0, 7, 4, 167, 0, 4, 3, 172]
abbrev dktX0_isIn_0 : List UInt8 := dkwX0_isIn_0 ++ []
theorem dksX0_isIn_0 : cX0_isIn.data.toList.drop 0 = dktX0_isIn_0 := by decide +kernel
theorem dX0_isIn_0 : decode cX0_isIn 0 = .ok (.iload_n 0, 1) := dk_26 (dk_at dksX0_isIn_0 0 rfl rfl)
theorem dX0_isIn_1 : decode cX0_isIn 1 = .ok (.iload_n 1, 1) := dk_27 (dk_at dksX0_isIn_0 1 rfl rfl)
theorem dX0_isIn_2 : decode cX0_isIn 2 = .ok (.if_icmp .lt 12, 3) := dk_161 0 12 (dk_at dksX0_isIn_0 2 rfl rfl)
theorem dX0_isIn_5 : decode cX0_isIn 5 = .ok (.iload_n 0, 1) := dk_26 (dk_at dksX0_isIn_0 5 rfl rfl)
theorem dX0_isIn_6 : decode cX0_isIn 6 = .ok (.iload_n 2, 1) := dk_28 (dk_at dksX0_isIn_0 6 rfl rfl)
theorem dX0_isIn_7 : decode cX0_isIn 7 = .ok (.if_icmp .gt 7, 3) := dk_163 0 7 (dk_at dksX0_isIn_0 7 rfl rfl)
theorem dX0_isIn_10 : decode cX0_isIn 10 = .ok (.iconst 1, 1) := dk_4 (dk_at dksX0_isIn_0 10 rfl rfl)
theorem dX0_isIn_11 : decode cX0_isIn 11 = .ok (.goto 4, 3) := dk_167 0 4 (dk_at dksX0_isIn_0 11 rfl rfl)
theorem dX0_isIn_14 : decode cX0_isIn 14 = .ok (.iconst 0, 1) := dk_3 (dk_at dksX0_isIn_0 14 rfl rfl)
theorem dX0_isIn_15 : decode cX0_isIn 15 = .ok (.ireturn, 1) := dk_172 (dk_at dksX0_isIn_0 15 rfl rfl)
abbrev cX0_record : ByteArray := prog_1_method_3_code
def yX0_record : MethodName := ⟨RX0, "record", "()V"⟩
def dkwX0_record_1 : List UInt8 := [87, 42, 180, 0, 19, 187, 0, 7, 89, 42, 180, 0, 10, 183, 0, 44, 185, 0, 47, 2, 0, 87, 177]
abbrev dktX0_record_1 : List UInt8 := dkwX0_record_1 ++ []
def dkwX0_record_0 : List UInt8 := [42, 180, 0, 19, 185, 0, 34, 1, 0, 16, 6, 160, 0, 14, 42, 180, 0, 19, 3, 185, 0, 40, 2, 0]
abbrev dktX0_record_0 : List UInt8 := dkwX0_record_0 ++ dktX0_record_1
theorem dksX0_record_0 : cX0_record.data.toList.drop 0 = dktX0_record_0 := by decide +kernel
theorem dksX0_record_1 : cX0_record.data.toList.drop 24 = dktX0_record_1 := dk_seg dksX0_record_0 24 rfl rfl
theorem dX0_record_0 : decode cX0_record 0 = .ok (.aload_n 0, 1) := dk_42 (dk_at dksX0_record_0 0 rfl rfl)
theorem dX0_record_1 : decode cX0_record 1 = .ok (.getfield 19, 3) := dk_180 0 19 (dk_at dksX0_record_0 1 rfl rfl)
theorem dX0_record_4 : decode cX0_record 4 = .ok (.invokeinterface 34 1, 5) := by decide +kernel
theorem dX0_record_9 : decode cX0_record 9 = .ok (.bipush 6, 2) := dk_16 6 (dk_at dksX0_record_0 9 rfl rfl)
theorem dX0_record_11 : decode cX0_record 11 = .ok (.if_icmp .ne 14, 3) := dk_160 0 14 (dk_at dksX0_record_0 11 rfl rfl)
theorem dX0_record_14 : decode cX0_record 14 = .ok (.aload_n 0, 1) := dk_42 (dk_at dksX0_record_0 14 rfl rfl)
theorem dX0_record_15 : decode cX0_record 15 = .ok (.getfield 19, 3) := dk_180 0 19 (dk_at dksX0_record_0 15 rfl rfl)
theorem dX0_record_18 : decode cX0_record 18 = .ok (.iconst 0, 1) := dk_3 (dk_at dksX0_record_0 18 rfl rfl)
theorem dX0_record_19 : decode cX0_record 19 = .ok (.invokeinterface 40 2, 5) := by decide +kernel
theorem dX0_record_24 : decode cX0_record 24 = .ok (.pop, 1) := dk_87 (dk_at dksX0_record_1 0 rfl rfl)
theorem dX0_record_25 : decode cX0_record 25 = .ok (.aload_n 0, 1) := dk_42 (dk_at dksX0_record_1 1 rfl rfl)
theorem dX0_record_26 : decode cX0_record 26 = .ok (.getfield 19, 3) := dk_180 0 19 (dk_at dksX0_record_1 2 rfl rfl)
theorem dX0_record_29 : decode cX0_record 29 = .ok (.new 7, 3) := dk_187 0 7 (dk_at dksX0_record_1 5 rfl rfl)
theorem dX0_record_32 : decode cX0_record 32 = .ok (.dup, 1) := dk_89 (dk_at dksX0_record_1 8 rfl rfl)
theorem dX0_record_33 : decode cX0_record 33 = .ok (.aload_n 0, 1) := dk_42 (dk_at dksX0_record_1 9 rfl rfl)
theorem dX0_record_34 : decode cX0_record 34 = .ok (.getfield 10, 3) := dk_180 0 10 (dk_at dksX0_record_1 10 rfl rfl)
theorem dX0_record_37 : decode cX0_record 37 = .ok (.invokespecial 44, 3) := dk_183 0 44 (dk_at dksX0_record_1 13 rfl rfl)
theorem dX0_record_40 : decode cX0_record 40 = .ok (.invokeinterface 47 2, 5) := by decide +kernel
theorem dX0_record_45 : decode cX0_record 45 = .ok (.pop, 1) := dk_87 (dk_at dksX0_record_1 21 rfl rfl)
theorem dX0_record_46 : decode cX0_record 46 = .ok (.return_, 1) := dk_177 (dk_at dksX0_record_1 22 rfl rfl)
abbrev cX0_kind : ByteArray := prog_1_method_9_code
def yX0_kind : MethodName := ⟨RX0, "kind", "(III)I"⟩
def dkwX0_kind_5 : List UInt8 := [180, 0, 10, 180, 0, 73, 185, 0, 34, 1, 0, 4, 100, 172]
abbrev dktX0_kind_5 : List UInt8 := dkwX0_kind_5 ++ []
def dkwX0_kind_4 : List UInt8 := [42, 180, 0, 10, 180, 0, 73, 187, 0, 80, 89, 27, 28, 29, 183, 0, 82, 185, 0, 47, 2, 0, 87, 42]
abbrev dktX0_kind_4 : List UInt8 := dkwX0_kind_4 ++ dktX0_kind_5
def dkwX0_kind_3 : List UInt8 := [3, 16, 252, 184, 0, 69, 79, 184, 0, 76, 54, 4, 21, 4, 156, 0, 6, 21, 4, 172, 42, 182, 0, 63]
abbrev dktX0_kind_3 : List UInt8 := dkwX0_kind_3 ++ dktX0_kind_4
def dkwX0_kind_2 : List UInt8 := [79, 89, 4, 42, 180, 0, 10, 180, 0, 73, 185, 0, 34, 1, 0, 16, 10, 162, 0, 7, 4, 167, 0, 4]
abbrev dktX0_kind_2 : List UInt8 := dkwX0_kind_2 ++ dktX0_kind_3
def dkwX0_kind_1 : List UInt8 := [153, 0, 18, 29, 3, 17, 19, 136, 184, 0, 51, 153, 0, 7, 4, 167, 0, 4, 3, 16, 254, 184, 0, 69]
abbrev dktX0_kind_1 : List UInt8 := dkwX0_kind_1 ++ dktX0_kind_2
def dkwX0_kind_0 : List UInt8 := [5, 188, 10, 89, 3, 27, 4, 16, 40, 184, 0, 51, 153, 0, 29, 28, 16, 10, 16, 90, 184, 0, 51]
abbrev dktX0_kind_0 : List UInt8 := dkwX0_kind_0 ++ dktX0_kind_1
theorem dksX0_kind_0 : cX0_kind.data.toList.drop 0 = dktX0_kind_0 := by decide +kernel
theorem dksX0_kind_1 : cX0_kind.data.toList.drop 23 = dktX0_kind_1 := dk_seg dksX0_kind_0 23 rfl rfl
theorem dksX0_kind_2 : cX0_kind.data.toList.drop 47 = dktX0_kind_2 := dk_seg dksX0_kind_1 24 rfl rfl
theorem dksX0_kind_3 : cX0_kind.data.toList.drop 71 = dktX0_kind_3 := dk_seg dksX0_kind_2 24 rfl rfl
theorem dksX0_kind_4 : cX0_kind.data.toList.drop 95 = dktX0_kind_4 := dk_seg dksX0_kind_3 24 rfl rfl
theorem dksX0_kind_5 : cX0_kind.data.toList.drop 119 = dktX0_kind_5 := dk_seg dksX0_kind_4 24 rfl rfl
theorem dX0_kind_0 : decode cX0_kind 0 = .ok (.iconst 2, 1) := dk_5 (dk_at dksX0_kind_0 0 rfl rfl)
theorem dX0_kind_1 : decode cX0_kind 1 = .ok (.newarray .int, 2) := dk_188_10 (dk_at dksX0_kind_0 1 rfl rfl)
theorem dX0_kind_3 : decode cX0_kind 3 = .ok (.dup, 1) := dk_89 (dk_at dksX0_kind_0 3 rfl rfl)
theorem dX0_kind_4 : decode cX0_kind 4 = .ok (.iconst 0, 1) := dk_3 (dk_at dksX0_kind_0 4 rfl rfl)
theorem dX0_kind_5 : decode cX0_kind 5 = .ok (.iload_n 1, 1) := dk_27 (dk_at dksX0_kind_0 5 rfl rfl)
theorem dX0_kind_6 : decode cX0_kind 6 = .ok (.iconst 1, 1) := dk_4 (dk_at dksX0_kind_0 6 rfl rfl)
theorem dX0_kind_7 : decode cX0_kind 7 = .ok (.bipush 40, 2) := dk_16 40 (dk_at dksX0_kind_0 7 rfl rfl)
theorem dX0_kind_9 : decode cX0_kind 9 = .ok (.invokestatic 51, 3) := dk_184 0 51 (dk_at dksX0_kind_0 9 rfl rfl)
theorem dX0_kind_12 : decode cX0_kind 12 = .ok (.ifCond .eq 29, 3) := dk_153 0 29 (dk_at dksX0_kind_0 12 rfl rfl)
theorem dX0_kind_15 : decode cX0_kind 15 = .ok (.iload_n 2, 1) := dk_28 (dk_at dksX0_kind_0 15 rfl rfl)
theorem dX0_kind_16 : decode cX0_kind 16 = .ok (.bipush 10, 2) := dk_16 10 (dk_at dksX0_kind_0 16 rfl rfl)
theorem dX0_kind_18 : decode cX0_kind 18 = .ok (.bipush 90, 2) := dk_16 90 (dk_at dksX0_kind_0 18 rfl rfl)
theorem dX0_kind_20 : decode cX0_kind 20 = .ok (.invokestatic 51, 3) := dk_184 0 51 (dk_at dksX0_kind_0 20 rfl rfl)
theorem dX0_kind_23 : decode cX0_kind 23 = .ok (.ifCond .eq 18, 3) := dk_153 0 18 (dk_at dksX0_kind_1 0 rfl rfl)
theorem dX0_kind_26 : decode cX0_kind 26 = .ok (.iload_n 3, 1) := dk_29 (dk_at dksX0_kind_1 3 rfl rfl)
theorem dX0_kind_27 : decode cX0_kind 27 = .ok (.iconst 0, 1) := dk_3 (dk_at dksX0_kind_1 4 rfl rfl)
theorem dX0_kind_28 : decode cX0_kind 28 = .ok (.sipush 5000, 3) := dk_17 19 136 (dk_at dksX0_kind_1 5 rfl rfl)
theorem dX0_kind_31 : decode cX0_kind 31 = .ok (.invokestatic 51, 3) := dk_184 0 51 (dk_at dksX0_kind_1 8 rfl rfl)
theorem dX0_kind_34 : decode cX0_kind 34 = .ok (.ifCond .eq 7, 3) := dk_153 0 7 (dk_at dksX0_kind_1 11 rfl rfl)
theorem dX0_kind_37 : decode cX0_kind 37 = .ok (.iconst 1, 1) := dk_4 (dk_at dksX0_kind_1 14 rfl rfl)
theorem dX0_kind_38 : decode cX0_kind 38 = .ok (.goto 4, 3) := dk_167 0 4 (dk_at dksX0_kind_1 15 rfl rfl)
theorem dX0_kind_41 : decode cX0_kind 41 = .ok (.iconst 0, 1) := dk_3 (dk_at dksX0_kind_1 18 rfl rfl)
theorem dX0_kind_42 : decode cX0_kind 42 = .ok (.bipush (-2), 2) := dk_16 254 (dk_at dksX0_kind_1 19 rfl rfl)
theorem dX0_kind_44 : decode cX0_kind 44 = .ok (.invokestatic 69, 3) := dk_184 0 69 (dk_at dksX0_kind_1 21 rfl rfl)
theorem dX0_kind_47 : decode cX0_kind 47 = .ok (.iastore, 1) := dk_79 (dk_at dksX0_kind_2 0 rfl rfl)
theorem dX0_kind_48 : decode cX0_kind 48 = .ok (.dup, 1) := dk_89 (dk_at dksX0_kind_2 1 rfl rfl)
theorem dX0_kind_49 : decode cX0_kind 49 = .ok (.iconst 1, 1) := dk_4 (dk_at dksX0_kind_2 2 rfl rfl)
theorem dX0_kind_50 : decode cX0_kind 50 = .ok (.aload_n 0, 1) := dk_42 (dk_at dksX0_kind_2 3 rfl rfl)
theorem dX0_kind_51 : decode cX0_kind 51 = .ok (.getfield 10, 3) := dk_180 0 10 (dk_at dksX0_kind_2 4 rfl rfl)
theorem dX0_kind_54 : decode cX0_kind 54 = .ok (.getfield 73, 3) := dk_180 0 73 (dk_at dksX0_kind_2 7 rfl rfl)
theorem dX0_kind_57 : decode cX0_kind 57 = .ok (.invokeinterface 34 1, 5) := by decide +kernel
theorem dX0_kind_62 : decode cX0_kind 62 = .ok (.bipush 10, 2) := dk_16 10 (dk_at dksX0_kind_2 15 rfl rfl)
theorem dX0_kind_64 : decode cX0_kind 64 = .ok (.if_icmp .ge 7, 3) := dk_162 0 7 (dk_at dksX0_kind_2 17 rfl rfl)
theorem dX0_kind_67 : decode cX0_kind 67 = .ok (.iconst 1, 1) := dk_4 (dk_at dksX0_kind_2 20 rfl rfl)
theorem dX0_kind_68 : decode cX0_kind 68 = .ok (.goto 4, 3) := dk_167 0 4 (dk_at dksX0_kind_2 21 rfl rfl)
theorem dX0_kind_71 : decode cX0_kind 71 = .ok (.iconst 0, 1) := dk_3 (dk_at dksX0_kind_3 0 rfl rfl)
theorem dX0_kind_72 : decode cX0_kind 72 = .ok (.bipush (-4), 2) := dk_16 252 (dk_at dksX0_kind_3 1 rfl rfl)
theorem dX0_kind_74 : decode cX0_kind 74 = .ok (.invokestatic 69, 3) := dk_184 0 69 (dk_at dksX0_kind_3 3 rfl rfl)
theorem dX0_kind_77 : decode cX0_kind 77 = .ok (.iastore, 1) := dk_79 (dk_at dksX0_kind_3 6 rfl rfl)
theorem dX0_kind_78 : decode cX0_kind 78 = .ok (.invokestatic 76, 3) := dk_184 0 76 (dk_at dksX0_kind_3 7 rfl rfl)
theorem dX0_kind_81 : decode cX0_kind 81 = .ok (.istore 4, 2) := dk_54 4 (dk_at dksX0_kind_3 10 rfl rfl)
theorem dX0_kind_83 : decode cX0_kind 83 = .ok (.iload 4, 2) := dk_21 4 (dk_at dksX0_kind_3 12 rfl rfl)
theorem dX0_kind_85 : decode cX0_kind 85 = .ok (.ifCond .ge 6, 3) := dk_156 0 6 (dk_at dksX0_kind_3 14 rfl rfl)
theorem dX0_kind_88 : decode cX0_kind 88 = .ok (.iload 4, 2) := dk_21 4 (dk_at dksX0_kind_3 17 rfl rfl)
theorem dX0_kind_90 : decode cX0_kind 90 = .ok (.ireturn, 1) := dk_172 (dk_at dksX0_kind_3 19 rfl rfl)
theorem dX0_kind_91 : decode cX0_kind 91 = .ok (.aload_n 0, 1) := dk_42 (dk_at dksX0_kind_3 20 rfl rfl)
theorem dX0_kind_92 : decode cX0_kind 92 = .ok (.invokevirtual 63, 3) := dk_182 0 63 (dk_at dksX0_kind_3 21 rfl rfl)
theorem dX0_kind_95 : decode cX0_kind 95 = .ok (.aload_n 0, 1) := dk_42 (dk_at dksX0_kind_4 0 rfl rfl)
theorem dX0_kind_96 : decode cX0_kind 96 = .ok (.getfield 10, 3) := dk_180 0 10 (dk_at dksX0_kind_4 1 rfl rfl)
theorem dX0_kind_99 : decode cX0_kind 99 = .ok (.getfield 73, 3) := dk_180 0 73 (dk_at dksX0_kind_4 4 rfl rfl)
theorem dX0_kind_102 : decode cX0_kind 102 = .ok (.new 80, 3) := dk_187 0 80 (dk_at dksX0_kind_4 7 rfl rfl)
theorem dX0_kind_105 : decode cX0_kind 105 = .ok (.dup, 1) := dk_89 (dk_at dksX0_kind_4 10 rfl rfl)
theorem dX0_kind_106 : decode cX0_kind 106 = .ok (.iload_n 1, 1) := dk_27 (dk_at dksX0_kind_4 11 rfl rfl)
theorem dX0_kind_107 : decode cX0_kind 107 = .ok (.iload_n 2, 1) := dk_28 (dk_at dksX0_kind_4 12 rfl rfl)
theorem dX0_kind_108 : decode cX0_kind 108 = .ok (.iload_n 3, 1) := dk_29 (dk_at dksX0_kind_4 13 rfl rfl)
theorem dX0_kind_109 : decode cX0_kind 109 = .ok (.invokespecial 82, 3) := dk_183 0 82 (dk_at dksX0_kind_4 14 rfl rfl)
theorem dX0_kind_112 : decode cX0_kind 112 = .ok (.invokeinterface 47 2, 5) := by decide +kernel
theorem dX0_kind_117 : decode cX0_kind 117 = .ok (.pop, 1) := dk_87 (dk_at dksX0_kind_4 22 rfl rfl)
theorem dX0_kind_118 : decode cX0_kind 118 = .ok (.aload_n 0, 1) := dk_42 (dk_at dksX0_kind_4 23 rfl rfl)
theorem dX0_kind_119 : decode cX0_kind 119 = .ok (.getfield 10, 3) := dk_180 0 10 (dk_at dksX0_kind_5 0 rfl rfl)
theorem dX0_kind_122 : decode cX0_kind 122 = .ok (.getfield 73, 3) := dk_180 0 73 (dk_at dksX0_kind_5 3 rfl rfl)
theorem dX0_kind_125 : decode cX0_kind 125 = .ok (.invokeinterface 34 1, 5) := by decide +kernel
theorem dX0_kind_130 : decode cX0_kind 130 = .ok (.iconst 1, 1) := dk_4 (dk_at dksX0_kind_5 11 rfl rfl)
theorem dX0_kind_131 : decode cX0_kind 131 = .ok (.isub, 1) := dk_100 (dk_at dksX0_kind_5 12 rfl rfl)
theorem dX0_kind_132 : decode cX0_kind 132 = .ok (.ireturn, 1) := dk_172 (dk_at dksX0_kind_5 13 rfl rfl)
abbrev cX0_unless : ByteArray := prog_1_method_5_code
def yX0_unless : MethodName := ⟨RX0, "unless", "(ZI)I"⟩
def dkwX0_unless_0 : List UInt8 := [26, 153, 0, 7, 3, 167, 0, 4, 27, 172]
abbrev dktX0_unless_0 : List UInt8 := dkwX0_unless_0 ++ []
theorem dksX0_unless_0 : cX0_unless.data.toList.drop 0 = dktX0_unless_0 := by decide +kernel
theorem dX0_unless_0 : decode cX0_unless 0 = .ok (.iload_n 0, 1) := dk_26 (dk_at dksX0_unless_0 0 rfl rfl)
theorem dX0_unless_1 : decode cX0_unless 1 = .ok (.ifCond .eq 7, 3) := dk_153 0 7 (dk_at dksX0_unless_0 1 rfl rfl)
theorem dX0_unless_4 : decode cX0_unless 4 = .ok (.iconst 0, 1) := dk_3 (dk_at dksX0_unless_0 4 rfl rfl)
theorem dX0_unless_5 : decode cX0_unless 5 = .ok (.goto 4, 3) := dk_167 0 4 (dk_at dksX0_unless_0 5 rfl rfl)
theorem dX0_unless_8 : decode cX0_unless 8 = .ok (.iload_n 1, 1) := dk_27 (dk_at dksX0_unless_0 8 rfl rfl)
theorem dX0_unless_9 : decode cX0_unless 9 = .ok (.ireturn, 1) := dk_172 (dk_at dksX0_unless_0 9 rfl rfl)
abbrev cX0_firstOf : ByteArray := prog_1_method_4_code
def yX0_firstOf : MethodName := ⟨RX0, "firstOf", "([I)I"⟩
def dkwX0_firstOf_1 : List UInt8 := [172, 132, 3, 1, 167, 255, 235, 3, 172]
abbrev dktX0_firstOf_1 : List UInt8 := dkwX0_firstOf_1 ++ []
def dkwX0_firstOf_0 : List UInt8 := [42, 76, 43, 190, 61, 3, 62, 29, 28, 162, 0, 22, 43, 29, 46, 54, 4, 21, 4, 156, 0, 6, 21, 4]
abbrev dktX0_firstOf_0 : List UInt8 := dkwX0_firstOf_0 ++ dktX0_firstOf_1
theorem dksX0_firstOf_0 : cX0_firstOf.data.toList.drop 0 = dktX0_firstOf_0 := by decide +kernel
theorem dksX0_firstOf_1 : cX0_firstOf.data.toList.drop 24 = dktX0_firstOf_1 := dk_seg dksX0_firstOf_0 24 rfl rfl
theorem dX0_firstOf_0 : decode cX0_firstOf 0 = .ok (.aload_n 0, 1) := dk_42 (dk_at dksX0_firstOf_0 0 rfl rfl)
theorem dX0_firstOf_1 : decode cX0_firstOf 1 = .ok (.astore_n 1, 1) := dk_76 (dk_at dksX0_firstOf_0 1 rfl rfl)
theorem dX0_firstOf_2 : decode cX0_firstOf 2 = .ok (.aload_n 1, 1) := dk_43 (dk_at dksX0_firstOf_0 2 rfl rfl)
theorem dX0_firstOf_3 : decode cX0_firstOf 3 = .ok (.arraylength, 1) := dk_190 (dk_at dksX0_firstOf_0 3 rfl rfl)
theorem dX0_firstOf_4 : decode cX0_firstOf 4 = .ok (.istore_n 2, 1) := dk_61 (dk_at dksX0_firstOf_0 4 rfl rfl)
theorem dX0_firstOf_5 : decode cX0_firstOf 5 = .ok (.iconst 0, 1) := dk_3 (dk_at dksX0_firstOf_0 5 rfl rfl)
theorem dX0_firstOf_6 : decode cX0_firstOf 6 = .ok (.istore_n 3, 1) := dk_62 (dk_at dksX0_firstOf_0 6 rfl rfl)
theorem dX0_firstOf_7 : decode cX0_firstOf 7 = .ok (.iload_n 3, 1) := dk_29 (dk_at dksX0_firstOf_0 7 rfl rfl)
theorem dX0_firstOf_8 : decode cX0_firstOf 8 = .ok (.iload_n 2, 1) := dk_28 (dk_at dksX0_firstOf_0 8 rfl rfl)
theorem dX0_firstOf_9 : decode cX0_firstOf 9 = .ok (.if_icmp .ge 22, 3) := dk_162 0 22 (dk_at dksX0_firstOf_0 9 rfl rfl)
theorem dX0_firstOf_12 : decode cX0_firstOf 12 = .ok (.aload_n 1, 1) := dk_43 (dk_at dksX0_firstOf_0 12 rfl rfl)
theorem dX0_firstOf_13 : decode cX0_firstOf 13 = .ok (.iload_n 3, 1) := dk_29 (dk_at dksX0_firstOf_0 13 rfl rfl)
theorem dX0_firstOf_14 : decode cX0_firstOf 14 = .ok (.iaload, 1) := dk_46 (dk_at dksX0_firstOf_0 14 rfl rfl)
theorem dX0_firstOf_15 : decode cX0_firstOf 15 = .ok (.istore 4, 2) := dk_54 4 (dk_at dksX0_firstOf_0 15 rfl rfl)
theorem dX0_firstOf_17 : decode cX0_firstOf 17 = .ok (.iload 4, 2) := dk_21 4 (dk_at dksX0_firstOf_0 17 rfl rfl)
theorem dX0_firstOf_19 : decode cX0_firstOf 19 = .ok (.ifCond .ge 6, 3) := dk_156 0 6 (dk_at dksX0_firstOf_0 19 rfl rfl)
theorem dX0_firstOf_22 : decode cX0_firstOf 22 = .ok (.iload 4, 2) := dk_21 4 (dk_at dksX0_firstOf_0 22 rfl rfl)
theorem dX0_firstOf_24 : decode cX0_firstOf 24 = .ok (.ireturn, 1) := dk_172 (dk_at dksX0_firstOf_1 0 rfl rfl)
theorem dX0_firstOf_25 : decode cX0_firstOf 25 = .ok (.iinc 3 1, 3) := dk_132 3 1 (dk_at dksX0_firstOf_1 1 rfl rfl)
theorem dX0_firstOf_28 : decode cX0_firstOf 28 = .ok (.goto (-21), 3) := dk_167 255 235 (dk_at dksX0_firstOf_1 4 rfl rfl)
theorem dX0_firstOf_31 : decode cX0_firstOf 31 = .ok (.iconst 0, 1) := dk_3 (dk_at dksX0_firstOf_1 7 rfl rfl)
theorem dX0_firstOf_32 : decode cX0_firstOf 32 = .ok (.ireturn, 1) := dk_172 (dk_at dksX0_firstOf_1 8 rfl rfl)
abbrev cX0_price : ByteArray := prog_1_method_10_code
def yX0_price : MethodName := ⟨RX0, "price", "(II)I"⟩
def dkwX0_price_3 : List UInt8 := [42, 180, 0, 10, 180, 0, 73, 27, 185, 0, 89, 2, 0, 192, 0, 80, 28, 181, 0, 92, 21, 4, 172]
abbrev dktX0_price_3 : List UInt8 := dkwX0_price_3 ++ []
def dkwX0_price_2 : List UInt8 := [182, 0, 63, 42, 180, 0, 10, 180, 0, 73, 27, 185, 0, 89, 2, 0, 192, 0, 80, 180, 0, 92, 54, 4]
abbrev dktX0_price_2 : List UInt8 := dkwX0_price_2 ++ dktX0_price_3
def dkwX0_price_1 : List UInt8 := [3, 17, 19, 136, 184, 0, 51, 16, 254, 184, 0, 69, 79, 184, 0, 76, 62, 29, 156, 0, 5, 29, 172, 42]
abbrev dktX0_price_1 : List UInt8 := dkwX0_price_1 ++ dktX0_price_2
def dkwX0_price_0 : List UInt8 := [5, 188, 10, 89, 3, 27, 42, 180, 0, 10, 180, 0, 73, 184, 0, 85, 2, 184, 0, 69, 79, 89, 4, 28]
abbrev dktX0_price_0 : List UInt8 := dkwX0_price_0 ++ dktX0_price_1
theorem dksX0_price_0 : cX0_price.data.toList.drop 0 = dktX0_price_0 := by decide +kernel
theorem dksX0_price_1 : cX0_price.data.toList.drop 24 = dktX0_price_1 := dk_seg dksX0_price_0 24 rfl rfl
theorem dksX0_price_2 : cX0_price.data.toList.drop 48 = dktX0_price_2 := dk_seg dksX0_price_1 24 rfl rfl
theorem dksX0_price_3 : cX0_price.data.toList.drop 72 = dktX0_price_3 := dk_seg dksX0_price_2 24 rfl rfl
theorem dX0_price_0 : decode cX0_price 0 = .ok (.iconst 2, 1) := dk_5 (dk_at dksX0_price_0 0 rfl rfl)
theorem dX0_price_1 : decode cX0_price 1 = .ok (.newarray .int, 2) := dk_188_10 (dk_at dksX0_price_0 1 rfl rfl)
theorem dX0_price_3 : decode cX0_price 3 = .ok (.dup, 1) := dk_89 (dk_at dksX0_price_0 3 rfl rfl)
theorem dX0_price_4 : decode cX0_price 4 = .ok (.iconst 0, 1) := dk_3 (dk_at dksX0_price_0 4 rfl rfl)
theorem dX0_price_5 : decode cX0_price 5 = .ok (.iload_n 1, 1) := dk_27 (dk_at dksX0_price_0 5 rfl rfl)
theorem dX0_price_6 : decode cX0_price 6 = .ok (.aload_n 0, 1) := dk_42 (dk_at dksX0_price_0 6 rfl rfl)
theorem dX0_price_7 : decode cX0_price 7 = .ok (.getfield 10, 3) := dk_180 0 10 (dk_at dksX0_price_0 7 rfl rfl)
theorem dX0_price_10 : decode cX0_price 10 = .ok (.getfield 73, 3) := dk_180 0 73 (dk_at dksX0_price_0 10 rfl rfl)
theorem dX0_price_13 : decode cX0_price 13 = .ok (.invokestatic 85, 3) := dk_184 0 85 (dk_at dksX0_price_0 13 rfl rfl)
theorem dX0_price_16 : decode cX0_price 16 = .ok (.iconst (-1), 1) := dk_2 (dk_at dksX0_price_0 16 rfl rfl)
theorem dX0_price_17 : decode cX0_price 17 = .ok (.invokestatic 69, 3) := dk_184 0 69 (dk_at dksX0_price_0 17 rfl rfl)
theorem dX0_price_20 : decode cX0_price 20 = .ok (.iastore, 1) := dk_79 (dk_at dksX0_price_0 20 rfl rfl)
theorem dX0_price_21 : decode cX0_price 21 = .ok (.dup, 1) := dk_89 (dk_at dksX0_price_0 21 rfl rfl)
theorem dX0_price_22 : decode cX0_price 22 = .ok (.iconst 1, 1) := dk_4 (dk_at dksX0_price_0 22 rfl rfl)
theorem dX0_price_23 : decode cX0_price 23 = .ok (.iload_n 2, 1) := dk_28 (dk_at dksX0_price_0 23 rfl rfl)
theorem dX0_price_24 : decode cX0_price 24 = .ok (.iconst 0, 1) := dk_3 (dk_at dksX0_price_1 0 rfl rfl)
theorem dX0_price_25 : decode cX0_price 25 = .ok (.sipush 5000, 3) := dk_17 19 136 (dk_at dksX0_price_1 1 rfl rfl)
theorem dX0_price_28 : decode cX0_price 28 = .ok (.invokestatic 51, 3) := dk_184 0 51 (dk_at dksX0_price_1 4 rfl rfl)
theorem dX0_price_31 : decode cX0_price 31 = .ok (.bipush (-2), 2) := dk_16 254 (dk_at dksX0_price_1 7 rfl rfl)
theorem dX0_price_33 : decode cX0_price 33 = .ok (.invokestatic 69, 3) := dk_184 0 69 (dk_at dksX0_price_1 9 rfl rfl)
theorem dX0_price_36 : decode cX0_price 36 = .ok (.iastore, 1) := dk_79 (dk_at dksX0_price_1 12 rfl rfl)
theorem dX0_price_37 : decode cX0_price 37 = .ok (.invokestatic 76, 3) := dk_184 0 76 (dk_at dksX0_price_1 13 rfl rfl)
theorem dX0_price_40 : decode cX0_price 40 = .ok (.istore_n 3, 1) := dk_62 (dk_at dksX0_price_1 16 rfl rfl)
theorem dX0_price_41 : decode cX0_price 41 = .ok (.iload_n 3, 1) := dk_29 (dk_at dksX0_price_1 17 rfl rfl)
theorem dX0_price_42 : decode cX0_price 42 = .ok (.ifCond .ge 5, 3) := dk_156 0 5 (dk_at dksX0_price_1 18 rfl rfl)
theorem dX0_price_45 : decode cX0_price 45 = .ok (.iload_n 3, 1) := dk_29 (dk_at dksX0_price_1 21 rfl rfl)
theorem dX0_price_46 : decode cX0_price 46 = .ok (.ireturn, 1) := dk_172 (dk_at dksX0_price_1 22 rfl rfl)
theorem dX0_price_47 : decode cX0_price 47 = .ok (.aload_n 0, 1) := dk_42 (dk_at dksX0_price_1 23 rfl rfl)
theorem dX0_price_48 : decode cX0_price 48 = .ok (.invokevirtual 63, 3) := dk_182 0 63 (dk_at dksX0_price_2 0 rfl rfl)
theorem dX0_price_51 : decode cX0_price 51 = .ok (.aload_n 0, 1) := dk_42 (dk_at dksX0_price_2 3 rfl rfl)
theorem dX0_price_52 : decode cX0_price 52 = .ok (.getfield 10, 3) := dk_180 0 10 (dk_at dksX0_price_2 4 rfl rfl)
theorem dX0_price_55 : decode cX0_price 55 = .ok (.getfield 73, 3) := dk_180 0 73 (dk_at dksX0_price_2 7 rfl rfl)
theorem dX0_price_58 : decode cX0_price 58 = .ok (.iload_n 1, 1) := dk_27 (dk_at dksX0_price_2 10 rfl rfl)
theorem dX0_price_59 : decode cX0_price 59 = .ok (.invokeinterface 89 2, 5) := by decide +kernel
theorem dX0_price_64 : decode cX0_price 64 = .ok (.checkcast 80, 3) := dk_192 0 80 (dk_at dksX0_price_2 16 rfl rfl)
theorem dX0_price_67 : decode cX0_price 67 = .ok (.getfield 92, 3) := dk_180 0 92 (dk_at dksX0_price_2 19 rfl rfl)
theorem dX0_price_70 : decode cX0_price 70 = .ok (.istore 4, 2) := dk_54 4 (dk_at dksX0_price_2 22 rfl rfl)
theorem dX0_price_72 : decode cX0_price 72 = .ok (.aload_n 0, 1) := dk_42 (dk_at dksX0_price_3 0 rfl rfl)
theorem dX0_price_73 : decode cX0_price 73 = .ok (.getfield 10, 3) := dk_180 0 10 (dk_at dksX0_price_3 1 rfl rfl)
theorem dX0_price_76 : decode cX0_price 76 = .ok (.getfield 73, 3) := dk_180 0 73 (dk_at dksX0_price_3 4 rfl rfl)
theorem dX0_price_79 : decode cX0_price 79 = .ok (.iload_n 1, 1) := dk_27 (dk_at dksX0_price_3 7 rfl rfl)
theorem dX0_price_80 : decode cX0_price 80 = .ok (.invokeinterface 89 2, 5) := by decide +kernel
theorem dX0_price_85 : decode cX0_price 85 = .ok (.checkcast 80, 3) := dk_192 0 80 (dk_at dksX0_price_3 13 rfl rfl)
theorem dX0_price_88 : decode cX0_price 88 = .ok (.iload_n 2, 1) := dk_28 (dk_at dksX0_price_3 16 rfl rfl)
theorem dX0_price_89 : decode cX0_price 89 = .ok (.putfield 92, 3) := dk_181 0 92 (dk_at dksX0_price_3 17 rfl rfl)
theorem dX0_price_92 : decode cX0_price 92 = .ok (.iload 4, 2) := dk_21 4 (dk_at dksX0_price_3 20 rfl rfl)
theorem dX0_price_94 : decode cX0_price 94 = .ok (.ireturn, 1) := dk_172 (dk_at dksX0_price_3 22 rfl rfl)
abbrev cX0_isNumber : ByteArray := prog_1_method_6_code
def yX0_isNumber : MethodName := ⟨RX0, "isNumber", "(ILjava/util/List;)Z"⟩
def dkwX0_isNumber_0 : List UInt8 := [26, 3, 43, 185, 0, 34, 1, 0, 4, 100, 184, 0, 51, 172]
abbrev dktX0_isNumber_0 : List UInt8 := dkwX0_isNumber_0 ++ []
theorem dksX0_isNumber_0 : cX0_isNumber.data.toList.drop 0 = dktX0_isNumber_0 := by decide +kernel
theorem dX0_isNumber_0 : decode cX0_isNumber 0 = .ok (.iload_n 0, 1) := dk_26 (dk_at dksX0_isNumber_0 0 rfl rfl)
theorem dX0_isNumber_1 : decode cX0_isNumber 1 = .ok (.iconst 0, 1) := dk_3 (dk_at dksX0_isNumber_0 1 rfl rfl)
theorem dX0_isNumber_2 : decode cX0_isNumber 2 = .ok (.aload_n 1, 1) := dk_43 (dk_at dksX0_isNumber_0 2 rfl rfl)
theorem dX0_isNumber_3 : decode cX0_isNumber 3 = .ok (.invokeinterface 34 1, 5) := by decide +kernel
theorem dX0_isNumber_8 : decode cX0_isNumber 8 = .ok (.iconst 1, 1) := dk_4 (dk_at dksX0_isNumber_0 8 rfl rfl)
theorem dX0_isNumber_9 : decode cX0_isNumber 9 = .ok (.isub, 1) := dk_100 (dk_at dksX0_isNumber_0 9 rfl rfl)
theorem dX0_isNumber_10 : decode cX0_isNumber 10 = .ok (.invokestatic 51, 3) := dk_184 0 51 (dk_at dksX0_isNumber_0 10 rfl rfl)
theorem dX0_isNumber_13 : decode cX0_isNumber 13 = .ok (.ireturn, 1) := dk_172 (dk_at dksX0_isNumber_0 13 rfl rfl)
abbrev cX0_lamp : ByteArray := prog_1_method_11_code
def yX0_lamp : MethodName := ⟨RX0, "lamp", "(I)I"⟩
def dkwX0_lamp_4 : List UInt8 := [185, 0, 34, 1, 0, 4, 100, 172]
abbrev dktX0_lamp_4 : List UInt8 := dkwX0_lamp_4 ++ []
def dkwX0_lamp_3 : List UInt8 := [180, 0, 95, 187, 0, 98, 89, 27, 183, 0, 100, 185, 0, 47, 2, 0, 87, 42, 180, 0, 10, 180, 0, 95]
abbrev dktX0_lamp_3 : List UInt8 := dkwX0_lamp_3 ++ dktX0_lamp_4
def dkwX0_lamp_2 : List UInt8 := [184, 0, 69, 79, 184, 0, 76, 61, 28, 156, 0, 5, 28, 172, 42, 182, 0, 63, 42, 180, 0, 10]
abbrev dktX0_lamp_2 : List UInt8 := dkwX0_lamp_2 ++ dktX0_lamp_3
def dkwX0_lamp_1 : List UInt8 := [180, 0, 10, 180, 0, 95, 185, 0, 34, 1, 0, 16, 12, 162, 0, 7, 4, 167, 0, 4, 3, 16, 252]
abbrev dktX0_lamp_1 : List UInt8 := dkwX0_lamp_1 ++ dktX0_lamp_2
def dkwX0_lamp_0 : List UInt8 := [5, 188, 10, 89, 3, 27, 16, 50, 17, 19, 136, 184, 0, 51, 16, 254, 184, 0, 69, 79, 89, 4, 42]
abbrev dktX0_lamp_0 : List UInt8 := dkwX0_lamp_0 ++ dktX0_lamp_1
theorem dksX0_lamp_0 : cX0_lamp.data.toList.drop 0 = dktX0_lamp_0 := by decide +kernel
theorem dksX0_lamp_1 : cX0_lamp.data.toList.drop 23 = dktX0_lamp_1 := dk_seg dksX0_lamp_0 23 rfl rfl
theorem dksX0_lamp_2 : cX0_lamp.data.toList.drop 46 = dktX0_lamp_2 := dk_seg dksX0_lamp_1 23 rfl rfl
theorem dksX0_lamp_3 : cX0_lamp.data.toList.drop 68 = dktX0_lamp_3 := dk_seg dksX0_lamp_2 22 rfl rfl
theorem dksX0_lamp_4 : cX0_lamp.data.toList.drop 92 = dktX0_lamp_4 := dk_seg dksX0_lamp_3 24 rfl rfl
theorem dX0_lamp_0 : decode cX0_lamp 0 = .ok (.iconst 2, 1) := dk_5 (dk_at dksX0_lamp_0 0 rfl rfl)
theorem dX0_lamp_1 : decode cX0_lamp 1 = .ok (.newarray .int, 2) := dk_188_10 (dk_at dksX0_lamp_0 1 rfl rfl)
theorem dX0_lamp_3 : decode cX0_lamp 3 = .ok (.dup, 1) := dk_89 (dk_at dksX0_lamp_0 3 rfl rfl)
theorem dX0_lamp_4 : decode cX0_lamp 4 = .ok (.iconst 0, 1) := dk_3 (dk_at dksX0_lamp_0 4 rfl rfl)
theorem dX0_lamp_5 : decode cX0_lamp 5 = .ok (.iload_n 1, 1) := dk_27 (dk_at dksX0_lamp_0 5 rfl rfl)
theorem dX0_lamp_6 : decode cX0_lamp 6 = .ok (.bipush 50, 2) := dk_16 50 (dk_at dksX0_lamp_0 6 rfl rfl)
theorem dX0_lamp_8 : decode cX0_lamp 8 = .ok (.sipush 5000, 3) := dk_17 19 136 (dk_at dksX0_lamp_0 8 rfl rfl)
theorem dX0_lamp_11 : decode cX0_lamp 11 = .ok (.invokestatic 51, 3) := dk_184 0 51 (dk_at dksX0_lamp_0 11 rfl rfl)
theorem dX0_lamp_14 : decode cX0_lamp 14 = .ok (.bipush (-2), 2) := dk_16 254 (dk_at dksX0_lamp_0 14 rfl rfl)
theorem dX0_lamp_16 : decode cX0_lamp 16 = .ok (.invokestatic 69, 3) := dk_184 0 69 (dk_at dksX0_lamp_0 16 rfl rfl)
theorem dX0_lamp_19 : decode cX0_lamp 19 = .ok (.iastore, 1) := dk_79 (dk_at dksX0_lamp_0 19 rfl rfl)
theorem dX0_lamp_20 : decode cX0_lamp 20 = .ok (.dup, 1) := dk_89 (dk_at dksX0_lamp_0 20 rfl rfl)
theorem dX0_lamp_21 : decode cX0_lamp 21 = .ok (.iconst 1, 1) := dk_4 (dk_at dksX0_lamp_0 21 rfl rfl)
theorem dX0_lamp_22 : decode cX0_lamp 22 = .ok (.aload_n 0, 1) := dk_42 (dk_at dksX0_lamp_0 22 rfl rfl)
theorem dX0_lamp_23 : decode cX0_lamp 23 = .ok (.getfield 10, 3) := dk_180 0 10 (dk_at dksX0_lamp_1 0 rfl rfl)
theorem dX0_lamp_26 : decode cX0_lamp 26 = .ok (.getfield 95, 3) := dk_180 0 95 (dk_at dksX0_lamp_1 3 rfl rfl)
theorem dX0_lamp_29 : decode cX0_lamp 29 = .ok (.invokeinterface 34 1, 5) := by decide +kernel
theorem dX0_lamp_34 : decode cX0_lamp 34 = .ok (.bipush 12, 2) := dk_16 12 (dk_at dksX0_lamp_1 11 rfl rfl)
theorem dX0_lamp_36 : decode cX0_lamp 36 = .ok (.if_icmp .ge 7, 3) := dk_162 0 7 (dk_at dksX0_lamp_1 13 rfl rfl)
theorem dX0_lamp_39 : decode cX0_lamp 39 = .ok (.iconst 1, 1) := dk_4 (dk_at dksX0_lamp_1 16 rfl rfl)
theorem dX0_lamp_40 : decode cX0_lamp 40 = .ok (.goto 4, 3) := dk_167 0 4 (dk_at dksX0_lamp_1 17 rfl rfl)
theorem dX0_lamp_43 : decode cX0_lamp 43 = .ok (.iconst 0, 1) := dk_3 (dk_at dksX0_lamp_1 20 rfl rfl)
theorem dX0_lamp_44 : decode cX0_lamp 44 = .ok (.bipush (-4), 2) := dk_16 252 (dk_at dksX0_lamp_1 21 rfl rfl)
theorem dX0_lamp_46 : decode cX0_lamp 46 = .ok (.invokestatic 69, 3) := dk_184 0 69 (dk_at dksX0_lamp_2 0 rfl rfl)
theorem dX0_lamp_49 : decode cX0_lamp 49 = .ok (.iastore, 1) := dk_79 (dk_at dksX0_lamp_2 3 rfl rfl)
theorem dX0_lamp_50 : decode cX0_lamp 50 = .ok (.invokestatic 76, 3) := dk_184 0 76 (dk_at dksX0_lamp_2 4 rfl rfl)
theorem dX0_lamp_53 : decode cX0_lamp 53 = .ok (.istore_n 2, 1) := dk_61 (dk_at dksX0_lamp_2 7 rfl rfl)
theorem dX0_lamp_54 : decode cX0_lamp 54 = .ok (.iload_n 2, 1) := dk_28 (dk_at dksX0_lamp_2 8 rfl rfl)
theorem dX0_lamp_55 : decode cX0_lamp 55 = .ok (.ifCond .ge 5, 3) := dk_156 0 5 (dk_at dksX0_lamp_2 9 rfl rfl)
theorem dX0_lamp_58 : decode cX0_lamp 58 = .ok (.iload_n 2, 1) := dk_28 (dk_at dksX0_lamp_2 12 rfl rfl)
theorem dX0_lamp_59 : decode cX0_lamp 59 = .ok (.ireturn, 1) := dk_172 (dk_at dksX0_lamp_2 13 rfl rfl)
theorem dX0_lamp_60 : decode cX0_lamp 60 = .ok (.aload_n 0, 1) := dk_42 (dk_at dksX0_lamp_2 14 rfl rfl)
theorem dX0_lamp_61 : decode cX0_lamp 61 = .ok (.invokevirtual 63, 3) := dk_182 0 63 (dk_at dksX0_lamp_2 15 rfl rfl)
theorem dX0_lamp_64 : decode cX0_lamp 64 = .ok (.aload_n 0, 1) := dk_42 (dk_at dksX0_lamp_2 18 rfl rfl)
theorem dX0_lamp_65 : decode cX0_lamp 65 = .ok (.getfield 10, 3) := dk_180 0 10 (dk_at dksX0_lamp_2 19 rfl rfl)
theorem dX0_lamp_68 : decode cX0_lamp 68 = .ok (.getfield 95, 3) := dk_180 0 95 (dk_at dksX0_lamp_3 0 rfl rfl)
theorem dX0_lamp_71 : decode cX0_lamp 71 = .ok (.new 98, 3) := dk_187 0 98 (dk_at dksX0_lamp_3 3 rfl rfl)
theorem dX0_lamp_74 : decode cX0_lamp 74 = .ok (.dup, 1) := dk_89 (dk_at dksX0_lamp_3 6 rfl rfl)
theorem dX0_lamp_75 : decode cX0_lamp 75 = .ok (.iload_n 1, 1) := dk_27 (dk_at dksX0_lamp_3 7 rfl rfl)
theorem dX0_lamp_76 : decode cX0_lamp 76 = .ok (.invokespecial 100, 3) := dk_183 0 100 (dk_at dksX0_lamp_3 8 rfl rfl)
theorem dX0_lamp_79 : decode cX0_lamp 79 = .ok (.invokeinterface 47 2, 5) := by decide +kernel
theorem dX0_lamp_84 : decode cX0_lamp 84 = .ok (.pop, 1) := dk_87 (dk_at dksX0_lamp_3 16 rfl rfl)
theorem dX0_lamp_85 : decode cX0_lamp 85 = .ok (.aload_n 0, 1) := dk_42 (dk_at dksX0_lamp_3 17 rfl rfl)
theorem dX0_lamp_86 : decode cX0_lamp 86 = .ok (.getfield 10, 3) := dk_180 0 10 (dk_at dksX0_lamp_3 18 rfl rfl)
theorem dX0_lamp_89 : decode cX0_lamp 89 = .ok (.getfield 95, 3) := dk_180 0 95 (dk_at dksX0_lamp_3 21 rfl rfl)
theorem dX0_lamp_92 : decode cX0_lamp 92 = .ok (.invokeinterface 34 1, 5) := by decide +kernel
theorem dX0_lamp_97 : decode cX0_lamp 97 = .ok (.iconst 1, 1) := dk_4 (dk_at dksX0_lamp_4 5 rfl rfl)
theorem dX0_lamp_98 : decode cX0_lamp 98 = .ok (.isub, 1) := dk_100 (dk_at dksX0_lamp_4 6 rfl rfl)
theorem dX0_lamp_99 : decode cX0_lamp 99 = .ok (.ireturn, 1) := dk_172 (dk_at dksX0_lamp_4 7 rfl rfl)
abbrev cX0_fit : ByteArray := prog_1_method_12_code
def yX0_fit : MethodName := ⟨RX0, "fit", "(I)I"⟩
def dkwX0_fit_2 : List UInt8 := [180, 0, 10, 182, 0, 106, 61, 42, 180, 0, 10, 27, 182, 0, 109, 28, 172]
abbrev dktX0_fit_2 : List UInt8 := dkwX0_fit_2 ++ []
def dkwX0_fit_1 : List UInt8 := [185, 0, 89, 2, 0, 192, 0, 98, 180, 0, 103, 153, 0, 6, 16, 251, 172, 42, 182, 0, 63, 42]
abbrev dktX0_fit_1 : List UInt8 := dkwX0_fit_1 ++ dktX0_fit_2
def dkwX0_fit_0 : List UInt8 := [27, 42, 180, 0, 10, 180, 0, 95, 184, 0, 85, 154, 0, 5, 2, 172, 42, 180, 0, 10, 180, 0, 95, 27]
abbrev dktX0_fit_0 : List UInt8 := dkwX0_fit_0 ++ dktX0_fit_1
theorem dksX0_fit_0 : cX0_fit.data.toList.drop 0 = dktX0_fit_0 := by decide +kernel
theorem dksX0_fit_1 : cX0_fit.data.toList.drop 24 = dktX0_fit_1 := dk_seg dksX0_fit_0 24 rfl rfl
theorem dksX0_fit_2 : cX0_fit.data.toList.drop 46 = dktX0_fit_2 := dk_seg dksX0_fit_1 22 rfl rfl
theorem dX0_fit_0 : decode cX0_fit 0 = .ok (.iload_n 1, 1) := dk_27 (dk_at dksX0_fit_0 0 rfl rfl)
theorem dX0_fit_1 : decode cX0_fit 1 = .ok (.aload_n 0, 1) := dk_42 (dk_at dksX0_fit_0 1 rfl rfl)
theorem dX0_fit_2 : decode cX0_fit 2 = .ok (.getfield 10, 3) := dk_180 0 10 (dk_at dksX0_fit_0 2 rfl rfl)
theorem dX0_fit_5 : decode cX0_fit 5 = .ok (.getfield 95, 3) := dk_180 0 95 (dk_at dksX0_fit_0 5 rfl rfl)
theorem dX0_fit_8 : decode cX0_fit 8 = .ok (.invokestatic 85, 3) := dk_184 0 85 (dk_at dksX0_fit_0 8 rfl rfl)
theorem dX0_fit_11 : decode cX0_fit 11 = .ok (.ifCond .ne 5, 3) := dk_154 0 5 (dk_at dksX0_fit_0 11 rfl rfl)
theorem dX0_fit_14 : decode cX0_fit 14 = .ok (.iconst (-1), 1) := dk_2 (dk_at dksX0_fit_0 14 rfl rfl)
theorem dX0_fit_15 : decode cX0_fit 15 = .ok (.ireturn, 1) := dk_172 (dk_at dksX0_fit_0 15 rfl rfl)
theorem dX0_fit_16 : decode cX0_fit 16 = .ok (.aload_n 0, 1) := dk_42 (dk_at dksX0_fit_0 16 rfl rfl)
theorem dX0_fit_17 : decode cX0_fit 17 = .ok (.getfield 10, 3) := dk_180 0 10 (dk_at dksX0_fit_0 17 rfl rfl)
theorem dX0_fit_20 : decode cX0_fit 20 = .ok (.getfield 95, 3) := dk_180 0 95 (dk_at dksX0_fit_0 20 rfl rfl)
theorem dX0_fit_23 : decode cX0_fit 23 = .ok (.iload_n 1, 1) := dk_27 (dk_at dksX0_fit_0 23 rfl rfl)
theorem dX0_fit_24 : decode cX0_fit 24 = .ok (.invokeinterface 89 2, 5) := by decide +kernel
theorem dX0_fit_29 : decode cX0_fit 29 = .ok (.checkcast 98, 3) := dk_192 0 98 (dk_at dksX0_fit_1 5 rfl rfl)
theorem dX0_fit_32 : decode cX0_fit 32 = .ok (.getfield 103, 3) := dk_180 0 103 (dk_at dksX0_fit_1 8 rfl rfl)
theorem dX0_fit_35 : decode cX0_fit 35 = .ok (.ifCond .eq 6, 3) := dk_153 0 6 (dk_at dksX0_fit_1 11 rfl rfl)
theorem dX0_fit_38 : decode cX0_fit 38 = .ok (.bipush (-5), 2) := dk_16 251 (dk_at dksX0_fit_1 14 rfl rfl)
theorem dX0_fit_40 : decode cX0_fit 40 = .ok (.ireturn, 1) := dk_172 (dk_at dksX0_fit_1 16 rfl rfl)
theorem dX0_fit_41 : decode cX0_fit 41 = .ok (.aload_n 0, 1) := dk_42 (dk_at dksX0_fit_1 17 rfl rfl)
theorem dX0_fit_42 : decode cX0_fit 42 = .ok (.invokevirtual 63, 3) := dk_182 0 63 (dk_at dksX0_fit_1 18 rfl rfl)
theorem dX0_fit_45 : decode cX0_fit 45 = .ok (.aload_n 0, 1) := dk_42 (dk_at dksX0_fit_1 21 rfl rfl)
theorem dX0_fit_46 : decode cX0_fit 46 = .ok (.getfield 10, 3) := dk_180 0 10 (dk_at dksX0_fit_2 0 rfl rfl)
theorem dX0_fit_49 : decode cX0_fit 49 = .ok (.invokevirtual 106, 3) := dk_182 0 106 (dk_at dksX0_fit_2 3 rfl rfl)
theorem dX0_fit_52 : decode cX0_fit 52 = .ok (.istore_n 2, 1) := dk_61 (dk_at dksX0_fit_2 6 rfl rfl)
theorem dX0_fit_53 : decode cX0_fit 53 = .ok (.aload_n 0, 1) := dk_42 (dk_at dksX0_fit_2 7 rfl rfl)
theorem dX0_fit_54 : decode cX0_fit 54 = .ok (.getfield 10, 3) := dk_180 0 10 (dk_at dksX0_fit_2 8 rfl rfl)
theorem dX0_fit_57 : decode cX0_fit 57 = .ok (.iload_n 1, 1) := dk_27 (dk_at dksX0_fit_2 11 rfl rfl)
theorem dX0_fit_58 : decode cX0_fit 58 = .ok (.invokevirtual 109, 3) := dk_182 0 109 (dk_at dksX0_fit_2 12 rfl rfl)
theorem dX0_fit_61 : decode cX0_fit 61 = .ok (.iload_n 2, 1) := dk_28 (dk_at dksX0_fit_2 15 rfl rfl)
theorem dX0_fit_62 : decode cX0_fit 62 = .ok (.ireturn, 1) := dk_172 (dk_at dksX0_fit_2 16 rfl rfl)
abbrev cX0_plan : ByteArray := prog_1_method_14_code
def yX0_plan : MethodName := ⟨RX0, "plan", "(III)I"⟩
def dkwX0_plan_1 : List UInt8 := [180, 0, 10, 29, 187, 0, 119, 89, 27, 28, 183, 0, 121, 182, 0, 132, 172]
abbrev dktX0_plan_1 : List UInt8 := dkwX0_plan_1 ++ []
def dkwX0_plan_0 : List UInt8 := [42, 27, 28, 29, 182, 0, 128, 54, 4, 21, 4, 156, 0, 6, 21, 4, 172, 42, 182, 0, 63, 42]
abbrev dktX0_plan_0 : List UInt8 := dkwX0_plan_0 ++ dktX0_plan_1
theorem dksX0_plan_0 : cX0_plan.data.toList.drop 0 = dktX0_plan_0 := by decide +kernel
theorem dksX0_plan_1 : cX0_plan.data.toList.drop 22 = dktX0_plan_1 := dk_seg dksX0_plan_0 22 rfl rfl
theorem dX0_plan_0 : decode cX0_plan 0 = .ok (.aload_n 0, 1) := dk_42 (dk_at dksX0_plan_0 0 rfl rfl)
theorem dX0_plan_1 : decode cX0_plan 1 = .ok (.iload_n 1, 1) := dk_27 (dk_at dksX0_plan_0 1 rfl rfl)
theorem dX0_plan_2 : decode cX0_plan 2 = .ok (.iload_n 2, 1) := dk_28 (dk_at dksX0_plan_0 2 rfl rfl)
theorem dX0_plan_3 : decode cX0_plan 3 = .ok (.iload_n 3, 1) := dk_29 (dk_at dksX0_plan_0 3 rfl rfl)
theorem dX0_plan_4 : decode cX0_plan 4 = .ok (.invokevirtual 128, 3) := dk_182 0 128 (dk_at dksX0_plan_0 4 rfl rfl)
theorem dX0_plan_7 : decode cX0_plan 7 = .ok (.istore 4, 2) := dk_54 4 (dk_at dksX0_plan_0 7 rfl rfl)
theorem dX0_plan_9 : decode cX0_plan 9 = .ok (.iload 4, 2) := dk_21 4 (dk_at dksX0_plan_0 9 rfl rfl)
theorem dX0_plan_11 : decode cX0_plan 11 = .ok (.ifCond .ge 6, 3) := dk_156 0 6 (dk_at dksX0_plan_0 11 rfl rfl)
theorem dX0_plan_14 : decode cX0_plan 14 = .ok (.iload 4, 2) := dk_21 4 (dk_at dksX0_plan_0 14 rfl rfl)
theorem dX0_plan_16 : decode cX0_plan 16 = .ok (.ireturn, 1) := dk_172 (dk_at dksX0_plan_0 16 rfl rfl)
theorem dX0_plan_17 : decode cX0_plan 17 = .ok (.aload_n 0, 1) := dk_42 (dk_at dksX0_plan_0 17 rfl rfl)
theorem dX0_plan_18 : decode cX0_plan 18 = .ok (.invokevirtual 63, 3) := dk_182 0 63 (dk_at dksX0_plan_0 18 rfl rfl)
theorem dX0_plan_21 : decode cX0_plan 21 = .ok (.aload_n 0, 1) := dk_42 (dk_at dksX0_plan_0 21 rfl rfl)
theorem dX0_plan_22 : decode cX0_plan 22 = .ok (.getfield 10, 3) := dk_180 0 10 (dk_at dksX0_plan_1 0 rfl rfl)
theorem dX0_plan_25 : decode cX0_plan 25 = .ok (.iload_n 3, 1) := dk_29 (dk_at dksX0_plan_1 3 rfl rfl)
theorem dX0_plan_26 : decode cX0_plan 26 = .ok (.new 119, 3) := dk_187 0 119 (dk_at dksX0_plan_1 4 rfl rfl)
theorem dX0_plan_29 : decode cX0_plan 29 = .ok (.dup, 1) := dk_89 (dk_at dksX0_plan_1 7 rfl rfl)
theorem dX0_plan_30 : decode cX0_plan 30 = .ok (.iload_n 1, 1) := dk_27 (dk_at dksX0_plan_1 8 rfl rfl)
theorem dX0_plan_31 : decode cX0_plan 31 = .ok (.iload_n 2, 1) := dk_28 (dk_at dksX0_plan_1 9 rfl rfl)
theorem dX0_plan_32 : decode cX0_plan 32 = .ok (.invokespecial 121, 3) := dk_183 0 121 (dk_at dksX0_plan_1 10 rfl rfl)
theorem dX0_plan_35 : decode cX0_plan 35 = .ok (.invokevirtual 132, 3) := dk_182 0 132 (dk_at dksX0_plan_1 13 rfl rfl)
theorem dX0_plan_38 : decode cX0_plan 38 = .ok (.ireturn, 1) := dk_172 (dk_at dksX0_plan_1 16 rfl rfl)
abbrev cX0_whyNotPlan : ByteArray := prog_1_method_13_code
def yX0_whyNotPlan : MethodName := ⟨RX0, "whyNotPlan", "(III)I"⟩
def dkwX0_whyNotPlan_4 : List UInt8 := [183, 0, 121, 182, 0, 124, 16, 251, 184, 0, 69, 172]
abbrev dktX0_whyNotPlan_4 : List UInt8 := dkwX0_whyNotPlan_4 ++ []
def dkwX0_whyNotPlan_3 : List UInt8 := [54, 4, 21, 4, 156, 0, 8, 21, 4, 167, 0, 24, 42, 180, 0, 10, 187, 0, 119, 89, 27, 28]
abbrev dktX0_whyNotPlan_3 : List UInt8 := dkwX0_whyNotPlan_3 ++ dktX0_whyNotPlan_4
def dkwX0_whyNotPlan_2 : List UInt8 := [185, 0, 34, 1, 0, 16, 60, 162, 0, 7, 4, 167, 0, 4, 3, 16, 252, 184, 0, 69, 79, 184, 0, 76]
abbrev dktX0_whyNotPlan_2 : List UInt8 := dkwX0_whyNotPlan_2 ++ dktX0_whyNotPlan_3
def dkwX0_whyNotPlan_1 : List UInt8 := [180, 0, 73, 184, 0, 85, 2, 184, 0, 69, 79, 89, 5, 42, 180, 0, 10, 180, 0, 116]
abbrev dktX0_whyNotPlan_1 : List UInt8 := dkwX0_whyNotPlan_1 ++ dktX0_whyNotPlan_2
def dkwX0_whyNotPlan_0 : List UInt8 := [6, 188, 10, 89, 3, 42, 27, 28, 182, 0, 112, 16, 254, 184, 0, 69, 79, 89, 4, 29, 42, 180, 0, 10]
abbrev dktX0_whyNotPlan_0 : List UInt8 := dkwX0_whyNotPlan_0 ++ dktX0_whyNotPlan_1
theorem dksX0_whyNotPlan_0 : cX0_whyNotPlan.data.toList.drop 0 = dktX0_whyNotPlan_0 := by decide +kernel
theorem dksX0_whyNotPlan_1 : cX0_whyNotPlan.data.toList.drop 24 = dktX0_whyNotPlan_1 := dk_seg dksX0_whyNotPlan_0 24 rfl rfl
theorem dksX0_whyNotPlan_2 : cX0_whyNotPlan.data.toList.drop 44 = dktX0_whyNotPlan_2 := dk_seg dksX0_whyNotPlan_1 20 rfl rfl
theorem dksX0_whyNotPlan_3 : cX0_whyNotPlan.data.toList.drop 68 = dktX0_whyNotPlan_3 := dk_seg dksX0_whyNotPlan_2 24 rfl rfl
theorem dksX0_whyNotPlan_4 : cX0_whyNotPlan.data.toList.drop 90 = dktX0_whyNotPlan_4 := dk_seg dksX0_whyNotPlan_3 22 rfl rfl
theorem dX0_whyNotPlan_0 : decode cX0_whyNotPlan 0 = .ok (.iconst 3, 1) := dk_6 (dk_at dksX0_whyNotPlan_0 0 rfl rfl)
theorem dX0_whyNotPlan_1 : decode cX0_whyNotPlan 1 = .ok (.newarray .int, 2) := dk_188_10 (dk_at dksX0_whyNotPlan_0 1 rfl rfl)
theorem dX0_whyNotPlan_3 : decode cX0_whyNotPlan 3 = .ok (.dup, 1) := dk_89 (dk_at dksX0_whyNotPlan_0 3 rfl rfl)
theorem dX0_whyNotPlan_4 : decode cX0_whyNotPlan 4 = .ok (.iconst 0, 1) := dk_3 (dk_at dksX0_whyNotPlan_0 4 rfl rfl)
theorem dX0_whyNotPlan_5 : decode cX0_whyNotPlan 5 = .ok (.aload_n 0, 1) := dk_42 (dk_at dksX0_whyNotPlan_0 5 rfl rfl)
theorem dX0_whyNotPlan_6 : decode cX0_whyNotPlan 6 = .ok (.iload_n 1, 1) := dk_27 (dk_at dksX0_whyNotPlan_0 6 rfl rfl)
theorem dX0_whyNotPlan_7 : decode cX0_whyNotPlan 7 = .ok (.iload_n 2, 1) := dk_28 (dk_at dksX0_whyNotPlan_0 7 rfl rfl)
theorem dX0_whyNotPlan_8 : decode cX0_whyNotPlan 8 = .ok (.invokevirtual 112, 3) := dk_182 0 112 (dk_at dksX0_whyNotPlan_0 8 rfl rfl)
theorem dX0_whyNotPlan_11 : decode cX0_whyNotPlan 11 = .ok (.bipush (-2), 2) := dk_16 254 (dk_at dksX0_whyNotPlan_0 11 rfl rfl)
theorem dX0_whyNotPlan_13 : decode cX0_whyNotPlan 13 = .ok (.invokestatic 69, 3) := dk_184 0 69 (dk_at dksX0_whyNotPlan_0 13 rfl rfl)
theorem dX0_whyNotPlan_16 : decode cX0_whyNotPlan 16 = .ok (.iastore, 1) := dk_79 (dk_at dksX0_whyNotPlan_0 16 rfl rfl)
theorem dX0_whyNotPlan_17 : decode cX0_whyNotPlan 17 = .ok (.dup, 1) := dk_89 (dk_at dksX0_whyNotPlan_0 17 rfl rfl)
theorem dX0_whyNotPlan_18 : decode cX0_whyNotPlan 18 = .ok (.iconst 1, 1) := dk_4 (dk_at dksX0_whyNotPlan_0 18 rfl rfl)
theorem dX0_whyNotPlan_19 : decode cX0_whyNotPlan 19 = .ok (.iload_n 3, 1) := dk_29 (dk_at dksX0_whyNotPlan_0 19 rfl rfl)
theorem dX0_whyNotPlan_20 : decode cX0_whyNotPlan 20 = .ok (.aload_n 0, 1) := dk_42 (dk_at dksX0_whyNotPlan_0 20 rfl rfl)
theorem dX0_whyNotPlan_21 : decode cX0_whyNotPlan 21 = .ok (.getfield 10, 3) := dk_180 0 10 (dk_at dksX0_whyNotPlan_0 21 rfl rfl)
theorem dX0_whyNotPlan_24 : decode cX0_whyNotPlan 24 = .ok (.getfield 73, 3) := dk_180 0 73 (dk_at dksX0_whyNotPlan_1 0 rfl rfl)
theorem dX0_whyNotPlan_27 : decode cX0_whyNotPlan 27 = .ok (.invokestatic 85, 3) := dk_184 0 85 (dk_at dksX0_whyNotPlan_1 3 rfl rfl)
theorem dX0_whyNotPlan_30 : decode cX0_whyNotPlan 30 = .ok (.iconst (-1), 1) := dk_2 (dk_at dksX0_whyNotPlan_1 6 rfl rfl)
theorem dX0_whyNotPlan_31 : decode cX0_whyNotPlan 31 = .ok (.invokestatic 69, 3) := dk_184 0 69 (dk_at dksX0_whyNotPlan_1 7 rfl rfl)
theorem dX0_whyNotPlan_34 : decode cX0_whyNotPlan 34 = .ok (.iastore, 1) := dk_79 (dk_at dksX0_whyNotPlan_1 10 rfl rfl)
theorem dX0_whyNotPlan_35 : decode cX0_whyNotPlan 35 = .ok (.dup, 1) := dk_89 (dk_at dksX0_whyNotPlan_1 11 rfl rfl)
theorem dX0_whyNotPlan_36 : decode cX0_whyNotPlan 36 = .ok (.iconst 2, 1) := dk_5 (dk_at dksX0_whyNotPlan_1 12 rfl rfl)
theorem dX0_whyNotPlan_37 : decode cX0_whyNotPlan 37 = .ok (.aload_n 0, 1) := dk_42 (dk_at dksX0_whyNotPlan_1 13 rfl rfl)
theorem dX0_whyNotPlan_38 : decode cX0_whyNotPlan 38 = .ok (.getfield 10, 3) := dk_180 0 10 (dk_at dksX0_whyNotPlan_1 14 rfl rfl)
theorem dX0_whyNotPlan_41 : decode cX0_whyNotPlan 41 = .ok (.getfield 116, 3) := dk_180 0 116 (dk_at dksX0_whyNotPlan_1 17 rfl rfl)
theorem dX0_whyNotPlan_44 : decode cX0_whyNotPlan 44 = .ok (.invokeinterface 34 1, 5) := by decide +kernel
theorem dX0_whyNotPlan_49 : decode cX0_whyNotPlan 49 = .ok (.bipush 60, 2) := dk_16 60 (dk_at dksX0_whyNotPlan_2 5 rfl rfl)
theorem dX0_whyNotPlan_51 : decode cX0_whyNotPlan 51 = .ok (.if_icmp .ge 7, 3) := dk_162 0 7 (dk_at dksX0_whyNotPlan_2 7 rfl rfl)
theorem dX0_whyNotPlan_54 : decode cX0_whyNotPlan 54 = .ok (.iconst 1, 1) := dk_4 (dk_at dksX0_whyNotPlan_2 10 rfl rfl)
theorem dX0_whyNotPlan_55 : decode cX0_whyNotPlan 55 = .ok (.goto 4, 3) := dk_167 0 4 (dk_at dksX0_whyNotPlan_2 11 rfl rfl)
theorem dX0_whyNotPlan_58 : decode cX0_whyNotPlan 58 = .ok (.iconst 0, 1) := dk_3 (dk_at dksX0_whyNotPlan_2 14 rfl rfl)
theorem dX0_whyNotPlan_59 : decode cX0_whyNotPlan 59 = .ok (.bipush (-4), 2) := dk_16 252 (dk_at dksX0_whyNotPlan_2 15 rfl rfl)
theorem dX0_whyNotPlan_61 : decode cX0_whyNotPlan 61 = .ok (.invokestatic 69, 3) := dk_184 0 69 (dk_at dksX0_whyNotPlan_2 17 rfl rfl)
theorem dX0_whyNotPlan_64 : decode cX0_whyNotPlan 64 = .ok (.iastore, 1) := dk_79 (dk_at dksX0_whyNotPlan_2 20 rfl rfl)
theorem dX0_whyNotPlan_65 : decode cX0_whyNotPlan 65 = .ok (.invokestatic 76, 3) := dk_184 0 76 (dk_at dksX0_whyNotPlan_2 21 rfl rfl)
theorem dX0_whyNotPlan_68 : decode cX0_whyNotPlan 68 = .ok (.istore 4, 2) := dk_54 4 (dk_at dksX0_whyNotPlan_3 0 rfl rfl)
theorem dX0_whyNotPlan_70 : decode cX0_whyNotPlan 70 = .ok (.iload 4, 2) := dk_21 4 (dk_at dksX0_whyNotPlan_3 2 rfl rfl)
theorem dX0_whyNotPlan_72 : decode cX0_whyNotPlan 72 = .ok (.ifCond .ge 8, 3) := dk_156 0 8 (dk_at dksX0_whyNotPlan_3 4 rfl rfl)
theorem dX0_whyNotPlan_75 : decode cX0_whyNotPlan 75 = .ok (.iload 4, 2) := dk_21 4 (dk_at dksX0_whyNotPlan_3 7 rfl rfl)
theorem dX0_whyNotPlan_77 : decode cX0_whyNotPlan 77 = .ok (.goto 24, 3) := dk_167 0 24 (dk_at dksX0_whyNotPlan_3 9 rfl rfl)
theorem dX0_whyNotPlan_80 : decode cX0_whyNotPlan 80 = .ok (.aload_n 0, 1) := dk_42 (dk_at dksX0_whyNotPlan_3 12 rfl rfl)
theorem dX0_whyNotPlan_81 : decode cX0_whyNotPlan 81 = .ok (.getfield 10, 3) := dk_180 0 10 (dk_at dksX0_whyNotPlan_3 13 rfl rfl)
theorem dX0_whyNotPlan_84 : decode cX0_whyNotPlan 84 = .ok (.new 119, 3) := dk_187 0 119 (dk_at dksX0_whyNotPlan_3 16 rfl rfl)
theorem dX0_whyNotPlan_87 : decode cX0_whyNotPlan 87 = .ok (.dup, 1) := dk_89 (dk_at dksX0_whyNotPlan_3 19 rfl rfl)
theorem dX0_whyNotPlan_88 : decode cX0_whyNotPlan 88 = .ok (.iload_n 1, 1) := dk_27 (dk_at dksX0_whyNotPlan_3 20 rfl rfl)
theorem dX0_whyNotPlan_89 : decode cX0_whyNotPlan 89 = .ok (.iload_n 2, 1) := dk_28 (dk_at dksX0_whyNotPlan_3 21 rfl rfl)
theorem dX0_whyNotPlan_90 : decode cX0_whyNotPlan 90 = .ok (.invokespecial 121, 3) := dk_183 0 121 (dk_at dksX0_whyNotPlan_4 0 rfl rfl)
theorem dX0_whyNotPlan_93 : decode cX0_whyNotPlan 93 = .ok (.invokevirtual 124, 3) := dk_182 0 124 (dk_at dksX0_whyNotPlan_4 3 rfl rfl)
theorem dX0_whyNotPlan_96 : decode cX0_whyNotPlan 96 = .ok (.bipush (-5), 2) := dk_16 251 (dk_at dksX0_whyNotPlan_4 6 rfl rfl)
theorem dX0_whyNotPlan_98 : decode cX0_whyNotPlan 98 = .ok (.invokestatic 69, 3) := dk_184 0 69 (dk_at dksX0_whyNotPlan_4 8 rfl rfl)
theorem dX0_whyNotPlan_101 : decode cX0_whyNotPlan 101 = .ok (.ireturn, 1) := dk_172 (dk_at dksX0_whyNotPlan_4 11 rfl rfl)
abbrev cX0_isTime : ByteArray := prog_1_method_7_code
def yX0_isTime : MethodName := ⟨RX0, "isTime", "(II)Z"⟩
def dkwX0_isTime_1 : List UInt8 := [28, 3, 8, 184, 0, 51, 153, 0, 7, 4, 167, 0, 4, 3, 172]
abbrev dktX0_isTime_1 : List UInt8 := dkwX0_isTime_1 ++ []
def dkwX0_isTime_0 : List UInt8 := [27, 42, 180, 0, 10, 180, 0, 55, 42, 180, 0, 10, 180, 0, 55, 16, 60, 96, 184, 0, 51, 153, 0, 16]
abbrev dktX0_isTime_0 : List UInt8 := dkwX0_isTime_0 ++ dktX0_isTime_1
theorem dksX0_isTime_0 : cX0_isTime.data.toList.drop 0 = dktX0_isTime_0 := by decide +kernel
theorem dksX0_isTime_1 : cX0_isTime.data.toList.drop 24 = dktX0_isTime_1 := dk_seg dksX0_isTime_0 24 rfl rfl
theorem dX0_isTime_0 : decode cX0_isTime 0 = .ok (.iload_n 1, 1) := dk_27 (dk_at dksX0_isTime_0 0 rfl rfl)
theorem dX0_isTime_1 : decode cX0_isTime 1 = .ok (.aload_n 0, 1) := dk_42 (dk_at dksX0_isTime_0 1 rfl rfl)
theorem dX0_isTime_2 : decode cX0_isTime 2 = .ok (.getfield 10, 3) := dk_180 0 10 (dk_at dksX0_isTime_0 2 rfl rfl)
theorem dX0_isTime_5 : decode cX0_isTime 5 = .ok (.getfield 55, 3) := dk_180 0 55 (dk_at dksX0_isTime_0 5 rfl rfl)
theorem dX0_isTime_8 : decode cX0_isTime 8 = .ok (.aload_n 0, 1) := dk_42 (dk_at dksX0_isTime_0 8 rfl rfl)
theorem dX0_isTime_9 : decode cX0_isTime 9 = .ok (.getfield 10, 3) := dk_180 0 10 (dk_at dksX0_isTime_0 9 rfl rfl)
theorem dX0_isTime_12 : decode cX0_isTime 12 = .ok (.getfield 55, 3) := dk_180 0 55 (dk_at dksX0_isTime_0 12 rfl rfl)
theorem dX0_isTime_15 : decode cX0_isTime 15 = .ok (.bipush 60, 2) := dk_16 60 (dk_at dksX0_isTime_0 15 rfl rfl)
theorem dX0_isTime_17 : decode cX0_isTime 17 = .ok (.iadd, 1) := dk_96 (dk_at dksX0_isTime_0 17 rfl rfl)
theorem dX0_isTime_18 : decode cX0_isTime 18 = .ok (.invokestatic 51, 3) := dk_184 0 51 (dk_at dksX0_isTime_0 18 rfl rfl)
theorem dX0_isTime_21 : decode cX0_isTime 21 = .ok (.ifCond .eq 16, 3) := dk_153 0 16 (dk_at dksX0_isTime_0 21 rfl rfl)
theorem dX0_isTime_24 : decode cX0_isTime 24 = .ok (.iload_n 2, 1) := dk_28 (dk_at dksX0_isTime_1 0 rfl rfl)
theorem dX0_isTime_25 : decode cX0_isTime 25 = .ok (.iconst 0, 1) := dk_3 (dk_at dksX0_isTime_1 1 rfl rfl)
theorem dX0_isTime_26 : decode cX0_isTime 26 = .ok (.iconst 5, 1) := dk_8 (dk_at dksX0_isTime_1 2 rfl rfl)
theorem dX0_isTime_27 : decode cX0_isTime 27 = .ok (.invokestatic 51, 3) := dk_184 0 51 (dk_at dksX0_isTime_1 3 rfl rfl)
theorem dX0_isTime_30 : decode cX0_isTime 30 = .ok (.ifCond .eq 7, 3) := dk_153 0 7 (dk_at dksX0_isTime_1 6 rfl rfl)
theorem dX0_isTime_33 : decode cX0_isTime 33 = .ok (.iconst 1, 1) := dk_4 (dk_at dksX0_isTime_1 9 rfl rfl)
theorem dX0_isTime_34 : decode cX0_isTime 34 = .ok (.goto 4, 3) := dk_167 0 4 (dk_at dksX0_isTime_1 10 rfl rfl)
theorem dX0_isTime_37 : decode cX0_isTime 37 = .ok (.iconst 0, 1) := dk_3 (dk_at dksX0_isTime_1 13 rfl rfl)
theorem dX0_isTime_38 : decode cX0_isTime 38 = .ok (.ireturn, 1) := dk_172 (dk_at dksX0_isTime_1 14 rfl rfl)
abbrev cX0_event : ByteArray := prog_1_method_16_code
def yX0_event : MethodName := ⟨RX0, "event", "(III)I"⟩
def dkwX0_event_1 : List UInt8 := [180, 0, 10, 27, 28, 29, 182, 0, 151, 172]
abbrev dktX0_event_1 : List UInt8 := dkwX0_event_1 ++ []
def dkwX0_event_0 : List UInt8 := [42, 27, 28, 29, 182, 0, 148, 54, 4, 21, 4, 156, 0, 6, 21, 4, 172, 42, 182, 0, 63, 42]
abbrev dktX0_event_0 : List UInt8 := dkwX0_event_0 ++ dktX0_event_1
theorem dksX0_event_0 : cX0_event.data.toList.drop 0 = dktX0_event_0 := by decide +kernel
theorem dksX0_event_1 : cX0_event.data.toList.drop 22 = dktX0_event_1 := dk_seg dksX0_event_0 22 rfl rfl
theorem dX0_event_0 : decode cX0_event 0 = .ok (.aload_n 0, 1) := dk_42 (dk_at dksX0_event_0 0 rfl rfl)
theorem dX0_event_1 : decode cX0_event 1 = .ok (.iload_n 1, 1) := dk_27 (dk_at dksX0_event_0 1 rfl rfl)
theorem dX0_event_2 : decode cX0_event 2 = .ok (.iload_n 2, 1) := dk_28 (dk_at dksX0_event_0 2 rfl rfl)
theorem dX0_event_3 : decode cX0_event 3 = .ok (.iload_n 3, 1) := dk_29 (dk_at dksX0_event_0 3 rfl rfl)
theorem dX0_event_4 : decode cX0_event 4 = .ok (.invokevirtual 148, 3) := dk_182 0 148 (dk_at dksX0_event_0 4 rfl rfl)
theorem dX0_event_7 : decode cX0_event 7 = .ok (.istore 4, 2) := dk_54 4 (dk_at dksX0_event_0 7 rfl rfl)
theorem dX0_event_9 : decode cX0_event 9 = .ok (.iload 4, 2) := dk_21 4 (dk_at dksX0_event_0 9 rfl rfl)
theorem dX0_event_11 : decode cX0_event 11 = .ok (.ifCond .ge 6, 3) := dk_156 0 6 (dk_at dksX0_event_0 11 rfl rfl)
theorem dX0_event_14 : decode cX0_event 14 = .ok (.iload 4, 2) := dk_21 4 (dk_at dksX0_event_0 14 rfl rfl)
theorem dX0_event_16 : decode cX0_event 16 = .ok (.ireturn, 1) := dk_172 (dk_at dksX0_event_0 16 rfl rfl)
theorem dX0_event_17 : decode cX0_event 17 = .ok (.aload_n 0, 1) := dk_42 (dk_at dksX0_event_0 17 rfl rfl)
theorem dX0_event_18 : decode cX0_event 18 = .ok (.invokevirtual 63, 3) := dk_182 0 63 (dk_at dksX0_event_0 18 rfl rfl)
theorem dX0_event_21 : decode cX0_event 21 = .ok (.aload_n 0, 1) := dk_42 (dk_at dksX0_event_0 21 rfl rfl)
theorem dX0_event_22 : decode cX0_event 22 = .ok (.getfield 10, 3) := dk_180 0 10 (dk_at dksX0_event_1 0 rfl rfl)
theorem dX0_event_25 : decode cX0_event 25 = .ok (.iload_n 1, 1) := dk_27 (dk_at dksX0_event_1 3 rfl rfl)
theorem dX0_event_26 : decode cX0_event 26 = .ok (.iload_n 2, 1) := dk_28 (dk_at dksX0_event_1 4 rfl rfl)
theorem dX0_event_27 : decode cX0_event 27 = .ok (.iload_n 3, 1) := dk_29 (dk_at dksX0_event_1 5 rfl rfl)
theorem dX0_event_28 : decode cX0_event 28 = .ok (.invokevirtual 151, 3) := dk_182 0 151 (dk_at dksX0_event_1 6 rfl rfl)
theorem dX0_event_31 : decode cX0_event 31 = .ok (.ireturn, 1) := dk_172 (dk_at dksX0_event_1 9 rfl rfl)
abbrev cX0_whyNotEvent : ByteArray := prog_1_method_15_code
def yX0_whyNotEvent : MethodName := ⟨RX0, "whyNotEvent", "(III)I"⟩
def dkwX0_whyNotEvent_5 : List UInt8 := [54, 4, 132, 5, 1, 167, 255, 203, 21, 4, 172]
abbrev dktX0_whyNotEvent_5 : List UInt8 := dkwX0_whyNotEvent_5 ++ []
def dkwX0_whyNotEvent_4 : List UInt8 := [27, 21, 5, 183, 0, 121, 185, 0, 143, 2, 0, 154, 0, 7, 4, 167, 0, 4, 3, 16, 251, 184, 0, 69]
abbrev dktX0_whyNotEvent_4 : List UInt8 := dkwX0_whyNotEvent_4 ++ dktX0_whyNotEvent_5
def dkwX0_whyNotEvent_3 : List UInt8 := [21, 4, 154, 0, 54, 21, 5, 28, 29, 96, 162, 0, 46, 42, 180, 0, 10, 180, 0, 139, 187, 0, 119, 89]
abbrev dktX0_whyNotEvent_3 : List UInt8 := dkwX0_whyNotEvent_3 ++ dktX0_whyNotEvent_4
def dkwX0_whyNotEvent_2 : List UInt8 := [16, 20, 162, 0, 7, 4, 167, 0, 4, 3, 16, 252, 184, 0, 69, 79, 184, 0, 76, 54, 4, 28, 54, 5]
abbrev dktX0_whyNotEvent_2 : List UInt8 := dkwX0_whyNotEvent_2 ++ dktX0_whyNotEvent_3
def dkwX0_whyNotEvent_1 : List UInt8 := [153, 0, 7, 4, 167, 0, 4, 3, 16, 254, 184, 0, 69, 79, 89, 4, 42, 180, 0, 10, 180, 0, 136]
abbrev dktX0_whyNotEvent_1 : List UInt8 := dkwX0_whyNotEvent_1 ++ dktX0_whyNotEvent_2
def dkwX0_whyNotEvent_0 : List UInt8 := [5, 188, 10, 89, 3, 42, 27, 28, 182, 0, 112, 153, 0, 19, 29, 4, 16, 6, 28, 100, 184, 0, 51]
abbrev dktX0_whyNotEvent_0 : List UInt8 := dkwX0_whyNotEvent_0 ++ dktX0_whyNotEvent_1
theorem dksX0_whyNotEvent_0 : cX0_whyNotEvent.data.toList.drop 0 = dktX0_whyNotEvent_0 := by decide +kernel
theorem dksX0_whyNotEvent_1 : cX0_whyNotEvent.data.toList.drop 23 = dktX0_whyNotEvent_1 := dk_seg dksX0_whyNotEvent_0 23 rfl rfl
theorem dksX0_whyNotEvent_2 : cX0_whyNotEvent.data.toList.drop 46 = dktX0_whyNotEvent_2 := dk_seg dksX0_whyNotEvent_1 23 rfl rfl
theorem dksX0_whyNotEvent_3 : cX0_whyNotEvent.data.toList.drop 70 = dktX0_whyNotEvent_3 := dk_seg dksX0_whyNotEvent_2 24 rfl rfl
theorem dksX0_whyNotEvent_4 : cX0_whyNotEvent.data.toList.drop 94 = dktX0_whyNotEvent_4 := dk_seg dksX0_whyNotEvent_3 24 rfl rfl
theorem dksX0_whyNotEvent_5 : cX0_whyNotEvent.data.toList.drop 118 = dktX0_whyNotEvent_5 := dk_seg dksX0_whyNotEvent_4 24 rfl rfl
theorem dX0_whyNotEvent_0 : decode cX0_whyNotEvent 0 = .ok (.iconst 2, 1) := dk_5 (dk_at dksX0_whyNotEvent_0 0 rfl rfl)
theorem dX0_whyNotEvent_1 : decode cX0_whyNotEvent 1 = .ok (.newarray .int, 2) := dk_188_10 (dk_at dksX0_whyNotEvent_0 1 rfl rfl)
theorem dX0_whyNotEvent_3 : decode cX0_whyNotEvent 3 = .ok (.dup, 1) := dk_89 (dk_at dksX0_whyNotEvent_0 3 rfl rfl)
theorem dX0_whyNotEvent_4 : decode cX0_whyNotEvent 4 = .ok (.iconst 0, 1) := dk_3 (dk_at dksX0_whyNotEvent_0 4 rfl rfl)
theorem dX0_whyNotEvent_5 : decode cX0_whyNotEvent 5 = .ok (.aload_n 0, 1) := dk_42 (dk_at dksX0_whyNotEvent_0 5 rfl rfl)
theorem dX0_whyNotEvent_6 : decode cX0_whyNotEvent 6 = .ok (.iload_n 1, 1) := dk_27 (dk_at dksX0_whyNotEvent_0 6 rfl rfl)
theorem dX0_whyNotEvent_7 : decode cX0_whyNotEvent 7 = .ok (.iload_n 2, 1) := dk_28 (dk_at dksX0_whyNotEvent_0 7 rfl rfl)
theorem dX0_whyNotEvent_8 : decode cX0_whyNotEvent 8 = .ok (.invokevirtual 112, 3) := dk_182 0 112 (dk_at dksX0_whyNotEvent_0 8 rfl rfl)
theorem dX0_whyNotEvent_11 : decode cX0_whyNotEvent 11 = .ok (.ifCond .eq 19, 3) := dk_153 0 19 (dk_at dksX0_whyNotEvent_0 11 rfl rfl)
theorem dX0_whyNotEvent_14 : decode cX0_whyNotEvent 14 = .ok (.iload_n 3, 1) := dk_29 (dk_at dksX0_whyNotEvent_0 14 rfl rfl)
theorem dX0_whyNotEvent_15 : decode cX0_whyNotEvent 15 = .ok (.iconst 1, 1) := dk_4 (dk_at dksX0_whyNotEvent_0 15 rfl rfl)
theorem dX0_whyNotEvent_16 : decode cX0_whyNotEvent 16 = .ok (.bipush 6, 2) := dk_16 6 (dk_at dksX0_whyNotEvent_0 16 rfl rfl)
theorem dX0_whyNotEvent_18 : decode cX0_whyNotEvent 18 = .ok (.iload_n 2, 1) := dk_28 (dk_at dksX0_whyNotEvent_0 18 rfl rfl)
theorem dX0_whyNotEvent_19 : decode cX0_whyNotEvent 19 = .ok (.isub, 1) := dk_100 (dk_at dksX0_whyNotEvent_0 19 rfl rfl)
theorem dX0_whyNotEvent_20 : decode cX0_whyNotEvent 20 = .ok (.invokestatic 51, 3) := dk_184 0 51 (dk_at dksX0_whyNotEvent_0 20 rfl rfl)
theorem dX0_whyNotEvent_23 : decode cX0_whyNotEvent 23 = .ok (.ifCond .eq 7, 3) := dk_153 0 7 (dk_at dksX0_whyNotEvent_1 0 rfl rfl)
theorem dX0_whyNotEvent_26 : decode cX0_whyNotEvent 26 = .ok (.iconst 1, 1) := dk_4 (dk_at dksX0_whyNotEvent_1 3 rfl rfl)
theorem dX0_whyNotEvent_27 : decode cX0_whyNotEvent 27 = .ok (.goto 4, 3) := dk_167 0 4 (dk_at dksX0_whyNotEvent_1 4 rfl rfl)
theorem dX0_whyNotEvent_30 : decode cX0_whyNotEvent 30 = .ok (.iconst 0, 1) := dk_3 (dk_at dksX0_whyNotEvent_1 7 rfl rfl)
theorem dX0_whyNotEvent_31 : decode cX0_whyNotEvent 31 = .ok (.bipush (-2), 2) := dk_16 254 (dk_at dksX0_whyNotEvent_1 8 rfl rfl)
theorem dX0_whyNotEvent_33 : decode cX0_whyNotEvent 33 = .ok (.invokestatic 69, 3) := dk_184 0 69 (dk_at dksX0_whyNotEvent_1 10 rfl rfl)
theorem dX0_whyNotEvent_36 : decode cX0_whyNotEvent 36 = .ok (.iastore, 1) := dk_79 (dk_at dksX0_whyNotEvent_1 13 rfl rfl)
theorem dX0_whyNotEvent_37 : decode cX0_whyNotEvent 37 = .ok (.dup, 1) := dk_89 (dk_at dksX0_whyNotEvent_1 14 rfl rfl)
theorem dX0_whyNotEvent_38 : decode cX0_whyNotEvent 38 = .ok (.iconst 1, 1) := dk_4 (dk_at dksX0_whyNotEvent_1 15 rfl rfl)
theorem dX0_whyNotEvent_39 : decode cX0_whyNotEvent 39 = .ok (.aload_n 0, 1) := dk_42 (dk_at dksX0_whyNotEvent_1 16 rfl rfl)
theorem dX0_whyNotEvent_40 : decode cX0_whyNotEvent 40 = .ok (.getfield 10, 3) := dk_180 0 10 (dk_at dksX0_whyNotEvent_1 17 rfl rfl)
theorem dX0_whyNotEvent_43 : decode cX0_whyNotEvent 43 = .ok (.getfield 136, 3) := dk_180 0 136 (dk_at dksX0_whyNotEvent_1 20 rfl rfl)
theorem dX0_whyNotEvent_46 : decode cX0_whyNotEvent 46 = .ok (.bipush 20, 2) := dk_16 20 (dk_at dksX0_whyNotEvent_2 0 rfl rfl)
theorem dX0_whyNotEvent_48 : decode cX0_whyNotEvent 48 = .ok (.if_icmp .ge 7, 3) := dk_162 0 7 (dk_at dksX0_whyNotEvent_2 2 rfl rfl)
theorem dX0_whyNotEvent_51 : decode cX0_whyNotEvent 51 = .ok (.iconst 1, 1) := dk_4 (dk_at dksX0_whyNotEvent_2 5 rfl rfl)
theorem dX0_whyNotEvent_52 : decode cX0_whyNotEvent 52 = .ok (.goto 4, 3) := dk_167 0 4 (dk_at dksX0_whyNotEvent_2 6 rfl rfl)
theorem dX0_whyNotEvent_55 : decode cX0_whyNotEvent 55 = .ok (.iconst 0, 1) := dk_3 (dk_at dksX0_whyNotEvent_2 9 rfl rfl)
theorem dX0_whyNotEvent_56 : decode cX0_whyNotEvent 56 = .ok (.bipush (-4), 2) := dk_16 252 (dk_at dksX0_whyNotEvent_2 10 rfl rfl)
theorem dX0_whyNotEvent_58 : decode cX0_whyNotEvent 58 = .ok (.invokestatic 69, 3) := dk_184 0 69 (dk_at dksX0_whyNotEvent_2 12 rfl rfl)
theorem dX0_whyNotEvent_61 : decode cX0_whyNotEvent 61 = .ok (.iastore, 1) := dk_79 (dk_at dksX0_whyNotEvent_2 15 rfl rfl)
theorem dX0_whyNotEvent_62 : decode cX0_whyNotEvent 62 = .ok (.invokestatic 76, 3) := dk_184 0 76 (dk_at dksX0_whyNotEvent_2 16 rfl rfl)
theorem dX0_whyNotEvent_65 : decode cX0_whyNotEvent 65 = .ok (.istore 4, 2) := dk_54 4 (dk_at dksX0_whyNotEvent_2 19 rfl rfl)
theorem dX0_whyNotEvent_67 : decode cX0_whyNotEvent 67 = .ok (.iload_n 2, 1) := dk_28 (dk_at dksX0_whyNotEvent_2 21 rfl rfl)
theorem dX0_whyNotEvent_68 : decode cX0_whyNotEvent 68 = .ok (.istore 5, 2) := dk_54 5 (dk_at dksX0_whyNotEvent_2 22 rfl rfl)
theorem dX0_whyNotEvent_70 : decode cX0_whyNotEvent 70 = .ok (.iload 4, 2) := dk_21 4 (dk_at dksX0_whyNotEvent_3 0 rfl rfl)
theorem dX0_whyNotEvent_72 : decode cX0_whyNotEvent 72 = .ok (.ifCond .ne 54, 3) := dk_154 0 54 (dk_at dksX0_whyNotEvent_3 2 rfl rfl)
theorem dX0_whyNotEvent_75 : decode cX0_whyNotEvent 75 = .ok (.iload 5, 2) := dk_21 5 (dk_at dksX0_whyNotEvent_3 5 rfl rfl)
theorem dX0_whyNotEvent_77 : decode cX0_whyNotEvent 77 = .ok (.iload_n 2, 1) := dk_28 (dk_at dksX0_whyNotEvent_3 7 rfl rfl)
theorem dX0_whyNotEvent_78 : decode cX0_whyNotEvent 78 = .ok (.iload_n 3, 1) := dk_29 (dk_at dksX0_whyNotEvent_3 8 rfl rfl)
theorem dX0_whyNotEvent_79 : decode cX0_whyNotEvent 79 = .ok (.iadd, 1) := dk_96 (dk_at dksX0_whyNotEvent_3 9 rfl rfl)
theorem dX0_whyNotEvent_80 : decode cX0_whyNotEvent 80 = .ok (.if_icmp .ge 46, 3) := dk_162 0 46 (dk_at dksX0_whyNotEvent_3 10 rfl rfl)
theorem dX0_whyNotEvent_83 : decode cX0_whyNotEvent 83 = .ok (.aload_n 0, 1) := dk_42 (dk_at dksX0_whyNotEvent_3 13 rfl rfl)
theorem dX0_whyNotEvent_84 : decode cX0_whyNotEvent 84 = .ok (.getfield 10, 3) := dk_180 0 10 (dk_at dksX0_whyNotEvent_3 14 rfl rfl)
theorem dX0_whyNotEvent_87 : decode cX0_whyNotEvent 87 = .ok (.getfield 139, 3) := dk_180 0 139 (dk_at dksX0_whyNotEvent_3 17 rfl rfl)
theorem dX0_whyNotEvent_90 : decode cX0_whyNotEvent 90 = .ok (.new 119, 3) := dk_187 0 119 (dk_at dksX0_whyNotEvent_3 20 rfl rfl)
theorem dX0_whyNotEvent_93 : decode cX0_whyNotEvent 93 = .ok (.dup, 1) := dk_89 (dk_at dksX0_whyNotEvent_3 23 rfl rfl)
theorem dX0_whyNotEvent_94 : decode cX0_whyNotEvent 94 = .ok (.iload_n 1, 1) := dk_27 (dk_at dksX0_whyNotEvent_4 0 rfl rfl)
theorem dX0_whyNotEvent_95 : decode cX0_whyNotEvent 95 = .ok (.iload 5, 2) := dk_21 5 (dk_at dksX0_whyNotEvent_4 1 rfl rfl)
theorem dX0_whyNotEvent_97 : decode cX0_whyNotEvent 97 = .ok (.invokespecial 121, 3) := dk_183 0 121 (dk_at dksX0_whyNotEvent_4 3 rfl rfl)
theorem dX0_whyNotEvent_100 : decode cX0_whyNotEvent 100 = .ok (.invokeinterface 143 2, 5) := by decide +kernel
theorem dX0_whyNotEvent_105 : decode cX0_whyNotEvent 105 = .ok (.ifCond .ne 7, 3) := dk_154 0 7 (dk_at dksX0_whyNotEvent_4 11 rfl rfl)
theorem dX0_whyNotEvent_108 : decode cX0_whyNotEvent 108 = .ok (.iconst 1, 1) := dk_4 (dk_at dksX0_whyNotEvent_4 14 rfl rfl)
theorem dX0_whyNotEvent_109 : decode cX0_whyNotEvent 109 = .ok (.goto 4, 3) := dk_167 0 4 (dk_at dksX0_whyNotEvent_4 15 rfl rfl)
theorem dX0_whyNotEvent_112 : decode cX0_whyNotEvent 112 = .ok (.iconst 0, 1) := dk_3 (dk_at dksX0_whyNotEvent_4 18 rfl rfl)
theorem dX0_whyNotEvent_113 : decode cX0_whyNotEvent 113 = .ok (.bipush (-5), 2) := dk_16 251 (dk_at dksX0_whyNotEvent_4 19 rfl rfl)
theorem dX0_whyNotEvent_115 : decode cX0_whyNotEvent 115 = .ok (.invokestatic 69, 3) := dk_184 0 69 (dk_at dksX0_whyNotEvent_4 21 rfl rfl)
theorem dX0_whyNotEvent_118 : decode cX0_whyNotEvent 118 = .ok (.istore 4, 2) := dk_54 4 (dk_at dksX0_whyNotEvent_5 0 rfl rfl)
theorem dX0_whyNotEvent_120 : decode cX0_whyNotEvent 120 = .ok (.iinc 5 1, 3) := dk_132 5 1 (dk_at dksX0_whyNotEvent_5 2 rfl rfl)
theorem dX0_whyNotEvent_123 : decode cX0_whyNotEvent 123 = .ok (.goto (-53), 3) := dk_167 255 203 (dk_at dksX0_whyNotEvent_5 5 rfl rfl)
theorem dX0_whyNotEvent_126 : decode cX0_whyNotEvent 126 = .ok (.iload 4, 2) := dk_21 4 (dk_at dksX0_whyNotEvent_5 8 rfl rfl)
theorem dX0_whyNotEvent_128 : decode cX0_whyNotEvent 128 = .ok (.ireturn, 1) := dk_172 (dk_at dksX0_whyNotEvent_5 10 rfl rfl)
abbrev cX0_book : ByteArray := prog_1_method_19_code
def yX0_book : MethodName := ⟨RX0, "book", "(IIII)I"⟩
def dkwX0_book_1 : List UInt8 := [180, 0, 10, 27, 28, 29, 21, 4, 4, 160, 0, 7, 4, 167, 0, 4, 3, 182, 0, 173, 172]
abbrev dktX0_book_1 : List UInt8 := dkwX0_book_1 ++ []
def dkwX0_book_0 : List UInt8 := [42, 27, 28, 29, 21, 4, 182, 0, 169, 54, 5, 21, 5, 156, 0, 6, 21, 5, 172, 42, 182, 0, 63, 42]
abbrev dktX0_book_0 : List UInt8 := dkwX0_book_0 ++ dktX0_book_1
theorem dksX0_book_0 : cX0_book.data.toList.drop 0 = dktX0_book_0 := by decide +kernel
theorem dksX0_book_1 : cX0_book.data.toList.drop 24 = dktX0_book_1 := dk_seg dksX0_book_0 24 rfl rfl
theorem dX0_book_0 : decode cX0_book 0 = .ok (.aload_n 0, 1) := dk_42 (dk_at dksX0_book_0 0 rfl rfl)
theorem dX0_book_1 : decode cX0_book 1 = .ok (.iload_n 1, 1) := dk_27 (dk_at dksX0_book_0 1 rfl rfl)
theorem dX0_book_2 : decode cX0_book 2 = .ok (.iload_n 2, 1) := dk_28 (dk_at dksX0_book_0 2 rfl rfl)
theorem dX0_book_3 : decode cX0_book 3 = .ok (.iload_n 3, 1) := dk_29 (dk_at dksX0_book_0 3 rfl rfl)
theorem dX0_book_4 : decode cX0_book 4 = .ok (.iload 4, 2) := dk_21 4 (dk_at dksX0_book_0 4 rfl rfl)
theorem dX0_book_6 : decode cX0_book 6 = .ok (.invokevirtual 169, 3) := dk_182 0 169 (dk_at dksX0_book_0 6 rfl rfl)
theorem dX0_book_9 : decode cX0_book 9 = .ok (.istore 5, 2) := dk_54 5 (dk_at dksX0_book_0 9 rfl rfl)
theorem dX0_book_11 : decode cX0_book 11 = .ok (.iload 5, 2) := dk_21 5 (dk_at dksX0_book_0 11 rfl rfl)
theorem dX0_book_13 : decode cX0_book 13 = .ok (.ifCond .ge 6, 3) := dk_156 0 6 (dk_at dksX0_book_0 13 rfl rfl)
theorem dX0_book_16 : decode cX0_book 16 = .ok (.iload 5, 2) := dk_21 5 (dk_at dksX0_book_0 16 rfl rfl)
theorem dX0_book_18 : decode cX0_book 18 = .ok (.ireturn, 1) := dk_172 (dk_at dksX0_book_0 18 rfl rfl)
theorem dX0_book_19 : decode cX0_book 19 = .ok (.aload_n 0, 1) := dk_42 (dk_at dksX0_book_0 19 rfl rfl)
theorem dX0_book_20 : decode cX0_book 20 = .ok (.invokevirtual 63, 3) := dk_182 0 63 (dk_at dksX0_book_0 20 rfl rfl)
theorem dX0_book_23 : decode cX0_book 23 = .ok (.aload_n 0, 1) := dk_42 (dk_at dksX0_book_0 23 rfl rfl)
theorem dX0_book_24 : decode cX0_book 24 = .ok (.getfield 10, 3) := dk_180 0 10 (dk_at dksX0_book_1 0 rfl rfl)
theorem dX0_book_27 : decode cX0_book 27 = .ok (.iload_n 1, 1) := dk_27 (dk_at dksX0_book_1 3 rfl rfl)
theorem dX0_book_28 : decode cX0_book 28 = .ok (.iload_n 2, 1) := dk_28 (dk_at dksX0_book_1 4 rfl rfl)
theorem dX0_book_29 : decode cX0_book 29 = .ok (.iload_n 3, 1) := dk_29 (dk_at dksX0_book_1 5 rfl rfl)
theorem dX0_book_30 : decode cX0_book 30 = .ok (.iload 4, 2) := dk_21 4 (dk_at dksX0_book_1 6 rfl rfl)
theorem dX0_book_32 : decode cX0_book 32 = .ok (.iconst 1, 1) := dk_4 (dk_at dksX0_book_1 8 rfl rfl)
theorem dX0_book_33 : decode cX0_book 33 = .ok (.if_icmp .ne 7, 3) := dk_160 0 7 (dk_at dksX0_book_1 9 rfl rfl)
theorem dX0_book_36 : decode cX0_book 36 = .ok (.iconst 1, 1) := dk_4 (dk_at dksX0_book_1 12 rfl rfl)
theorem dX0_book_37 : decode cX0_book 37 = .ok (.goto 4, 3) := dk_167 0 4 (dk_at dksX0_book_1 13 rfl rfl)
theorem dX0_book_40 : decode cX0_book 40 = .ok (.iconst 0, 1) := dk_3 (dk_at dksX0_book_1 16 rfl rfl)
theorem dX0_book_41 : decode cX0_book 41 = .ok (.invokevirtual 173, 3) := dk_182 0 173 (dk_at dksX0_book_1 17 rfl rfl)
theorem dX0_book_44 : decode cX0_book 44 = .ok (.ireturn, 1) := dk_172 (dk_at dksX0_book_1 20 rfl rfl)
abbrev cX0_whyNotBook : ByteArray := prog_1_method_18_code
def yX0_whyNotBook : MethodName := ⟨RX0, "whyNotBook", "(IIII)I"⟩
def dkwX0_whyNotBook_5 : List UInt8 := [167, 0, 9, 42, 27, 28, 182, 0, 165, 172]
abbrev dktX0_whyNotBook_5 : List UInt8 := dkwX0_whyNotBook_5 ++ []
def dkwX0_whyNotBook_4 : List UInt8 := [167, 0, 4, 3, 16, 252, 184, 0, 69, 79, 184, 0, 76, 54, 6, 21, 6, 156, 0, 8, 21, 6]
abbrev dktX0_whyNotBook_4 : List UInt8 := dkwX0_whyNotBook_4 ++ dktX0_whyNotBook_5
def dkwX0_whyNotBook_3 : List UInt8 := [184, 0, 69, 79, 89, 4, 42, 180, 0, 10, 180, 0, 162, 185, 0, 34, 1, 0, 16, 80, 162, 0, 7, 4]
abbrev dktX0_whyNotBook_3 : List UInt8 := dkwX0_whyNotBook_3 ++ dktX0_whyNotBook_4
def dkwX0_whyNotBook_2 : List UInt8 := [184, 0, 51, 153, 0, 7, 4, 167, 0, 4, 3, 54, 5, 5, 188, 10, 89, 3, 21, 5, 16, 254]
abbrev dktX0_whyNotBook_2 : List UInt8 := dkwX0_whyNotBook_2 ++ dktX0_whyNotBook_3
def dkwX0_whyNotBook_1 : List UInt8 := [153, 0, 32, 29, 16, 250, 159, 0, 12, 29, 3, 8, 184, 0, 51, 153, 0, 17, 21, 4, 3, 4]
abbrev dktX0_whyNotBook_1 : List UInt8 := dkwX0_whyNotBook_1 ++ dktX0_whyNotBook_2
def dkwX0_whyNotBook_0 : List UInt8 := [27, 42, 180, 0, 10, 180, 0, 116, 184, 0, 85, 154, 0, 5, 2, 172, 28, 4, 16, 40, 184, 0, 51]
abbrev dktX0_whyNotBook_0 : List UInt8 := dkwX0_whyNotBook_0 ++ dktX0_whyNotBook_1
theorem dksX0_whyNotBook_0 : cX0_whyNotBook.data.toList.drop 0 = dktX0_whyNotBook_0 := by decide +kernel
theorem dksX0_whyNotBook_1 : cX0_whyNotBook.data.toList.drop 23 = dktX0_whyNotBook_1 := dk_seg dksX0_whyNotBook_0 23 rfl rfl
theorem dksX0_whyNotBook_2 : cX0_whyNotBook.data.toList.drop 45 = dktX0_whyNotBook_2 := dk_seg dksX0_whyNotBook_1 22 rfl rfl
theorem dksX0_whyNotBook_3 : cX0_whyNotBook.data.toList.drop 67 = dktX0_whyNotBook_3 := dk_seg dksX0_whyNotBook_2 22 rfl rfl
theorem dksX0_whyNotBook_4 : cX0_whyNotBook.data.toList.drop 91 = dktX0_whyNotBook_4 := dk_seg dksX0_whyNotBook_3 24 rfl rfl
theorem dksX0_whyNotBook_5 : cX0_whyNotBook.data.toList.drop 113 = dktX0_whyNotBook_5 := dk_seg dksX0_whyNotBook_4 22 rfl rfl
theorem dX0_whyNotBook_0 : decode cX0_whyNotBook 0 = .ok (.iload_n 1, 1) := dk_27 (dk_at dksX0_whyNotBook_0 0 rfl rfl)
theorem dX0_whyNotBook_1 : decode cX0_whyNotBook 1 = .ok (.aload_n 0, 1) := dk_42 (dk_at dksX0_whyNotBook_0 1 rfl rfl)
theorem dX0_whyNotBook_2 : decode cX0_whyNotBook 2 = .ok (.getfield 10, 3) := dk_180 0 10 (dk_at dksX0_whyNotBook_0 2 rfl rfl)
theorem dX0_whyNotBook_5 : decode cX0_whyNotBook 5 = .ok (.getfield 116, 3) := dk_180 0 116 (dk_at dksX0_whyNotBook_0 5 rfl rfl)
theorem dX0_whyNotBook_8 : decode cX0_whyNotBook 8 = .ok (.invokestatic 85, 3) := dk_184 0 85 (dk_at dksX0_whyNotBook_0 8 rfl rfl)
theorem dX0_whyNotBook_11 : decode cX0_whyNotBook 11 = .ok (.ifCond .ne 5, 3) := dk_154 0 5 (dk_at dksX0_whyNotBook_0 11 rfl rfl)
theorem dX0_whyNotBook_14 : decode cX0_whyNotBook 14 = .ok (.iconst (-1), 1) := dk_2 (dk_at dksX0_whyNotBook_0 14 rfl rfl)
theorem dX0_whyNotBook_15 : decode cX0_whyNotBook 15 = .ok (.ireturn, 1) := dk_172 (dk_at dksX0_whyNotBook_0 15 rfl rfl)
theorem dX0_whyNotBook_16 : decode cX0_whyNotBook 16 = .ok (.iload_n 2, 1) := dk_28 (dk_at dksX0_whyNotBook_0 16 rfl rfl)
theorem dX0_whyNotBook_17 : decode cX0_whyNotBook 17 = .ok (.iconst 1, 1) := dk_4 (dk_at dksX0_whyNotBook_0 17 rfl rfl)
theorem dX0_whyNotBook_18 : decode cX0_whyNotBook 18 = .ok (.bipush 40, 2) := dk_16 40 (dk_at dksX0_whyNotBook_0 18 rfl rfl)
theorem dX0_whyNotBook_20 : decode cX0_whyNotBook 20 = .ok (.invokestatic 51, 3) := dk_184 0 51 (dk_at dksX0_whyNotBook_0 20 rfl rfl)
theorem dX0_whyNotBook_23 : decode cX0_whyNotBook 23 = .ok (.ifCond .eq 32, 3) := dk_153 0 32 (dk_at dksX0_whyNotBook_1 0 rfl rfl)
theorem dX0_whyNotBook_26 : decode cX0_whyNotBook 26 = .ok (.iload_n 3, 1) := dk_29 (dk_at dksX0_whyNotBook_1 3 rfl rfl)
theorem dX0_whyNotBook_27 : decode cX0_whyNotBook 27 = .ok (.bipush (-6), 2) := dk_16 250 (dk_at dksX0_whyNotBook_1 4 rfl rfl)
theorem dX0_whyNotBook_29 : decode cX0_whyNotBook 29 = .ok (.if_icmp .eq 12, 3) := dk_159 0 12 (dk_at dksX0_whyNotBook_1 6 rfl rfl)
theorem dX0_whyNotBook_32 : decode cX0_whyNotBook 32 = .ok (.iload_n 3, 1) := dk_29 (dk_at dksX0_whyNotBook_1 9 rfl rfl)
theorem dX0_whyNotBook_33 : decode cX0_whyNotBook 33 = .ok (.iconst 0, 1) := dk_3 (dk_at dksX0_whyNotBook_1 10 rfl rfl)
theorem dX0_whyNotBook_34 : decode cX0_whyNotBook 34 = .ok (.iconst 5, 1) := dk_8 (dk_at dksX0_whyNotBook_1 11 rfl rfl)
theorem dX0_whyNotBook_35 : decode cX0_whyNotBook 35 = .ok (.invokestatic 51, 3) := dk_184 0 51 (dk_at dksX0_whyNotBook_1 12 rfl rfl)
theorem dX0_whyNotBook_38 : decode cX0_whyNotBook 38 = .ok (.ifCond .eq 17, 3) := dk_153 0 17 (dk_at dksX0_whyNotBook_1 15 rfl rfl)
theorem dX0_whyNotBook_41 : decode cX0_whyNotBook 41 = .ok (.iload 4, 2) := dk_21 4 (dk_at dksX0_whyNotBook_1 18 rfl rfl)
theorem dX0_whyNotBook_43 : decode cX0_whyNotBook 43 = .ok (.iconst 0, 1) := dk_3 (dk_at dksX0_whyNotBook_1 20 rfl rfl)
theorem dX0_whyNotBook_44 : decode cX0_whyNotBook 44 = .ok (.iconst 1, 1) := dk_4 (dk_at dksX0_whyNotBook_1 21 rfl rfl)
theorem dX0_whyNotBook_45 : decode cX0_whyNotBook 45 = .ok (.invokestatic 51, 3) := dk_184 0 51 (dk_at dksX0_whyNotBook_2 0 rfl rfl)
theorem dX0_whyNotBook_48 : decode cX0_whyNotBook 48 = .ok (.ifCond .eq 7, 3) := dk_153 0 7 (dk_at dksX0_whyNotBook_2 3 rfl rfl)
theorem dX0_whyNotBook_51 : decode cX0_whyNotBook 51 = .ok (.iconst 1, 1) := dk_4 (dk_at dksX0_whyNotBook_2 6 rfl rfl)
theorem dX0_whyNotBook_52 : decode cX0_whyNotBook 52 = .ok (.goto 4, 3) := dk_167 0 4 (dk_at dksX0_whyNotBook_2 7 rfl rfl)
theorem dX0_whyNotBook_55 : decode cX0_whyNotBook 55 = .ok (.iconst 0, 1) := dk_3 (dk_at dksX0_whyNotBook_2 10 rfl rfl)
theorem dX0_whyNotBook_56 : decode cX0_whyNotBook 56 = .ok (.istore 5, 2) := dk_54 5 (dk_at dksX0_whyNotBook_2 11 rfl rfl)
theorem dX0_whyNotBook_58 : decode cX0_whyNotBook 58 = .ok (.iconst 2, 1) := dk_5 (dk_at dksX0_whyNotBook_2 13 rfl rfl)
theorem dX0_whyNotBook_59 : decode cX0_whyNotBook 59 = .ok (.newarray .int, 2) := dk_188_10 (dk_at dksX0_whyNotBook_2 14 rfl rfl)
theorem dX0_whyNotBook_61 : decode cX0_whyNotBook 61 = .ok (.dup, 1) := dk_89 (dk_at dksX0_whyNotBook_2 16 rfl rfl)
theorem dX0_whyNotBook_62 : decode cX0_whyNotBook 62 = .ok (.iconst 0, 1) := dk_3 (dk_at dksX0_whyNotBook_2 17 rfl rfl)
theorem dX0_whyNotBook_63 : decode cX0_whyNotBook 63 = .ok (.iload 5, 2) := dk_21 5 (dk_at dksX0_whyNotBook_2 18 rfl rfl)
theorem dX0_whyNotBook_65 : decode cX0_whyNotBook 65 = .ok (.bipush (-2), 2) := dk_16 254 (dk_at dksX0_whyNotBook_2 20 rfl rfl)
theorem dX0_whyNotBook_67 : decode cX0_whyNotBook 67 = .ok (.invokestatic 69, 3) := dk_184 0 69 (dk_at dksX0_whyNotBook_3 0 rfl rfl)
theorem dX0_whyNotBook_70 : decode cX0_whyNotBook 70 = .ok (.iastore, 1) := dk_79 (dk_at dksX0_whyNotBook_3 3 rfl rfl)
theorem dX0_whyNotBook_71 : decode cX0_whyNotBook 71 = .ok (.dup, 1) := dk_89 (dk_at dksX0_whyNotBook_3 4 rfl rfl)
theorem dX0_whyNotBook_72 : decode cX0_whyNotBook 72 = .ok (.iconst 1, 1) := dk_4 (dk_at dksX0_whyNotBook_3 5 rfl rfl)
theorem dX0_whyNotBook_73 : decode cX0_whyNotBook 73 = .ok (.aload_n 0, 1) := dk_42 (dk_at dksX0_whyNotBook_3 6 rfl rfl)
theorem dX0_whyNotBook_74 : decode cX0_whyNotBook 74 = .ok (.getfield 10, 3) := dk_180 0 10 (dk_at dksX0_whyNotBook_3 7 rfl rfl)
theorem dX0_whyNotBook_77 : decode cX0_whyNotBook 77 = .ok (.getfield 162, 3) := dk_180 0 162 (dk_at dksX0_whyNotBook_3 10 rfl rfl)
theorem dX0_whyNotBook_80 : decode cX0_whyNotBook 80 = .ok (.invokeinterface 34 1, 5) := by decide +kernel
theorem dX0_whyNotBook_85 : decode cX0_whyNotBook 85 = .ok (.bipush 80, 2) := dk_16 80 (dk_at dksX0_whyNotBook_3 18 rfl rfl)
theorem dX0_whyNotBook_87 : decode cX0_whyNotBook 87 = .ok (.if_icmp .ge 7, 3) := dk_162 0 7 (dk_at dksX0_whyNotBook_3 20 rfl rfl)
theorem dX0_whyNotBook_90 : decode cX0_whyNotBook 90 = .ok (.iconst 1, 1) := dk_4 (dk_at dksX0_whyNotBook_3 23 rfl rfl)
theorem dX0_whyNotBook_91 : decode cX0_whyNotBook 91 = .ok (.goto 4, 3) := dk_167 0 4 (dk_at dksX0_whyNotBook_4 0 rfl rfl)
theorem dX0_whyNotBook_94 : decode cX0_whyNotBook 94 = .ok (.iconst 0, 1) := dk_3 (dk_at dksX0_whyNotBook_4 3 rfl rfl)
theorem dX0_whyNotBook_95 : decode cX0_whyNotBook 95 = .ok (.bipush (-4), 2) := dk_16 252 (dk_at dksX0_whyNotBook_4 4 rfl rfl)
theorem dX0_whyNotBook_97 : decode cX0_whyNotBook 97 = .ok (.invokestatic 69, 3) := dk_184 0 69 (dk_at dksX0_whyNotBook_4 6 rfl rfl)
theorem dX0_whyNotBook_100 : decode cX0_whyNotBook 100 = .ok (.iastore, 1) := dk_79 (dk_at dksX0_whyNotBook_4 9 rfl rfl)
theorem dX0_whyNotBook_101 : decode cX0_whyNotBook 101 = .ok (.invokestatic 76, 3) := dk_184 0 76 (dk_at dksX0_whyNotBook_4 10 rfl rfl)
theorem dX0_whyNotBook_104 : decode cX0_whyNotBook 104 = .ok (.istore 6, 2) := dk_54 6 (dk_at dksX0_whyNotBook_4 13 rfl rfl)
theorem dX0_whyNotBook_106 : decode cX0_whyNotBook 106 = .ok (.iload 6, 2) := dk_21 6 (dk_at dksX0_whyNotBook_4 15 rfl rfl)
theorem dX0_whyNotBook_108 : decode cX0_whyNotBook 108 = .ok (.ifCond .ge 8, 3) := dk_156 0 8 (dk_at dksX0_whyNotBook_4 17 rfl rfl)
theorem dX0_whyNotBook_111 : decode cX0_whyNotBook 111 = .ok (.iload 6, 2) := dk_21 6 (dk_at dksX0_whyNotBook_4 20 rfl rfl)
theorem dX0_whyNotBook_113 : decode cX0_whyNotBook 113 = .ok (.goto 9, 3) := dk_167 0 9 (dk_at dksX0_whyNotBook_5 0 rfl rfl)
theorem dX0_whyNotBook_116 : decode cX0_whyNotBook 116 = .ok (.aload_n 0, 1) := dk_42 (dk_at dksX0_whyNotBook_5 3 rfl rfl)
theorem dX0_whyNotBook_117 : decode cX0_whyNotBook 117 = .ok (.iload_n 1, 1) := dk_27 (dk_at dksX0_whyNotBook_5 4 rfl rfl)
theorem dX0_whyNotBook_118 : decode cX0_whyNotBook 118 = .ok (.iload_n 2, 1) := dk_28 (dk_at dksX0_whyNotBook_5 5 rfl rfl)
theorem dX0_whyNotBook_119 : decode cX0_whyNotBook 119 = .ok (.invokevirtual 165, 3) := dk_182 0 165 (dk_at dksX0_whyNotBook_5 6 rfl rfl)
theorem dX0_whyNotBook_122 : decode cX0_whyNotBook 122 = .ok (.ireturn, 1) := dk_172 (dk_at dksX0_whyNotBook_5 9 rfl rfl)
abbrev cX0_whyNoSeats : ByteArray := prog_1_method_17_code
def yX0_whyNoSeats : MethodName := ⟨RX0, "whyNoSeats", "(II)I"⟩
def dkwX0_whyNoSeats_1 : List UInt8 := [45, 182, 0, 159, 28, 161, 0, 7, 4, 167, 0, 4, 3, 16, 251, 184, 0, 69, 172]
abbrev dktX0_whyNoSeats_1 : List UInt8 := dkwX0_whyNoSeats_1 ++ []
def dkwX0_whyNoSeats_0 : List UInt8 := [42, 180, 0, 10, 180, 0, 116, 27, 185, 0, 89, 2, 0, 192, 0, 154, 78, 45, 180, 0, 156, 154, 0, 15]
abbrev dktX0_whyNoSeats_0 : List UInt8 := dkwX0_whyNoSeats_0 ++ dktX0_whyNoSeats_1
theorem dksX0_whyNoSeats_0 : cX0_whyNoSeats.data.toList.drop 0 = dktX0_whyNoSeats_0 := by decide +kernel
theorem dksX0_whyNoSeats_1 : cX0_whyNoSeats.data.toList.drop 24 = dktX0_whyNoSeats_1 := dk_seg dksX0_whyNoSeats_0 24 rfl rfl
theorem dX0_whyNoSeats_0 : decode cX0_whyNoSeats 0 = .ok (.aload_n 0, 1) := dk_42 (dk_at dksX0_whyNoSeats_0 0 rfl rfl)
theorem dX0_whyNoSeats_1 : decode cX0_whyNoSeats 1 = .ok (.getfield 10, 3) := dk_180 0 10 (dk_at dksX0_whyNoSeats_0 1 rfl rfl)
theorem dX0_whyNoSeats_4 : decode cX0_whyNoSeats 4 = .ok (.getfield 116, 3) := dk_180 0 116 (dk_at dksX0_whyNoSeats_0 4 rfl rfl)
theorem dX0_whyNoSeats_7 : decode cX0_whyNoSeats 7 = .ok (.iload_n 1, 1) := dk_27 (dk_at dksX0_whyNoSeats_0 7 rfl rfl)
theorem dX0_whyNoSeats_8 : decode cX0_whyNoSeats 8 = .ok (.invokeinterface 89 2, 5) := by decide +kernel
theorem dX0_whyNoSeats_13 : decode cX0_whyNoSeats 13 = .ok (.checkcast 154, 3) := dk_192 0 154 (dk_at dksX0_whyNoSeats_0 13 rfl rfl)
theorem dX0_whyNoSeats_16 : decode cX0_whyNoSeats 16 = .ok (.astore_n 3, 1) := dk_78 (dk_at dksX0_whyNoSeats_0 16 rfl rfl)
theorem dX0_whyNoSeats_17 : decode cX0_whyNoSeats 17 = .ok (.aload_n 3, 1) := dk_45 (dk_at dksX0_whyNoSeats_0 17 rfl rfl)
theorem dX0_whyNoSeats_18 : decode cX0_whyNoSeats 18 = .ok (.getfield 156, 3) := dk_180 0 156 (dk_at dksX0_whyNoSeats_0 18 rfl rfl)
theorem dX0_whyNoSeats_21 : decode cX0_whyNoSeats 21 = .ok (.ifCond .ne 15, 3) := dk_154 0 15 (dk_at dksX0_whyNoSeats_0 21 rfl rfl)
theorem dX0_whyNoSeats_24 : decode cX0_whyNoSeats 24 = .ok (.aload_n 3, 1) := dk_45 (dk_at dksX0_whyNoSeats_1 0 rfl rfl)
theorem dX0_whyNoSeats_25 : decode cX0_whyNoSeats 25 = .ok (.invokevirtual 159, 3) := dk_182 0 159 (dk_at dksX0_whyNoSeats_1 1 rfl rfl)
theorem dX0_whyNoSeats_28 : decode cX0_whyNoSeats 28 = .ok (.iload_n 2, 1) := dk_28 (dk_at dksX0_whyNoSeats_1 4 rfl rfl)
theorem dX0_whyNoSeats_29 : decode cX0_whyNoSeats 29 = .ok (.if_icmp .lt 7, 3) := dk_161 0 7 (dk_at dksX0_whyNoSeats_1 5 rfl rfl)
theorem dX0_whyNoSeats_32 : decode cX0_whyNoSeats 32 = .ok (.iconst 1, 1) := dk_4 (dk_at dksX0_whyNoSeats_1 8 rfl rfl)
theorem dX0_whyNoSeats_33 : decode cX0_whyNoSeats 33 = .ok (.goto 4, 3) := dk_167 0 4 (dk_at dksX0_whyNoSeats_1 9 rfl rfl)
theorem dX0_whyNoSeats_36 : decode cX0_whyNoSeats 36 = .ok (.iconst 0, 1) := dk_3 (dk_at dksX0_whyNoSeats_1 12 rfl rfl)
theorem dX0_whyNoSeats_37 : decode cX0_whyNoSeats 37 = .ok (.bipush (-5), 2) := dk_16 251 (dk_at dksX0_whyNoSeats_1 13 rfl rfl)
theorem dX0_whyNoSeats_39 : decode cX0_whyNoSeats 39 = .ok (.invokestatic 69, 3) := dk_184 0 69 (dk_at dksX0_whyNoSeats_1 15 rfl rfl)
theorem dX0_whyNoSeats_42 : decode cX0_whyNoSeats 42 = .ok (.ireturn, 1) := dk_172 (dk_at dksX0_whyNoSeats_1 18 rfl rfl)
abbrev cX0_giveBack : ByteArray := prog_1_method_20_code
def yX0_giveBack : MethodName := ⟨RX0, "giveBack", "(I)I"⟩
def dkwX0_giveBack_2 : List UInt8 := [180, 0, 10, 42, 180, 0, 10, 180, 0, 162, 27, 185, 0, 89, 2, 0, 192, 0, 177, 182, 0, 180, 172]
abbrev dktX0_giveBack_2 : List UInt8 := dkwX0_giveBack_2 ++ []
def dkwX0_giveBack_1 : List UInt8 := [185, 0, 89, 2, 0, 192, 0, 177, 180, 0, 179, 153, 0, 6, 16, 251, 172, 42, 182, 0, 63, 42]
abbrev dktX0_giveBack_1 : List UInt8 := dkwX0_giveBack_1 ++ dktX0_giveBack_2
def dkwX0_giveBack_0 : List UInt8 := [27, 42, 180, 0, 10, 180, 0, 162, 184, 0, 85, 154, 0, 5, 2, 172, 42, 180, 0, 10, 180, 0, 162, 27]
abbrev dktX0_giveBack_0 : List UInt8 := dkwX0_giveBack_0 ++ dktX0_giveBack_1
theorem dksX0_giveBack_0 : cX0_giveBack.data.toList.drop 0 = dktX0_giveBack_0 := by decide +kernel
theorem dksX0_giveBack_1 : cX0_giveBack.data.toList.drop 24 = dktX0_giveBack_1 := dk_seg dksX0_giveBack_0 24 rfl rfl
theorem dksX0_giveBack_2 : cX0_giveBack.data.toList.drop 46 = dktX0_giveBack_2 := dk_seg dksX0_giveBack_1 22 rfl rfl
theorem dX0_giveBack_0 : decode cX0_giveBack 0 = .ok (.iload_n 1, 1) := dk_27 (dk_at dksX0_giveBack_0 0 rfl rfl)
theorem dX0_giveBack_1 : decode cX0_giveBack 1 = .ok (.aload_n 0, 1) := dk_42 (dk_at dksX0_giveBack_0 1 rfl rfl)
theorem dX0_giveBack_2 : decode cX0_giveBack 2 = .ok (.getfield 10, 3) := dk_180 0 10 (dk_at dksX0_giveBack_0 2 rfl rfl)
theorem dX0_giveBack_5 : decode cX0_giveBack 5 = .ok (.getfield 162, 3) := dk_180 0 162 (dk_at dksX0_giveBack_0 5 rfl rfl)
theorem dX0_giveBack_8 : decode cX0_giveBack 8 = .ok (.invokestatic 85, 3) := dk_184 0 85 (dk_at dksX0_giveBack_0 8 rfl rfl)
theorem dX0_giveBack_11 : decode cX0_giveBack 11 = .ok (.ifCond .ne 5, 3) := dk_154 0 5 (dk_at dksX0_giveBack_0 11 rfl rfl)
theorem dX0_giveBack_14 : decode cX0_giveBack 14 = .ok (.iconst (-1), 1) := dk_2 (dk_at dksX0_giveBack_0 14 rfl rfl)
theorem dX0_giveBack_15 : decode cX0_giveBack 15 = .ok (.ireturn, 1) := dk_172 (dk_at dksX0_giveBack_0 15 rfl rfl)
theorem dX0_giveBack_16 : decode cX0_giveBack 16 = .ok (.aload_n 0, 1) := dk_42 (dk_at dksX0_giveBack_0 16 rfl rfl)
theorem dX0_giveBack_17 : decode cX0_giveBack 17 = .ok (.getfield 10, 3) := dk_180 0 10 (dk_at dksX0_giveBack_0 17 rfl rfl)
theorem dX0_giveBack_20 : decode cX0_giveBack 20 = .ok (.getfield 162, 3) := dk_180 0 162 (dk_at dksX0_giveBack_0 20 rfl rfl)
theorem dX0_giveBack_23 : decode cX0_giveBack 23 = .ok (.iload_n 1, 1) := dk_27 (dk_at dksX0_giveBack_0 23 rfl rfl)
theorem dX0_giveBack_24 : decode cX0_giveBack 24 = .ok (.invokeinterface 89 2, 5) := by decide +kernel
theorem dX0_giveBack_29 : decode cX0_giveBack 29 = .ok (.checkcast 177, 3) := dk_192 0 177 (dk_at dksX0_giveBack_1 5 rfl rfl)
theorem dX0_giveBack_32 : decode cX0_giveBack 32 = .ok (.getfield 179, 3) := dk_180 0 179 (dk_at dksX0_giveBack_1 8 rfl rfl)
theorem dX0_giveBack_35 : decode cX0_giveBack 35 = .ok (.ifCond .eq 6, 3) := dk_153 0 6 (dk_at dksX0_giveBack_1 11 rfl rfl)
theorem dX0_giveBack_38 : decode cX0_giveBack 38 = .ok (.bipush (-5), 2) := dk_16 251 (dk_at dksX0_giveBack_1 14 rfl rfl)
theorem dX0_giveBack_40 : decode cX0_giveBack 40 = .ok (.ireturn, 1) := dk_172 (dk_at dksX0_giveBack_1 16 rfl rfl)
theorem dX0_giveBack_41 : decode cX0_giveBack 41 = .ok (.aload_n 0, 1) := dk_42 (dk_at dksX0_giveBack_1 17 rfl rfl)
theorem dX0_giveBack_42 : decode cX0_giveBack 42 = .ok (.invokevirtual 63, 3) := dk_182 0 63 (dk_at dksX0_giveBack_1 18 rfl rfl)
theorem dX0_giveBack_45 : decode cX0_giveBack 45 = .ok (.aload_n 0, 1) := dk_42 (dk_at dksX0_giveBack_1 21 rfl rfl)
theorem dX0_giveBack_46 : decode cX0_giveBack 46 = .ok (.getfield 10, 3) := dk_180 0 10 (dk_at dksX0_giveBack_2 0 rfl rfl)
theorem dX0_giveBack_49 : decode cX0_giveBack 49 = .ok (.aload_n 0, 1) := dk_42 (dk_at dksX0_giveBack_2 3 rfl rfl)
theorem dX0_giveBack_50 : decode cX0_giveBack 50 = .ok (.getfield 10, 3) := dk_180 0 10 (dk_at dksX0_giveBack_2 4 rfl rfl)
theorem dX0_giveBack_53 : decode cX0_giveBack 53 = .ok (.getfield 162, 3) := dk_180 0 162 (dk_at dksX0_giveBack_2 7 rfl rfl)
theorem dX0_giveBack_56 : decode cX0_giveBack 56 = .ok (.iload_n 1, 1) := dk_27 (dk_at dksX0_giveBack_2 10 rfl rfl)
theorem dX0_giveBack_57 : decode cX0_giveBack 57 = .ok (.invokeinterface 89 2, 5) := by decide +kernel
theorem dX0_giveBack_62 : decode cX0_giveBack 62 = .ok (.checkcast 177, 3) := dk_192 0 177 (dk_at dksX0_giveBack_2 16 rfl rfl)
theorem dX0_giveBack_65 : decode cX0_giveBack 65 = .ok (.invokevirtual 180, 3) := dk_182 0 180 (dk_at dksX0_giveBack_2 19 rfl rfl)
theorem dX0_giveBack_68 : decode cX0_giveBack 68 = .ok (.ireturn, 1) := dk_172 (dk_at dksX0_giveBack_2 22 rfl rfl)
abbrev cX0_promise : ByteArray := prog_1_method_22_code
def yX0_promise : MethodName := ⟨RX0, "promise", "(IIII)I"⟩
def dkwX0_promise_8 : List UInt8 := [185, 0, 34, 1, 0, 4, 100, 172]
abbrev dktX0_promise_8 : List UInt8 := dkwX0_promise_8 ++ []
def dkwX0_promise_7 : List UInt8 := [28, 29, 21, 4, 183, 0, 213, 185, 0, 47, 2, 0, 87, 42, 180, 0, 10, 180, 0, 184]
abbrev dktX0_promise_7 : List UInt8 := dkwX0_promise_7 ++ dktX0_promise_8
def dkwX0_promise_6 : List UInt8 := [21, 6, 156, 0, 6, 21, 6, 172, 42, 182, 0, 63, 42, 180, 0, 10, 180, 0, 184, 187, 0, 201, 89, 27]
abbrev dktX0_promise_6 : List UInt8 := dkwX0_promise_6 ++ dktX0_promise_7
def dkwX0_promise_5 : List UInt8 := [27, 28, 182, 0, 210, 154, 0, 7, 4, 167, 0, 4, 3, 16, 251, 184, 0, 69, 79, 184, 0, 76, 54, 6]
abbrev dktX0_promise_5 : List UInt8 := dkwX0_promise_5 ++ dktX0_promise_6
def dkwX0_promise_4 : List UInt8 := [185, 0, 34, 1, 0, 16, 12, 162, 0, 7, 4, 167, 0, 4, 3, 16, 252, 184, 0, 69, 79, 89, 6, 42]
abbrev dktX0_promise_4 : List UInt8 := dkwX0_promise_4 ++ dktX0_promise_5
def dkwX0_promise_3 : List UInt8 := [180, 0, 10, 180, 0, 73, 184, 0, 85, 2, 184, 0, 69, 79, 89, 5, 42, 180, 0, 10, 180, 0, 184]
abbrev dktX0_promise_3 : List UInt8 := dkwX0_promise_3 ++ dktX0_promise_4
def dkwX0_promise_2 : List UInt8 := [167, 0, 4, 3, 54, 5, 7, 188, 10, 89, 3, 21, 5, 16, 254, 184, 0, 69, 79, 89, 4, 28, 42]
abbrev dktX0_promise_2 : List UInt8 := dkwX0_promise_2 ++ dktX0_promise_3
def dkwX0_promise_1 : List UInt8 := [180, 0, 10, 180, 0, 55, 42, 180, 0, 10, 180, 0, 55, 16, 60, 96, 184, 0, 51, 153, 0, 7, 4]
abbrev dktX0_promise_1 : List UInt8 := dkwX0_promise_1 ++ dktX0_promise_2
def dkwX0_promise_0 : List UInt8 := [27, 3, 8, 184, 0, 51, 153, 0, 43, 29, 4, 17, 0, 200, 184, 0, 51, 153, 0, 32, 21, 4, 42]
abbrev dktX0_promise_0 : List UInt8 := dkwX0_promise_0 ++ dktX0_promise_1
theorem dksX0_promise_0 : cX0_promise.data.toList.drop 0 = dktX0_promise_0 := by decide +kernel
theorem dksX0_promise_1 : cX0_promise.data.toList.drop 23 = dktX0_promise_1 := dk_seg dksX0_promise_0 23 rfl rfl
theorem dksX0_promise_2 : cX0_promise.data.toList.drop 46 = dktX0_promise_2 := dk_seg dksX0_promise_1 23 rfl rfl
theorem dksX0_promise_3 : cX0_promise.data.toList.drop 69 = dktX0_promise_3 := dk_seg dksX0_promise_2 23 rfl rfl
theorem dksX0_promise_4 : cX0_promise.data.toList.drop 92 = dktX0_promise_4 := dk_seg dksX0_promise_3 23 rfl rfl
theorem dksX0_promise_5 : cX0_promise.data.toList.drop 116 = dktX0_promise_5 := dk_seg dksX0_promise_4 24 rfl rfl
theorem dksX0_promise_6 : cX0_promise.data.toList.drop 140 = dktX0_promise_6 := dk_seg dksX0_promise_5 24 rfl rfl
theorem dksX0_promise_7 : cX0_promise.data.toList.drop 164 = dktX0_promise_7 := dk_seg dksX0_promise_6 24 rfl rfl
theorem dksX0_promise_8 : cX0_promise.data.toList.drop 184 = dktX0_promise_8 := dk_seg dksX0_promise_7 20 rfl rfl
theorem dX0_promise_0 : decode cX0_promise 0 = .ok (.iload_n 1, 1) := dk_27 (dk_at dksX0_promise_0 0 rfl rfl)
theorem dX0_promise_1 : decode cX0_promise 1 = .ok (.iconst 0, 1) := dk_3 (dk_at dksX0_promise_0 1 rfl rfl)
theorem dX0_promise_2 : decode cX0_promise 2 = .ok (.iconst 5, 1) := dk_8 (dk_at dksX0_promise_0 2 rfl rfl)
theorem dX0_promise_3 : decode cX0_promise 3 = .ok (.invokestatic 51, 3) := dk_184 0 51 (dk_at dksX0_promise_0 3 rfl rfl)
theorem dX0_promise_6 : decode cX0_promise 6 = .ok (.ifCond .eq 43, 3) := dk_153 0 43 (dk_at dksX0_promise_0 6 rfl rfl)
theorem dX0_promise_9 : decode cX0_promise 9 = .ok (.iload_n 3, 1) := dk_29 (dk_at dksX0_promise_0 9 rfl rfl)
theorem dX0_promise_10 : decode cX0_promise 10 = .ok (.iconst 1, 1) := dk_4 (dk_at dksX0_promise_0 10 rfl rfl)
theorem dX0_promise_11 : decode cX0_promise 11 = .ok (.sipush 200, 3) := dk_17 0 200 (dk_at dksX0_promise_0 11 rfl rfl)
theorem dX0_promise_14 : decode cX0_promise 14 = .ok (.invokestatic 51, 3) := dk_184 0 51 (dk_at dksX0_promise_0 14 rfl rfl)
theorem dX0_promise_17 : decode cX0_promise 17 = .ok (.ifCond .eq 32, 3) := dk_153 0 32 (dk_at dksX0_promise_0 17 rfl rfl)
theorem dX0_promise_20 : decode cX0_promise 20 = .ok (.iload 4, 2) := dk_21 4 (dk_at dksX0_promise_0 20 rfl rfl)
theorem dX0_promise_22 : decode cX0_promise 22 = .ok (.aload_n 0, 1) := dk_42 (dk_at dksX0_promise_0 22 rfl rfl)
theorem dX0_promise_23 : decode cX0_promise 23 = .ok (.getfield 10, 3) := dk_180 0 10 (dk_at dksX0_promise_1 0 rfl rfl)
theorem dX0_promise_26 : decode cX0_promise 26 = .ok (.getfield 55, 3) := dk_180 0 55 (dk_at dksX0_promise_1 3 rfl rfl)
theorem dX0_promise_29 : decode cX0_promise 29 = .ok (.aload_n 0, 1) := dk_42 (dk_at dksX0_promise_1 6 rfl rfl)
theorem dX0_promise_30 : decode cX0_promise 30 = .ok (.getfield 10, 3) := dk_180 0 10 (dk_at dksX0_promise_1 7 rfl rfl)
theorem dX0_promise_33 : decode cX0_promise 33 = .ok (.getfield 55, 3) := dk_180 0 55 (dk_at dksX0_promise_1 10 rfl rfl)
theorem dX0_promise_36 : decode cX0_promise 36 = .ok (.bipush 60, 2) := dk_16 60 (dk_at dksX0_promise_1 13 rfl rfl)
theorem dX0_promise_38 : decode cX0_promise 38 = .ok (.iadd, 1) := dk_96 (dk_at dksX0_promise_1 15 rfl rfl)
theorem dX0_promise_39 : decode cX0_promise 39 = .ok (.invokestatic 51, 3) := dk_184 0 51 (dk_at dksX0_promise_1 16 rfl rfl)
theorem dX0_promise_42 : decode cX0_promise 42 = .ok (.ifCond .eq 7, 3) := dk_153 0 7 (dk_at dksX0_promise_1 19 rfl rfl)
theorem dX0_promise_45 : decode cX0_promise 45 = .ok (.iconst 1, 1) := dk_4 (dk_at dksX0_promise_1 22 rfl rfl)
theorem dX0_promise_46 : decode cX0_promise 46 = .ok (.goto 4, 3) := dk_167 0 4 (dk_at dksX0_promise_2 0 rfl rfl)
theorem dX0_promise_49 : decode cX0_promise 49 = .ok (.iconst 0, 1) := dk_3 (dk_at dksX0_promise_2 3 rfl rfl)
theorem dX0_promise_50 : decode cX0_promise 50 = .ok (.istore 5, 2) := dk_54 5 (dk_at dksX0_promise_2 4 rfl rfl)
theorem dX0_promise_52 : decode cX0_promise 52 = .ok (.iconst 4, 1) := dk_7 (dk_at dksX0_promise_2 6 rfl rfl)
theorem dX0_promise_53 : decode cX0_promise 53 = .ok (.newarray .int, 2) := dk_188_10 (dk_at dksX0_promise_2 7 rfl rfl)
theorem dX0_promise_55 : decode cX0_promise 55 = .ok (.dup, 1) := dk_89 (dk_at dksX0_promise_2 9 rfl rfl)
theorem dX0_promise_56 : decode cX0_promise 56 = .ok (.iconst 0, 1) := dk_3 (dk_at dksX0_promise_2 10 rfl rfl)
theorem dX0_promise_57 : decode cX0_promise 57 = .ok (.iload 5, 2) := dk_21 5 (dk_at dksX0_promise_2 11 rfl rfl)
theorem dX0_promise_59 : decode cX0_promise 59 = .ok (.bipush (-2), 2) := dk_16 254 (dk_at dksX0_promise_2 13 rfl rfl)
theorem dX0_promise_61 : decode cX0_promise 61 = .ok (.invokestatic 69, 3) := dk_184 0 69 (dk_at dksX0_promise_2 15 rfl rfl)
theorem dX0_promise_64 : decode cX0_promise 64 = .ok (.iastore, 1) := dk_79 (dk_at dksX0_promise_2 18 rfl rfl)
theorem dX0_promise_65 : decode cX0_promise 65 = .ok (.dup, 1) := dk_89 (dk_at dksX0_promise_2 19 rfl rfl)
theorem dX0_promise_66 : decode cX0_promise 66 = .ok (.iconst 1, 1) := dk_4 (dk_at dksX0_promise_2 20 rfl rfl)
theorem dX0_promise_67 : decode cX0_promise 67 = .ok (.iload_n 2, 1) := dk_28 (dk_at dksX0_promise_2 21 rfl rfl)
theorem dX0_promise_68 : decode cX0_promise 68 = .ok (.aload_n 0, 1) := dk_42 (dk_at dksX0_promise_2 22 rfl rfl)
theorem dX0_promise_69 : decode cX0_promise 69 = .ok (.getfield 10, 3) := dk_180 0 10 (dk_at dksX0_promise_3 0 rfl rfl)
theorem dX0_promise_72 : decode cX0_promise 72 = .ok (.getfield 73, 3) := dk_180 0 73 (dk_at dksX0_promise_3 3 rfl rfl)
theorem dX0_promise_75 : decode cX0_promise 75 = .ok (.invokestatic 85, 3) := dk_184 0 85 (dk_at dksX0_promise_3 6 rfl rfl)
theorem dX0_promise_78 : decode cX0_promise 78 = .ok (.iconst (-1), 1) := dk_2 (dk_at dksX0_promise_3 9 rfl rfl)
theorem dX0_promise_79 : decode cX0_promise 79 = .ok (.invokestatic 69, 3) := dk_184 0 69 (dk_at dksX0_promise_3 10 rfl rfl)
theorem dX0_promise_82 : decode cX0_promise 82 = .ok (.iastore, 1) := dk_79 (dk_at dksX0_promise_3 13 rfl rfl)
theorem dX0_promise_83 : decode cX0_promise 83 = .ok (.dup, 1) := dk_89 (dk_at dksX0_promise_3 14 rfl rfl)
theorem dX0_promise_84 : decode cX0_promise 84 = .ok (.iconst 2, 1) := dk_5 (dk_at dksX0_promise_3 15 rfl rfl)
theorem dX0_promise_85 : decode cX0_promise 85 = .ok (.aload_n 0, 1) := dk_42 (dk_at dksX0_promise_3 16 rfl rfl)
theorem dX0_promise_86 : decode cX0_promise 86 = .ok (.getfield 10, 3) := dk_180 0 10 (dk_at dksX0_promise_3 17 rfl rfl)
theorem dX0_promise_89 : decode cX0_promise 89 = .ok (.getfield 184, 3) := dk_180 0 184 (dk_at dksX0_promise_3 20 rfl rfl)
theorem dX0_promise_92 : decode cX0_promise 92 = .ok (.invokeinterface 34 1, 5) := by decide +kernel
theorem dX0_promise_97 : decode cX0_promise 97 = .ok (.bipush 12, 2) := dk_16 12 (dk_at dksX0_promise_4 5 rfl rfl)
theorem dX0_promise_99 : decode cX0_promise 99 = .ok (.if_icmp .ge 7, 3) := dk_162 0 7 (dk_at dksX0_promise_4 7 rfl rfl)
theorem dX0_promise_102 : decode cX0_promise 102 = .ok (.iconst 1, 1) := dk_4 (dk_at dksX0_promise_4 10 rfl rfl)
theorem dX0_promise_103 : decode cX0_promise 103 = .ok (.goto 4, 3) := dk_167 0 4 (dk_at dksX0_promise_4 11 rfl rfl)
theorem dX0_promise_106 : decode cX0_promise 106 = .ok (.iconst 0, 1) := dk_3 (dk_at dksX0_promise_4 14 rfl rfl)
theorem dX0_promise_107 : decode cX0_promise 107 = .ok (.bipush (-4), 2) := dk_16 252 (dk_at dksX0_promise_4 15 rfl rfl)
theorem dX0_promise_109 : decode cX0_promise 109 = .ok (.invokestatic 69, 3) := dk_184 0 69 (dk_at dksX0_promise_4 17 rfl rfl)
theorem dX0_promise_112 : decode cX0_promise 112 = .ok (.iastore, 1) := dk_79 (dk_at dksX0_promise_4 20 rfl rfl)
theorem dX0_promise_113 : decode cX0_promise 113 = .ok (.dup, 1) := dk_89 (dk_at dksX0_promise_4 21 rfl rfl)
theorem dX0_promise_114 : decode cX0_promise 114 = .ok (.iconst 3, 1) := dk_6 (dk_at dksX0_promise_4 22 rfl rfl)
theorem dX0_promise_115 : decode cX0_promise 115 = .ok (.aload_n 0, 1) := dk_42 (dk_at dksX0_promise_4 23 rfl rfl)
theorem dX0_promise_116 : decode cX0_promise 116 = .ok (.iload_n 1, 1) := dk_27 (dk_at dksX0_promise_5 0 rfl rfl)
theorem dX0_promise_117 : decode cX0_promise 117 = .ok (.iload_n 2, 1) := dk_28 (dk_at dksX0_promise_5 1 rfl rfl)
theorem dX0_promise_118 : decode cX0_promise 118 = .ok (.invokevirtual 210, 3) := dk_182 0 210 (dk_at dksX0_promise_5 2 rfl rfl)
theorem dX0_promise_121 : decode cX0_promise 121 = .ok (.ifCond .ne 7, 3) := dk_154 0 7 (dk_at dksX0_promise_5 5 rfl rfl)
theorem dX0_promise_124 : decode cX0_promise 124 = .ok (.iconst 1, 1) := dk_4 (dk_at dksX0_promise_5 8 rfl rfl)
theorem dX0_promise_125 : decode cX0_promise 125 = .ok (.goto 4, 3) := dk_167 0 4 (dk_at dksX0_promise_5 9 rfl rfl)
theorem dX0_promise_128 : decode cX0_promise 128 = .ok (.iconst 0, 1) := dk_3 (dk_at dksX0_promise_5 12 rfl rfl)
theorem dX0_promise_129 : decode cX0_promise 129 = .ok (.bipush (-5), 2) := dk_16 251 (dk_at dksX0_promise_5 13 rfl rfl)
theorem dX0_promise_131 : decode cX0_promise 131 = .ok (.invokestatic 69, 3) := dk_184 0 69 (dk_at dksX0_promise_5 15 rfl rfl)
theorem dX0_promise_134 : decode cX0_promise 134 = .ok (.iastore, 1) := dk_79 (dk_at dksX0_promise_5 18 rfl rfl)
theorem dX0_promise_135 : decode cX0_promise 135 = .ok (.invokestatic 76, 3) := dk_184 0 76 (dk_at dksX0_promise_5 19 rfl rfl)
theorem dX0_promise_138 : decode cX0_promise 138 = .ok (.istore 6, 2) := dk_54 6 (dk_at dksX0_promise_5 22 rfl rfl)
theorem dX0_promise_140 : decode cX0_promise 140 = .ok (.iload 6, 2) := dk_21 6 (dk_at dksX0_promise_6 0 rfl rfl)
theorem dX0_promise_142 : decode cX0_promise 142 = .ok (.ifCond .ge 6, 3) := dk_156 0 6 (dk_at dksX0_promise_6 2 rfl rfl)
theorem dX0_promise_145 : decode cX0_promise 145 = .ok (.iload 6, 2) := dk_21 6 (dk_at dksX0_promise_6 5 rfl rfl)
theorem dX0_promise_147 : decode cX0_promise 147 = .ok (.ireturn, 1) := dk_172 (dk_at dksX0_promise_6 7 rfl rfl)
theorem dX0_promise_148 : decode cX0_promise 148 = .ok (.aload_n 0, 1) := dk_42 (dk_at dksX0_promise_6 8 rfl rfl)
theorem dX0_promise_149 : decode cX0_promise 149 = .ok (.invokevirtual 63, 3) := dk_182 0 63 (dk_at dksX0_promise_6 9 rfl rfl)
theorem dX0_promise_152 : decode cX0_promise 152 = .ok (.aload_n 0, 1) := dk_42 (dk_at dksX0_promise_6 12 rfl rfl)
theorem dX0_promise_153 : decode cX0_promise 153 = .ok (.getfield 10, 3) := dk_180 0 10 (dk_at dksX0_promise_6 13 rfl rfl)
theorem dX0_promise_156 : decode cX0_promise 156 = .ok (.getfield 184, 3) := dk_180 0 184 (dk_at dksX0_promise_6 16 rfl rfl)
theorem dX0_promise_159 : decode cX0_promise 159 = .ok (.new 201, 3) := dk_187 0 201 (dk_at dksX0_promise_6 19 rfl rfl)
theorem dX0_promise_162 : decode cX0_promise 162 = .ok (.dup, 1) := dk_89 (dk_at dksX0_promise_6 22 rfl rfl)
theorem dX0_promise_163 : decode cX0_promise 163 = .ok (.iload_n 1, 1) := dk_27 (dk_at dksX0_promise_6 23 rfl rfl)
theorem dX0_promise_164 : decode cX0_promise 164 = .ok (.iload_n 2, 1) := dk_28 (dk_at dksX0_promise_7 0 rfl rfl)
theorem dX0_promise_165 : decode cX0_promise 165 = .ok (.iload_n 3, 1) := dk_29 (dk_at dksX0_promise_7 1 rfl rfl)
theorem dX0_promise_166 : decode cX0_promise 166 = .ok (.iload 4, 2) := dk_21 4 (dk_at dksX0_promise_7 2 rfl rfl)
theorem dX0_promise_168 : decode cX0_promise 168 = .ok (.invokespecial 213, 3) := dk_183 0 213 (dk_at dksX0_promise_7 4 rfl rfl)
theorem dX0_promise_171 : decode cX0_promise 171 = .ok (.invokeinterface 47 2, 5) := by decide +kernel
theorem dX0_promise_176 : decode cX0_promise 176 = .ok (.pop, 1) := dk_87 (dk_at dksX0_promise_7 12 rfl rfl)
theorem dX0_promise_177 : decode cX0_promise 177 = .ok (.aload_n 0, 1) := dk_42 (dk_at dksX0_promise_7 13 rfl rfl)
theorem dX0_promise_178 : decode cX0_promise 178 = .ok (.getfield 10, 3) := dk_180 0 10 (dk_at dksX0_promise_7 14 rfl rfl)
theorem dX0_promise_181 : decode cX0_promise 181 = .ok (.getfield 184, 3) := dk_180 0 184 (dk_at dksX0_promise_7 17 rfl rfl)
theorem dX0_promise_184 : decode cX0_promise 184 = .ok (.invokeinterface 34 1, 5) := by decide +kernel
theorem dX0_promise_189 : decode cX0_promise 189 = .ok (.iconst 1, 1) := dk_4 (dk_at dksX0_promise_8 5 rfl rfl)
theorem dX0_promise_190 : decode cX0_promise 190 = .ok (.isub, 1) := dk_100 (dk_at dksX0_promise_8 6 rfl rfl)
theorem dX0_promise_191 : decode cX0_promise 191 = .ok (.ireturn, 1) := dk_172 (dk_at dksX0_promise_8 7 rfl rfl)
abbrev cX0_hasPromise : ByteArray := prog_1_method_21_code
def yX0_hasPromise : MethodName := ⟨RX0, "hasPromise", "(II)Z"⟩
def dkwX0_hasPromise_2 : List UInt8 := [160, 0, 14, 25, 4, 180, 0, 207, 28, 160, 0, 5, 4, 172, 167, 255, 208, 3, 172]
abbrev dktX0_hasPromise_2 : List UInt8 := dkwX0_hasPromise_2 ++ []
def dkwX0_hasPromise_1 : List UInt8 := [185, 0, 197, 1, 0, 192, 0, 201, 58, 4, 25, 4, 180, 0, 203, 154, 0, 23, 25, 4, 180, 0, 204, 27]
abbrev dktX0_hasPromise_1 : List UInt8 := dkwX0_hasPromise_1 ++ dktX0_hasPromise_2
def dkwX0_hasPromise_0 : List UInt8 := [42, 180, 0, 10, 180, 0, 184, 185, 0, 187, 1, 0, 78, 45, 185, 0, 191, 1, 0, 153, 0, 45, 45]
abbrev dktX0_hasPromise_0 : List UInt8 := dkwX0_hasPromise_0 ++ dktX0_hasPromise_1
theorem dksX0_hasPromise_0 : cX0_hasPromise.data.toList.drop 0 = dktX0_hasPromise_0 := by decide +kernel
theorem dksX0_hasPromise_1 : cX0_hasPromise.data.toList.drop 23 = dktX0_hasPromise_1 := dk_seg dksX0_hasPromise_0 23 rfl rfl
theorem dksX0_hasPromise_2 : cX0_hasPromise.data.toList.drop 47 = dktX0_hasPromise_2 := dk_seg dksX0_hasPromise_1 24 rfl rfl
theorem dX0_hasPromise_0 : decode cX0_hasPromise 0 = .ok (.aload_n 0, 1) := dk_42 (dk_at dksX0_hasPromise_0 0 rfl rfl)
theorem dX0_hasPromise_1 : decode cX0_hasPromise 1 = .ok (.getfield 10, 3) := dk_180 0 10 (dk_at dksX0_hasPromise_0 1 rfl rfl)
theorem dX0_hasPromise_4 : decode cX0_hasPromise 4 = .ok (.getfield 184, 3) := dk_180 0 184 (dk_at dksX0_hasPromise_0 4 rfl rfl)
theorem dX0_hasPromise_7 : decode cX0_hasPromise 7 = .ok (.invokeinterface 187 1, 5) := by decide +kernel
theorem dX0_hasPromise_12 : decode cX0_hasPromise 12 = .ok (.astore_n 3, 1) := dk_78 (dk_at dksX0_hasPromise_0 12 rfl rfl)
theorem dX0_hasPromise_13 : decode cX0_hasPromise 13 = .ok (.aload_n 3, 1) := dk_45 (dk_at dksX0_hasPromise_0 13 rfl rfl)
theorem dX0_hasPromise_14 : decode cX0_hasPromise 14 = .ok (.invokeinterface 191 1, 5) := by decide +kernel
theorem dX0_hasPromise_19 : decode cX0_hasPromise 19 = .ok (.ifCond .eq 45, 3) := dk_153 0 45 (dk_at dksX0_hasPromise_0 19 rfl rfl)
theorem dX0_hasPromise_22 : decode cX0_hasPromise 22 = .ok (.aload_n 3, 1) := dk_45 (dk_at dksX0_hasPromise_0 22 rfl rfl)
theorem dX0_hasPromise_23 : decode cX0_hasPromise 23 = .ok (.invokeinterface 197 1, 5) := by decide +kernel
theorem dX0_hasPromise_28 : decode cX0_hasPromise 28 = .ok (.checkcast 201, 3) := dk_192 0 201 (dk_at dksX0_hasPromise_1 5 rfl rfl)
theorem dX0_hasPromise_31 : decode cX0_hasPromise 31 = .ok (.astore 4, 2) := dk_58 4 (dk_at dksX0_hasPromise_1 8 rfl rfl)
theorem dX0_hasPromise_33 : decode cX0_hasPromise 33 = .ok (.aload 4, 2) := dk_25 4 (dk_at dksX0_hasPromise_1 10 rfl rfl)
theorem dX0_hasPromise_35 : decode cX0_hasPromise 35 = .ok (.getfield 203, 3) := dk_180 0 203 (dk_at dksX0_hasPromise_1 12 rfl rfl)
theorem dX0_hasPromise_38 : decode cX0_hasPromise 38 = .ok (.ifCond .ne 23, 3) := dk_154 0 23 (dk_at dksX0_hasPromise_1 15 rfl rfl)
theorem dX0_hasPromise_41 : decode cX0_hasPromise 41 = .ok (.aload 4, 2) := dk_25 4 (dk_at dksX0_hasPromise_1 18 rfl rfl)
theorem dX0_hasPromise_43 : decode cX0_hasPromise 43 = .ok (.getfield 204, 3) := dk_180 0 204 (dk_at dksX0_hasPromise_1 20 rfl rfl)
theorem dX0_hasPromise_46 : decode cX0_hasPromise 46 = .ok (.iload_n 1, 1) := dk_27 (dk_at dksX0_hasPromise_1 23 rfl rfl)
theorem dX0_hasPromise_47 : decode cX0_hasPromise 47 = .ok (.if_icmp .ne 14, 3) := dk_160 0 14 (dk_at dksX0_hasPromise_2 0 rfl rfl)
theorem dX0_hasPromise_50 : decode cX0_hasPromise 50 = .ok (.aload 4, 2) := dk_25 4 (dk_at dksX0_hasPromise_2 3 rfl rfl)
theorem dX0_hasPromise_52 : decode cX0_hasPromise 52 = .ok (.getfield 207, 3) := dk_180 0 207 (dk_at dksX0_hasPromise_2 5 rfl rfl)
theorem dX0_hasPromise_55 : decode cX0_hasPromise 55 = .ok (.iload_n 2, 1) := dk_28 (dk_at dksX0_hasPromise_2 8 rfl rfl)
theorem dX0_hasPromise_56 : decode cX0_hasPromise 56 = .ok (.if_icmp .ne 5, 3) := dk_160 0 5 (dk_at dksX0_hasPromise_2 9 rfl rfl)
theorem dX0_hasPromise_59 : decode cX0_hasPromise 59 = .ok (.iconst 1, 1) := dk_4 (dk_at dksX0_hasPromise_2 12 rfl rfl)
theorem dX0_hasPromise_60 : decode cX0_hasPromise 60 = .ok (.ireturn, 1) := dk_172 (dk_at dksX0_hasPromise_2 13 rfl rfl)
theorem dX0_hasPromise_61 : decode cX0_hasPromise 61 = .ok (.goto (-48), 3) := dk_167 255 208 (dk_at dksX0_hasPromise_2 14 rfl rfl)
theorem dX0_hasPromise_64 : decode cX0_hasPromise 64 = .ok (.iconst 0, 1) := dk_3 (dk_at dksX0_hasPromise_2 17 rfl rfl)
theorem dX0_hasPromise_65 : decode cX0_hasPromise 65 = .ok (.ireturn, 1) := dk_172 (dk_at dksX0_hasPromise_2 18 rfl rfl)
abbrev cX0_pass : ByteArray := prog_1_method_23_code
def yX0_pass : MethodName := ⟨RX0, "pass", "(I)I"⟩
def dkwX0_pass_4 : List UInt8 := [180, 0, 10, 180, 0, 218, 29, 100, 172]
abbrev dktX0_pass_4 : List UInt8 := dkwX0_pass_4 ++ []
def dkwX0_pass_3 : List UInt8 := [54, 4, 21, 4, 27, 162, 0, 16, 42, 180, 0, 10, 182, 0, 221, 132, 4, 1, 167, 255, 240, 42]
abbrev dktX0_pass_3 : List UInt8 := dkwX0_pass_3 ++ dktX0_pass_4
def dkwX0_pass_2 : List UInt8 := [79, 184, 0, 76, 61, 28, 156, 0, 5, 28, 172, 42, 182, 0, 63, 42, 180, 0, 10, 180, 0, 218, 62, 3]
abbrev dktX0_pass_2 : List UInt8 := dkwX0_pass_2 ++ dktX0_pass_3
def dkwX0_pass_1 : List UInt8 := [180, 0, 55, 133, 27, 133, 97, 20, 0, 216, 148, 157, 0, 7, 4, 167, 0, 4, 3, 16, 251, 184, 0, 69]
abbrev dktX0_pass_1 : List UInt8 := dkwX0_pass_1 ++ dktX0_pass_2
def dkwX0_pass_0 : List UInt8 := [5, 188, 10, 89, 3, 27, 4, 16, 30, 184, 0, 51, 16, 254, 184, 0, 69, 79, 89, 4, 42, 180, 0, 10]
abbrev dktX0_pass_0 : List UInt8 := dkwX0_pass_0 ++ dktX0_pass_1
theorem dksX0_pass_0 : cX0_pass.data.toList.drop 0 = dktX0_pass_0 := by decide +kernel
theorem dksX0_pass_1 : cX0_pass.data.toList.drop 24 = dktX0_pass_1 := dk_seg dksX0_pass_0 24 rfl rfl
theorem dksX0_pass_2 : cX0_pass.data.toList.drop 48 = dktX0_pass_2 := dk_seg dksX0_pass_1 24 rfl rfl
theorem dksX0_pass_3 : cX0_pass.data.toList.drop 72 = dktX0_pass_3 := dk_seg dksX0_pass_2 24 rfl rfl
theorem dksX0_pass_4 : cX0_pass.data.toList.drop 94 = dktX0_pass_4 := dk_seg dksX0_pass_3 22 rfl rfl
theorem dX0_pass_0 : decode cX0_pass 0 = .ok (.iconst 2, 1) := dk_5 (dk_at dksX0_pass_0 0 rfl rfl)
theorem dX0_pass_1 : decode cX0_pass 1 = .ok (.newarray .int, 2) := dk_188_10 (dk_at dksX0_pass_0 1 rfl rfl)
theorem dX0_pass_3 : decode cX0_pass 3 = .ok (.dup, 1) := dk_89 (dk_at dksX0_pass_0 3 rfl rfl)
theorem dX0_pass_4 : decode cX0_pass 4 = .ok (.iconst 0, 1) := dk_3 (dk_at dksX0_pass_0 4 rfl rfl)
theorem dX0_pass_5 : decode cX0_pass 5 = .ok (.iload_n 1, 1) := dk_27 (dk_at dksX0_pass_0 5 rfl rfl)
theorem dX0_pass_6 : decode cX0_pass 6 = .ok (.iconst 1, 1) := dk_4 (dk_at dksX0_pass_0 6 rfl rfl)
theorem dX0_pass_7 : decode cX0_pass 7 = .ok (.bipush 30, 2) := dk_16 30 (dk_at dksX0_pass_0 7 rfl rfl)
theorem dX0_pass_9 : decode cX0_pass 9 = .ok (.invokestatic 51, 3) := dk_184 0 51 (dk_at dksX0_pass_0 9 rfl rfl)
theorem dX0_pass_12 : decode cX0_pass 12 = .ok (.bipush (-2), 2) := dk_16 254 (dk_at dksX0_pass_0 12 rfl rfl)
theorem dX0_pass_14 : decode cX0_pass 14 = .ok (.invokestatic 69, 3) := dk_184 0 69 (dk_at dksX0_pass_0 14 rfl rfl)
theorem dX0_pass_17 : decode cX0_pass 17 = .ok (.iastore, 1) := dk_79 (dk_at dksX0_pass_0 17 rfl rfl)
theorem dX0_pass_18 : decode cX0_pass 18 = .ok (.dup, 1) := dk_89 (dk_at dksX0_pass_0 18 rfl rfl)
theorem dX0_pass_19 : decode cX0_pass 19 = .ok (.iconst 1, 1) := dk_4 (dk_at dksX0_pass_0 19 rfl rfl)
theorem dX0_pass_20 : decode cX0_pass 20 = .ok (.aload_n 0, 1) := dk_42 (dk_at dksX0_pass_0 20 rfl rfl)
theorem dX0_pass_21 : decode cX0_pass 21 = .ok (.getfield 10, 3) := dk_180 0 10 (dk_at dksX0_pass_0 21 rfl rfl)
theorem dX0_pass_24 : decode cX0_pass 24 = .ok (.getfield 55, 3) := dk_180 0 55 (dk_at dksX0_pass_1 0 rfl rfl)
theorem dX0_pass_27 : decode cX0_pass 27 = .ok (.i2l, 1) := dk_133 (dk_at dksX0_pass_1 3 rfl rfl)
theorem dX0_pass_28 : decode cX0_pass 28 = .ok (.iload_n 1, 1) := dk_27 (dk_at dksX0_pass_1 4 rfl rfl)
theorem dX0_pass_29 : decode cX0_pass 29 = .ok (.i2l, 1) := dk_133 (dk_at dksX0_pass_1 5 rfl rfl)
theorem dX0_pass_30 : decode cX0_pass 30 = .ok (.ladd, 1) := dk_97 (dk_at dksX0_pass_1 6 rfl rfl)
theorem dX0_pass_31 : decode cX0_pass 31 = .ok (.ldc2_w 216, 3) := dk_20 0 216 (dk_at dksX0_pass_1 7 rfl rfl)
theorem dX0_pass_34 : decode cX0_pass 34 = .ok (.lcmp, 1) := dk_148 (dk_at dksX0_pass_1 10 rfl rfl)
theorem dX0_pass_35 : decode cX0_pass 35 = .ok (.ifCond .gt 7, 3) := dk_157 0 7 (dk_at dksX0_pass_1 11 rfl rfl)
theorem dX0_pass_38 : decode cX0_pass 38 = .ok (.iconst 1, 1) := dk_4 (dk_at dksX0_pass_1 14 rfl rfl)
theorem dX0_pass_39 : decode cX0_pass 39 = .ok (.goto 4, 3) := dk_167 0 4 (dk_at dksX0_pass_1 15 rfl rfl)
theorem dX0_pass_42 : decode cX0_pass 42 = .ok (.iconst 0, 1) := dk_3 (dk_at dksX0_pass_1 18 rfl rfl)
theorem dX0_pass_43 : decode cX0_pass 43 = .ok (.bipush (-5), 2) := dk_16 251 (dk_at dksX0_pass_1 19 rfl rfl)
theorem dX0_pass_45 : decode cX0_pass 45 = .ok (.invokestatic 69, 3) := dk_184 0 69 (dk_at dksX0_pass_1 21 rfl rfl)
theorem dX0_pass_48 : decode cX0_pass 48 = .ok (.iastore, 1) := dk_79 (dk_at dksX0_pass_2 0 rfl rfl)
theorem dX0_pass_49 : decode cX0_pass 49 = .ok (.invokestatic 76, 3) := dk_184 0 76 (dk_at dksX0_pass_2 1 rfl rfl)
theorem dX0_pass_52 : decode cX0_pass 52 = .ok (.istore_n 2, 1) := dk_61 (dk_at dksX0_pass_2 4 rfl rfl)
theorem dX0_pass_53 : decode cX0_pass 53 = .ok (.iload_n 2, 1) := dk_28 (dk_at dksX0_pass_2 5 rfl rfl)
theorem dX0_pass_54 : decode cX0_pass 54 = .ok (.ifCond .ge 5, 3) := dk_156 0 5 (dk_at dksX0_pass_2 6 rfl rfl)
theorem dX0_pass_57 : decode cX0_pass 57 = .ok (.iload_n 2, 1) := dk_28 (dk_at dksX0_pass_2 9 rfl rfl)
theorem dX0_pass_58 : decode cX0_pass 58 = .ok (.ireturn, 1) := dk_172 (dk_at dksX0_pass_2 10 rfl rfl)
theorem dX0_pass_59 : decode cX0_pass 59 = .ok (.aload_n 0, 1) := dk_42 (dk_at dksX0_pass_2 11 rfl rfl)
theorem dX0_pass_60 : decode cX0_pass 60 = .ok (.invokevirtual 63, 3) := dk_182 0 63 (dk_at dksX0_pass_2 12 rfl rfl)
theorem dX0_pass_63 : decode cX0_pass 63 = .ok (.aload_n 0, 1) := dk_42 (dk_at dksX0_pass_2 15 rfl rfl)
theorem dX0_pass_64 : decode cX0_pass 64 = .ok (.getfield 10, 3) := dk_180 0 10 (dk_at dksX0_pass_2 16 rfl rfl)
theorem dX0_pass_67 : decode cX0_pass 67 = .ok (.getfield 218, 3) := dk_180 0 218 (dk_at dksX0_pass_2 19 rfl rfl)
theorem dX0_pass_70 : decode cX0_pass 70 = .ok (.istore_n 3, 1) := dk_62 (dk_at dksX0_pass_2 22 rfl rfl)
theorem dX0_pass_71 : decode cX0_pass 71 = .ok (.iconst 0, 1) := dk_3 (dk_at dksX0_pass_2 23 rfl rfl)
theorem dX0_pass_72 : decode cX0_pass 72 = .ok (.istore 4, 2) := dk_54 4 (dk_at dksX0_pass_3 0 rfl rfl)
theorem dX0_pass_74 : decode cX0_pass 74 = .ok (.iload 4, 2) := dk_21 4 (dk_at dksX0_pass_3 2 rfl rfl)
theorem dX0_pass_76 : decode cX0_pass 76 = .ok (.iload_n 1, 1) := dk_27 (dk_at dksX0_pass_3 4 rfl rfl)
theorem dX0_pass_77 : decode cX0_pass 77 = .ok (.if_icmp .ge 16, 3) := dk_162 0 16 (dk_at dksX0_pass_3 5 rfl rfl)
theorem dX0_pass_80 : decode cX0_pass 80 = .ok (.aload_n 0, 1) := dk_42 (dk_at dksX0_pass_3 8 rfl rfl)
theorem dX0_pass_81 : decode cX0_pass 81 = .ok (.getfield 10, 3) := dk_180 0 10 (dk_at dksX0_pass_3 9 rfl rfl)
theorem dX0_pass_84 : decode cX0_pass 84 = .ok (.invokevirtual 221, 3) := dk_182 0 221 (dk_at dksX0_pass_3 12 rfl rfl)
theorem dX0_pass_87 : decode cX0_pass 87 = .ok (.iinc 4 1, 3) := dk_132 4 1 (dk_at dksX0_pass_3 15 rfl rfl)
theorem dX0_pass_90 : decode cX0_pass 90 = .ok (.goto (-16), 3) := dk_167 255 240 (dk_at dksX0_pass_3 18 rfl rfl)
theorem dX0_pass_93 : decode cX0_pass 93 = .ok (.aload_n 0, 1) := dk_42 (dk_at dksX0_pass_3 21 rfl rfl)
theorem dX0_pass_94 : decode cX0_pass 94 = .ok (.getfield 10, 3) := dk_180 0 10 (dk_at dksX0_pass_4 0 rfl rfl)
theorem dX0_pass_97 : decode cX0_pass 97 = .ok (.getfield 218, 3) := dk_180 0 218 (dk_at dksX0_pass_4 3 rfl rfl)
theorem dX0_pass_100 : decode cX0_pass 100 = .ok (.iload_n 3, 1) := dk_29 (dk_at dksX0_pass_4 6 rfl rfl)
theorem dX0_pass_101 : decode cX0_pass 101 = .ok (.isub, 1) := dk_100 (dk_at dksX0_pass_4 7 rfl rfl)
theorem dX0_pass_102 : decode cX0_pass 102 = .ok (.ireturn, 1) := dk_172 (dk_at dksX0_pass_4 8 rfl rfl)
abbrev cX0_ofKind : ByteArray := prog_1_method_24_code
def yX0_ofKind : MethodName := ⟨RX0, "ofKind", "(II)I"⟩
def dkwX0_ofKind_4 : List UInt8 := [172, 42, 180, 0, 10, 27, 4, 182, 0, 230, 172, 16, 254, 172]
abbrev dktX0_ofKind_4 : List UInt8 := dkwX0_ofKind_4 ++ []
def dkwX0_ofKind_3 : List UInt8 := [45, 180, 0, 224, 172, 45, 180, 0, 227, 172, 45, 180, 0, 92, 172, 42, 180, 0, 10, 27, 3, 182, 0, 230]
abbrev dktX0_ofKind_3 : List UInt8 := dkwX0_ofKind_3 ++ dktX0_ofKind_4
def dkwX0_ofKind_2 : List UInt8 := [170, 0, 0, 0, 0, 69, 0, 0, 0, 0, 0, 0, 0, 4, 0, 0, 0, 34, 0, 0, 0, 39, 0, 0, 0, 44, 0, 0, 0, 49, 0, 0, 0, 59]
abbrev dktX0_ofKind_2 : List UInt8 := dkwX0_ofKind_2 ++ dktX0_ofKind_3
def dkwX0_ofKind_1 : List UInt8 := [185, 0, 89, 2, 0, 192, 0, 80, 78, 28]
abbrev dktX0_ofKind_1 : List UInt8 := dkwX0_ofKind_1 ++ dktX0_ofKind_2
def dkwX0_ofKind_0 : List UInt8 := [27, 42, 180, 0, 10, 180, 0, 73, 184, 0, 85, 154, 0, 5, 2, 172, 42, 180, 0, 10, 180, 0, 73, 27]
abbrev dktX0_ofKind_0 : List UInt8 := dkwX0_ofKind_0 ++ dktX0_ofKind_1
theorem dksX0_ofKind_0 : cX0_ofKind.data.toList.drop 0 = dktX0_ofKind_0 := by decide +kernel
theorem dksX0_ofKind_1 : cX0_ofKind.data.toList.drop 24 = dktX0_ofKind_1 := dk_seg dksX0_ofKind_0 24 rfl rfl
theorem dksX0_ofKind_2 : cX0_ofKind.data.toList.drop 34 = dktX0_ofKind_2 := dk_seg dksX0_ofKind_1 10 rfl rfl
theorem dksX0_ofKind_3 : cX0_ofKind.data.toList.drop 68 = dktX0_ofKind_3 := dk_seg dksX0_ofKind_2 34 rfl rfl
theorem dksX0_ofKind_4 : cX0_ofKind.data.toList.drop 92 = dktX0_ofKind_4 := dk_seg dksX0_ofKind_3 24 rfl rfl
theorem dX0_ofKind_0 : decode cX0_ofKind 0 = .ok (.iload_n 1, 1) := dk_27 (dk_at dksX0_ofKind_0 0 rfl rfl)
theorem dX0_ofKind_1 : decode cX0_ofKind 1 = .ok (.aload_n 0, 1) := dk_42 (dk_at dksX0_ofKind_0 1 rfl rfl)
theorem dX0_ofKind_2 : decode cX0_ofKind 2 = .ok (.getfield 10, 3) := dk_180 0 10 (dk_at dksX0_ofKind_0 2 rfl rfl)
theorem dX0_ofKind_5 : decode cX0_ofKind 5 = .ok (.getfield 73, 3) := dk_180 0 73 (dk_at dksX0_ofKind_0 5 rfl rfl)
theorem dX0_ofKind_8 : decode cX0_ofKind 8 = .ok (.invokestatic 85, 3) := dk_184 0 85 (dk_at dksX0_ofKind_0 8 rfl rfl)
theorem dX0_ofKind_11 : decode cX0_ofKind 11 = .ok (.ifCond .ne 5, 3) := dk_154 0 5 (dk_at dksX0_ofKind_0 11 rfl rfl)
theorem dX0_ofKind_14 : decode cX0_ofKind 14 = .ok (.iconst (-1), 1) := dk_2 (dk_at dksX0_ofKind_0 14 rfl rfl)
theorem dX0_ofKind_15 : decode cX0_ofKind 15 = .ok (.ireturn, 1) := dk_172 (dk_at dksX0_ofKind_0 15 rfl rfl)
theorem dX0_ofKind_16 : decode cX0_ofKind 16 = .ok (.aload_n 0, 1) := dk_42 (dk_at dksX0_ofKind_0 16 rfl rfl)
theorem dX0_ofKind_17 : decode cX0_ofKind 17 = .ok (.getfield 10, 3) := dk_180 0 10 (dk_at dksX0_ofKind_0 17 rfl rfl)
theorem dX0_ofKind_20 : decode cX0_ofKind 20 = .ok (.getfield 73, 3) := dk_180 0 73 (dk_at dksX0_ofKind_0 20 rfl rfl)
theorem dX0_ofKind_23 : decode cX0_ofKind 23 = .ok (.iload_n 1, 1) := dk_27 (dk_at dksX0_ofKind_0 23 rfl rfl)
theorem dX0_ofKind_24 : decode cX0_ofKind 24 = .ok (.invokeinterface 89 2, 5) := by decide +kernel
theorem dX0_ofKind_29 : decode cX0_ofKind 29 = .ok (.checkcast 80, 3) := dk_192 0 80 (dk_at dksX0_ofKind_1 5 rfl rfl)
theorem dX0_ofKind_32 : decode cX0_ofKind 32 = .ok (.astore_n 3, 1) := dk_78 (dk_at dksX0_ofKind_1 8 rfl rfl)
theorem dX0_ofKind_33 : decode cX0_ofKind 33 = .ok (.iload_n 2, 1) := dk_28 (dk_at dksX0_ofKind_1 9 rfl rfl)
theorem dX0_ofKind_34 : decode cX0_ofKind 34 = .ok (.tableswitch 69 0 4 #[34, 39, 44, 49, 59], 34) := by decide +kernel
theorem dX0_ofKind_68 : decode cX0_ofKind 68 = .ok (.aload_n 3, 1) := dk_45 (dk_at dksX0_ofKind_3 0 rfl rfl)
theorem dX0_ofKind_69 : decode cX0_ofKind 69 = .ok (.getfield 224, 3) := dk_180 0 224 (dk_at dksX0_ofKind_3 1 rfl rfl)
theorem dX0_ofKind_72 : decode cX0_ofKind 72 = .ok (.ireturn, 1) := dk_172 (dk_at dksX0_ofKind_3 4 rfl rfl)
theorem dX0_ofKind_73 : decode cX0_ofKind 73 = .ok (.aload_n 3, 1) := dk_45 (dk_at dksX0_ofKind_3 5 rfl rfl)
theorem dX0_ofKind_74 : decode cX0_ofKind 74 = .ok (.getfield 227, 3) := dk_180 0 227 (dk_at dksX0_ofKind_3 6 rfl rfl)
theorem dX0_ofKind_77 : decode cX0_ofKind 77 = .ok (.ireturn, 1) := dk_172 (dk_at dksX0_ofKind_3 9 rfl rfl)
theorem dX0_ofKind_78 : decode cX0_ofKind 78 = .ok (.aload_n 3, 1) := dk_45 (dk_at dksX0_ofKind_3 10 rfl rfl)
theorem dX0_ofKind_79 : decode cX0_ofKind 79 = .ok (.getfield 92, 3) := dk_180 0 92 (dk_at dksX0_ofKind_3 11 rfl rfl)
theorem dX0_ofKind_82 : decode cX0_ofKind 82 = .ok (.ireturn, 1) := dk_172 (dk_at dksX0_ofKind_3 14 rfl rfl)
theorem dX0_ofKind_83 : decode cX0_ofKind 83 = .ok (.aload_n 0, 1) := dk_42 (dk_at dksX0_ofKind_3 15 rfl rfl)
theorem dX0_ofKind_84 : decode cX0_ofKind 84 = .ok (.getfield 10, 3) := dk_180 0 10 (dk_at dksX0_ofKind_3 16 rfl rfl)
theorem dX0_ofKind_87 : decode cX0_ofKind 87 = .ok (.iload_n 1, 1) := dk_27 (dk_at dksX0_ofKind_3 19 rfl rfl)
theorem dX0_ofKind_88 : decode cX0_ofKind 88 = .ok (.iconst 0, 1) := dk_3 (dk_at dksX0_ofKind_3 20 rfl rfl)
theorem dX0_ofKind_89 : decode cX0_ofKind 89 = .ok (.invokevirtual 230, 3) := dk_182 0 230 (dk_at dksX0_ofKind_3 21 rfl rfl)
theorem dX0_ofKind_92 : decode cX0_ofKind 92 = .ok (.ireturn, 1) := dk_172 (dk_at dksX0_ofKind_4 0 rfl rfl)
theorem dX0_ofKind_93 : decode cX0_ofKind 93 = .ok (.aload_n 0, 1) := dk_42 (dk_at dksX0_ofKind_4 1 rfl rfl)
theorem dX0_ofKind_94 : decode cX0_ofKind 94 = .ok (.getfield 10, 3) := dk_180 0 10 (dk_at dksX0_ofKind_4 2 rfl rfl)
theorem dX0_ofKind_97 : decode cX0_ofKind 97 = .ok (.iload_n 1, 1) := dk_27 (dk_at dksX0_ofKind_4 5 rfl rfl)
theorem dX0_ofKind_98 : decode cX0_ofKind 98 = .ok (.iconst 1, 1) := dk_4 (dk_at dksX0_ofKind_4 6 rfl rfl)
theorem dX0_ofKind_99 : decode cX0_ofKind 99 = .ok (.invokevirtual 230, 3) := dk_182 0 230 (dk_at dksX0_ofKind_4 7 rfl rfl)
theorem dX0_ofKind_102 : decode cX0_ofKind 102 = .ok (.ireturn, 1) := dk_172 (dk_at dksX0_ofKind_4 10 rfl rfl)
theorem dX0_ofKind_103 : decode cX0_ofKind 103 = .ok (.bipush (-2), 2) := dk_16 254 (dk_at dksX0_ofKind_4 11 rfl rfl)
theorem dX0_ofKind_105 : decode cX0_ofKind 105 = .ok (.ireturn, 1) := dk_172 (dk_at dksX0_ofKind_4 13 rfl rfl)
abbrev cX0_ofLamp : ByteArray := prog_1_method_25_code
def yX0_ofLamp : MethodName := ⟨RX0, "ofLamp", "(II)I"⟩
def dkwX0_ofLamp_4 : List UInt8 := [27, 182, 0, 242, 172, 16, 254, 172]
abbrev dktX0_ofLamp_4 : List UInt8 := dkwX0_ofLamp_4 ++ []
def dkwX0_ofLamp_3 : List UInt8 := [45, 180, 0, 233, 172, 45, 180, 0, 236, 172, 45, 180, 0, 103, 172, 45, 182, 0, 239, 172, 42, 180, 0, 10]
abbrev dktX0_ofLamp_3 : List UInt8 := dkwX0_ofLamp_3 ++ dktX0_ofLamp_4
def dkwX0_ofLamp_2 : List UInt8 := [170, 0, 0, 0, 0, 63, 0, 0, 0, 0, 0, 0, 0, 4, 0, 0, 0, 34, 0, 0, 0, 39, 0, 0, 0, 44, 0, 0, 0, 49, 0, 0, 0, 54]
abbrev dktX0_ofLamp_2 : List UInt8 := dkwX0_ofLamp_2 ++ dktX0_ofLamp_3
def dkwX0_ofLamp_1 : List UInt8 := [185, 0, 89, 2, 0, 192, 0, 98, 78, 28]
abbrev dktX0_ofLamp_1 : List UInt8 := dkwX0_ofLamp_1 ++ dktX0_ofLamp_2
def dkwX0_ofLamp_0 : List UInt8 := [27, 42, 180, 0, 10, 180, 0, 95, 184, 0, 85, 154, 0, 5, 2, 172, 42, 180, 0, 10, 180, 0, 95, 27]
abbrev dktX0_ofLamp_0 : List UInt8 := dkwX0_ofLamp_0 ++ dktX0_ofLamp_1
theorem dksX0_ofLamp_0 : cX0_ofLamp.data.toList.drop 0 = dktX0_ofLamp_0 := by decide +kernel
theorem dksX0_ofLamp_1 : cX0_ofLamp.data.toList.drop 24 = dktX0_ofLamp_1 := dk_seg dksX0_ofLamp_0 24 rfl rfl
theorem dksX0_ofLamp_2 : cX0_ofLamp.data.toList.drop 34 = dktX0_ofLamp_2 := dk_seg dksX0_ofLamp_1 10 rfl rfl
theorem dksX0_ofLamp_3 : cX0_ofLamp.data.toList.drop 68 = dktX0_ofLamp_3 := dk_seg dksX0_ofLamp_2 34 rfl rfl
theorem dksX0_ofLamp_4 : cX0_ofLamp.data.toList.drop 92 = dktX0_ofLamp_4 := dk_seg dksX0_ofLamp_3 24 rfl rfl
theorem dX0_ofLamp_0 : decode cX0_ofLamp 0 = .ok (.iload_n 1, 1) := dk_27 (dk_at dksX0_ofLamp_0 0 rfl rfl)
theorem dX0_ofLamp_1 : decode cX0_ofLamp 1 = .ok (.aload_n 0, 1) := dk_42 (dk_at dksX0_ofLamp_0 1 rfl rfl)
theorem dX0_ofLamp_2 : decode cX0_ofLamp 2 = .ok (.getfield 10, 3) := dk_180 0 10 (dk_at dksX0_ofLamp_0 2 rfl rfl)
theorem dX0_ofLamp_5 : decode cX0_ofLamp 5 = .ok (.getfield 95, 3) := dk_180 0 95 (dk_at dksX0_ofLamp_0 5 rfl rfl)
theorem dX0_ofLamp_8 : decode cX0_ofLamp 8 = .ok (.invokestatic 85, 3) := dk_184 0 85 (dk_at dksX0_ofLamp_0 8 rfl rfl)
theorem dX0_ofLamp_11 : decode cX0_ofLamp 11 = .ok (.ifCond .ne 5, 3) := dk_154 0 5 (dk_at dksX0_ofLamp_0 11 rfl rfl)
theorem dX0_ofLamp_14 : decode cX0_ofLamp 14 = .ok (.iconst (-1), 1) := dk_2 (dk_at dksX0_ofLamp_0 14 rfl rfl)
theorem dX0_ofLamp_15 : decode cX0_ofLamp 15 = .ok (.ireturn, 1) := dk_172 (dk_at dksX0_ofLamp_0 15 rfl rfl)
theorem dX0_ofLamp_16 : decode cX0_ofLamp 16 = .ok (.aload_n 0, 1) := dk_42 (dk_at dksX0_ofLamp_0 16 rfl rfl)
theorem dX0_ofLamp_17 : decode cX0_ofLamp 17 = .ok (.getfield 10, 3) := dk_180 0 10 (dk_at dksX0_ofLamp_0 17 rfl rfl)
theorem dX0_ofLamp_20 : decode cX0_ofLamp 20 = .ok (.getfield 95, 3) := dk_180 0 95 (dk_at dksX0_ofLamp_0 20 rfl rfl)
theorem dX0_ofLamp_23 : decode cX0_ofLamp 23 = .ok (.iload_n 1, 1) := dk_27 (dk_at dksX0_ofLamp_0 23 rfl rfl)
theorem dX0_ofLamp_24 : decode cX0_ofLamp 24 = .ok (.invokeinterface 89 2, 5) := by decide +kernel
theorem dX0_ofLamp_29 : decode cX0_ofLamp 29 = .ok (.checkcast 98, 3) := dk_192 0 98 (dk_at dksX0_ofLamp_1 5 rfl rfl)
theorem dX0_ofLamp_32 : decode cX0_ofLamp 32 = .ok (.astore_n 3, 1) := dk_78 (dk_at dksX0_ofLamp_1 8 rfl rfl)
theorem dX0_ofLamp_33 : decode cX0_ofLamp 33 = .ok (.iload_n 2, 1) := dk_28 (dk_at dksX0_ofLamp_1 9 rfl rfl)
theorem dX0_ofLamp_34 : decode cX0_ofLamp 34 = .ok (.tableswitch 63 0 4 #[34, 39, 44, 49, 54], 34) := by decide +kernel
theorem dX0_ofLamp_68 : decode cX0_ofLamp 68 = .ok (.aload_n 3, 1) := dk_45 (dk_at dksX0_ofLamp_3 0 rfl rfl)
theorem dX0_ofLamp_69 : decode cX0_ofLamp 69 = .ok (.getfield 233, 3) := dk_180 0 233 (dk_at dksX0_ofLamp_3 1 rfl rfl)
theorem dX0_ofLamp_72 : decode cX0_ofLamp 72 = .ok (.ireturn, 1) := dk_172 (dk_at dksX0_ofLamp_3 4 rfl rfl)
theorem dX0_ofLamp_73 : decode cX0_ofLamp 73 = .ok (.aload_n 3, 1) := dk_45 (dk_at dksX0_ofLamp_3 5 rfl rfl)
theorem dX0_ofLamp_74 : decode cX0_ofLamp 74 = .ok (.getfield 236, 3) := dk_180 0 236 (dk_at dksX0_ofLamp_3 6 rfl rfl)
theorem dX0_ofLamp_77 : decode cX0_ofLamp 77 = .ok (.ireturn, 1) := dk_172 (dk_at dksX0_ofLamp_3 9 rfl rfl)
theorem dX0_ofLamp_78 : decode cX0_ofLamp 78 = .ok (.aload_n 3, 1) := dk_45 (dk_at dksX0_ofLamp_3 10 rfl rfl)
theorem dX0_ofLamp_79 : decode cX0_ofLamp 79 = .ok (.getfield 103, 3) := dk_180 0 103 (dk_at dksX0_ofLamp_3 11 rfl rfl)
theorem dX0_ofLamp_82 : decode cX0_ofLamp 82 = .ok (.ireturn, 1) := dk_172 (dk_at dksX0_ofLamp_3 14 rfl rfl)
theorem dX0_ofLamp_83 : decode cX0_ofLamp 83 = .ok (.aload_n 3, 1) := dk_45 (dk_at dksX0_ofLamp_3 15 rfl rfl)
theorem dX0_ofLamp_84 : decode cX0_ofLamp 84 = .ok (.invokevirtual 239, 3) := dk_182 0 239 (dk_at dksX0_ofLamp_3 16 rfl rfl)
theorem dX0_ofLamp_87 : decode cX0_ofLamp 87 = .ok (.ireturn, 1) := dk_172 (dk_at dksX0_ofLamp_3 19 rfl rfl)
theorem dX0_ofLamp_88 : decode cX0_ofLamp 88 = .ok (.aload_n 0, 1) := dk_42 (dk_at dksX0_ofLamp_3 20 rfl rfl)
theorem dX0_ofLamp_89 : decode cX0_ofLamp 89 = .ok (.getfield 10, 3) := dk_180 0 10 (dk_at dksX0_ofLamp_3 21 rfl rfl)
theorem dX0_ofLamp_92 : decode cX0_ofLamp 92 = .ok (.iload_n 1, 1) := dk_27 (dk_at dksX0_ofLamp_4 0 rfl rfl)
theorem dX0_ofLamp_93 : decode cX0_ofLamp 93 = .ok (.invokevirtual 242, 3) := dk_182 0 242 (dk_at dksX0_ofLamp_4 1 rfl rfl)
theorem dX0_ofLamp_96 : decode cX0_ofLamp 96 = .ok (.ireturn, 1) := dk_172 (dk_at dksX0_ofLamp_4 4 rfl rfl)
theorem dX0_ofLamp_97 : decode cX0_ofLamp 97 = .ok (.bipush (-2), 2) := dk_16 254 (dk_at dksX0_ofLamp_4 5 rfl rfl)
theorem dX0_ofLamp_99 : decode cX0_ofLamp 99 = .ok (.ireturn, 1) := dk_172 (dk_at dksX0_ofLamp_4 7 rfl rfl)
abbrev cX0_show : ByteArray := prog_1_method_26_code
def yX0_show : MethodName := ⟨RX0, "show", "(II)I"⟩
def dkwX0_show_6 : List UInt8 := [172]
abbrev dktX0_show_6 : List UInt8 := dkwX0_show_6 ++ []
def dkwX0_show_5 : List UInt8 := [180, 0, 10, 27, 182, 1, 7, 172, 42, 180, 0, 10, 27, 182, 1, 10, 172, 45, 180, 1, 13, 172, 16, 254]
abbrev dktX0_show_5 : List UInt8 := dkwX0_show_5 ++ dktX0_show_6
def dkwX0_show_4 : List UInt8 := [180, 0, 156, 172, 45, 180, 1, 1, 172, 45, 180, 1, 4, 172, 16, 96, 45, 182, 0, 159, 100, 172, 42]
abbrev dktX0_show_4 : List UInt8 := dkwX0_show_4 ++ dktX0_show_5
def dkwX0_show_3 : List UInt8 := [45, 180, 0, 246, 172, 45, 180, 0, 247, 180, 0, 251, 172, 45, 180, 0, 247, 180, 0, 254, 172, 45]
abbrev dktX0_show_3 : List UInt8 := dkwX0_show_3 ++ dktX0_show_4
def dkwX0_show_2 : List UInt8 := [170, 0, 0, 0, 0, 121, 0, 0, 0, 0, 0, 0, 0, 9, 0, 0, 0, 54, 0, 0, 0, 59, 0, 0, 0, 67, 0, 0, 0, 75, 0, 0, 0, 80, 0, 0, 0, 85, 0, 0, 0, 90, 0, 0, 0, 98, 0, 0, 0, 107, 0, 0, 0, 116]
abbrev dktX0_show_2 : List UInt8 := dkwX0_show_2 ++ dktX0_show_3
def dkwX0_show_1 : List UInt8 := [185, 0, 89, 2, 0, 192, 0, 154, 78, 28]
abbrev dktX0_show_1 : List UInt8 := dkwX0_show_1 ++ dktX0_show_2
def dkwX0_show_0 : List UInt8 := [27, 42, 180, 0, 10, 180, 0, 116, 184, 0, 85, 154, 0, 5, 2, 172, 42, 180, 0, 10, 180, 0, 116, 27]
abbrev dktX0_show_0 : List UInt8 := dkwX0_show_0 ++ dktX0_show_1
theorem dksX0_show_0 : cX0_show.data.toList.drop 0 = dktX0_show_0 := by decide +kernel
theorem dksX0_show_1 : cX0_show.data.toList.drop 24 = dktX0_show_1 := dk_seg dksX0_show_0 24 rfl rfl
theorem dksX0_show_2 : cX0_show.data.toList.drop 34 = dktX0_show_2 := dk_seg dksX0_show_1 10 rfl rfl
theorem dksX0_show_3 : cX0_show.data.toList.drop 88 = dktX0_show_3 := dk_seg dksX0_show_2 54 rfl rfl
theorem dksX0_show_4 : cX0_show.data.toList.drop 110 = dktX0_show_4 := dk_seg dksX0_show_3 22 rfl rfl
theorem dksX0_show_5 : cX0_show.data.toList.drop 133 = dktX0_show_5 := dk_seg dksX0_show_4 23 rfl rfl
theorem dksX0_show_6 : cX0_show.data.toList.drop 157 = dktX0_show_6 := dk_seg dksX0_show_5 24 rfl rfl
theorem dX0_show_0 : decode cX0_show 0 = .ok (.iload_n 1, 1) := dk_27 (dk_at dksX0_show_0 0 rfl rfl)
theorem dX0_show_1 : decode cX0_show 1 = .ok (.aload_n 0, 1) := dk_42 (dk_at dksX0_show_0 1 rfl rfl)
theorem dX0_show_2 : decode cX0_show 2 = .ok (.getfield 10, 3) := dk_180 0 10 (dk_at dksX0_show_0 2 rfl rfl)
theorem dX0_show_5 : decode cX0_show 5 = .ok (.getfield 116, 3) := dk_180 0 116 (dk_at dksX0_show_0 5 rfl rfl)
theorem dX0_show_8 : decode cX0_show 8 = .ok (.invokestatic 85, 3) := dk_184 0 85 (dk_at dksX0_show_0 8 rfl rfl)
theorem dX0_show_11 : decode cX0_show 11 = .ok (.ifCond .ne 5, 3) := dk_154 0 5 (dk_at dksX0_show_0 11 rfl rfl)
theorem dX0_show_14 : decode cX0_show 14 = .ok (.iconst (-1), 1) := dk_2 (dk_at dksX0_show_0 14 rfl rfl)
theorem dX0_show_15 : decode cX0_show 15 = .ok (.ireturn, 1) := dk_172 (dk_at dksX0_show_0 15 rfl rfl)
theorem dX0_show_16 : decode cX0_show 16 = .ok (.aload_n 0, 1) := dk_42 (dk_at dksX0_show_0 16 rfl rfl)
theorem dX0_show_17 : decode cX0_show 17 = .ok (.getfield 10, 3) := dk_180 0 10 (dk_at dksX0_show_0 17 rfl rfl)
theorem dX0_show_20 : decode cX0_show 20 = .ok (.getfield 116, 3) := dk_180 0 116 (dk_at dksX0_show_0 20 rfl rfl)
theorem dX0_show_23 : decode cX0_show 23 = .ok (.iload_n 1, 1) := dk_27 (dk_at dksX0_show_0 23 rfl rfl)
theorem dX0_show_24 : decode cX0_show 24 = .ok (.invokeinterface 89 2, 5) := by decide +kernel
theorem dX0_show_29 : decode cX0_show 29 = .ok (.checkcast 154, 3) := dk_192 0 154 (dk_at dksX0_show_1 5 rfl rfl)
theorem dX0_show_32 : decode cX0_show 32 = .ok (.astore_n 3, 1) := dk_78 (dk_at dksX0_show_1 8 rfl rfl)
theorem dX0_show_33 : decode cX0_show 33 = .ok (.iload_n 2, 1) := dk_28 (dk_at dksX0_show_1 9 rfl rfl)
theorem dX0_show_34 : decode cX0_show 34 = .ok (.tableswitch 121 0 9 #[54, 59, 67, 75, 80, 85, 90, 98, 107, 116], 54) := by decide +kernel
theorem dX0_show_88 : decode cX0_show 88 = .ok (.aload_n 3, 1) := dk_45 (dk_at dksX0_show_3 0 rfl rfl)
theorem dX0_show_89 : decode cX0_show 89 = .ok (.getfield 246, 3) := dk_180 0 246 (dk_at dksX0_show_3 1 rfl rfl)
theorem dX0_show_92 : decode cX0_show 92 = .ok (.ireturn, 1) := dk_172 (dk_at dksX0_show_3 4 rfl rfl)
theorem dX0_show_93 : decode cX0_show 93 = .ok (.aload_n 3, 1) := dk_45 (dk_at dksX0_show_3 5 rfl rfl)
theorem dX0_show_94 : decode cX0_show 94 = .ok (.getfield 247, 3) := dk_180 0 247 (dk_at dksX0_show_3 6 rfl rfl)
theorem dX0_show_97 : decode cX0_show 97 = .ok (.getfield 251, 3) := dk_180 0 251 (dk_at dksX0_show_3 9 rfl rfl)
theorem dX0_show_100 : decode cX0_show 100 = .ok (.ireturn, 1) := dk_172 (dk_at dksX0_show_3 12 rfl rfl)
theorem dX0_show_101 : decode cX0_show 101 = .ok (.aload_n 3, 1) := dk_45 (dk_at dksX0_show_3 13 rfl rfl)
theorem dX0_show_102 : decode cX0_show 102 = .ok (.getfield 247, 3) := dk_180 0 247 (dk_at dksX0_show_3 14 rfl rfl)
theorem dX0_show_105 : decode cX0_show 105 = .ok (.getfield 254, 3) := dk_180 0 254 (dk_at dksX0_show_3 17 rfl rfl)
theorem dX0_show_108 : decode cX0_show 108 = .ok (.ireturn, 1) := dk_172 (dk_at dksX0_show_3 20 rfl rfl)
theorem dX0_show_109 : decode cX0_show 109 = .ok (.aload_n 3, 1) := dk_45 (dk_at dksX0_show_3 21 rfl rfl)
theorem dX0_show_110 : decode cX0_show 110 = .ok (.getfield 156, 3) := dk_180 0 156 (dk_at dksX0_show_4 0 rfl rfl)
theorem dX0_show_113 : decode cX0_show 113 = .ok (.ireturn, 1) := dk_172 (dk_at dksX0_show_4 3 rfl rfl)
theorem dX0_show_114 : decode cX0_show 114 = .ok (.aload_n 3, 1) := dk_45 (dk_at dksX0_show_4 4 rfl rfl)
theorem dX0_show_115 : decode cX0_show 115 = .ok (.getfield 257, 3) := dk_180 1 1 (dk_at dksX0_show_4 5 rfl rfl)
theorem dX0_show_118 : decode cX0_show 118 = .ok (.ireturn, 1) := dk_172 (dk_at dksX0_show_4 8 rfl rfl)
theorem dX0_show_119 : decode cX0_show 119 = .ok (.aload_n 3, 1) := dk_45 (dk_at dksX0_show_4 9 rfl rfl)
theorem dX0_show_120 : decode cX0_show 120 = .ok (.getfield 260, 3) := dk_180 1 4 (dk_at dksX0_show_4 10 rfl rfl)
theorem dX0_show_123 : decode cX0_show 123 = .ok (.ireturn, 1) := dk_172 (dk_at dksX0_show_4 13 rfl rfl)
theorem dX0_show_124 : decode cX0_show 124 = .ok (.bipush 96, 2) := dk_16 96 (dk_at dksX0_show_4 14 rfl rfl)
theorem dX0_show_126 : decode cX0_show 126 = .ok (.aload_n 3, 1) := dk_45 (dk_at dksX0_show_4 16 rfl rfl)
theorem dX0_show_127 : decode cX0_show 127 = .ok (.invokevirtual 159, 3) := dk_182 0 159 (dk_at dksX0_show_4 17 rfl rfl)
theorem dX0_show_130 : decode cX0_show 130 = .ok (.isub, 1) := dk_100 (dk_at dksX0_show_4 20 rfl rfl)
theorem dX0_show_131 : decode cX0_show 131 = .ok (.ireturn, 1) := dk_172 (dk_at dksX0_show_4 21 rfl rfl)
theorem dX0_show_132 : decode cX0_show 132 = .ok (.aload_n 0, 1) := dk_42 (dk_at dksX0_show_4 22 rfl rfl)
theorem dX0_show_133 : decode cX0_show 133 = .ok (.getfield 10, 3) := dk_180 0 10 (dk_at dksX0_show_5 0 rfl rfl)
theorem dX0_show_136 : decode cX0_show 136 = .ok (.iload_n 1, 1) := dk_27 (dk_at dksX0_show_5 3 rfl rfl)
theorem dX0_show_137 : decode cX0_show 137 = .ok (.invokevirtual 263, 3) := dk_182 1 7 (dk_at dksX0_show_5 4 rfl rfl)
theorem dX0_show_140 : decode cX0_show 140 = .ok (.ireturn, 1) := dk_172 (dk_at dksX0_show_5 7 rfl rfl)
theorem dX0_show_141 : decode cX0_show 141 = .ok (.aload_n 0, 1) := dk_42 (dk_at dksX0_show_5 8 rfl rfl)
theorem dX0_show_142 : decode cX0_show 142 = .ok (.getfield 10, 3) := dk_180 0 10 (dk_at dksX0_show_5 9 rfl rfl)
theorem dX0_show_145 : decode cX0_show 145 = .ok (.iload_n 1, 1) := dk_27 (dk_at dksX0_show_5 12 rfl rfl)
theorem dX0_show_146 : decode cX0_show 146 = .ok (.invokevirtual 266, 3) := dk_182 1 10 (dk_at dksX0_show_5 13 rfl rfl)
theorem dX0_show_149 : decode cX0_show 149 = .ok (.ireturn, 1) := dk_172 (dk_at dksX0_show_5 16 rfl rfl)
theorem dX0_show_150 : decode cX0_show 150 = .ok (.aload_n 3, 1) := dk_45 (dk_at dksX0_show_5 17 rfl rfl)
theorem dX0_show_151 : decode cX0_show 151 = .ok (.getfield 269, 3) := dk_180 1 13 (dk_at dksX0_show_5 18 rfl rfl)
theorem dX0_show_154 : decode cX0_show 154 = .ok (.ireturn, 1) := dk_172 (dk_at dksX0_show_5 21 rfl rfl)
theorem dX0_show_155 : decode cX0_show 155 = .ok (.bipush (-2), 2) := dk_16 254 (dk_at dksX0_show_5 22 rfl rfl)
theorem dX0_show_157 : decode cX0_show 157 = .ok (.ireturn, 1) := dk_172 (dk_at dksX0_show_6 0 rfl rfl)
abbrev cX0_free : ByteArray := prog_1_method_27_code
def yX0_free : MethodName := ⟨RX0, "free", "(II)I"⟩
def dkwX0_free_2 : List UInt8 := [167, 0, 5, 16, 254, 172]
abbrev dktX0_free_2 : List UInt8 := dkwX0_free_2 ++ []
def dkwX0_free_1 : List UInt8 := [153, 0, 27, 42, 180, 0, 10, 180, 0, 116, 27, 185, 0, 89, 2, 0, 192, 0, 154, 180, 1, 16, 28, 46]
abbrev dktX0_free_1 : List UInt8 := dkwX0_free_1 ++ dktX0_free_2
def dkwX0_free_0 : List UInt8 := [27, 42, 180, 0, 10, 180, 0, 116, 184, 0, 85, 154, 0, 5, 2, 172, 28, 3, 16, 7, 184, 0, 51]
abbrev dktX0_free_0 : List UInt8 := dkwX0_free_0 ++ dktX0_free_1
theorem dksX0_free_0 : cX0_free.data.toList.drop 0 = dktX0_free_0 := by decide +kernel
theorem dksX0_free_1 : cX0_free.data.toList.drop 23 = dktX0_free_1 := dk_seg dksX0_free_0 23 rfl rfl
theorem dksX0_free_2 : cX0_free.data.toList.drop 47 = dktX0_free_2 := dk_seg dksX0_free_1 24 rfl rfl
theorem dX0_free_0 : decode cX0_free 0 = .ok (.iload_n 1, 1) := dk_27 (dk_at dksX0_free_0 0 rfl rfl)
theorem dX0_free_1 : decode cX0_free 1 = .ok (.aload_n 0, 1) := dk_42 (dk_at dksX0_free_0 1 rfl rfl)
theorem dX0_free_2 : decode cX0_free 2 = .ok (.getfield 10, 3) := dk_180 0 10 (dk_at dksX0_free_0 2 rfl rfl)
theorem dX0_free_5 : decode cX0_free 5 = .ok (.getfield 116, 3) := dk_180 0 116 (dk_at dksX0_free_0 5 rfl rfl)
theorem dX0_free_8 : decode cX0_free 8 = .ok (.invokestatic 85, 3) := dk_184 0 85 (dk_at dksX0_free_0 8 rfl rfl)
theorem dX0_free_11 : decode cX0_free 11 = .ok (.ifCond .ne 5, 3) := dk_154 0 5 (dk_at dksX0_free_0 11 rfl rfl)
theorem dX0_free_14 : decode cX0_free 14 = .ok (.iconst (-1), 1) := dk_2 (dk_at dksX0_free_0 14 rfl rfl)
theorem dX0_free_15 : decode cX0_free 15 = .ok (.ireturn, 1) := dk_172 (dk_at dksX0_free_0 15 rfl rfl)
theorem dX0_free_16 : decode cX0_free 16 = .ok (.iload_n 2, 1) := dk_28 (dk_at dksX0_free_0 16 rfl rfl)
theorem dX0_free_17 : decode cX0_free 17 = .ok (.iconst 0, 1) := dk_3 (dk_at dksX0_free_0 17 rfl rfl)
theorem dX0_free_18 : decode cX0_free 18 = .ok (.bipush 7, 2) := dk_16 7 (dk_at dksX0_free_0 18 rfl rfl)
theorem dX0_free_20 : decode cX0_free 20 = .ok (.invokestatic 51, 3) := dk_184 0 51 (dk_at dksX0_free_0 20 rfl rfl)
theorem dX0_free_23 : decode cX0_free 23 = .ok (.ifCond .eq 27, 3) := dk_153 0 27 (dk_at dksX0_free_1 0 rfl rfl)
theorem dX0_free_26 : decode cX0_free 26 = .ok (.aload_n 0, 1) := dk_42 (dk_at dksX0_free_1 3 rfl rfl)
theorem dX0_free_27 : decode cX0_free 27 = .ok (.getfield 10, 3) := dk_180 0 10 (dk_at dksX0_free_1 4 rfl rfl)
theorem dX0_free_30 : decode cX0_free 30 = .ok (.getfield 116, 3) := dk_180 0 116 (dk_at dksX0_free_1 7 rfl rfl)
theorem dX0_free_33 : decode cX0_free 33 = .ok (.iload_n 1, 1) := dk_27 (dk_at dksX0_free_1 10 rfl rfl)
theorem dX0_free_34 : decode cX0_free 34 = .ok (.invokeinterface 89 2, 5) := by decide +kernel
theorem dX0_free_39 : decode cX0_free 39 = .ok (.checkcast 154, 3) := dk_192 0 154 (dk_at dksX0_free_1 16 rfl rfl)
theorem dX0_free_42 : decode cX0_free 42 = .ok (.getfield 272, 3) := dk_180 1 16 (dk_at dksX0_free_1 19 rfl rfl)
theorem dX0_free_45 : decode cX0_free 45 = .ok (.iload_n 2, 1) := dk_28 (dk_at dksX0_free_1 22 rfl rfl)
theorem dX0_free_46 : decode cX0_free 46 = .ok (.iaload, 1) := dk_46 (dk_at dksX0_free_1 23 rfl rfl)
theorem dX0_free_47 : decode cX0_free 47 = .ok (.goto 5, 3) := dk_167 0 5 (dk_at dksX0_free_2 0 rfl rfl)
theorem dX0_free_50 : decode cX0_free 50 = .ok (.bipush (-2), 2) := dk_16 254 (dk_at dksX0_free_2 3 rfl rfl)
theorem dX0_free_52 : decode cX0_free 52 = .ok (.ireturn, 1) := dk_172 (dk_at dksX0_free_2 5 rfl rfl)
abbrev cX0_booking : ByteArray := prog_1_method_28_code
def yX0_booking : MethodName := ⟨RX0, "booking", "(II)I"⟩
def dkwX0_booking_5 : List UInt8 := [167, 0, 4, 3, 172, 45, 180, 0, 179, 172, 45, 180, 1, 33, 172, 45, 180, 1, 36, 172, 16, 254, 172]
abbrev dktX0_booking_5 : List UInt8 := dkwX0_booking_5 ++ []
def dkwX0_booking_4 : List UInt8 := [45, 180, 1, 22, 172, 45, 180, 1, 25, 172, 45, 180, 1, 28, 172, 45, 180, 1, 29, 153, 0, 7, 4]
abbrev dktX0_booking_4 : List UInt8 := dkwX0_booking_4 ++ dktX0_booking_5
def dkwX0_booking_3 : List UInt8 := [170, 0, 0, 0, 84, 0, 0, 0, 0, 0, 0, 0, 6, 0, 0, 0, 41, 0, 0, 0, 46, 0, 0, 0, 51, 0, 0, 0, 56, 0, 0, 0, 69, 0, 0, 0, 74, 0, 0, 0, 79]
abbrev dktX0_booking_3 : List UInt8 := dkwX0_booking_3 ++ dktX0_booking_4
def dkwX0_booking_2 : List UInt8 := [28, 16, 10, 100, 46, 172, 28]
abbrev dktX0_booking_2 : List UInt8 := dkwX0_booking_2 ++ dktX0_booking_3
def dkwX0_booking_1 : List UInt8 := [185, 0, 89, 2, 0, 192, 0, 177, 78, 28, 16, 10, 16, 17, 184, 0, 51, 153, 0, 13, 45, 180, 1, 19]
abbrev dktX0_booking_1 : List UInt8 := dkwX0_booking_1 ++ dktX0_booking_2
def dkwX0_booking_0 : List UInt8 := [27, 42, 180, 0, 10, 180, 0, 162, 184, 0, 85, 154, 0, 5, 2, 172, 42, 180, 0, 10, 180, 0, 162, 27]
abbrev dktX0_booking_0 : List UInt8 := dkwX0_booking_0 ++ dktX0_booking_1
theorem dksX0_booking_0 : cX0_booking.data.toList.drop 0 = dktX0_booking_0 := by decide +kernel
theorem dksX0_booking_1 : cX0_booking.data.toList.drop 24 = dktX0_booking_1 := dk_seg dksX0_booking_0 24 rfl rfl
theorem dksX0_booking_2 : cX0_booking.data.toList.drop 48 = dktX0_booking_2 := dk_seg dksX0_booking_1 24 rfl rfl
theorem dksX0_booking_3 : cX0_booking.data.toList.drop 55 = dktX0_booking_3 := dk_seg dksX0_booking_2 7 rfl rfl
theorem dksX0_booking_4 : cX0_booking.data.toList.drop 96 = dktX0_booking_4 := dk_seg dksX0_booking_3 41 rfl rfl
theorem dksX0_booking_5 : cX0_booking.data.toList.drop 119 = dktX0_booking_5 := dk_seg dksX0_booking_4 23 rfl rfl
theorem dX0_booking_0 : decode cX0_booking 0 = .ok (.iload_n 1, 1) := dk_27 (dk_at dksX0_booking_0 0 rfl rfl)
theorem dX0_booking_1 : decode cX0_booking 1 = .ok (.aload_n 0, 1) := dk_42 (dk_at dksX0_booking_0 1 rfl rfl)
theorem dX0_booking_2 : decode cX0_booking 2 = .ok (.getfield 10, 3) := dk_180 0 10 (dk_at dksX0_booking_0 2 rfl rfl)
theorem dX0_booking_5 : decode cX0_booking 5 = .ok (.getfield 162, 3) := dk_180 0 162 (dk_at dksX0_booking_0 5 rfl rfl)
theorem dX0_booking_8 : decode cX0_booking 8 = .ok (.invokestatic 85, 3) := dk_184 0 85 (dk_at dksX0_booking_0 8 rfl rfl)
theorem dX0_booking_11 : decode cX0_booking 11 = .ok (.ifCond .ne 5, 3) := dk_154 0 5 (dk_at dksX0_booking_0 11 rfl rfl)
theorem dX0_booking_14 : decode cX0_booking 14 = .ok (.iconst (-1), 1) := dk_2 (dk_at dksX0_booking_0 14 rfl rfl)
theorem dX0_booking_15 : decode cX0_booking 15 = .ok (.ireturn, 1) := dk_172 (dk_at dksX0_booking_0 15 rfl rfl)
theorem dX0_booking_16 : decode cX0_booking 16 = .ok (.aload_n 0, 1) := dk_42 (dk_at dksX0_booking_0 16 rfl rfl)
theorem dX0_booking_17 : decode cX0_booking 17 = .ok (.getfield 10, 3) := dk_180 0 10 (dk_at dksX0_booking_0 17 rfl rfl)
theorem dX0_booking_20 : decode cX0_booking 20 = .ok (.getfield 162, 3) := dk_180 0 162 (dk_at dksX0_booking_0 20 rfl rfl)
theorem dX0_booking_23 : decode cX0_booking 23 = .ok (.iload_n 1, 1) := dk_27 (dk_at dksX0_booking_0 23 rfl rfl)
theorem dX0_booking_24 : decode cX0_booking 24 = .ok (.invokeinterface 89 2, 5) := by decide +kernel
theorem dX0_booking_29 : decode cX0_booking 29 = .ok (.checkcast 177, 3) := dk_192 0 177 (dk_at dksX0_booking_1 5 rfl rfl)
theorem dX0_booking_32 : decode cX0_booking 32 = .ok (.astore_n 3, 1) := dk_78 (dk_at dksX0_booking_1 8 rfl rfl)
theorem dX0_booking_33 : decode cX0_booking 33 = .ok (.iload_n 2, 1) := dk_28 (dk_at dksX0_booking_1 9 rfl rfl)
theorem dX0_booking_34 : decode cX0_booking 34 = .ok (.bipush 10, 2) := dk_16 10 (dk_at dksX0_booking_1 10 rfl rfl)
theorem dX0_booking_36 : decode cX0_booking 36 = .ok (.bipush 17, 2) := dk_16 17 (dk_at dksX0_booking_1 12 rfl rfl)
theorem dX0_booking_38 : decode cX0_booking 38 = .ok (.invokestatic 51, 3) := dk_184 0 51 (dk_at dksX0_booking_1 14 rfl rfl)
theorem dX0_booking_41 : decode cX0_booking 41 = .ok (.ifCond .eq 13, 3) := dk_153 0 13 (dk_at dksX0_booking_1 17 rfl rfl)
theorem dX0_booking_44 : decode cX0_booking 44 = .ok (.aload_n 3, 1) := dk_45 (dk_at dksX0_booking_1 20 rfl rfl)
theorem dX0_booking_45 : decode cX0_booking 45 = .ok (.getfield 275, 3) := dk_180 1 19 (dk_at dksX0_booking_1 21 rfl rfl)
theorem dX0_booking_48 : decode cX0_booking 48 = .ok (.iload_n 2, 1) := dk_28 (dk_at dksX0_booking_2 0 rfl rfl)
theorem dX0_booking_49 : decode cX0_booking 49 = .ok (.bipush 10, 2) := dk_16 10 (dk_at dksX0_booking_2 1 rfl rfl)
theorem dX0_booking_51 : decode cX0_booking 51 = .ok (.isub, 1) := dk_100 (dk_at dksX0_booking_2 3 rfl rfl)
theorem dX0_booking_52 : decode cX0_booking 52 = .ok (.iaload, 1) := dk_46 (dk_at dksX0_booking_2 4 rfl rfl)
theorem dX0_booking_53 : decode cX0_booking 53 = .ok (.ireturn, 1) := dk_172 (dk_at dksX0_booking_2 5 rfl rfl)
theorem dX0_booking_54 : decode cX0_booking 54 = .ok (.iload_n 2, 1) := dk_28 (dk_at dksX0_booking_2 6 rfl rfl)
theorem dX0_booking_55 : decode cX0_booking 55 = .ok (.tableswitch 84 0 6 #[41, 46, 51, 56, 69, 74, 79], 41) := by decide +kernel
theorem dX0_booking_96 : decode cX0_booking 96 = .ok (.aload_n 3, 1) := dk_45 (dk_at dksX0_booking_4 0 rfl rfl)
theorem dX0_booking_97 : decode cX0_booking 97 = .ok (.getfield 278, 3) := dk_180 1 22 (dk_at dksX0_booking_4 1 rfl rfl)
theorem dX0_booking_100 : decode cX0_booking 100 = .ok (.ireturn, 1) := dk_172 (dk_at dksX0_booking_4 4 rfl rfl)
theorem dX0_booking_101 : decode cX0_booking 101 = .ok (.aload_n 3, 1) := dk_45 (dk_at dksX0_booking_4 5 rfl rfl)
theorem dX0_booking_102 : decode cX0_booking 102 = .ok (.getfield 281, 3) := dk_180 1 25 (dk_at dksX0_booking_4 6 rfl rfl)
theorem dX0_booking_105 : decode cX0_booking 105 = .ok (.ireturn, 1) := dk_172 (dk_at dksX0_booking_4 9 rfl rfl)
theorem dX0_booking_106 : decode cX0_booking 106 = .ok (.aload_n 3, 1) := dk_45 (dk_at dksX0_booking_4 10 rfl rfl)
theorem dX0_booking_107 : decode cX0_booking 107 = .ok (.getfield 284, 3) := dk_180 1 28 (dk_at dksX0_booking_4 11 rfl rfl)
theorem dX0_booking_110 : decode cX0_booking 110 = .ok (.ireturn, 1) := dk_172 (dk_at dksX0_booking_4 14 rfl rfl)
theorem dX0_booking_111 : decode cX0_booking 111 = .ok (.aload_n 3, 1) := dk_45 (dk_at dksX0_booking_4 15 rfl rfl)
theorem dX0_booking_112 : decode cX0_booking 112 = .ok (.getfield 285, 3) := dk_180 1 29 (dk_at dksX0_booking_4 16 rfl rfl)
theorem dX0_booking_115 : decode cX0_booking 115 = .ok (.ifCond .eq 7, 3) := dk_153 0 7 (dk_at dksX0_booking_4 19 rfl rfl)
theorem dX0_booking_118 : decode cX0_booking 118 = .ok (.iconst 1, 1) := dk_4 (dk_at dksX0_booking_4 22 rfl rfl)
theorem dX0_booking_119 : decode cX0_booking 119 = .ok (.goto 4, 3) := dk_167 0 4 (dk_at dksX0_booking_5 0 rfl rfl)
theorem dX0_booking_122 : decode cX0_booking 122 = .ok (.iconst 0, 1) := dk_3 (dk_at dksX0_booking_5 3 rfl rfl)
theorem dX0_booking_123 : decode cX0_booking 123 = .ok (.ireturn, 1) := dk_172 (dk_at dksX0_booking_5 4 rfl rfl)
theorem dX0_booking_124 : decode cX0_booking 124 = .ok (.aload_n 3, 1) := dk_45 (dk_at dksX0_booking_5 5 rfl rfl)
theorem dX0_booking_125 : decode cX0_booking 125 = .ok (.getfield 179, 3) := dk_180 0 179 (dk_at dksX0_booking_5 6 rfl rfl)
theorem dX0_booking_128 : decode cX0_booking 128 = .ok (.ireturn, 1) := dk_172 (dk_at dksX0_booking_5 9 rfl rfl)
theorem dX0_booking_129 : decode cX0_booking 129 = .ok (.aload_n 3, 1) := dk_45 (dk_at dksX0_booking_5 10 rfl rfl)
theorem dX0_booking_130 : decode cX0_booking 130 = .ok (.getfield 289, 3) := dk_180 1 33 (dk_at dksX0_booking_5 11 rfl rfl)
theorem dX0_booking_133 : decode cX0_booking 133 = .ok (.ireturn, 1) := dk_172 (dk_at dksX0_booking_5 14 rfl rfl)
theorem dX0_booking_134 : decode cX0_booking 134 = .ok (.aload_n 3, 1) := dk_45 (dk_at dksX0_booking_5 15 rfl rfl)
theorem dX0_booking_135 : decode cX0_booking 135 = .ok (.getfield 292, 3) := dk_180 1 36 (dk_at dksX0_booking_5 16 rfl rfl)
theorem dX0_booking_138 : decode cX0_booking 138 = .ok (.ireturn, 1) := dk_172 (dk_at dksX0_booking_5 19 rfl rfl)
theorem dX0_booking_139 : decode cX0_booking 139 = .ok (.bipush (-2), 2) := dk_16 254 (dk_at dksX0_booking_5 20 rfl rfl)
theorem dX0_booking_141 : decode cX0_booking 141 = .ok (.ireturn, 1) := dk_172 (dk_at dksX0_booking_5 22 rfl rfl)
abbrev cX0_ofPromise : ByteArray := prog_1_method_29_code
def yX0_ofPromise : MethodName := ⟨RX0, "ofPromise", "(II)I"⟩
def dkwX0_ofPromise_5 : List UInt8 := [172, 42, 180, 0, 10, 45, 182, 1, 46, 172, 16, 254, 172]
abbrev dktX0_ofPromise_5 : List UInt8 := dkwX0_ofPromise_5 ++ []
def dkwX0_ofPromise_4 : List UInt8 := [45, 180, 0, 204, 172, 45, 180, 0, 207, 172, 45, 180, 1, 42, 172, 45, 180, 1, 43, 172, 45, 180, 0, 203]
abbrev dktX0_ofPromise_4 : List UInt8 := dkwX0_ofPromise_4 ++ dktX0_ofPromise_5
def dkwX0_ofPromise_3 : List UInt8 := [170, 0, 0, 0, 0, 0, 93, 0, 0, 0, 0, 0, 0, 0, 10, 0, 0, 0, 59, 0, 0, 0, 64, 0, 0, 0, 69, 0, 0, 0, 74, 0, 0, 0, 79, 0, 0, 0, 93, 0, 0, 0, 93, 0, 0, 0, 93, 0, 0, 0, 93, 0, 0, 0, 93, 0, 0, 0, 84]
abbrev dktX0_ofPromise_3 : List UInt8 := dkwX0_ofPromise_3 ++ dktX0_ofPromise_4
def dkwX0_ofPromise_2 : List UInt8 := [8, 100, 46, 172, 28]
abbrev dktX0_ofPromise_2 : List UInt8 := dkwX0_ofPromise_2 ++ dktX0_ofPromise_3
def dkwX0_ofPromise_1 : List UInt8 := [185, 0, 89, 2, 0, 192, 0, 201, 78, 28, 8, 16, 9, 184, 0, 51, 153, 0, 12, 45, 180, 1, 39, 28]
abbrev dktX0_ofPromise_1 : List UInt8 := dkwX0_ofPromise_1 ++ dktX0_ofPromise_2
def dkwX0_ofPromise_0 : List UInt8 := [27, 42, 180, 0, 10, 180, 0, 184, 184, 0, 85, 154, 0, 5, 2, 172, 42, 180, 0, 10, 180, 0, 184, 27]
abbrev dktX0_ofPromise_0 : List UInt8 := dkwX0_ofPromise_0 ++ dktX0_ofPromise_1
theorem dksX0_ofPromise_0 : cX0_ofPromise.data.toList.drop 0 = dktX0_ofPromise_0 := by decide +kernel
theorem dksX0_ofPromise_1 : cX0_ofPromise.data.toList.drop 24 = dktX0_ofPromise_1 := dk_seg dksX0_ofPromise_0 24 rfl rfl
theorem dksX0_ofPromise_2 : cX0_ofPromise.data.toList.drop 48 = dktX0_ofPromise_2 := dk_seg dksX0_ofPromise_1 24 rfl rfl
theorem dksX0_ofPromise_3 : cX0_ofPromise.data.toList.drop 53 = dktX0_ofPromise_3 := dk_seg dksX0_ofPromise_2 5 rfl rfl
theorem dksX0_ofPromise_4 : cX0_ofPromise.data.toList.drop 112 = dktX0_ofPromise_4 := dk_seg dksX0_ofPromise_3 59 rfl rfl
theorem dksX0_ofPromise_5 : cX0_ofPromise.data.toList.drop 136 = dktX0_ofPromise_5 := dk_seg dksX0_ofPromise_4 24 rfl rfl
theorem dX0_ofPromise_0 : decode cX0_ofPromise 0 = .ok (.iload_n 1, 1) := dk_27 (dk_at dksX0_ofPromise_0 0 rfl rfl)
theorem dX0_ofPromise_1 : decode cX0_ofPromise 1 = .ok (.aload_n 0, 1) := dk_42 (dk_at dksX0_ofPromise_0 1 rfl rfl)
theorem dX0_ofPromise_2 : decode cX0_ofPromise 2 = .ok (.getfield 10, 3) := dk_180 0 10 (dk_at dksX0_ofPromise_0 2 rfl rfl)
theorem dX0_ofPromise_5 : decode cX0_ofPromise 5 = .ok (.getfield 184, 3) := dk_180 0 184 (dk_at dksX0_ofPromise_0 5 rfl rfl)
theorem dX0_ofPromise_8 : decode cX0_ofPromise 8 = .ok (.invokestatic 85, 3) := dk_184 0 85 (dk_at dksX0_ofPromise_0 8 rfl rfl)
theorem dX0_ofPromise_11 : decode cX0_ofPromise 11 = .ok (.ifCond .ne 5, 3) := dk_154 0 5 (dk_at dksX0_ofPromise_0 11 rfl rfl)
theorem dX0_ofPromise_14 : decode cX0_ofPromise 14 = .ok (.iconst (-1), 1) := dk_2 (dk_at dksX0_ofPromise_0 14 rfl rfl)
theorem dX0_ofPromise_15 : decode cX0_ofPromise 15 = .ok (.ireturn, 1) := dk_172 (dk_at dksX0_ofPromise_0 15 rfl rfl)
theorem dX0_ofPromise_16 : decode cX0_ofPromise 16 = .ok (.aload_n 0, 1) := dk_42 (dk_at dksX0_ofPromise_0 16 rfl rfl)
theorem dX0_ofPromise_17 : decode cX0_ofPromise 17 = .ok (.getfield 10, 3) := dk_180 0 10 (dk_at dksX0_ofPromise_0 17 rfl rfl)
theorem dX0_ofPromise_20 : decode cX0_ofPromise 20 = .ok (.getfield 184, 3) := dk_180 0 184 (dk_at dksX0_ofPromise_0 20 rfl rfl)
theorem dX0_ofPromise_23 : decode cX0_ofPromise 23 = .ok (.iload_n 1, 1) := dk_27 (dk_at dksX0_ofPromise_0 23 rfl rfl)
theorem dX0_ofPromise_24 : decode cX0_ofPromise 24 = .ok (.invokeinterface 89 2, 5) := by decide +kernel
theorem dX0_ofPromise_29 : decode cX0_ofPromise 29 = .ok (.checkcast 201, 3) := dk_192 0 201 (dk_at dksX0_ofPromise_1 5 rfl rfl)
theorem dX0_ofPromise_32 : decode cX0_ofPromise 32 = .ok (.astore_n 3, 1) := dk_78 (dk_at dksX0_ofPromise_1 8 rfl rfl)
theorem dX0_ofPromise_33 : decode cX0_ofPromise 33 = .ok (.iload_n 2, 1) := dk_28 (dk_at dksX0_ofPromise_1 9 rfl rfl)
theorem dX0_ofPromise_34 : decode cX0_ofPromise 34 = .ok (.iconst 5, 1) := dk_8 (dk_at dksX0_ofPromise_1 10 rfl rfl)
theorem dX0_ofPromise_35 : decode cX0_ofPromise 35 = .ok (.bipush 9, 2) := dk_16 9 (dk_at dksX0_ofPromise_1 11 rfl rfl)
theorem dX0_ofPromise_37 : decode cX0_ofPromise 37 = .ok (.invokestatic 51, 3) := dk_184 0 51 (dk_at dksX0_ofPromise_1 13 rfl rfl)
theorem dX0_ofPromise_40 : decode cX0_ofPromise 40 = .ok (.ifCond .eq 12, 3) := dk_153 0 12 (dk_at dksX0_ofPromise_1 16 rfl rfl)
theorem dX0_ofPromise_43 : decode cX0_ofPromise 43 = .ok (.aload_n 3, 1) := dk_45 (dk_at dksX0_ofPromise_1 19 rfl rfl)
theorem dX0_ofPromise_44 : decode cX0_ofPromise 44 = .ok (.getfield 295, 3) := dk_180 1 39 (dk_at dksX0_ofPromise_1 20 rfl rfl)
theorem dX0_ofPromise_47 : decode cX0_ofPromise 47 = .ok (.iload_n 2, 1) := dk_28 (dk_at dksX0_ofPromise_1 23 rfl rfl)
theorem dX0_ofPromise_48 : decode cX0_ofPromise 48 = .ok (.iconst 5, 1) := dk_8 (dk_at dksX0_ofPromise_2 0 rfl rfl)
theorem dX0_ofPromise_49 : decode cX0_ofPromise 49 = .ok (.isub, 1) := dk_100 (dk_at dksX0_ofPromise_2 1 rfl rfl)
theorem dX0_ofPromise_50 : decode cX0_ofPromise 50 = .ok (.iaload, 1) := dk_46 (dk_at dksX0_ofPromise_2 2 rfl rfl)
theorem dX0_ofPromise_51 : decode cX0_ofPromise 51 = .ok (.ireturn, 1) := dk_172 (dk_at dksX0_ofPromise_2 3 rfl rfl)
theorem dX0_ofPromise_52 : decode cX0_ofPromise 52 = .ok (.iload_n 2, 1) := dk_28 (dk_at dksX0_ofPromise_2 4 rfl rfl)
theorem dX0_ofPromise_53 : decode cX0_ofPromise 53 = .ok (.tableswitch 93 0 10 #[59, 64, 69, 74, 79, 93, 93, 93, 93, 93, 84], 59) := by decide +kernel
theorem dX0_ofPromise_112 : decode cX0_ofPromise 112 = .ok (.aload_n 3, 1) := dk_45 (dk_at dksX0_ofPromise_4 0 rfl rfl)
theorem dX0_ofPromise_113 : decode cX0_ofPromise 113 = .ok (.getfield 204, 3) := dk_180 0 204 (dk_at dksX0_ofPromise_4 1 rfl rfl)
theorem dX0_ofPromise_116 : decode cX0_ofPromise 116 = .ok (.ireturn, 1) := dk_172 (dk_at dksX0_ofPromise_4 4 rfl rfl)
theorem dX0_ofPromise_117 : decode cX0_ofPromise 117 = .ok (.aload_n 3, 1) := dk_45 (dk_at dksX0_ofPromise_4 5 rfl rfl)
theorem dX0_ofPromise_118 : decode cX0_ofPromise 118 = .ok (.getfield 207, 3) := dk_180 0 207 (dk_at dksX0_ofPromise_4 6 rfl rfl)
theorem dX0_ofPromise_121 : decode cX0_ofPromise 121 = .ok (.ireturn, 1) := dk_172 (dk_at dksX0_ofPromise_4 9 rfl rfl)
theorem dX0_ofPromise_122 : decode cX0_ofPromise 122 = .ok (.aload_n 3, 1) := dk_45 (dk_at dksX0_ofPromise_4 10 rfl rfl)
theorem dX0_ofPromise_123 : decode cX0_ofPromise 123 = .ok (.getfield 298, 3) := dk_180 1 42 (dk_at dksX0_ofPromise_4 11 rfl rfl)
theorem dX0_ofPromise_126 : decode cX0_ofPromise 126 = .ok (.ireturn, 1) := dk_172 (dk_at dksX0_ofPromise_4 14 rfl rfl)
theorem dX0_ofPromise_127 : decode cX0_ofPromise 127 = .ok (.aload_n 3, 1) := dk_45 (dk_at dksX0_ofPromise_4 15 rfl rfl)
theorem dX0_ofPromise_128 : decode cX0_ofPromise 128 = .ok (.getfield 299, 3) := dk_180 1 43 (dk_at dksX0_ofPromise_4 16 rfl rfl)
theorem dX0_ofPromise_131 : decode cX0_ofPromise 131 = .ok (.ireturn, 1) := dk_172 (dk_at dksX0_ofPromise_4 19 rfl rfl)
theorem dX0_ofPromise_132 : decode cX0_ofPromise 132 = .ok (.aload_n 3, 1) := dk_45 (dk_at dksX0_ofPromise_4 20 rfl rfl)
theorem dX0_ofPromise_133 : decode cX0_ofPromise 133 = .ok (.getfield 203, 3) := dk_180 0 203 (dk_at dksX0_ofPromise_4 21 rfl rfl)
theorem dX0_ofPromise_136 : decode cX0_ofPromise 136 = .ok (.ireturn, 1) := dk_172 (dk_at dksX0_ofPromise_5 0 rfl rfl)
theorem dX0_ofPromise_137 : decode cX0_ofPromise 137 = .ok (.aload_n 0, 1) := dk_42 (dk_at dksX0_ofPromise_5 1 rfl rfl)
theorem dX0_ofPromise_138 : decode cX0_ofPromise 138 = .ok (.getfield 10, 3) := dk_180 0 10 (dk_at dksX0_ofPromise_5 2 rfl rfl)
theorem dX0_ofPromise_141 : decode cX0_ofPromise 141 = .ok (.aload_n 3, 1) := dk_45 (dk_at dksX0_ofPromise_5 5 rfl rfl)
theorem dX0_ofPromise_142 : decode cX0_ofPromise 142 = .ok (.invokevirtual 302, 3) := dk_182 1 46 (dk_at dksX0_ofPromise_5 6 rfl rfl)
theorem dX0_ofPromise_145 : decode cX0_ofPromise 145 = .ok (.ireturn, 1) := dk_172 (dk_at dksX0_ofPromise_5 9 rfl rfl)
theorem dX0_ofPromise_146 : decode cX0_ofPromise 146 = .ok (.bipush (-2), 2) := dk_16 254 (dk_at dksX0_ofPromise_5 10 rfl rfl)
theorem dX0_ofPromise_148 : decode cX0_ofPromise 148 = .ok (.ireturn, 1) := dk_172 (dk_at dksX0_ofPromise_5 12 rfl rfl)
abbrev cX0_reason : ByteArray := prog_1_method_30_code
def yX0_reason : MethodName := ⟨RX0, "reason", "(I)I"⟩
def dkwX0_reason_2 : List UInt8 := [185, 0, 89, 2, 0, 192, 0, 201, 182, 1, 50, 167, 0, 5, 16, 250, 172]
abbrev dktX0_reason_2 : List UInt8 := dkwX0_reason_2 ++ []
def dkwX0_reason_1 : List UInt8 := [185, 0, 89, 2, 0, 192, 0, 201, 180, 0, 203, 5, 160, 0, 25, 42, 180, 0, 10, 180, 0, 184, 27]
abbrev dktX0_reason_1 : List UInt8 := dkwX0_reason_1 ++ dktX0_reason_2
def dkwX0_reason_0 : List UInt8 := [27, 42, 180, 0, 10, 180, 0, 184, 184, 0, 85, 154, 0, 5, 2, 172, 42, 180, 0, 10, 180, 0, 184, 27]
abbrev dktX0_reason_0 : List UInt8 := dkwX0_reason_0 ++ dktX0_reason_1
theorem dksX0_reason_0 : cX0_reason.data.toList.drop 0 = dktX0_reason_0 := by decide +kernel
theorem dksX0_reason_1 : cX0_reason.data.toList.drop 24 = dktX0_reason_1 := dk_seg dksX0_reason_0 24 rfl rfl
theorem dksX0_reason_2 : cX0_reason.data.toList.drop 47 = dktX0_reason_2 := dk_seg dksX0_reason_1 23 rfl rfl
theorem dX0_reason_0 : decode cX0_reason 0 = .ok (.iload_n 1, 1) := dk_27 (dk_at dksX0_reason_0 0 rfl rfl)
theorem dX0_reason_1 : decode cX0_reason 1 = .ok (.aload_n 0, 1) := dk_42 (dk_at dksX0_reason_0 1 rfl rfl)
theorem dX0_reason_2 : decode cX0_reason 2 = .ok (.getfield 10, 3) := dk_180 0 10 (dk_at dksX0_reason_0 2 rfl rfl)
theorem dX0_reason_5 : decode cX0_reason 5 = .ok (.getfield 184, 3) := dk_180 0 184 (dk_at dksX0_reason_0 5 rfl rfl)
theorem dX0_reason_8 : decode cX0_reason 8 = .ok (.invokestatic 85, 3) := dk_184 0 85 (dk_at dksX0_reason_0 8 rfl rfl)
theorem dX0_reason_11 : decode cX0_reason 11 = .ok (.ifCond .ne 5, 3) := dk_154 0 5 (dk_at dksX0_reason_0 11 rfl rfl)
theorem dX0_reason_14 : decode cX0_reason 14 = .ok (.iconst (-1), 1) := dk_2 (dk_at dksX0_reason_0 14 rfl rfl)
theorem dX0_reason_15 : decode cX0_reason 15 = .ok (.ireturn, 1) := dk_172 (dk_at dksX0_reason_0 15 rfl rfl)
theorem dX0_reason_16 : decode cX0_reason 16 = .ok (.aload_n 0, 1) := dk_42 (dk_at dksX0_reason_0 16 rfl rfl)
theorem dX0_reason_17 : decode cX0_reason 17 = .ok (.getfield 10, 3) := dk_180 0 10 (dk_at dksX0_reason_0 17 rfl rfl)
theorem dX0_reason_20 : decode cX0_reason 20 = .ok (.getfield 184, 3) := dk_180 0 184 (dk_at dksX0_reason_0 20 rfl rfl)
theorem dX0_reason_23 : decode cX0_reason 23 = .ok (.iload_n 1, 1) := dk_27 (dk_at dksX0_reason_0 23 rfl rfl)
theorem dX0_reason_24 : decode cX0_reason 24 = .ok (.invokeinterface 89 2, 5) := by decide +kernel
theorem dX0_reason_29 : decode cX0_reason 29 = .ok (.checkcast 201, 3) := dk_192 0 201 (dk_at dksX0_reason_1 5 rfl rfl)
theorem dX0_reason_32 : decode cX0_reason 32 = .ok (.getfield 203, 3) := dk_180 0 203 (dk_at dksX0_reason_1 8 rfl rfl)
theorem dX0_reason_35 : decode cX0_reason 35 = .ok (.iconst 2, 1) := dk_5 (dk_at dksX0_reason_1 11 rfl rfl)
theorem dX0_reason_36 : decode cX0_reason 36 = .ok (.if_icmp .ne 25, 3) := dk_160 0 25 (dk_at dksX0_reason_1 12 rfl rfl)
theorem dX0_reason_39 : decode cX0_reason 39 = .ok (.aload_n 0, 1) := dk_42 (dk_at dksX0_reason_1 15 rfl rfl)
theorem dX0_reason_40 : decode cX0_reason 40 = .ok (.getfield 10, 3) := dk_180 0 10 (dk_at dksX0_reason_1 16 rfl rfl)
theorem dX0_reason_43 : decode cX0_reason 43 = .ok (.getfield 184, 3) := dk_180 0 184 (dk_at dksX0_reason_1 19 rfl rfl)
theorem dX0_reason_46 : decode cX0_reason 46 = .ok (.iload_n 1, 1) := dk_27 (dk_at dksX0_reason_1 22 rfl rfl)
theorem dX0_reason_47 : decode cX0_reason 47 = .ok (.invokeinterface 89 2, 5) := by decide +kernel
theorem dX0_reason_52 : decode cX0_reason 52 = .ok (.checkcast 201, 3) := dk_192 0 201 (dk_at dksX0_reason_2 5 rfl rfl)
theorem dX0_reason_55 : decode cX0_reason 55 = .ok (.invokevirtual 306, 3) := dk_182 1 50 (dk_at dksX0_reason_2 8 rfl rfl)
theorem dX0_reason_58 : decode cX0_reason 58 = .ok (.goto 5, 3) := dk_167 0 5 (dk_at dksX0_reason_2 11 rfl rfl)
theorem dX0_reason_61 : decode cX0_reason 61 = .ok (.bipush (-6), 2) := dk_16 250 (dk_at dksX0_reason_2 14 rfl rfl)
theorem dX0_reason_63 : decode cX0_reason 63 = .ok (.ireturn, 1) := dk_172 (dk_at dksX0_reason_2 16 rfl rfl)
abbrev cX0_at : ByteArray := prog_1_method_31_code
def yX0_at : MethodName := ⟨RX0, "at", "(II)I"⟩
def dkwX0_at_4 : List UInt8 := [182, 1, 61, 167, 0, 5, 16, 250, 172]
abbrev dktX0_at_4 : List UInt8 := dkwX0_at_4 ++ []
def dkwX0_at_3 : List UInt8 := [25, 4, 198, 0, 14, 16, 100, 25, 4, 182, 1, 61, 96, 167, 0, 18, 25, 5, 198, 0, 11, 25, 5]
abbrev dktX0_at_3 : List UInt8 := dkwX0_at_3 ++ dktX0_at_4
def dkwX0_at_2 : List UInt8 := [192, 1, 56, 58, 4, 42, 180, 0, 10, 180, 1, 58, 45, 185, 1, 53, 2, 0, 192, 1, 56, 58, 5]
abbrev dktX0_at_2 : List UInt8 := dkwX0_at_2 ++ dktX0_at_3
def dkwX0_at_1 : List UInt8 := [187, 0, 119, 89, 27, 28, 183, 0, 121, 78, 42, 180, 0, 10, 180, 0, 139, 45, 185, 1, 53, 2, 0]
abbrev dktX0_at_1 : List UInt8 := dkwX0_at_1 ++ dktX0_at_2
def dkwX0_at_0 : List UInt8 := [27, 3, 17, 3, 231, 184, 0, 51, 153, 0, 12, 28, 3, 8, 184, 0, 51, 154, 0, 6, 16, 254, 172]
abbrev dktX0_at_0 : List UInt8 := dkwX0_at_0 ++ dktX0_at_1
theorem dksX0_at_0 : cX0_at.data.toList.drop 0 = dktX0_at_0 := by decide +kernel
theorem dksX0_at_1 : cX0_at.data.toList.drop 23 = dktX0_at_1 := dk_seg dksX0_at_0 23 rfl rfl
theorem dksX0_at_2 : cX0_at.data.toList.drop 46 = dktX0_at_2 := dk_seg dksX0_at_1 23 rfl rfl
theorem dksX0_at_3 : cX0_at.data.toList.drop 69 = dktX0_at_3 := dk_seg dksX0_at_2 23 rfl rfl
theorem dksX0_at_4 : cX0_at.data.toList.drop 92 = dktX0_at_4 := dk_seg dksX0_at_3 23 rfl rfl
theorem dX0_at_0 : decode cX0_at 0 = .ok (.iload_n 1, 1) := dk_27 (dk_at dksX0_at_0 0 rfl rfl)
theorem dX0_at_1 : decode cX0_at 1 = .ok (.iconst 0, 1) := dk_3 (dk_at dksX0_at_0 1 rfl rfl)
theorem dX0_at_2 : decode cX0_at 2 = .ok (.sipush 999, 3) := dk_17 3 231 (dk_at dksX0_at_0 2 rfl rfl)
theorem dX0_at_5 : decode cX0_at 5 = .ok (.invokestatic 51, 3) := dk_184 0 51 (dk_at dksX0_at_0 5 rfl rfl)
theorem dX0_at_8 : decode cX0_at 8 = .ok (.ifCond .eq 12, 3) := dk_153 0 12 (dk_at dksX0_at_0 8 rfl rfl)
theorem dX0_at_11 : decode cX0_at 11 = .ok (.iload_n 2, 1) := dk_28 (dk_at dksX0_at_0 11 rfl rfl)
theorem dX0_at_12 : decode cX0_at 12 = .ok (.iconst 0, 1) := dk_3 (dk_at dksX0_at_0 12 rfl rfl)
theorem dX0_at_13 : decode cX0_at 13 = .ok (.iconst 5, 1) := dk_8 (dk_at dksX0_at_0 13 rfl rfl)
theorem dX0_at_14 : decode cX0_at 14 = .ok (.invokestatic 51, 3) := dk_184 0 51 (dk_at dksX0_at_0 14 rfl rfl)
theorem dX0_at_17 : decode cX0_at 17 = .ok (.ifCond .ne 6, 3) := dk_154 0 6 (dk_at dksX0_at_0 17 rfl rfl)
theorem dX0_at_20 : decode cX0_at 20 = .ok (.bipush (-2), 2) := dk_16 254 (dk_at dksX0_at_0 20 rfl rfl)
theorem dX0_at_22 : decode cX0_at 22 = .ok (.ireturn, 1) := dk_172 (dk_at dksX0_at_0 22 rfl rfl)
theorem dX0_at_23 : decode cX0_at 23 = .ok (.new 119, 3) := dk_187 0 119 (dk_at dksX0_at_1 0 rfl rfl)
theorem dX0_at_26 : decode cX0_at 26 = .ok (.dup, 1) := dk_89 (dk_at dksX0_at_1 3 rfl rfl)
theorem dX0_at_27 : decode cX0_at 27 = .ok (.iload_n 1, 1) := dk_27 (dk_at dksX0_at_1 4 rfl rfl)
theorem dX0_at_28 : decode cX0_at 28 = .ok (.iload_n 2, 1) := dk_28 (dk_at dksX0_at_1 5 rfl rfl)
theorem dX0_at_29 : decode cX0_at 29 = .ok (.invokespecial 121, 3) := dk_183 0 121 (dk_at dksX0_at_1 6 rfl rfl)
theorem dX0_at_32 : decode cX0_at 32 = .ok (.astore_n 3, 1) := dk_78 (dk_at dksX0_at_1 9 rfl rfl)
theorem dX0_at_33 : decode cX0_at 33 = .ok (.aload_n 0, 1) := dk_42 (dk_at dksX0_at_1 10 rfl rfl)
theorem dX0_at_34 : decode cX0_at 34 = .ok (.getfield 10, 3) := dk_180 0 10 (dk_at dksX0_at_1 11 rfl rfl)
theorem dX0_at_37 : decode cX0_at 37 = .ok (.getfield 139, 3) := dk_180 0 139 (dk_at dksX0_at_1 14 rfl rfl)
theorem dX0_at_40 : decode cX0_at 40 = .ok (.aload_n 3, 1) := dk_45 (dk_at dksX0_at_1 17 rfl rfl)
theorem dX0_at_41 : decode cX0_at 41 = .ok (.invokeinterface 309 2, 5) := by decide +kernel
theorem dX0_at_46 : decode cX0_at 46 = .ok (.checkcast 312, 3) := dk_192 1 56 (dk_at dksX0_at_2 0 rfl rfl)
theorem dX0_at_49 : decode cX0_at 49 = .ok (.astore 4, 2) := dk_58 4 (dk_at dksX0_at_2 3 rfl rfl)
theorem dX0_at_51 : decode cX0_at 51 = .ok (.aload_n 0, 1) := dk_42 (dk_at dksX0_at_2 5 rfl rfl)
theorem dX0_at_52 : decode cX0_at 52 = .ok (.getfield 10, 3) := dk_180 0 10 (dk_at dksX0_at_2 6 rfl rfl)
theorem dX0_at_55 : decode cX0_at 55 = .ok (.getfield 314, 3) := dk_180 1 58 (dk_at dksX0_at_2 9 rfl rfl)
theorem dX0_at_58 : decode cX0_at 58 = .ok (.aload_n 3, 1) := dk_45 (dk_at dksX0_at_2 12 rfl rfl)
theorem dX0_at_59 : decode cX0_at 59 = .ok (.invokeinterface 309 2, 5) := by decide +kernel
theorem dX0_at_64 : decode cX0_at 64 = .ok (.checkcast 312, 3) := dk_192 1 56 (dk_at dksX0_at_2 18 rfl rfl)
theorem dX0_at_67 : decode cX0_at 67 = .ok (.astore 5, 2) := dk_58 5 (dk_at dksX0_at_2 21 rfl rfl)
theorem dX0_at_69 : decode cX0_at 69 = .ok (.aload 4, 2) := dk_25 4 (dk_at dksX0_at_3 0 rfl rfl)
theorem dX0_at_71 : decode cX0_at 71 = .ok (.ifnull 14, 3) := dk_198 0 14 (dk_at dksX0_at_3 2 rfl rfl)
theorem dX0_at_74 : decode cX0_at 74 = .ok (.bipush 100, 2) := dk_16 100 (dk_at dksX0_at_3 5 rfl rfl)
theorem dX0_at_76 : decode cX0_at 76 = .ok (.aload 4, 2) := dk_25 4 (dk_at dksX0_at_3 7 rfl rfl)
theorem dX0_at_78 : decode cX0_at 78 = .ok (.invokevirtual 317, 3) := dk_182 1 61 (dk_at dksX0_at_3 9 rfl rfl)
theorem dX0_at_81 : decode cX0_at 81 = .ok (.iadd, 1) := dk_96 (dk_at dksX0_at_3 12 rfl rfl)
theorem dX0_at_82 : decode cX0_at 82 = .ok (.goto 18, 3) := dk_167 0 18 (dk_at dksX0_at_3 13 rfl rfl)
theorem dX0_at_85 : decode cX0_at 85 = .ok (.aload 5, 2) := dk_25 5 (dk_at dksX0_at_3 16 rfl rfl)
theorem dX0_at_87 : decode cX0_at 87 = .ok (.ifnull 11, 3) := dk_198 0 11 (dk_at dksX0_at_3 18 rfl rfl)
theorem dX0_at_90 : decode cX0_at 90 = .ok (.aload 5, 2) := dk_25 5 (dk_at dksX0_at_3 21 rfl rfl)
theorem dX0_at_92 : decode cX0_at 92 = .ok (.invokevirtual 317, 3) := dk_182 1 61 (dk_at dksX0_at_4 0 rfl rfl)
theorem dX0_at_95 : decode cX0_at 95 = .ok (.goto 5, 3) := dk_167 0 5 (dk_at dksX0_at_4 3 rfl rfl)
theorem dX0_at_98 : decode cX0_at 98 = .ok (.bipush (-6), 2) := dk_16 250 (dk_at dksX0_at_4 6 rfl rfl)
theorem dX0_at_100 : decode cX0_at 100 = .ok (.ireturn, 1) := dk_172 (dk_at dksX0_at_4 8 rfl rfl)
abbrev cX0_count : ByteArray := prog_1_method_34_code
def yX0_count : MethodName := ⟨RX0, "count", "(I)I"⟩
def dkwX0_count_8 : List UInt8 := [16, 254, 172]
abbrev dktX0_count_8 : List UInt8 := dkwX0_count_8 ++ []
def dkwX0_count_7 : List UInt8 := [182, 1, 67, 172, 42, 180, 0, 19, 185, 0, 34, 1, 0, 172, 42, 182, 1, 70, 172, 42, 182, 1, 73, 172]
abbrev dktX0_count_7 : List UInt8 := dkwX0_count_7 ++ dktX0_count_8
def dkwX0_count_6 : List UInt8 := [180, 0, 10, 180, 0, 184, 185, 0, 34, 1, 0, 172, 42, 180, 0, 10, 180, 0, 136, 172, 42, 180, 0, 30]
abbrev dktX0_count_6 : List UInt8 := dkwX0_count_6 ++ dktX0_count_7
def dkwX0_count_5 : List UInt8 := [180, 0, 116, 185, 0, 34, 1, 0, 172, 42, 180, 0, 10, 180, 0, 162, 185, 0, 34, 1, 0, 172, 42]
abbrev dktX0_count_5 : List UInt8 := dkwX0_count_5 ++ dktX0_count_6
def dkwX0_count_4 : List UInt8 := [180, 0, 10, 180, 0, 95, 185, 0, 34, 1, 0, 172, 42, 180, 0, 10, 182, 0, 106, 172, 42, 180, 0, 10]
abbrev dktX0_count_4 : List UInt8 := dkwX0_count_4 ++ dktX0_count_5
def dkwX0_count_3 : List UInt8 := [42, 180, 0, 10, 180, 0, 55, 172, 42, 180, 0, 10, 180, 0, 73, 185, 0, 34, 1, 0, 172, 42]
abbrev dktX0_count_3 : List UInt8 := dkwX0_count_3 ++ dktX0_count_4
def dkwX0_count_2 : List UInt8 := [170, 0, 0, 0, 0, 199, 0, 0, 0, 0, 0, 0, 0, 16, 0, 0, 0, 82, 0, 0, 0, 90, 0, 0, 0, 103, 0, 0, 0, 116, 0, 0, 0, 124, 0, 0, 0, 199, 0, 0, 0, 199, 0, 0, 0, 199, 0, 0, 0, 199, 0, 0, 0, 199, 0, 0, 0, 137, 0, 0, 0, 150, 0, 0, 0, 163, 0, 0, 0, 171, 0, 0, 0, 179, 0, 0, 0, 189, 0, 0, 0, 194]
abbrev dktX0_count_2 : List UInt8 := dkwX0_count_2 ++ dktX0_count_3
def dkwX0_count_1 : List UInt8 := [16, 22, 184, 0, 51, 153, 0, 16, 42, 180, 0, 10, 180, 0, 66, 27, 16, 17, 100, 46, 172, 27]
abbrev dktX0_count_1 : List UInt8 := dkwX0_count_1 ++ dktX0_count_2
def dkwX0_count_0 : List UInt8 := [27, 8, 16, 9, 184, 0, 51, 153, 0, 14, 42, 180, 0, 10, 27, 8, 100, 182, 1, 64, 172, 27, 16, 17]
abbrev dktX0_count_0 : List UInt8 := dkwX0_count_0 ++ dktX0_count_1
theorem dksX0_count_0 : cX0_count.data.toList.drop 0 = dktX0_count_0 := by decide +kernel
theorem dksX0_count_1 : cX0_count.data.toList.drop 24 = dktX0_count_1 := dk_seg dksX0_count_0 24 rfl rfl
theorem dksX0_count_2 : cX0_count.data.toList.drop 46 = dktX0_count_2 := dk_seg dksX0_count_1 22 rfl rfl
theorem dksX0_count_3 : cX0_count.data.toList.drop 128 = dktX0_count_3 := dk_seg dksX0_count_2 82 rfl rfl
theorem dksX0_count_4 : cX0_count.data.toList.drop 150 = dktX0_count_4 := dk_seg dksX0_count_3 22 rfl rfl
theorem dksX0_count_5 : cX0_count.data.toList.drop 174 = dktX0_count_5 := dk_seg dksX0_count_4 24 rfl rfl
theorem dksX0_count_6 : cX0_count.data.toList.drop 197 = dktX0_count_6 := dk_seg dksX0_count_5 23 rfl rfl
theorem dksX0_count_7 : cX0_count.data.toList.drop 221 = dktX0_count_7 := dk_seg dksX0_count_6 24 rfl rfl
theorem dksX0_count_8 : cX0_count.data.toList.drop 245 = dktX0_count_8 := dk_seg dksX0_count_7 24 rfl rfl
theorem dX0_count_0 : decode cX0_count 0 = .ok (.iload_n 1, 1) := dk_27 (dk_at dksX0_count_0 0 rfl rfl)
theorem dX0_count_1 : decode cX0_count 1 = .ok (.iconst 5, 1) := dk_8 (dk_at dksX0_count_0 1 rfl rfl)
theorem dX0_count_2 : decode cX0_count 2 = .ok (.bipush 9, 2) := dk_16 9 (dk_at dksX0_count_0 2 rfl rfl)
theorem dX0_count_4 : decode cX0_count 4 = .ok (.invokestatic 51, 3) := dk_184 0 51 (dk_at dksX0_count_0 4 rfl rfl)
theorem dX0_count_7 : decode cX0_count 7 = .ok (.ifCond .eq 14, 3) := dk_153 0 14 (dk_at dksX0_count_0 7 rfl rfl)
theorem dX0_count_10 : decode cX0_count 10 = .ok (.aload_n 0, 1) := dk_42 (dk_at dksX0_count_0 10 rfl rfl)
theorem dX0_count_11 : decode cX0_count 11 = .ok (.getfield 10, 3) := dk_180 0 10 (dk_at dksX0_count_0 11 rfl rfl)
theorem dX0_count_14 : decode cX0_count 14 = .ok (.iload_n 1, 1) := dk_27 (dk_at dksX0_count_0 14 rfl rfl)
theorem dX0_count_15 : decode cX0_count 15 = .ok (.iconst 5, 1) := dk_8 (dk_at dksX0_count_0 15 rfl rfl)
theorem dX0_count_16 : decode cX0_count 16 = .ok (.isub, 1) := dk_100 (dk_at dksX0_count_0 16 rfl rfl)
theorem dX0_count_17 : decode cX0_count 17 = .ok (.invokevirtual 320, 3) := dk_182 1 64 (dk_at dksX0_count_0 17 rfl rfl)
theorem dX0_count_20 : decode cX0_count 20 = .ok (.ireturn, 1) := dk_172 (dk_at dksX0_count_0 20 rfl rfl)
theorem dX0_count_21 : decode cX0_count 21 = .ok (.iload_n 1, 1) := dk_27 (dk_at dksX0_count_0 21 rfl rfl)
theorem dX0_count_22 : decode cX0_count 22 = .ok (.bipush 17, 2) := dk_16 17 (dk_at dksX0_count_0 22 rfl rfl)
theorem dX0_count_24 : decode cX0_count 24 = .ok (.bipush 22, 2) := dk_16 22 (dk_at dksX0_count_1 0 rfl rfl)
theorem dX0_count_26 : decode cX0_count 26 = .ok (.invokestatic 51, 3) := dk_184 0 51 (dk_at dksX0_count_1 2 rfl rfl)
theorem dX0_count_29 : decode cX0_count 29 = .ok (.ifCond .eq 16, 3) := dk_153 0 16 (dk_at dksX0_count_1 5 rfl rfl)
theorem dX0_count_32 : decode cX0_count 32 = .ok (.aload_n 0, 1) := dk_42 (dk_at dksX0_count_1 8 rfl rfl)
theorem dX0_count_33 : decode cX0_count 33 = .ok (.getfield 10, 3) := dk_180 0 10 (dk_at dksX0_count_1 9 rfl rfl)
theorem dX0_count_36 : decode cX0_count 36 = .ok (.getfield 66, 3) := dk_180 0 66 (dk_at dksX0_count_1 12 rfl rfl)
theorem dX0_count_39 : decode cX0_count 39 = .ok (.iload_n 1, 1) := dk_27 (dk_at dksX0_count_1 15 rfl rfl)
theorem dX0_count_40 : decode cX0_count 40 = .ok (.bipush 17, 2) := dk_16 17 (dk_at dksX0_count_1 16 rfl rfl)
theorem dX0_count_42 : decode cX0_count 42 = .ok (.isub, 1) := dk_100 (dk_at dksX0_count_1 18 rfl rfl)
theorem dX0_count_43 : decode cX0_count 43 = .ok (.iaload, 1) := dk_46 (dk_at dksX0_count_1 19 rfl rfl)
theorem dX0_count_44 : decode cX0_count 44 = .ok (.ireturn, 1) := dk_172 (dk_at dksX0_count_1 20 rfl rfl)
theorem dX0_count_45 : decode cX0_count 45 = .ok (.iload_n 1, 1) := dk_27 (dk_at dksX0_count_1 21 rfl rfl)
theorem dX0_count_46 : decode cX0_count 46 = .ok (.tableswitch 199 0 16 #[82, 90, 103, 116, 124, 199, 199, 199, 199, 199, 137, 150, 163, 171, 179, 189, 194], 82) := by decide +kernel
theorem dX0_count_128 : decode cX0_count 128 = .ok (.aload_n 0, 1) := dk_42 (dk_at dksX0_count_3 0 rfl rfl)
theorem dX0_count_129 : decode cX0_count 129 = .ok (.getfield 10, 3) := dk_180 0 10 (dk_at dksX0_count_3 1 rfl rfl)
theorem dX0_count_132 : decode cX0_count 132 = .ok (.getfield 55, 3) := dk_180 0 55 (dk_at dksX0_count_3 4 rfl rfl)
theorem dX0_count_135 : decode cX0_count 135 = .ok (.ireturn, 1) := dk_172 (dk_at dksX0_count_3 7 rfl rfl)
theorem dX0_count_136 : decode cX0_count 136 = .ok (.aload_n 0, 1) := dk_42 (dk_at dksX0_count_3 8 rfl rfl)
theorem dX0_count_137 : decode cX0_count 137 = .ok (.getfield 10, 3) := dk_180 0 10 (dk_at dksX0_count_3 9 rfl rfl)
theorem dX0_count_140 : decode cX0_count 140 = .ok (.getfield 73, 3) := dk_180 0 73 (dk_at dksX0_count_3 12 rfl rfl)
theorem dX0_count_143 : decode cX0_count 143 = .ok (.invokeinterface 34 1, 5) := by decide +kernel
theorem dX0_count_148 : decode cX0_count 148 = .ok (.ireturn, 1) := dk_172 (dk_at dksX0_count_3 20 rfl rfl)
theorem dX0_count_149 : decode cX0_count 149 = .ok (.aload_n 0, 1) := dk_42 (dk_at dksX0_count_3 21 rfl rfl)
theorem dX0_count_150 : decode cX0_count 150 = .ok (.getfield 10, 3) := dk_180 0 10 (dk_at dksX0_count_4 0 rfl rfl)
theorem dX0_count_153 : decode cX0_count 153 = .ok (.getfield 95, 3) := dk_180 0 95 (dk_at dksX0_count_4 3 rfl rfl)
theorem dX0_count_156 : decode cX0_count 156 = .ok (.invokeinterface 34 1, 5) := by decide +kernel
theorem dX0_count_161 : decode cX0_count 161 = .ok (.ireturn, 1) := dk_172 (dk_at dksX0_count_4 11 rfl rfl)
theorem dX0_count_162 : decode cX0_count 162 = .ok (.aload_n 0, 1) := dk_42 (dk_at dksX0_count_4 12 rfl rfl)
theorem dX0_count_163 : decode cX0_count 163 = .ok (.getfield 10, 3) := dk_180 0 10 (dk_at dksX0_count_4 13 rfl rfl)
theorem dX0_count_166 : decode cX0_count 166 = .ok (.invokevirtual 106, 3) := dk_182 0 106 (dk_at dksX0_count_4 16 rfl rfl)
theorem dX0_count_169 : decode cX0_count 169 = .ok (.ireturn, 1) := dk_172 (dk_at dksX0_count_4 19 rfl rfl)
theorem dX0_count_170 : decode cX0_count 170 = .ok (.aload_n 0, 1) := dk_42 (dk_at dksX0_count_4 20 rfl rfl)
theorem dX0_count_171 : decode cX0_count 171 = .ok (.getfield 10, 3) := dk_180 0 10 (dk_at dksX0_count_4 21 rfl rfl)
theorem dX0_count_174 : decode cX0_count 174 = .ok (.getfield 116, 3) := dk_180 0 116 (dk_at dksX0_count_5 0 rfl rfl)
theorem dX0_count_177 : decode cX0_count 177 = .ok (.invokeinterface 34 1, 5) := by decide +kernel
theorem dX0_count_182 : decode cX0_count 182 = .ok (.ireturn, 1) := dk_172 (dk_at dksX0_count_5 8 rfl rfl)
theorem dX0_count_183 : decode cX0_count 183 = .ok (.aload_n 0, 1) := dk_42 (dk_at dksX0_count_5 9 rfl rfl)
theorem dX0_count_184 : decode cX0_count 184 = .ok (.getfield 10, 3) := dk_180 0 10 (dk_at dksX0_count_5 10 rfl rfl)
theorem dX0_count_187 : decode cX0_count 187 = .ok (.getfield 162, 3) := dk_180 0 162 (dk_at dksX0_count_5 13 rfl rfl)
theorem dX0_count_190 : decode cX0_count 190 = .ok (.invokeinterface 34 1, 5) := by decide +kernel
theorem dX0_count_195 : decode cX0_count 195 = .ok (.ireturn, 1) := dk_172 (dk_at dksX0_count_5 21 rfl rfl)
theorem dX0_count_196 : decode cX0_count 196 = .ok (.aload_n 0, 1) := dk_42 (dk_at dksX0_count_5 22 rfl rfl)
theorem dX0_count_197 : decode cX0_count 197 = .ok (.getfield 10, 3) := dk_180 0 10 (dk_at dksX0_count_6 0 rfl rfl)
theorem dX0_count_200 : decode cX0_count 200 = .ok (.getfield 184, 3) := dk_180 0 184 (dk_at dksX0_count_6 3 rfl rfl)
theorem dX0_count_203 : decode cX0_count 203 = .ok (.invokeinterface 34 1, 5) := by decide +kernel
theorem dX0_count_208 : decode cX0_count 208 = .ok (.ireturn, 1) := dk_172 (dk_at dksX0_count_6 11 rfl rfl)
theorem dX0_count_209 : decode cX0_count 209 = .ok (.aload_n 0, 1) := dk_42 (dk_at dksX0_count_6 12 rfl rfl)
theorem dX0_count_210 : decode cX0_count 210 = .ok (.getfield 10, 3) := dk_180 0 10 (dk_at dksX0_count_6 13 rfl rfl)
theorem dX0_count_213 : decode cX0_count 213 = .ok (.getfield 136, 3) := dk_180 0 136 (dk_at dksX0_count_6 16 rfl rfl)
theorem dX0_count_216 : decode cX0_count 216 = .ok (.ireturn, 1) := dk_172 (dk_at dksX0_count_6 19 rfl rfl)
theorem dX0_count_217 : decode cX0_count 217 = .ok (.aload_n 0, 1) := dk_42 (dk_at dksX0_count_6 20 rfl rfl)
theorem dX0_count_218 : decode cX0_count 218 = .ok (.getfield 30, 3) := dk_180 0 30 (dk_at dksX0_count_6 21 rfl rfl)
theorem dX0_count_221 : decode cX0_count 221 = .ok (.invokevirtual 323, 3) := dk_182 1 67 (dk_at dksX0_count_7 0 rfl rfl)
theorem dX0_count_224 : decode cX0_count 224 = .ok (.ireturn, 1) := dk_172 (dk_at dksX0_count_7 3 rfl rfl)
theorem dX0_count_225 : decode cX0_count 225 = .ok (.aload_n 0, 1) := dk_42 (dk_at dksX0_count_7 4 rfl rfl)
theorem dX0_count_226 : decode cX0_count 226 = .ok (.getfield 19, 3) := dk_180 0 19 (dk_at dksX0_count_7 5 rfl rfl)
theorem dX0_count_229 : decode cX0_count 229 = .ok (.invokeinterface 34 1, 5) := by decide +kernel
theorem dX0_count_234 : decode cX0_count 234 = .ok (.ireturn, 1) := dk_172 (dk_at dksX0_count_7 13 rfl rfl)
theorem dX0_count_235 : decode cX0_count 235 = .ok (.aload_n 0, 1) := dk_42 (dk_at dksX0_count_7 14 rfl rfl)
theorem dX0_count_236 : decode cX0_count 236 = .ok (.invokevirtual 326, 3) := dk_182 1 70 (dk_at dksX0_count_7 15 rfl rfl)
theorem dX0_count_239 : decode cX0_count 239 = .ok (.ireturn, 1) := dk_172 (dk_at dksX0_count_7 18 rfl rfl)
theorem dX0_count_240 : decode cX0_count 240 = .ok (.aload_n 0, 1) := dk_42 (dk_at dksX0_count_7 19 rfl rfl)
theorem dX0_count_241 : decode cX0_count 241 = .ok (.invokevirtual 329, 3) := dk_182 1 73 (dk_at dksX0_count_7 20 rfl rfl)
theorem dX0_count_244 : decode cX0_count 244 = .ok (.ireturn, 1) := dk_172 (dk_at dksX0_count_7 23 rfl rfl)
theorem dX0_count_245 : decode cX0_count 245 = .ok (.bipush (-2), 2) := dk_16 254 (dk_at dksX0_count_8 0 rfl rfl)
theorem dX0_count_247 : decode cX0_count 247 = .ok (.ireturn, 1) := dk_172 (dk_at dksX0_count_8 2 rfl rfl)
abbrev cX0_lampHours : ByteArray := prog_1_method_32_code
def yX0_lampHours : MethodName := ⟨RX0, "lampHours", "()I"⟩
def dkwX0_lampHours_1 : List UInt8 := [44, 185, 0, 197, 1, 0, 192, 0, 98, 78, 27, 45, 180, 0, 236, 96, 60, 167, 255, 230, 27, 172]
abbrev dktX0_lampHours_1 : List UInt8 := dkwX0_lampHours_1 ++ []
def dkwX0_lampHours_0 : List UInt8 := [3, 60, 42, 180, 0, 10, 180, 0, 95, 185, 0, 187, 1, 0, 77, 44, 185, 0, 191, 1, 0, 153, 0, 23]
abbrev dktX0_lampHours_0 : List UInt8 := dkwX0_lampHours_0 ++ dktX0_lampHours_1
theorem dksX0_lampHours_0 : cX0_lampHours.data.toList.drop 0 = dktX0_lampHours_0 := by decide +kernel
theorem dksX0_lampHours_1 : cX0_lampHours.data.toList.drop 24 = dktX0_lampHours_1 := dk_seg dksX0_lampHours_0 24 rfl rfl
theorem dX0_lampHours_0 : decode cX0_lampHours 0 = .ok (.iconst 0, 1) := dk_3 (dk_at dksX0_lampHours_0 0 rfl rfl)
theorem dX0_lampHours_1 : decode cX0_lampHours 1 = .ok (.istore_n 1, 1) := dk_60 (dk_at dksX0_lampHours_0 1 rfl rfl)
theorem dX0_lampHours_2 : decode cX0_lampHours 2 = .ok (.aload_n 0, 1) := dk_42 (dk_at dksX0_lampHours_0 2 rfl rfl)
theorem dX0_lampHours_3 : decode cX0_lampHours 3 = .ok (.getfield 10, 3) := dk_180 0 10 (dk_at dksX0_lampHours_0 3 rfl rfl)
theorem dX0_lampHours_6 : decode cX0_lampHours 6 = .ok (.getfield 95, 3) := dk_180 0 95 (dk_at dksX0_lampHours_0 6 rfl rfl)
theorem dX0_lampHours_9 : decode cX0_lampHours 9 = .ok (.invokeinterface 187 1, 5) := by decide +kernel
theorem dX0_lampHours_14 : decode cX0_lampHours 14 = .ok (.astore_n 2, 1) := dk_77 (dk_at dksX0_lampHours_0 14 rfl rfl)
theorem dX0_lampHours_15 : decode cX0_lampHours 15 = .ok (.aload_n 2, 1) := dk_44 (dk_at dksX0_lampHours_0 15 rfl rfl)
theorem dX0_lampHours_16 : decode cX0_lampHours 16 = .ok (.invokeinterface 191 1, 5) := by decide +kernel
theorem dX0_lampHours_21 : decode cX0_lampHours 21 = .ok (.ifCond .eq 23, 3) := dk_153 0 23 (dk_at dksX0_lampHours_0 21 rfl rfl)
theorem dX0_lampHours_24 : decode cX0_lampHours 24 = .ok (.aload_n 2, 1) := dk_44 (dk_at dksX0_lampHours_1 0 rfl rfl)
theorem dX0_lampHours_25 : decode cX0_lampHours 25 = .ok (.invokeinterface 197 1, 5) := by decide +kernel
theorem dX0_lampHours_30 : decode cX0_lampHours 30 = .ok (.checkcast 98, 3) := dk_192 0 98 (dk_at dksX0_lampHours_1 6 rfl rfl)
theorem dX0_lampHours_33 : decode cX0_lampHours 33 = .ok (.astore_n 3, 1) := dk_78 (dk_at dksX0_lampHours_1 9 rfl rfl)
theorem dX0_lampHours_34 : decode cX0_lampHours 34 = .ok (.iload_n 1, 1) := dk_27 (dk_at dksX0_lampHours_1 10 rfl rfl)
theorem dX0_lampHours_35 : decode cX0_lampHours 35 = .ok (.aload_n 3, 1) := dk_45 (dk_at dksX0_lampHours_1 11 rfl rfl)
theorem dX0_lampHours_36 : decode cX0_lampHours 36 = .ok (.getfield 236, 3) := dk_180 0 236 (dk_at dksX0_lampHours_1 12 rfl rfl)
theorem dX0_lampHours_39 : decode cX0_lampHours 39 = .ok (.iadd, 1) := dk_96 (dk_at dksX0_lampHours_1 15 rfl rfl)
theorem dX0_lampHours_40 : decode cX0_lampHours 40 = .ok (.istore_n 1, 1) := dk_60 (dk_at dksX0_lampHours_1 16 rfl rfl)
theorem dX0_lampHours_41 : decode cX0_lampHours 41 = .ok (.goto (-26), 3) := dk_167 255 230 (dk_at dksX0_lampHours_1 17 rfl rfl)
theorem dX0_lampHours_44 : decode cX0_lampHours 44 = .ok (.iload_n 1, 1) := dk_27 (dk_at dksX0_lampHours_1 20 rfl rfl)
theorem dX0_lampHours_45 : decode cX0_lampHours 45 = .ok (.ireturn, 1) := dk_172 (dk_at dksX0_lampHours_1 21 rfl rfl)
abbrev cX0_showHours : ByteArray := prog_1_method_33_code
def yX0_showHours : MethodName := ⟨RX0, "showHours", "()I"⟩
def dkwX0_showHours_1 : List UInt8 := [44, 185, 0, 197, 1, 0, 192, 0, 154, 78, 27, 45, 180, 1, 4, 96, 60, 167, 255, 230, 27, 172]
abbrev dktX0_showHours_1 : List UInt8 := dkwX0_showHours_1 ++ []
def dkwX0_showHours_0 : List UInt8 := [3, 60, 42, 180, 0, 10, 180, 0, 116, 185, 0, 187, 1, 0, 77, 44, 185, 0, 191, 1, 0, 153, 0, 23]
abbrev dktX0_showHours_0 : List UInt8 := dkwX0_showHours_0 ++ dktX0_showHours_1
theorem dksX0_showHours_0 : cX0_showHours.data.toList.drop 0 = dktX0_showHours_0 := by decide +kernel
theorem dksX0_showHours_1 : cX0_showHours.data.toList.drop 24 = dktX0_showHours_1 := dk_seg dksX0_showHours_0 24 rfl rfl
theorem dX0_showHours_0 : decode cX0_showHours 0 = .ok (.iconst 0, 1) := dk_3 (dk_at dksX0_showHours_0 0 rfl rfl)
theorem dX0_showHours_1 : decode cX0_showHours 1 = .ok (.istore_n 1, 1) := dk_60 (dk_at dksX0_showHours_0 1 rfl rfl)
theorem dX0_showHours_2 : decode cX0_showHours 2 = .ok (.aload_n 0, 1) := dk_42 (dk_at dksX0_showHours_0 2 rfl rfl)
theorem dX0_showHours_3 : decode cX0_showHours 3 = .ok (.getfield 10, 3) := dk_180 0 10 (dk_at dksX0_showHours_0 3 rfl rfl)
theorem dX0_showHours_6 : decode cX0_showHours 6 = .ok (.getfield 116, 3) := dk_180 0 116 (dk_at dksX0_showHours_0 6 rfl rfl)
theorem dX0_showHours_9 : decode cX0_showHours 9 = .ok (.invokeinterface 187 1, 5) := by decide +kernel
theorem dX0_showHours_14 : decode cX0_showHours 14 = .ok (.astore_n 2, 1) := dk_77 (dk_at dksX0_showHours_0 14 rfl rfl)
theorem dX0_showHours_15 : decode cX0_showHours 15 = .ok (.aload_n 2, 1) := dk_44 (dk_at dksX0_showHours_0 15 rfl rfl)
theorem dX0_showHours_16 : decode cX0_showHours 16 = .ok (.invokeinterface 191 1, 5) := by decide +kernel
theorem dX0_showHours_21 : decode cX0_showHours 21 = .ok (.ifCond .eq 23, 3) := dk_153 0 23 (dk_at dksX0_showHours_0 21 rfl rfl)
theorem dX0_showHours_24 : decode cX0_showHours 24 = .ok (.aload_n 2, 1) := dk_44 (dk_at dksX0_showHours_1 0 rfl rfl)
theorem dX0_showHours_25 : decode cX0_showHours 25 = .ok (.invokeinterface 197 1, 5) := by decide +kernel
theorem dX0_showHours_30 : decode cX0_showHours 30 = .ok (.checkcast 154, 3) := dk_192 0 154 (dk_at dksX0_showHours_1 6 rfl rfl)
theorem dX0_showHours_33 : decode cX0_showHours 33 = .ok (.astore_n 3, 1) := dk_78 (dk_at dksX0_showHours_1 9 rfl rfl)
theorem dX0_showHours_34 : decode cX0_showHours 34 = .ok (.iload_n 1, 1) := dk_27 (dk_at dksX0_showHours_1 10 rfl rfl)
theorem dX0_showHours_35 : decode cX0_showHours 35 = .ok (.aload_n 3, 1) := dk_45 (dk_at dksX0_showHours_1 11 rfl rfl)
theorem dX0_showHours_36 : decode cX0_showHours 36 = .ok (.getfield 260, 3) := dk_180 1 4 (dk_at dksX0_showHours_1 12 rfl rfl)
theorem dX0_showHours_39 : decode cX0_showHours 39 = .ok (.iadd, 1) := dk_96 (dk_at dksX0_showHours_1 15 rfl rfl)
theorem dX0_showHours_40 : decode cX0_showHours 40 = .ok (.istore_n 1, 1) := dk_60 (dk_at dksX0_showHours_1 16 rfl rfl)
theorem dX0_showHours_41 : decode cX0_showHours 41 = .ok (.goto (-26), 3) := dk_167 255 230 (dk_at dksX0_showHours_1 17 rfl rfl)
theorem dX0_showHours_44 : decode cX0_showHours 44 = .ok (.iload_n 1, 1) := dk_27 (dk_at dksX0_showHours_1 20 rfl rfl)
theorem dX0_showHours_45 : decode cX0_showHours 45 = .ok (.ireturn, 1) := dk_172 (dk_at dksX0_showHours_1 21 rfl rfl)
abbrev cX0_money : ByteArray := prog_1_method_35_code
def yX0_money : MethodName := ⟨RX0, "money", "(I)I"⟩
def dkwX0_money_4 : List UInt8 := [182, 1, 76, 172, 16, 254, 172]
abbrev dktX0_money_4 : List UInt8 := dkwX0_money_4 ++ []
def dkwX0_money_3 : List UInt8 := [96, 172, 42, 180, 0, 10, 182, 1, 80, 172, 42, 180, 0, 10, 4, 182, 1, 76, 172, 42, 180, 0, 10, 3]
abbrev dktX0_money_3 : List UInt8 := dkwX0_money_3 ++ dktX0_money_4
def dkwX0_money_2 : List UInt8 := [42, 180, 0, 10, 4, 182, 1, 76, 42, 180, 0, 10, 3, 182, 1, 76, 96, 42, 180, 0, 10, 182, 1, 80]
abbrev dktX0_money_2 : List UInt8 := dkwX0_money_2 ++ dktX0_money_3
def dkwX0_money_1 : List UInt8 := [170, 0, 0, 0, 0, 0, 83, 0, 0, 0, 0, 0, 0, 0, 3, 0, 0, 0, 31, 0, 0, 0, 57, 0, 0, 0, 65, 0, 0, 0, 74]
abbrev dktX0_money_1 : List UInt8 := dkwX0_money_1 ++ dktX0_money_2
def dkwX0_money_0 : List UInt8 := [27]
abbrev dktX0_money_0 : List UInt8 := dkwX0_money_0 ++ dktX0_money_1
theorem dksX0_money_0 : cX0_money.data.toList.drop 0 = dktX0_money_0 := by decide +kernel
theorem dksX0_money_1 : cX0_money.data.toList.drop 1 = dktX0_money_1 := dk_seg dksX0_money_0 1 rfl rfl
theorem dksX0_money_2 : cX0_money.data.toList.drop 32 = dktX0_money_2 := dk_seg dksX0_money_1 31 rfl rfl
theorem dksX0_money_3 : cX0_money.data.toList.drop 56 = dktX0_money_3 := dk_seg dksX0_money_2 24 rfl rfl
theorem dksX0_money_4 : cX0_money.data.toList.drop 80 = dktX0_money_4 := dk_seg dksX0_money_3 24 rfl rfl
theorem dX0_money_0 : decode cX0_money 0 = .ok (.iload_n 1, 1) := dk_27 (dk_at dksX0_money_0 0 rfl rfl)
theorem dX0_money_1 : decode cX0_money 1 = .ok (.tableswitch 83 0 3 #[31, 57, 65, 74], 31) := by decide +kernel
theorem dX0_money_32 : decode cX0_money 32 = .ok (.aload_n 0, 1) := dk_42 (dk_at dksX0_money_2 0 rfl rfl)
theorem dX0_money_33 : decode cX0_money 33 = .ok (.getfield 10, 3) := dk_180 0 10 (dk_at dksX0_money_2 1 rfl rfl)
theorem dX0_money_36 : decode cX0_money 36 = .ok (.iconst 1, 1) := dk_4 (dk_at dksX0_money_2 4 rfl rfl)
theorem dX0_money_37 : decode cX0_money 37 = .ok (.invokevirtual 332, 3) := dk_182 1 76 (dk_at dksX0_money_2 5 rfl rfl)
theorem dX0_money_40 : decode cX0_money 40 = .ok (.aload_n 0, 1) := dk_42 (dk_at dksX0_money_2 8 rfl rfl)
theorem dX0_money_41 : decode cX0_money 41 = .ok (.getfield 10, 3) := dk_180 0 10 (dk_at dksX0_money_2 9 rfl rfl)
theorem dX0_money_44 : decode cX0_money 44 = .ok (.iconst 0, 1) := dk_3 (dk_at dksX0_money_2 12 rfl rfl)
theorem dX0_money_45 : decode cX0_money 45 = .ok (.invokevirtual 332, 3) := dk_182 1 76 (dk_at dksX0_money_2 13 rfl rfl)
theorem dX0_money_48 : decode cX0_money 48 = .ok (.iadd, 1) := dk_96 (dk_at dksX0_money_2 16 rfl rfl)
theorem dX0_money_49 : decode cX0_money 49 = .ok (.aload_n 0, 1) := dk_42 (dk_at dksX0_money_2 17 rfl rfl)
theorem dX0_money_50 : decode cX0_money 50 = .ok (.getfield 10, 3) := dk_180 0 10 (dk_at dksX0_money_2 18 rfl rfl)
theorem dX0_money_53 : decode cX0_money 53 = .ok (.invokevirtual 336, 3) := dk_182 1 80 (dk_at dksX0_money_2 21 rfl rfl)
theorem dX0_money_56 : decode cX0_money 56 = .ok (.iadd, 1) := dk_96 (dk_at dksX0_money_3 0 rfl rfl)
theorem dX0_money_57 : decode cX0_money 57 = .ok (.ireturn, 1) := dk_172 (dk_at dksX0_money_3 1 rfl rfl)
theorem dX0_money_58 : decode cX0_money 58 = .ok (.aload_n 0, 1) := dk_42 (dk_at dksX0_money_3 2 rfl rfl)
theorem dX0_money_59 : decode cX0_money 59 = .ok (.getfield 10, 3) := dk_180 0 10 (dk_at dksX0_money_3 3 rfl rfl)
theorem dX0_money_62 : decode cX0_money 62 = .ok (.invokevirtual 336, 3) := dk_182 1 80 (dk_at dksX0_money_3 6 rfl rfl)
theorem dX0_money_65 : decode cX0_money 65 = .ok (.ireturn, 1) := dk_172 (dk_at dksX0_money_3 9 rfl rfl)
theorem dX0_money_66 : decode cX0_money 66 = .ok (.aload_n 0, 1) := dk_42 (dk_at dksX0_money_3 10 rfl rfl)
theorem dX0_money_67 : decode cX0_money 67 = .ok (.getfield 10, 3) := dk_180 0 10 (dk_at dksX0_money_3 11 rfl rfl)
theorem dX0_money_70 : decode cX0_money 70 = .ok (.iconst 1, 1) := dk_4 (dk_at dksX0_money_3 14 rfl rfl)
theorem dX0_money_71 : decode cX0_money 71 = .ok (.invokevirtual 332, 3) := dk_182 1 76 (dk_at dksX0_money_3 15 rfl rfl)
theorem dX0_money_74 : decode cX0_money 74 = .ok (.ireturn, 1) := dk_172 (dk_at dksX0_money_3 18 rfl rfl)
theorem dX0_money_75 : decode cX0_money 75 = .ok (.aload_n 0, 1) := dk_42 (dk_at dksX0_money_3 19 rfl rfl)
theorem dX0_money_76 : decode cX0_money 76 = .ok (.getfield 10, 3) := dk_180 0 10 (dk_at dksX0_money_3 20 rfl rfl)
theorem dX0_money_79 : decode cX0_money 79 = .ok (.iconst 0, 1) := dk_3 (dk_at dksX0_money_3 23 rfl rfl)
theorem dX0_money_80 : decode cX0_money 80 = .ok (.invokevirtual 332, 3) := dk_182 1 76 (dk_at dksX0_money_4 0 rfl rfl)
theorem dX0_money_83 : decode cX0_money 83 = .ok (.ireturn, 1) := dk_172 (dk_at dksX0_money_4 3 rfl rfl)
theorem dX0_money_84 : decode cX0_money 84 = .ok (.bipush (-2), 2) := dk_16 254 (dk_at dksX0_money_4 4 rfl rfl)
theorem dX0_money_86 : decode cX0_money 86 = .ok (.ireturn, 1) := dk_172 (dk_at dksX0_money_4 6 rfl rfl)
abbrev cX0_brightness : ByteArray := prog_1_method_36_code
def yX0_brightness : MethodName := ⟨RX0, "brightness", "(I)I"⟩
def dkwX0_brightness_2 : List UInt8 := [192, 0, 98, 182, 0, 239, 172]
abbrev dktX0_brightness_2 : List UInt8 := dkwX0_brightness_2 ++ []
def dkwX0_brightness_1 : List UInt8 := [182, 0, 106, 156, 0, 7, 3, 167, 0, 22, 44, 180, 0, 95, 44, 182, 0, 106, 185, 0, 89, 2, 0]
abbrev dktX0_brightness_1 : List UInt8 := dkwX0_brightness_1 ++ dktX0_brightness_2
def dkwX0_brightness_0 : List UInt8 := [27, 4, 16, 90, 184, 0, 51, 154, 0, 6, 16, 254, 172, 42, 180, 0, 10, 27, 182, 1, 83, 77, 44]
abbrev dktX0_brightness_0 : List UInt8 := dkwX0_brightness_0 ++ dktX0_brightness_1
theorem dksX0_brightness_0 : cX0_brightness.data.toList.drop 0 = dktX0_brightness_0 := by decide +kernel
theorem dksX0_brightness_1 : cX0_brightness.data.toList.drop 23 = dktX0_brightness_1 := dk_seg dksX0_brightness_0 23 rfl rfl
theorem dksX0_brightness_2 : cX0_brightness.data.toList.drop 46 = dktX0_brightness_2 := dk_seg dksX0_brightness_1 23 rfl rfl
theorem dX0_brightness_0 : decode cX0_brightness 0 = .ok (.iload_n 1, 1) := dk_27 (dk_at dksX0_brightness_0 0 rfl rfl)
theorem dX0_brightness_1 : decode cX0_brightness 1 = .ok (.iconst 1, 1) := dk_4 (dk_at dksX0_brightness_0 1 rfl rfl)
theorem dX0_brightness_2 : decode cX0_brightness 2 = .ok (.bipush 90, 2) := dk_16 90 (dk_at dksX0_brightness_0 2 rfl rfl)
theorem dX0_brightness_4 : decode cX0_brightness 4 = .ok (.invokestatic 51, 3) := dk_184 0 51 (dk_at dksX0_brightness_0 4 rfl rfl)
theorem dX0_brightness_7 : decode cX0_brightness 7 = .ok (.ifCond .ne 6, 3) := dk_154 0 6 (dk_at dksX0_brightness_0 7 rfl rfl)
theorem dX0_brightness_10 : decode cX0_brightness 10 = .ok (.bipush (-2), 2) := dk_16 254 (dk_at dksX0_brightness_0 10 rfl rfl)
theorem dX0_brightness_12 : decode cX0_brightness 12 = .ok (.ireturn, 1) := dk_172 (dk_at dksX0_brightness_0 12 rfl rfl)
theorem dX0_brightness_13 : decode cX0_brightness 13 = .ok (.aload_n 0, 1) := dk_42 (dk_at dksX0_brightness_0 13 rfl rfl)
theorem dX0_brightness_14 : decode cX0_brightness 14 = .ok (.getfield 10, 3) := dk_180 0 10 (dk_at dksX0_brightness_0 14 rfl rfl)
theorem dX0_brightness_17 : decode cX0_brightness 17 = .ok (.iload_n 1, 1) := dk_27 (dk_at dksX0_brightness_0 17 rfl rfl)
theorem dX0_brightness_18 : decode cX0_brightness 18 = .ok (.invokevirtual 339, 3) := dk_182 1 83 (dk_at dksX0_brightness_0 18 rfl rfl)
theorem dX0_brightness_21 : decode cX0_brightness 21 = .ok (.astore_n 2, 1) := dk_77 (dk_at dksX0_brightness_0 21 rfl rfl)
theorem dX0_brightness_22 : decode cX0_brightness 22 = .ok (.aload_n 2, 1) := dk_44 (dk_at dksX0_brightness_0 22 rfl rfl)
theorem dX0_brightness_23 : decode cX0_brightness 23 = .ok (.invokevirtual 106, 3) := dk_182 0 106 (dk_at dksX0_brightness_1 0 rfl rfl)
theorem dX0_brightness_26 : decode cX0_brightness 26 = .ok (.ifCond .ge 7, 3) := dk_156 0 7 (dk_at dksX0_brightness_1 3 rfl rfl)
theorem dX0_brightness_29 : decode cX0_brightness 29 = .ok (.iconst 0, 1) := dk_3 (dk_at dksX0_brightness_1 6 rfl rfl)
theorem dX0_brightness_30 : decode cX0_brightness 30 = .ok (.goto 22, 3) := dk_167 0 22 (dk_at dksX0_brightness_1 7 rfl rfl)
theorem dX0_brightness_33 : decode cX0_brightness 33 = .ok (.aload_n 2, 1) := dk_44 (dk_at dksX0_brightness_1 10 rfl rfl)
theorem dX0_brightness_34 : decode cX0_brightness 34 = .ok (.getfield 95, 3) := dk_180 0 95 (dk_at dksX0_brightness_1 11 rfl rfl)
theorem dX0_brightness_37 : decode cX0_brightness 37 = .ok (.aload_n 2, 1) := dk_44 (dk_at dksX0_brightness_1 14 rfl rfl)
theorem dX0_brightness_38 : decode cX0_brightness 38 = .ok (.invokevirtual 106, 3) := dk_182 0 106 (dk_at dksX0_brightness_1 15 rfl rfl)
theorem dX0_brightness_41 : decode cX0_brightness 41 = .ok (.invokeinterface 89 2, 5) := by decide +kernel
theorem dX0_brightness_46 : decode cX0_brightness 46 = .ok (.checkcast 98, 3) := dk_192 0 98 (dk_at dksX0_brightness_2 0 rfl rfl)
theorem dX0_brightness_49 : decode cX0_brightness 49 = .ok (.invokevirtual 239, 3) := dk_182 0 239 (dk_at dksX0_brightness_2 3 rfl rfl)
theorem dX0_brightness_52 : decode cX0_brightness 52 = .ok (.ireturn, 1) := dk_172 (dk_at dksX0_brightness_2 6 rfl rfl)
abbrev cX0_stateIn : ByteArray := prog_1_method_37_code
def yX0_stateIn : MethodName := ⟨RX0, "stateIn", "(II)I"⟩
def dkwX0_stateIn_2 : List UInt8 := [42, 180, 0, 10, 28, 182, 1, 83, 180, 0, 116, 27, 185, 0, 89, 2, 0, 192, 0, 154, 180, 0, 156, 172]
abbrev dktX0_stateIn_2 : List UInt8 := dkwX0_stateIn_2 ++ []
def dkwX0_stateIn_1 : List UInt8 := [4, 16, 90, 184, 0, 51, 16, 254, 184, 0, 69, 79, 184, 0, 76, 62, 29, 156, 0, 7, 29, 167, 0, 26]
abbrev dktX0_stateIn_1 : List UInt8 := dkwX0_stateIn_1 ++ dktX0_stateIn_2
def dkwX0_stateIn_0 : List UInt8 := [5, 188, 10, 89, 3, 27, 42, 180, 0, 10, 180, 0, 116, 184, 0, 85, 2, 184, 0, 69, 79, 89, 4, 28]
abbrev dktX0_stateIn_0 : List UInt8 := dkwX0_stateIn_0 ++ dktX0_stateIn_1
theorem dksX0_stateIn_0 : cX0_stateIn.data.toList.drop 0 = dktX0_stateIn_0 := by decide +kernel
theorem dksX0_stateIn_1 : cX0_stateIn.data.toList.drop 24 = dktX0_stateIn_1 := dk_seg dksX0_stateIn_0 24 rfl rfl
theorem dksX0_stateIn_2 : cX0_stateIn.data.toList.drop 48 = dktX0_stateIn_2 := dk_seg dksX0_stateIn_1 24 rfl rfl
theorem dX0_stateIn_0 : decode cX0_stateIn 0 = .ok (.iconst 2, 1) := dk_5 (dk_at dksX0_stateIn_0 0 rfl rfl)
theorem dX0_stateIn_1 : decode cX0_stateIn 1 = .ok (.newarray .int, 2) := dk_188_10 (dk_at dksX0_stateIn_0 1 rfl rfl)
theorem dX0_stateIn_3 : decode cX0_stateIn 3 = .ok (.dup, 1) := dk_89 (dk_at dksX0_stateIn_0 3 rfl rfl)
theorem dX0_stateIn_4 : decode cX0_stateIn 4 = .ok (.iconst 0, 1) := dk_3 (dk_at dksX0_stateIn_0 4 rfl rfl)
theorem dX0_stateIn_5 : decode cX0_stateIn 5 = .ok (.iload_n 1, 1) := dk_27 (dk_at dksX0_stateIn_0 5 rfl rfl)
theorem dX0_stateIn_6 : decode cX0_stateIn 6 = .ok (.aload_n 0, 1) := dk_42 (dk_at dksX0_stateIn_0 6 rfl rfl)
theorem dX0_stateIn_7 : decode cX0_stateIn 7 = .ok (.getfield 10, 3) := dk_180 0 10 (dk_at dksX0_stateIn_0 7 rfl rfl)
theorem dX0_stateIn_10 : decode cX0_stateIn 10 = .ok (.getfield 116, 3) := dk_180 0 116 (dk_at dksX0_stateIn_0 10 rfl rfl)
theorem dX0_stateIn_13 : decode cX0_stateIn 13 = .ok (.invokestatic 85, 3) := dk_184 0 85 (dk_at dksX0_stateIn_0 13 rfl rfl)
theorem dX0_stateIn_16 : decode cX0_stateIn 16 = .ok (.iconst (-1), 1) := dk_2 (dk_at dksX0_stateIn_0 16 rfl rfl)
theorem dX0_stateIn_17 : decode cX0_stateIn 17 = .ok (.invokestatic 69, 3) := dk_184 0 69 (dk_at dksX0_stateIn_0 17 rfl rfl)
theorem dX0_stateIn_20 : decode cX0_stateIn 20 = .ok (.iastore, 1) := dk_79 (dk_at dksX0_stateIn_0 20 rfl rfl)
theorem dX0_stateIn_21 : decode cX0_stateIn 21 = .ok (.dup, 1) := dk_89 (dk_at dksX0_stateIn_0 21 rfl rfl)
theorem dX0_stateIn_22 : decode cX0_stateIn 22 = .ok (.iconst 1, 1) := dk_4 (dk_at dksX0_stateIn_0 22 rfl rfl)
theorem dX0_stateIn_23 : decode cX0_stateIn 23 = .ok (.iload_n 2, 1) := dk_28 (dk_at dksX0_stateIn_0 23 rfl rfl)
theorem dX0_stateIn_24 : decode cX0_stateIn 24 = .ok (.iconst 1, 1) := dk_4 (dk_at dksX0_stateIn_1 0 rfl rfl)
theorem dX0_stateIn_25 : decode cX0_stateIn 25 = .ok (.bipush 90, 2) := dk_16 90 (dk_at dksX0_stateIn_1 1 rfl rfl)
theorem dX0_stateIn_27 : decode cX0_stateIn 27 = .ok (.invokestatic 51, 3) := dk_184 0 51 (dk_at dksX0_stateIn_1 3 rfl rfl)
theorem dX0_stateIn_30 : decode cX0_stateIn 30 = .ok (.bipush (-2), 2) := dk_16 254 (dk_at dksX0_stateIn_1 6 rfl rfl)
theorem dX0_stateIn_32 : decode cX0_stateIn 32 = .ok (.invokestatic 69, 3) := dk_184 0 69 (dk_at dksX0_stateIn_1 8 rfl rfl)
theorem dX0_stateIn_35 : decode cX0_stateIn 35 = .ok (.iastore, 1) := dk_79 (dk_at dksX0_stateIn_1 11 rfl rfl)
theorem dX0_stateIn_36 : decode cX0_stateIn 36 = .ok (.invokestatic 76, 3) := dk_184 0 76 (dk_at dksX0_stateIn_1 12 rfl rfl)
theorem dX0_stateIn_39 : decode cX0_stateIn 39 = .ok (.istore_n 3, 1) := dk_62 (dk_at dksX0_stateIn_1 15 rfl rfl)
theorem dX0_stateIn_40 : decode cX0_stateIn 40 = .ok (.iload_n 3, 1) := dk_29 (dk_at dksX0_stateIn_1 16 rfl rfl)
theorem dX0_stateIn_41 : decode cX0_stateIn 41 = .ok (.ifCond .ge 7, 3) := dk_156 0 7 (dk_at dksX0_stateIn_1 17 rfl rfl)
theorem dX0_stateIn_44 : decode cX0_stateIn 44 = .ok (.iload_n 3, 1) := dk_29 (dk_at dksX0_stateIn_1 20 rfl rfl)
theorem dX0_stateIn_45 : decode cX0_stateIn 45 = .ok (.goto 26, 3) := dk_167 0 26 (dk_at dksX0_stateIn_1 21 rfl rfl)
theorem dX0_stateIn_48 : decode cX0_stateIn 48 = .ok (.aload_n 0, 1) := dk_42 (dk_at dksX0_stateIn_2 0 rfl rfl)
theorem dX0_stateIn_49 : decode cX0_stateIn 49 = .ok (.getfield 10, 3) := dk_180 0 10 (dk_at dksX0_stateIn_2 1 rfl rfl)
theorem dX0_stateIn_52 : decode cX0_stateIn 52 = .ok (.iload_n 2, 1) := dk_28 (dk_at dksX0_stateIn_2 4 rfl rfl)
theorem dX0_stateIn_53 : decode cX0_stateIn 53 = .ok (.invokevirtual 339, 3) := dk_182 1 83 (dk_at dksX0_stateIn_2 5 rfl rfl)
theorem dX0_stateIn_56 : decode cX0_stateIn 56 = .ok (.getfield 116, 3) := dk_180 0 116 (dk_at dksX0_stateIn_2 8 rfl rfl)
theorem dX0_stateIn_59 : decode cX0_stateIn 59 = .ok (.iload_n 1, 1) := dk_27 (dk_at dksX0_stateIn_2 11 rfl rfl)
theorem dX0_stateIn_60 : decode cX0_stateIn 60 = .ok (.invokeinterface 89 2, 5) := by decide +kernel
theorem dX0_stateIn_65 : decode cX0_stateIn 65 = .ok (.checkcast 154, 3) := dk_192 0 154 (dk_at dksX0_stateIn_2 17 rfl rfl)
theorem dX0_stateIn_68 : decode cX0_stateIn 68 = .ok (.getfield 156, 3) := dk_180 0 156 (dk_at dksX0_stateIn_2 20 rfl rfl)
theorem dX0_stateIn_71 : decode cX0_stateIn 71 = .ok (.ireturn, 1) := dk_172 (dk_at dksX0_stateIn_2 23 rfl rfl)
abbrev cX0_nextFree : ByteArray := prog_1_method_38_code
def yX0_nextFree : MethodName := ⟨RX0, "nextFree", "(II)I"⟩
def dkwX0_nextFree_2 : List UInt8 := [180, 0, 254, 96, 172]
abbrev dktX0_nextFree_2 : List UInt8 := dkwX0_nextFree_2 ++ []
def dkwX0_nextFree_1 : List UInt8 := [183, 0, 121, 19, 1, 87, 182, 1, 88, 182, 1, 92, 192, 0, 119, 78, 16, 6, 45, 180, 0, 251, 104, 45]
abbrev dktX0_nextFree_1 : List UInt8 := dkwX0_nextFree_1 ++ dktX0_nextFree_2
def dkwX0_nextFree_0 : List UInt8 := [42, 27, 28, 182, 0, 112, 154, 0, 6, 16, 254, 172, 42, 180, 0, 10, 187, 0, 119, 89, 27, 28]
abbrev dktX0_nextFree_0 : List UInt8 := dkwX0_nextFree_0 ++ dktX0_nextFree_1
theorem dksX0_nextFree_0 : cX0_nextFree.data.toList.drop 0 = dktX0_nextFree_0 := by decide +kernel
theorem dksX0_nextFree_1 : cX0_nextFree.data.toList.drop 22 = dktX0_nextFree_1 := dk_seg dksX0_nextFree_0 22 rfl rfl
theorem dksX0_nextFree_2 : cX0_nextFree.data.toList.drop 46 = dktX0_nextFree_2 := dk_seg dksX0_nextFree_1 24 rfl rfl
theorem dX0_nextFree_0 : decode cX0_nextFree 0 = .ok (.aload_n 0, 1) := dk_42 (dk_at dksX0_nextFree_0 0 rfl rfl)
theorem dX0_nextFree_1 : decode cX0_nextFree 1 = .ok (.iload_n 1, 1) := dk_27 (dk_at dksX0_nextFree_0 1 rfl rfl)
theorem dX0_nextFree_2 : decode cX0_nextFree 2 = .ok (.iload_n 2, 1) := dk_28 (dk_at dksX0_nextFree_0 2 rfl rfl)
theorem dX0_nextFree_3 : decode cX0_nextFree 3 = .ok (.invokevirtual 112, 3) := dk_182 0 112 (dk_at dksX0_nextFree_0 3 rfl rfl)
theorem dX0_nextFree_6 : decode cX0_nextFree 6 = .ok (.ifCond .ne 6, 3) := dk_154 0 6 (dk_at dksX0_nextFree_0 6 rfl rfl)
theorem dX0_nextFree_9 : decode cX0_nextFree 9 = .ok (.bipush (-2), 2) := dk_16 254 (dk_at dksX0_nextFree_0 9 rfl rfl)
theorem dX0_nextFree_11 : decode cX0_nextFree 11 = .ok (.ireturn, 1) := dk_172 (dk_at dksX0_nextFree_0 11 rfl rfl)
theorem dX0_nextFree_12 : decode cX0_nextFree 12 = .ok (.aload_n 0, 1) := dk_42 (dk_at dksX0_nextFree_0 12 rfl rfl)
theorem dX0_nextFree_13 : decode cX0_nextFree 13 = .ok (.getfield 10, 3) := dk_180 0 10 (dk_at dksX0_nextFree_0 13 rfl rfl)
theorem dX0_nextFree_16 : decode cX0_nextFree 16 = .ok (.new 119, 3) := dk_187 0 119 (dk_at dksX0_nextFree_0 16 rfl rfl)
theorem dX0_nextFree_19 : decode cX0_nextFree 19 = .ok (.dup, 1) := dk_89 (dk_at dksX0_nextFree_0 19 rfl rfl)
theorem dX0_nextFree_20 : decode cX0_nextFree 20 = .ok (.iload_n 1, 1) := dk_27 (dk_at dksX0_nextFree_0 20 rfl rfl)
theorem dX0_nextFree_21 : decode cX0_nextFree 21 = .ok (.iload_n 2, 1) := dk_28 (dk_at dksX0_nextFree_0 21 rfl rfl)
theorem dX0_nextFree_22 : decode cX0_nextFree 22 = .ok (.invokespecial 121, 3) := dk_183 0 121 (dk_at dksX0_nextFree_1 0 rfl rfl)
theorem dX0_nextFree_25 : decode cX0_nextFree 25 = .ok (.ldc_w 343, 3) := dk_19 1 87 (dk_at dksX0_nextFree_1 3 rfl rfl)
theorem dX0_nextFree_28 : decode cX0_nextFree 28 = .ok (.invokevirtual 344, 3) := dk_182 1 88 (dk_at dksX0_nextFree_1 6 rfl rfl)
theorem dX0_nextFree_31 : decode cX0_nextFree 31 = .ok (.invokevirtual 348, 3) := dk_182 1 92 (dk_at dksX0_nextFree_1 9 rfl rfl)
theorem dX0_nextFree_34 : decode cX0_nextFree 34 = .ok (.checkcast 119, 3) := dk_192 0 119 (dk_at dksX0_nextFree_1 12 rfl rfl)
theorem dX0_nextFree_37 : decode cX0_nextFree 37 = .ok (.astore_n 3, 1) := dk_78 (dk_at dksX0_nextFree_1 15 rfl rfl)
theorem dX0_nextFree_38 : decode cX0_nextFree 38 = .ok (.bipush 6, 2) := dk_16 6 (dk_at dksX0_nextFree_1 16 rfl rfl)
theorem dX0_nextFree_40 : decode cX0_nextFree 40 = .ok (.aload_n 3, 1) := dk_45 (dk_at dksX0_nextFree_1 18 rfl rfl)
theorem dX0_nextFree_41 : decode cX0_nextFree 41 = .ok (.getfield 251, 3) := dk_180 0 251 (dk_at dksX0_nextFree_1 19 rfl rfl)
theorem dX0_nextFree_44 : decode cX0_nextFree 44 = .ok (.imul, 1) := dk_104 (dk_at dksX0_nextFree_1 22 rfl rfl)
theorem dX0_nextFree_45 : decode cX0_nextFree 45 = .ok (.aload_n 3, 1) := dk_45 (dk_at dksX0_nextFree_1 23 rfl rfl)
theorem dX0_nextFree_46 : decode cX0_nextFree 46 = .ok (.getfield 254, 3) := dk_180 0 254 (dk_at dksX0_nextFree_2 0 rfl rfl)
theorem dX0_nextFree_49 : decode cX0_nextFree 49 = .ok (.iadd, 1) := dk_96 (dk_at dksX0_nextFree_2 3 rfl rfl)
theorem dX0_nextFree_50 : decode cX0_nextFree 50 = .ok (.ireturn, 1) := dk_172 (dk_at dksX0_nextFree_2 4 rfl rfl)
abbrev cX0_wouldDisplace : ByteArray := prog_1_method_39_code
def yX0_wouldDisplace : MethodName := ⟨RX0, "wouldDisplace", "(IIII)I"⟩
def dkwX0_wouldDisplace_6 : List UInt8 := [25, 6, 182, 1, 80, 42, 180, 0, 10, 182, 1, 80, 100, 172]
abbrev dktX0_wouldDisplace_6 : List UInt8 := dkwX0_wouldDisplace_6 ++ []
def dkwX0_wouldDisplace_5 : List UInt8 := [21, 7, 21, 8, 100, 172, 21, 8, 172, 25, 6, 182, 1, 96, 42, 180, 0, 10, 182, 1, 96, 100, 172]
abbrev dktX0_wouldDisplace_5 : List UInt8 := dkwX0_wouldDisplace_5 ++ dktX0_wouldDisplace_6
def dkwX0_wouldDisplace_4 : List UInt8 := [170, 0, 0, 0, 48, 0, 0, 0, 0, 0, 0, 0, 2, 0, 0, 0, 25, 0, 0, 0, 31, 0, 0, 0, 34]
abbrev dktX0_wouldDisplace_4 : List UInt8 := dkwX0_wouldDisplace_4 ++ dktX0_wouldDisplace_5
def dkwX0_wouldDisplace_3 : List UInt8 := [42, 180, 0, 10, 7, 182, 1, 64, 100, 54, 8, 21, 4]
abbrev dktX0_wouldDisplace_3 : List UInt8 := dkwX0_wouldDisplace_3 ++ dktX0_wouldDisplace_4
def dkwX0_wouldDisplace_2 : List UInt8 := [180, 0, 10, 183, 0, 44, 58, 6, 25, 6, 27, 28, 29, 182, 0, 151, 54, 7, 25, 6, 7, 182, 1, 64]
abbrev dktX0_wouldDisplace_2 : List UInt8 := dkwX0_wouldDisplace_2 ++ dktX0_wouldDisplace_3
def dkwX0_wouldDisplace_1 : List UInt8 := [184, 0, 69, 79, 184, 0, 76, 54, 5, 21, 5, 156, 0, 6, 21, 5, 172, 187, 0, 7, 89, 42]
abbrev dktX0_wouldDisplace_1 : List UInt8 := dkwX0_wouldDisplace_1 ++ dktX0_wouldDisplace_2
def dkwX0_wouldDisplace_0 : List UInt8 := [5, 188, 10, 89, 3, 42, 27, 28, 29, 182, 0, 148, 79, 89, 4, 21, 4, 3, 6, 184, 0, 51, 16, 254]
abbrev dktX0_wouldDisplace_0 : List UInt8 := dkwX0_wouldDisplace_0 ++ dktX0_wouldDisplace_1
theorem dksX0_wouldDisplace_0 : cX0_wouldDisplace.data.toList.drop 0 = dktX0_wouldDisplace_0 := by decide +kernel
theorem dksX0_wouldDisplace_1 : cX0_wouldDisplace.data.toList.drop 24 = dktX0_wouldDisplace_1 := dk_seg dksX0_wouldDisplace_0 24 rfl rfl
theorem dksX0_wouldDisplace_2 : cX0_wouldDisplace.data.toList.drop 46 = dktX0_wouldDisplace_2 := dk_seg dksX0_wouldDisplace_1 22 rfl rfl
theorem dksX0_wouldDisplace_3 : cX0_wouldDisplace.data.toList.drop 70 = dktX0_wouldDisplace_3 := dk_seg dksX0_wouldDisplace_2 24 rfl rfl
theorem dksX0_wouldDisplace_4 : cX0_wouldDisplace.data.toList.drop 83 = dktX0_wouldDisplace_4 := dk_seg dksX0_wouldDisplace_3 13 rfl rfl
theorem dksX0_wouldDisplace_5 : cX0_wouldDisplace.data.toList.drop 108 = dktX0_wouldDisplace_5 := dk_seg dksX0_wouldDisplace_4 25 rfl rfl
theorem dksX0_wouldDisplace_6 : cX0_wouldDisplace.data.toList.drop 131 = dktX0_wouldDisplace_6 := dk_seg dksX0_wouldDisplace_5 23 rfl rfl
theorem dX0_wouldDisplace_0 : decode cX0_wouldDisplace 0 = .ok (.iconst 2, 1) := dk_5 (dk_at dksX0_wouldDisplace_0 0 rfl rfl)
theorem dX0_wouldDisplace_1 : decode cX0_wouldDisplace 1 = .ok (.newarray .int, 2) := dk_188_10 (dk_at dksX0_wouldDisplace_0 1 rfl rfl)
theorem dX0_wouldDisplace_3 : decode cX0_wouldDisplace 3 = .ok (.dup, 1) := dk_89 (dk_at dksX0_wouldDisplace_0 3 rfl rfl)
theorem dX0_wouldDisplace_4 : decode cX0_wouldDisplace 4 = .ok (.iconst 0, 1) := dk_3 (dk_at dksX0_wouldDisplace_0 4 rfl rfl)
theorem dX0_wouldDisplace_5 : decode cX0_wouldDisplace 5 = .ok (.aload_n 0, 1) := dk_42 (dk_at dksX0_wouldDisplace_0 5 rfl rfl)
theorem dX0_wouldDisplace_6 : decode cX0_wouldDisplace 6 = .ok (.iload_n 1, 1) := dk_27 (dk_at dksX0_wouldDisplace_0 6 rfl rfl)
theorem dX0_wouldDisplace_7 : decode cX0_wouldDisplace 7 = .ok (.iload_n 2, 1) := dk_28 (dk_at dksX0_wouldDisplace_0 7 rfl rfl)
theorem dX0_wouldDisplace_8 : decode cX0_wouldDisplace 8 = .ok (.iload_n 3, 1) := dk_29 (dk_at dksX0_wouldDisplace_0 8 rfl rfl)
theorem dX0_wouldDisplace_9 : decode cX0_wouldDisplace 9 = .ok (.invokevirtual 148, 3) := dk_182 0 148 (dk_at dksX0_wouldDisplace_0 9 rfl rfl)
theorem dX0_wouldDisplace_12 : decode cX0_wouldDisplace 12 = .ok (.iastore, 1) := dk_79 (dk_at dksX0_wouldDisplace_0 12 rfl rfl)
theorem dX0_wouldDisplace_13 : decode cX0_wouldDisplace 13 = .ok (.dup, 1) := dk_89 (dk_at dksX0_wouldDisplace_0 13 rfl rfl)
theorem dX0_wouldDisplace_14 : decode cX0_wouldDisplace 14 = .ok (.iconst 1, 1) := dk_4 (dk_at dksX0_wouldDisplace_0 14 rfl rfl)
theorem dX0_wouldDisplace_15 : decode cX0_wouldDisplace 15 = .ok (.iload 4, 2) := dk_21 4 (dk_at dksX0_wouldDisplace_0 15 rfl rfl)
theorem dX0_wouldDisplace_17 : decode cX0_wouldDisplace 17 = .ok (.iconst 0, 1) := dk_3 (dk_at dksX0_wouldDisplace_0 17 rfl rfl)
theorem dX0_wouldDisplace_18 : decode cX0_wouldDisplace 18 = .ok (.iconst 3, 1) := dk_6 (dk_at dksX0_wouldDisplace_0 18 rfl rfl)
theorem dX0_wouldDisplace_19 : decode cX0_wouldDisplace 19 = .ok (.invokestatic 51, 3) := dk_184 0 51 (dk_at dksX0_wouldDisplace_0 19 rfl rfl)
theorem dX0_wouldDisplace_22 : decode cX0_wouldDisplace 22 = .ok (.bipush (-2), 2) := dk_16 254 (dk_at dksX0_wouldDisplace_0 22 rfl rfl)
theorem dX0_wouldDisplace_24 : decode cX0_wouldDisplace 24 = .ok (.invokestatic 69, 3) := dk_184 0 69 (dk_at dksX0_wouldDisplace_1 0 rfl rfl)
theorem dX0_wouldDisplace_27 : decode cX0_wouldDisplace 27 = .ok (.iastore, 1) := dk_79 (dk_at dksX0_wouldDisplace_1 3 rfl rfl)
theorem dX0_wouldDisplace_28 : decode cX0_wouldDisplace 28 = .ok (.invokestatic 76, 3) := dk_184 0 76 (dk_at dksX0_wouldDisplace_1 4 rfl rfl)
theorem dX0_wouldDisplace_31 : decode cX0_wouldDisplace 31 = .ok (.istore 5, 2) := dk_54 5 (dk_at dksX0_wouldDisplace_1 7 rfl rfl)
theorem dX0_wouldDisplace_33 : decode cX0_wouldDisplace 33 = .ok (.iload 5, 2) := dk_21 5 (dk_at dksX0_wouldDisplace_1 9 rfl rfl)
theorem dX0_wouldDisplace_35 : decode cX0_wouldDisplace 35 = .ok (.ifCond .ge 6, 3) := dk_156 0 6 (dk_at dksX0_wouldDisplace_1 11 rfl rfl)
theorem dX0_wouldDisplace_38 : decode cX0_wouldDisplace 38 = .ok (.iload 5, 2) := dk_21 5 (dk_at dksX0_wouldDisplace_1 14 rfl rfl)
theorem dX0_wouldDisplace_40 : decode cX0_wouldDisplace 40 = .ok (.ireturn, 1) := dk_172 (dk_at dksX0_wouldDisplace_1 16 rfl rfl)
theorem dX0_wouldDisplace_41 : decode cX0_wouldDisplace 41 = .ok (.new 7, 3) := dk_187 0 7 (dk_at dksX0_wouldDisplace_1 17 rfl rfl)
theorem dX0_wouldDisplace_44 : decode cX0_wouldDisplace 44 = .ok (.dup, 1) := dk_89 (dk_at dksX0_wouldDisplace_1 20 rfl rfl)
theorem dX0_wouldDisplace_45 : decode cX0_wouldDisplace 45 = .ok (.aload_n 0, 1) := dk_42 (dk_at dksX0_wouldDisplace_1 21 rfl rfl)
theorem dX0_wouldDisplace_46 : decode cX0_wouldDisplace 46 = .ok (.getfield 10, 3) := dk_180 0 10 (dk_at dksX0_wouldDisplace_2 0 rfl rfl)
theorem dX0_wouldDisplace_49 : decode cX0_wouldDisplace 49 = .ok (.invokespecial 44, 3) := dk_183 0 44 (dk_at dksX0_wouldDisplace_2 3 rfl rfl)
theorem dX0_wouldDisplace_52 : decode cX0_wouldDisplace 52 = .ok (.astore 6, 2) := dk_58 6 (dk_at dksX0_wouldDisplace_2 6 rfl rfl)
theorem dX0_wouldDisplace_54 : decode cX0_wouldDisplace 54 = .ok (.aload 6, 2) := dk_25 6 (dk_at dksX0_wouldDisplace_2 8 rfl rfl)
theorem dX0_wouldDisplace_56 : decode cX0_wouldDisplace 56 = .ok (.iload_n 1, 1) := dk_27 (dk_at dksX0_wouldDisplace_2 10 rfl rfl)
theorem dX0_wouldDisplace_57 : decode cX0_wouldDisplace 57 = .ok (.iload_n 2, 1) := dk_28 (dk_at dksX0_wouldDisplace_2 11 rfl rfl)
theorem dX0_wouldDisplace_58 : decode cX0_wouldDisplace 58 = .ok (.iload_n 3, 1) := dk_29 (dk_at dksX0_wouldDisplace_2 12 rfl rfl)
theorem dX0_wouldDisplace_59 : decode cX0_wouldDisplace 59 = .ok (.invokevirtual 151, 3) := dk_182 0 151 (dk_at dksX0_wouldDisplace_2 13 rfl rfl)
theorem dX0_wouldDisplace_62 : decode cX0_wouldDisplace 62 = .ok (.istore 7, 2) := dk_54 7 (dk_at dksX0_wouldDisplace_2 16 rfl rfl)
theorem dX0_wouldDisplace_64 : decode cX0_wouldDisplace 64 = .ok (.aload 6, 2) := dk_25 6 (dk_at dksX0_wouldDisplace_2 18 rfl rfl)
theorem dX0_wouldDisplace_66 : decode cX0_wouldDisplace 66 = .ok (.iconst 4, 1) := dk_7 (dk_at dksX0_wouldDisplace_2 20 rfl rfl)
theorem dX0_wouldDisplace_67 : decode cX0_wouldDisplace 67 = .ok (.invokevirtual 320, 3) := dk_182 1 64 (dk_at dksX0_wouldDisplace_2 21 rfl rfl)
theorem dX0_wouldDisplace_70 : decode cX0_wouldDisplace 70 = .ok (.aload_n 0, 1) := dk_42 (dk_at dksX0_wouldDisplace_3 0 rfl rfl)
theorem dX0_wouldDisplace_71 : decode cX0_wouldDisplace 71 = .ok (.getfield 10, 3) := dk_180 0 10 (dk_at dksX0_wouldDisplace_3 1 rfl rfl)
theorem dX0_wouldDisplace_74 : decode cX0_wouldDisplace 74 = .ok (.iconst 4, 1) := dk_7 (dk_at dksX0_wouldDisplace_3 4 rfl rfl)
theorem dX0_wouldDisplace_75 : decode cX0_wouldDisplace 75 = .ok (.invokevirtual 320, 3) := dk_182 1 64 (dk_at dksX0_wouldDisplace_3 5 rfl rfl)
theorem dX0_wouldDisplace_78 : decode cX0_wouldDisplace 78 = .ok (.isub, 1) := dk_100 (dk_at dksX0_wouldDisplace_3 8 rfl rfl)
theorem dX0_wouldDisplace_79 : decode cX0_wouldDisplace 79 = .ok (.istore 8, 2) := dk_54 8 (dk_at dksX0_wouldDisplace_3 9 rfl rfl)
theorem dX0_wouldDisplace_81 : decode cX0_wouldDisplace 81 = .ok (.iload 4, 2) := dk_21 4 (dk_at dksX0_wouldDisplace_3 11 rfl rfl)
theorem dX0_wouldDisplace_83 : decode cX0_wouldDisplace 83 = .ok (.tableswitch 48 0 2 #[25, 31, 34], 25) := by decide +kernel
theorem dX0_wouldDisplace_108 : decode cX0_wouldDisplace 108 = .ok (.iload 7, 2) := dk_21 7 (dk_at dksX0_wouldDisplace_5 0 rfl rfl)
theorem dX0_wouldDisplace_110 : decode cX0_wouldDisplace 110 = .ok (.iload 8, 2) := dk_21 8 (dk_at dksX0_wouldDisplace_5 2 rfl rfl)
theorem dX0_wouldDisplace_112 : decode cX0_wouldDisplace 112 = .ok (.isub, 1) := dk_100 (dk_at dksX0_wouldDisplace_5 4 rfl rfl)
theorem dX0_wouldDisplace_113 : decode cX0_wouldDisplace 113 = .ok (.ireturn, 1) := dk_172 (dk_at dksX0_wouldDisplace_5 5 rfl rfl)
theorem dX0_wouldDisplace_114 : decode cX0_wouldDisplace 114 = .ok (.iload 8, 2) := dk_21 8 (dk_at dksX0_wouldDisplace_5 6 rfl rfl)
theorem dX0_wouldDisplace_116 : decode cX0_wouldDisplace 116 = .ok (.ireturn, 1) := dk_172 (dk_at dksX0_wouldDisplace_5 8 rfl rfl)
theorem dX0_wouldDisplace_117 : decode cX0_wouldDisplace 117 = .ok (.aload 6, 2) := dk_25 6 (dk_at dksX0_wouldDisplace_5 9 rfl rfl)
theorem dX0_wouldDisplace_119 : decode cX0_wouldDisplace 119 = .ok (.invokevirtual 352, 3) := dk_182 1 96 (dk_at dksX0_wouldDisplace_5 11 rfl rfl)
theorem dX0_wouldDisplace_122 : decode cX0_wouldDisplace 122 = .ok (.aload_n 0, 1) := dk_42 (dk_at dksX0_wouldDisplace_5 14 rfl rfl)
theorem dX0_wouldDisplace_123 : decode cX0_wouldDisplace 123 = .ok (.getfield 10, 3) := dk_180 0 10 (dk_at dksX0_wouldDisplace_5 15 rfl rfl)
theorem dX0_wouldDisplace_126 : decode cX0_wouldDisplace 126 = .ok (.invokevirtual 352, 3) := dk_182 1 96 (dk_at dksX0_wouldDisplace_5 18 rfl rfl)
theorem dX0_wouldDisplace_129 : decode cX0_wouldDisplace 129 = .ok (.isub, 1) := dk_100 (dk_at dksX0_wouldDisplace_5 21 rfl rfl)
theorem dX0_wouldDisplace_130 : decode cX0_wouldDisplace 130 = .ok (.ireturn, 1) := dk_172 (dk_at dksX0_wouldDisplace_5 22 rfl rfl)
theorem dX0_wouldDisplace_131 : decode cX0_wouldDisplace 131 = .ok (.aload 6, 2) := dk_25 6 (dk_at dksX0_wouldDisplace_6 0 rfl rfl)
theorem dX0_wouldDisplace_133 : decode cX0_wouldDisplace 133 = .ok (.invokevirtual 336, 3) := dk_182 1 80 (dk_at dksX0_wouldDisplace_6 2 rfl rfl)
theorem dX0_wouldDisplace_136 : decode cX0_wouldDisplace 136 = .ok (.aload_n 0, 1) := dk_42 (dk_at dksX0_wouldDisplace_6 5 rfl rfl)
theorem dX0_wouldDisplace_137 : decode cX0_wouldDisplace 137 = .ok (.getfield 10, 3) := dk_180 0 10 (dk_at dksX0_wouldDisplace_6 6 rfl rfl)
theorem dX0_wouldDisplace_140 : decode cX0_wouldDisplace 140 = .ok (.invokevirtual 336, 3) := dk_182 1 80 (dk_at dksX0_wouldDisplace_6 9 rfl rfl)
theorem dX0_wouldDisplace_143 : decode cX0_wouldDisplace 143 = .ok (.isub, 1) := dk_100 (dk_at dksX0_wouldDisplace_6 12 rfl rfl)
theorem dX0_wouldDisplace_144 : decode cX0_wouldDisplace 144 = .ok (.ireturn, 1) := dk_172 (dk_at dksX0_wouldDisplace_6 13 rfl rfl)
abbrev cX0_leastLife : ByteArray := prog_1_method_42_code
def yX0_leastLife : MethodName := ⟨RX0, "leastLife", "()I"⟩
def dkwX0_leastLife_2 : List UInt8 := [62, 167, 0, 8, 21, 4, 4, 96, 61, 167, 255, 224, 28, 172]
abbrev dktX0_leastLife_2 : List UInt8 := dkwX0_leastLife_2 ++ []
def dkwX0_leastLife_1 : List UInt8 := [62, 28, 29, 162, 0, 33, 28, 29, 96, 5, 108, 54, 4, 21, 4, 43, 184, 1, 109, 153, 0, 9, 21, 4]
abbrev dktX0_leastLife_1 : List UInt8 := dkwX0_leastLife_1 ++ dktX0_leastLife_2
def dkwX0_leastLife_0 : List UInt8 := [42, 182, 1, 105, 76, 17, 19, 136, 43, 184, 1, 109, 154, 0, 6, 16, 250, 172, 16, 50, 61, 17, 19, 136]
abbrev dktX0_leastLife_0 : List UInt8 := dkwX0_leastLife_0 ++ dktX0_leastLife_1
theorem dksX0_leastLife_0 : cX0_leastLife.data.toList.drop 0 = dktX0_leastLife_0 := by decide +kernel
theorem dksX0_leastLife_1 : cX0_leastLife.data.toList.drop 24 = dktX0_leastLife_1 := dk_seg dksX0_leastLife_0 24 rfl rfl
theorem dksX0_leastLife_2 : cX0_leastLife.data.toList.drop 48 = dktX0_leastLife_2 := dk_seg dksX0_leastLife_1 24 rfl rfl
theorem dX0_leastLife_0 : decode cX0_leastLife 0 = .ok (.aload_n 0, 1) := dk_42 (dk_at dksX0_leastLife_0 0 rfl rfl)
theorem dX0_leastLife_1 : decode cX0_leastLife 1 = .ok (.invokevirtual 361, 3) := dk_182 1 105 (dk_at dksX0_leastLife_0 1 rfl rfl)
theorem dX0_leastLife_4 : decode cX0_leastLife 4 = .ok (.astore_n 1, 1) := dk_76 (dk_at dksX0_leastLife_0 4 rfl rfl)
theorem dX0_leastLife_5 : decode cX0_leastLife 5 = .ok (.sipush 5000, 3) := dk_17 19 136 (dk_at dksX0_leastLife_0 5 rfl rfl)
theorem dX0_leastLife_8 : decode cX0_leastLife 8 = .ok (.aload_n 1, 1) := dk_43 (dk_at dksX0_leastLife_0 8 rfl rfl)
theorem dX0_leastLife_9 : decode cX0_leastLife 9 = .ok (.invokestatic 365, 3) := dk_184 1 109 (dk_at dksX0_leastLife_0 9 rfl rfl)
theorem dX0_leastLife_12 : decode cX0_leastLife 12 = .ok (.ifCond .ne 6, 3) := dk_154 0 6 (dk_at dksX0_leastLife_0 12 rfl rfl)
theorem dX0_leastLife_15 : decode cX0_leastLife 15 = .ok (.bipush (-6), 2) := dk_16 250 (dk_at dksX0_leastLife_0 15 rfl rfl)
theorem dX0_leastLife_17 : decode cX0_leastLife 17 = .ok (.ireturn, 1) := dk_172 (dk_at dksX0_leastLife_0 17 rfl rfl)
theorem dX0_leastLife_18 : decode cX0_leastLife 18 = .ok (.bipush 50, 2) := dk_16 50 (dk_at dksX0_leastLife_0 18 rfl rfl)
theorem dX0_leastLife_20 : decode cX0_leastLife 20 = .ok (.istore_n 2, 1) := dk_61 (dk_at dksX0_leastLife_0 20 rfl rfl)
theorem dX0_leastLife_21 : decode cX0_leastLife 21 = .ok (.sipush 5000, 3) := dk_17 19 136 (dk_at dksX0_leastLife_0 21 rfl rfl)
theorem dX0_leastLife_24 : decode cX0_leastLife 24 = .ok (.istore_n 3, 1) := dk_62 (dk_at dksX0_leastLife_1 0 rfl rfl)
theorem dX0_leastLife_25 : decode cX0_leastLife 25 = .ok (.iload_n 2, 1) := dk_28 (dk_at dksX0_leastLife_1 1 rfl rfl)
theorem dX0_leastLife_26 : decode cX0_leastLife 26 = .ok (.iload_n 3, 1) := dk_29 (dk_at dksX0_leastLife_1 2 rfl rfl)
theorem dX0_leastLife_27 : decode cX0_leastLife 27 = .ok (.if_icmp .ge 33, 3) := dk_162 0 33 (dk_at dksX0_leastLife_1 3 rfl rfl)
theorem dX0_leastLife_30 : decode cX0_leastLife 30 = .ok (.iload_n 2, 1) := dk_28 (dk_at dksX0_leastLife_1 6 rfl rfl)
theorem dX0_leastLife_31 : decode cX0_leastLife 31 = .ok (.iload_n 3, 1) := dk_29 (dk_at dksX0_leastLife_1 7 rfl rfl)
theorem dX0_leastLife_32 : decode cX0_leastLife 32 = .ok (.iadd, 1) := dk_96 (dk_at dksX0_leastLife_1 8 rfl rfl)
theorem dX0_leastLife_33 : decode cX0_leastLife 33 = .ok (.iconst 2, 1) := dk_5 (dk_at dksX0_leastLife_1 9 rfl rfl)
theorem dX0_leastLife_34 : decode cX0_leastLife 34 = .ok (.idiv, 1) := dk_108 (dk_at dksX0_leastLife_1 10 rfl rfl)
theorem dX0_leastLife_35 : decode cX0_leastLife 35 = .ok (.istore 4, 2) := dk_54 4 (dk_at dksX0_leastLife_1 11 rfl rfl)
theorem dX0_leastLife_37 : decode cX0_leastLife 37 = .ok (.iload 4, 2) := dk_21 4 (dk_at dksX0_leastLife_1 13 rfl rfl)
theorem dX0_leastLife_39 : decode cX0_leastLife 39 = .ok (.aload_n 1, 1) := dk_43 (dk_at dksX0_leastLife_1 15 rfl rfl)
theorem dX0_leastLife_40 : decode cX0_leastLife 40 = .ok (.invokestatic 365, 3) := dk_184 1 109 (dk_at dksX0_leastLife_1 16 rfl rfl)
theorem dX0_leastLife_43 : decode cX0_leastLife 43 = .ok (.ifCond .eq 9, 3) := dk_153 0 9 (dk_at dksX0_leastLife_1 19 rfl rfl)
theorem dX0_leastLife_46 : decode cX0_leastLife 46 = .ok (.iload 4, 2) := dk_21 4 (dk_at dksX0_leastLife_1 22 rfl rfl)
theorem dX0_leastLife_48 : decode cX0_leastLife 48 = .ok (.istore_n 3, 1) := dk_62 (dk_at dksX0_leastLife_2 0 rfl rfl)
theorem dX0_leastLife_49 : decode cX0_leastLife 49 = .ok (.goto 8, 3) := dk_167 0 8 (dk_at dksX0_leastLife_2 1 rfl rfl)
theorem dX0_leastLife_52 : decode cX0_leastLife 52 = .ok (.iload 4, 2) := dk_21 4 (dk_at dksX0_leastLife_2 4 rfl rfl)
theorem dX0_leastLife_54 : decode cX0_leastLife 54 = .ok (.iconst 1, 1) := dk_4 (dk_at dksX0_leastLife_2 6 rfl rfl)
theorem dX0_leastLife_55 : decode cX0_leastLife 55 = .ok (.iadd, 1) := dk_96 (dk_at dksX0_leastLife_2 7 rfl rfl)
theorem dX0_leastLife_56 : decode cX0_leastLife 56 = .ok (.istore_n 2, 1) := dk_61 (dk_at dksX0_leastLife_2 8 rfl rfl)
theorem dX0_leastLife_57 : decode cX0_leastLife 57 = .ok (.goto (-32), 3) := dk_167 255 224 (dk_at dksX0_leastLife_2 9 rfl rfl)
theorem dX0_leastLife_60 : decode cX0_leastLife 60 = .ok (.iload_n 2, 1) := dk_28 (dk_at dksX0_leastLife_2 12 rfl rfl)
theorem dX0_leastLife_61 : decode cX0_leastLife 61 = .ok (.ireturn, 1) := dk_172 (dk_at dksX0_leastLife_2 13 rfl rfl)
abbrev cX0_plannedKinds : ByteArray := prog_1_method_40_code
def yX0_plannedKinds : MethodName := ⟨RX0, "plannedKinds", "()Ljava/util/List;"⟩
def dkwX0_plannedKinds_5 : List UInt8 := [167, 255, 176, 43, 176]
abbrev dktX0_plannedKinds_5 : List UInt8 := dkwX0_plannedKinds_5 ++ []
def dkwX0_plannedKinds_4 : List UInt8 := [185, 0, 89, 2, 0, 192, 0, 80, 185, 0, 47, 2, 0, 87, 132, 3, 255, 44, 182, 1, 100, 77]
abbrev dktX0_plannedKinds_4 : List UInt8 := dkwX0_plannedKinds_4 ++ dktX0_plannedKinds_5
def dkwX0_plannedKinds_3 : List UInt8 := [42, 180, 0, 10, 180, 0, 116, 25, 4, 182, 1, 61, 185, 0, 89, 2, 0, 192, 0, 154, 180, 0, 246]
abbrev dktX0_plannedKinds_3 : List UInt8 := dkwX0_plannedKinds_3 ++ dktX0_plannedKinds_4
def dkwX0_plannedKinds_2 : List UInt8 := [44, 185, 1, 53, 2, 0, 192, 1, 56, 58, 4, 25, 4, 198, 0, 51, 43, 42, 180, 0, 10, 180, 0, 73]
abbrev dktX0_plannedKinds_2 : List UInt8 := dkwX0_plannedKinds_2 ++ dktX0_plannedKinds_3
def dkwX0_plannedKinds_1 : List UInt8 := [42, 180, 0, 10, 180, 1, 58, 185, 1, 99, 1, 0, 62, 29, 158, 0, 82, 42, 180, 0, 10, 180, 1, 58]
abbrev dktX0_plannedKinds_1 : List UInt8 := dkwX0_plannedKinds_1 ++ dktX0_plannedKinds_2
def dkwX0_plannedKinds_0 : List UInt8 := [187, 0, 16, 89, 183, 0, 18, 76, 187, 0, 119, 89, 42, 180, 0, 10, 180, 0, 55, 3, 183, 0, 121, 77]
abbrev dktX0_plannedKinds_0 : List UInt8 := dkwX0_plannedKinds_0 ++ dktX0_plannedKinds_1
theorem dksX0_plannedKinds_0 : cX0_plannedKinds.data.toList.drop 0 = dktX0_plannedKinds_0 := by decide +kernel
theorem dksX0_plannedKinds_1 : cX0_plannedKinds.data.toList.drop 24 = dktX0_plannedKinds_1 := dk_seg dksX0_plannedKinds_0 24 rfl rfl
theorem dksX0_plannedKinds_2 : cX0_plannedKinds.data.toList.drop 48 = dktX0_plannedKinds_2 := dk_seg dksX0_plannedKinds_1 24 rfl rfl
theorem dksX0_plannedKinds_3 : cX0_plannedKinds.data.toList.drop 72 = dktX0_plannedKinds_3 := dk_seg dksX0_plannedKinds_2 24 rfl rfl
theorem dksX0_plannedKinds_4 : cX0_plannedKinds.data.toList.drop 95 = dktX0_plannedKinds_4 := dk_seg dksX0_plannedKinds_3 23 rfl rfl
theorem dksX0_plannedKinds_5 : cX0_plannedKinds.data.toList.drop 117 = dktX0_plannedKinds_5 := dk_seg dksX0_plannedKinds_4 22 rfl rfl
theorem dX0_plannedKinds_0 : decode cX0_plannedKinds 0 = .ok (.new 16, 3) := dk_187 0 16 (dk_at dksX0_plannedKinds_0 0 rfl rfl)
theorem dX0_plannedKinds_3 : decode cX0_plannedKinds 3 = .ok (.dup, 1) := dk_89 (dk_at dksX0_plannedKinds_0 3 rfl rfl)
theorem dX0_plannedKinds_4 : decode cX0_plannedKinds 4 = .ok (.invokespecial 18, 3) := dk_183 0 18 (dk_at dksX0_plannedKinds_0 4 rfl rfl)
theorem dX0_plannedKinds_7 : decode cX0_plannedKinds 7 = .ok (.astore_n 1, 1) := dk_76 (dk_at dksX0_plannedKinds_0 7 rfl rfl)
theorem dX0_plannedKinds_8 : decode cX0_plannedKinds 8 = .ok (.new 119, 3) := dk_187 0 119 (dk_at dksX0_plannedKinds_0 8 rfl rfl)
theorem dX0_plannedKinds_11 : decode cX0_plannedKinds 11 = .ok (.dup, 1) := dk_89 (dk_at dksX0_plannedKinds_0 11 rfl rfl)
theorem dX0_plannedKinds_12 : decode cX0_plannedKinds 12 = .ok (.aload_n 0, 1) := dk_42 (dk_at dksX0_plannedKinds_0 12 rfl rfl)
theorem dX0_plannedKinds_13 : decode cX0_plannedKinds 13 = .ok (.getfield 10, 3) := dk_180 0 10 (dk_at dksX0_plannedKinds_0 13 rfl rfl)
theorem dX0_plannedKinds_16 : decode cX0_plannedKinds 16 = .ok (.getfield 55, 3) := dk_180 0 55 (dk_at dksX0_plannedKinds_0 16 rfl rfl)
theorem dX0_plannedKinds_19 : decode cX0_plannedKinds 19 = .ok (.iconst 0, 1) := dk_3 (dk_at dksX0_plannedKinds_0 19 rfl rfl)
theorem dX0_plannedKinds_20 : decode cX0_plannedKinds 20 = .ok (.invokespecial 121, 3) := dk_183 0 121 (dk_at dksX0_plannedKinds_0 20 rfl rfl)
theorem dX0_plannedKinds_23 : decode cX0_plannedKinds 23 = .ok (.astore_n 2, 1) := dk_77 (dk_at dksX0_plannedKinds_0 23 rfl rfl)
theorem dX0_plannedKinds_24 : decode cX0_plannedKinds 24 = .ok (.aload_n 0, 1) := dk_42 (dk_at dksX0_plannedKinds_1 0 rfl rfl)
theorem dX0_plannedKinds_25 : decode cX0_plannedKinds 25 = .ok (.getfield 10, 3) := dk_180 0 10 (dk_at dksX0_plannedKinds_1 1 rfl rfl)
theorem dX0_plannedKinds_28 : decode cX0_plannedKinds 28 = .ok (.getfield 314, 3) := dk_180 1 58 (dk_at dksX0_plannedKinds_1 4 rfl rfl)
theorem dX0_plannedKinds_31 : decode cX0_plannedKinds 31 = .ok (.invokeinterface 355 1, 5) := by decide +kernel
theorem dX0_plannedKinds_36 : decode cX0_plannedKinds 36 = .ok (.istore_n 3, 1) := dk_62 (dk_at dksX0_plannedKinds_1 12 rfl rfl)
theorem dX0_plannedKinds_37 : decode cX0_plannedKinds 37 = .ok (.iload_n 3, 1) := dk_29 (dk_at dksX0_plannedKinds_1 13 rfl rfl)
theorem dX0_plannedKinds_38 : decode cX0_plannedKinds 38 = .ok (.ifCond .le 82, 3) := dk_158 0 82 (dk_at dksX0_plannedKinds_1 14 rfl rfl)
theorem dX0_plannedKinds_41 : decode cX0_plannedKinds 41 = .ok (.aload_n 0, 1) := dk_42 (dk_at dksX0_plannedKinds_1 17 rfl rfl)
theorem dX0_plannedKinds_42 : decode cX0_plannedKinds 42 = .ok (.getfield 10, 3) := dk_180 0 10 (dk_at dksX0_plannedKinds_1 18 rfl rfl)
theorem dX0_plannedKinds_45 : decode cX0_plannedKinds 45 = .ok (.getfield 314, 3) := dk_180 1 58 (dk_at dksX0_plannedKinds_1 21 rfl rfl)
theorem dX0_plannedKinds_48 : decode cX0_plannedKinds 48 = .ok (.aload_n 2, 1) := dk_44 (dk_at dksX0_plannedKinds_2 0 rfl rfl)
theorem dX0_plannedKinds_49 : decode cX0_plannedKinds 49 = .ok (.invokeinterface 309 2, 5) := by decide +kernel
theorem dX0_plannedKinds_54 : decode cX0_plannedKinds 54 = .ok (.checkcast 312, 3) := dk_192 1 56 (dk_at dksX0_plannedKinds_2 6 rfl rfl)
theorem dX0_plannedKinds_57 : decode cX0_plannedKinds 57 = .ok (.astore 4, 2) := dk_58 4 (dk_at dksX0_plannedKinds_2 9 rfl rfl)
theorem dX0_plannedKinds_59 : decode cX0_plannedKinds 59 = .ok (.aload 4, 2) := dk_25 4 (dk_at dksX0_plannedKinds_2 11 rfl rfl)
theorem dX0_plannedKinds_61 : decode cX0_plannedKinds 61 = .ok (.ifnull 51, 3) := dk_198 0 51 (dk_at dksX0_plannedKinds_2 13 rfl rfl)
theorem dX0_plannedKinds_64 : decode cX0_plannedKinds 64 = .ok (.aload_n 1, 1) := dk_43 (dk_at dksX0_plannedKinds_2 16 rfl rfl)
theorem dX0_plannedKinds_65 : decode cX0_plannedKinds 65 = .ok (.aload_n 0, 1) := dk_42 (dk_at dksX0_plannedKinds_2 17 rfl rfl)
theorem dX0_plannedKinds_66 : decode cX0_plannedKinds 66 = .ok (.getfield 10, 3) := dk_180 0 10 (dk_at dksX0_plannedKinds_2 18 rfl rfl)
theorem dX0_plannedKinds_69 : decode cX0_plannedKinds 69 = .ok (.getfield 73, 3) := dk_180 0 73 (dk_at dksX0_plannedKinds_2 21 rfl rfl)
theorem dX0_plannedKinds_72 : decode cX0_plannedKinds 72 = .ok (.aload_n 0, 1) := dk_42 (dk_at dksX0_plannedKinds_3 0 rfl rfl)
theorem dX0_plannedKinds_73 : decode cX0_plannedKinds 73 = .ok (.getfield 10, 3) := dk_180 0 10 (dk_at dksX0_plannedKinds_3 1 rfl rfl)
theorem dX0_plannedKinds_76 : decode cX0_plannedKinds 76 = .ok (.getfield 116, 3) := dk_180 0 116 (dk_at dksX0_plannedKinds_3 4 rfl rfl)
theorem dX0_plannedKinds_79 : decode cX0_plannedKinds 79 = .ok (.aload 4, 2) := dk_25 4 (dk_at dksX0_plannedKinds_3 7 rfl rfl)
theorem dX0_plannedKinds_81 : decode cX0_plannedKinds 81 = .ok (.invokevirtual 317, 3) := dk_182 1 61 (dk_at dksX0_plannedKinds_3 9 rfl rfl)
theorem dX0_plannedKinds_84 : decode cX0_plannedKinds 84 = .ok (.invokeinterface 89 2, 5) := by decide +kernel
theorem dX0_plannedKinds_89 : decode cX0_plannedKinds 89 = .ok (.checkcast 154, 3) := dk_192 0 154 (dk_at dksX0_plannedKinds_3 17 rfl rfl)
theorem dX0_plannedKinds_92 : decode cX0_plannedKinds 92 = .ok (.getfield 246, 3) := dk_180 0 246 (dk_at dksX0_plannedKinds_3 20 rfl rfl)
theorem dX0_plannedKinds_95 : decode cX0_plannedKinds 95 = .ok (.invokeinterface 89 2, 5) := by decide +kernel
theorem dX0_plannedKinds_100 : decode cX0_plannedKinds 100 = .ok (.checkcast 80, 3) := dk_192 0 80 (dk_at dksX0_plannedKinds_4 5 rfl rfl)
theorem dX0_plannedKinds_103 : decode cX0_plannedKinds 103 = .ok (.invokeinterface 47 2, 5) := by decide +kernel
theorem dX0_plannedKinds_108 : decode cX0_plannedKinds 108 = .ok (.pop, 1) := dk_87 (dk_at dksX0_plannedKinds_4 13 rfl rfl)
theorem dX0_plannedKinds_109 : decode cX0_plannedKinds 109 = .ok (.iinc 3 (-1), 3) := dk_132 3 255 (dk_at dksX0_plannedKinds_4 14 rfl rfl)
theorem dX0_plannedKinds_112 : decode cX0_plannedKinds 112 = .ok (.aload_n 2, 1) := dk_44 (dk_at dksX0_plannedKinds_4 17 rfl rfl)
theorem dX0_plannedKinds_113 : decode cX0_plannedKinds 113 = .ok (.invokevirtual 356, 3) := dk_182 1 100 (dk_at dksX0_plannedKinds_4 18 rfl rfl)
theorem dX0_plannedKinds_116 : decode cX0_plannedKinds 116 = .ok (.astore_n 2, 1) := dk_77 (dk_at dksX0_plannedKinds_4 21 rfl rfl)
theorem dX0_plannedKinds_117 : decode cX0_plannedKinds 117 = .ok (.goto (-80), 3) := dk_167 255 176 (dk_at dksX0_plannedKinds_5 0 rfl rfl)
theorem dX0_plannedKinds_120 : decode cX0_plannedKinds 120 = .ok (.aload_n 1, 1) := dk_43 (dk_at dksX0_plannedKinds_5 3 rfl rfl)
theorem dX0_plannedKinds_121 : decode cX0_plannedKinds 121 = .ok (.areturn, 1) := dk_176 (dk_at dksX0_plannedKinds_5 4 rfl rfl)
abbrev cX0_does : ByteArray := prog_1_method_41_code
def yX0_does : MethodName := ⟨RX0, "does", "(ILjava/util/List;)Z"⟩
def dkwX0_does_3 : List UInt8 := [167, 255, 205, 4, 172]
abbrev dktX0_does_3 : List UInt8 := dkwX0_does_3 ++ []
def dkwX0_does_2 : List UInt8 := [161, 0, 20, 44, 25, 4, 180, 0, 224, 182, 1, 103, 25, 4, 180, 0, 224, 162, 0, 5, 3, 172]
abbrev dktX0_does_2 : List UInt8 := dkwX0_does_2 ++ dktX0_does_3
def dkwX0_does_1 : List UInt8 := [153, 0, 48, 45, 185, 0, 197, 1, 0, 192, 0, 80, 58, 4, 44, 182, 0, 239, 25, 4, 180, 0, 227]
abbrev dktX0_does_1 : List UInt8 := dkwX0_does_1 ++ dktX0_does_2
def dkwX0_does_0 : List UInt8 := [187, 0, 98, 89, 26, 183, 0, 100, 77, 43, 185, 0, 187, 1, 0, 78, 45, 185, 0, 191, 1, 0]
abbrev dktX0_does_0 : List UInt8 := dkwX0_does_0 ++ dktX0_does_1
theorem dksX0_does_0 : cX0_does.data.toList.drop 0 = dktX0_does_0 := by decide +kernel
theorem dksX0_does_1 : cX0_does.data.toList.drop 22 = dktX0_does_1 := dk_seg dksX0_does_0 22 rfl rfl
theorem dksX0_does_2 : cX0_does.data.toList.drop 45 = dktX0_does_2 := dk_seg dksX0_does_1 23 rfl rfl
theorem dksX0_does_3 : cX0_does.data.toList.drop 67 = dktX0_does_3 := dk_seg dksX0_does_2 22 rfl rfl
theorem dX0_does_0 : decode cX0_does 0 = .ok (.new 98, 3) := dk_187 0 98 (dk_at dksX0_does_0 0 rfl rfl)
theorem dX0_does_3 : decode cX0_does 3 = .ok (.dup, 1) := dk_89 (dk_at dksX0_does_0 3 rfl rfl)
theorem dX0_does_4 : decode cX0_does 4 = .ok (.iload_n 0, 1) := dk_26 (dk_at dksX0_does_0 4 rfl rfl)
theorem dX0_does_5 : decode cX0_does 5 = .ok (.invokespecial 100, 3) := dk_183 0 100 (dk_at dksX0_does_0 5 rfl rfl)
theorem dX0_does_8 : decode cX0_does 8 = .ok (.astore_n 2, 1) := dk_77 (dk_at dksX0_does_0 8 rfl rfl)
theorem dX0_does_9 : decode cX0_does 9 = .ok (.aload_n 1, 1) := dk_43 (dk_at dksX0_does_0 9 rfl rfl)
theorem dX0_does_10 : decode cX0_does 10 = .ok (.invokeinterface 187 1, 5) := by decide +kernel
theorem dX0_does_15 : decode cX0_does 15 = .ok (.astore_n 3, 1) := dk_78 (dk_at dksX0_does_0 15 rfl rfl)
theorem dX0_does_16 : decode cX0_does 16 = .ok (.aload_n 3, 1) := dk_45 (dk_at dksX0_does_0 16 rfl rfl)
theorem dX0_does_17 : decode cX0_does 17 = .ok (.invokeinterface 191 1, 5) := by decide +kernel
theorem dX0_does_22 : decode cX0_does 22 = .ok (.ifCond .eq 48, 3) := dk_153 0 48 (dk_at dksX0_does_1 0 rfl rfl)
theorem dX0_does_25 : decode cX0_does 25 = .ok (.aload_n 3, 1) := dk_45 (dk_at dksX0_does_1 3 rfl rfl)
theorem dX0_does_26 : decode cX0_does 26 = .ok (.invokeinterface 197 1, 5) := by decide +kernel
theorem dX0_does_31 : decode cX0_does 31 = .ok (.checkcast 80, 3) := dk_192 0 80 (dk_at dksX0_does_1 9 rfl rfl)
theorem dX0_does_34 : decode cX0_does 34 = .ok (.astore 4, 2) := dk_58 4 (dk_at dksX0_does_1 12 rfl rfl)
theorem dX0_does_36 : decode cX0_does 36 = .ok (.aload_n 2, 1) := dk_44 (dk_at dksX0_does_1 14 rfl rfl)
theorem dX0_does_37 : decode cX0_does 37 = .ok (.invokevirtual 239, 3) := dk_182 0 239 (dk_at dksX0_does_1 15 rfl rfl)
theorem dX0_does_40 : decode cX0_does 40 = .ok (.aload 4, 2) := dk_25 4 (dk_at dksX0_does_1 18 rfl rfl)
theorem dX0_does_42 : decode cX0_does 42 = .ok (.getfield 227, 3) := dk_180 0 227 (dk_at dksX0_does_1 20 rfl rfl)
theorem dX0_does_45 : decode cX0_does 45 = .ok (.if_icmp .lt 20, 3) := dk_161 0 20 (dk_at dksX0_does_2 0 rfl rfl)
theorem dX0_does_48 : decode cX0_does 48 = .ok (.aload_n 2, 1) := dk_44 (dk_at dksX0_does_2 3 rfl rfl)
theorem dX0_does_49 : decode cX0_does 49 = .ok (.aload 4, 2) := dk_25 4 (dk_at dksX0_does_2 4 rfl rfl)
theorem dX0_does_51 : decode cX0_does 51 = .ok (.getfield 224, 3) := dk_180 0 224 (dk_at dksX0_does_2 6 rfl rfl)
theorem dX0_does_54 : decode cX0_does 54 = .ok (.invokevirtual 359, 3) := dk_182 1 103 (dk_at dksX0_does_2 9 rfl rfl)
theorem dX0_does_57 : decode cX0_does 57 = .ok (.aload 4, 2) := dk_25 4 (dk_at dksX0_does_2 12 rfl rfl)
theorem dX0_does_59 : decode cX0_does 59 = .ok (.getfield 224, 3) := dk_180 0 224 (dk_at dksX0_does_2 14 rfl rfl)
theorem dX0_does_62 : decode cX0_does 62 = .ok (.if_icmp .ge 5, 3) := dk_162 0 5 (dk_at dksX0_does_2 17 rfl rfl)
theorem dX0_does_65 : decode cX0_does 65 = .ok (.iconst 0, 1) := dk_3 (dk_at dksX0_does_2 20 rfl rfl)
theorem dX0_does_66 : decode cX0_does 66 = .ok (.ireturn, 1) := dk_172 (dk_at dksX0_does_2 21 rfl rfl)
theorem dX0_does_67 : decode cX0_does 67 = .ok (.goto (-51), 3) := dk_167 255 205 (dk_at dksX0_does_3 0 rfl rfl)
theorem dX0_does_70 : decode cX0_does 70 = .ok (.iconst 1, 1) := dk_4 (dk_at dksX0_does_3 3 rfl rfl)
theorem dX0_does_71 : decode cX0_does 71 = .ok (.ireturn, 1) := dk_172 (dk_at dksX0_does_3 4 rfl rfl)
abbrev cX0_mostShows : ByteArray := prog_1_method_43_code
def yX0_mostShows : MethodName := ⟨RX0, "mostShows", "(II)I"⟩
def dkwX0_mostShows_4 : List UInt8 := [182, 1, 103, 45, 180, 0, 224, 160, 0, 9, 132, 5, 1, 167, 255, 225, 21, 5, 172]
abbrev dktX0_mostShows_4 : List UInt8 := dkwX0_mostShows_4 ++ []
def dkwX0_mostShows_3 : List UInt8 := [58, 4, 3, 54, 5, 25, 4, 182, 0, 239, 45, 180, 0, 227, 161, 0, 25, 25, 4, 45, 180, 0, 224]
abbrev dktX0_mostShows_3 : List UInt8 := dkwX0_mostShows_3 ++ dktX0_mostShows_4
def dkwX0_mostShows_2 : List UInt8 := [78, 187, 0, 98, 89, 42, 180, 0, 10, 180, 0, 95, 28, 185, 0, 89, 2, 0, 192, 0, 98, 183, 1, 112]
abbrev dktX0_mostShows_2 : List UInt8 := dkwX0_mostShows_2 ++ dktX0_mostShows_3
def dkwX0_mostShows_1 : List UInt8 := [184, 0, 85, 154, 0, 5, 2, 172, 42, 180, 0, 10, 180, 0, 73, 27, 185, 0, 89, 2, 0, 192, 0, 80]
abbrev dktX0_mostShows_1 : List UInt8 := dkwX0_mostShows_1 ++ dktX0_mostShows_2
def dkwX0_mostShows_0 : List UInt8 := [27, 42, 180, 0, 10, 180, 0, 73, 184, 0, 85, 153, 0, 17, 28, 42, 180, 0, 10, 180, 0, 95]
abbrev dktX0_mostShows_0 : List UInt8 := dkwX0_mostShows_0 ++ dktX0_mostShows_1
theorem dksX0_mostShows_0 : cX0_mostShows.data.toList.drop 0 = dktX0_mostShows_0 := by decide +kernel
theorem dksX0_mostShows_1 : cX0_mostShows.data.toList.drop 22 = dktX0_mostShows_1 := dk_seg dksX0_mostShows_0 22 rfl rfl
theorem dksX0_mostShows_2 : cX0_mostShows.data.toList.drop 46 = dktX0_mostShows_2 := dk_seg dksX0_mostShows_1 24 rfl rfl
theorem dksX0_mostShows_3 : cX0_mostShows.data.toList.drop 70 = dktX0_mostShows_3 := dk_seg dksX0_mostShows_2 24 rfl rfl
theorem dksX0_mostShows_4 : cX0_mostShows.data.toList.drop 93 = dktX0_mostShows_4 := dk_seg dksX0_mostShows_3 23 rfl rfl
theorem dX0_mostShows_0 : decode cX0_mostShows 0 = .ok (.iload_n 1, 1) := dk_27 (dk_at dksX0_mostShows_0 0 rfl rfl)
theorem dX0_mostShows_1 : decode cX0_mostShows 1 = .ok (.aload_n 0, 1) := dk_42 (dk_at dksX0_mostShows_0 1 rfl rfl)
theorem dX0_mostShows_2 : decode cX0_mostShows 2 = .ok (.getfield 10, 3) := dk_180 0 10 (dk_at dksX0_mostShows_0 2 rfl rfl)
theorem dX0_mostShows_5 : decode cX0_mostShows 5 = .ok (.getfield 73, 3) := dk_180 0 73 (dk_at dksX0_mostShows_0 5 rfl rfl)
theorem dX0_mostShows_8 : decode cX0_mostShows 8 = .ok (.invokestatic 85, 3) := dk_184 0 85 (dk_at dksX0_mostShows_0 8 rfl rfl)
theorem dX0_mostShows_11 : decode cX0_mostShows 11 = .ok (.ifCond .eq 17, 3) := dk_153 0 17 (dk_at dksX0_mostShows_0 11 rfl rfl)
theorem dX0_mostShows_14 : decode cX0_mostShows 14 = .ok (.iload_n 2, 1) := dk_28 (dk_at dksX0_mostShows_0 14 rfl rfl)
theorem dX0_mostShows_15 : decode cX0_mostShows 15 = .ok (.aload_n 0, 1) := dk_42 (dk_at dksX0_mostShows_0 15 rfl rfl)
theorem dX0_mostShows_16 : decode cX0_mostShows 16 = .ok (.getfield 10, 3) := dk_180 0 10 (dk_at dksX0_mostShows_0 16 rfl rfl)
theorem dX0_mostShows_19 : decode cX0_mostShows 19 = .ok (.getfield 95, 3) := dk_180 0 95 (dk_at dksX0_mostShows_0 19 rfl rfl)
theorem dX0_mostShows_22 : decode cX0_mostShows 22 = .ok (.invokestatic 85, 3) := dk_184 0 85 (dk_at dksX0_mostShows_1 0 rfl rfl)
theorem dX0_mostShows_25 : decode cX0_mostShows 25 = .ok (.ifCond .ne 5, 3) := dk_154 0 5 (dk_at dksX0_mostShows_1 3 rfl rfl)
theorem dX0_mostShows_28 : decode cX0_mostShows 28 = .ok (.iconst (-1), 1) := dk_2 (dk_at dksX0_mostShows_1 6 rfl rfl)
theorem dX0_mostShows_29 : decode cX0_mostShows 29 = .ok (.ireturn, 1) := dk_172 (dk_at dksX0_mostShows_1 7 rfl rfl)
theorem dX0_mostShows_30 : decode cX0_mostShows 30 = .ok (.aload_n 0, 1) := dk_42 (dk_at dksX0_mostShows_1 8 rfl rfl)
theorem dX0_mostShows_31 : decode cX0_mostShows 31 = .ok (.getfield 10, 3) := dk_180 0 10 (dk_at dksX0_mostShows_1 9 rfl rfl)
theorem dX0_mostShows_34 : decode cX0_mostShows 34 = .ok (.getfield 73, 3) := dk_180 0 73 (dk_at dksX0_mostShows_1 12 rfl rfl)
theorem dX0_mostShows_37 : decode cX0_mostShows 37 = .ok (.iload_n 1, 1) := dk_27 (dk_at dksX0_mostShows_1 15 rfl rfl)
theorem dX0_mostShows_38 : decode cX0_mostShows 38 = .ok (.invokeinterface 89 2, 5) := by decide +kernel
theorem dX0_mostShows_43 : decode cX0_mostShows 43 = .ok (.checkcast 80, 3) := dk_192 0 80 (dk_at dksX0_mostShows_1 21 rfl rfl)
theorem dX0_mostShows_46 : decode cX0_mostShows 46 = .ok (.astore_n 3, 1) := dk_78 (dk_at dksX0_mostShows_2 0 rfl rfl)
theorem dX0_mostShows_47 : decode cX0_mostShows 47 = .ok (.new 98, 3) := dk_187 0 98 (dk_at dksX0_mostShows_2 1 rfl rfl)
theorem dX0_mostShows_50 : decode cX0_mostShows 50 = .ok (.dup, 1) := dk_89 (dk_at dksX0_mostShows_2 4 rfl rfl)
theorem dX0_mostShows_51 : decode cX0_mostShows 51 = .ok (.aload_n 0, 1) := dk_42 (dk_at dksX0_mostShows_2 5 rfl rfl)
theorem dX0_mostShows_52 : decode cX0_mostShows 52 = .ok (.getfield 10, 3) := dk_180 0 10 (dk_at dksX0_mostShows_2 6 rfl rfl)
theorem dX0_mostShows_55 : decode cX0_mostShows 55 = .ok (.getfield 95, 3) := dk_180 0 95 (dk_at dksX0_mostShows_2 9 rfl rfl)
theorem dX0_mostShows_58 : decode cX0_mostShows 58 = .ok (.iload_n 2, 1) := dk_28 (dk_at dksX0_mostShows_2 12 rfl rfl)
theorem dX0_mostShows_59 : decode cX0_mostShows 59 = .ok (.invokeinterface 89 2, 5) := by decide +kernel
theorem dX0_mostShows_64 : decode cX0_mostShows 64 = .ok (.checkcast 98, 3) := dk_192 0 98 (dk_at dksX0_mostShows_2 18 rfl rfl)
theorem dX0_mostShows_67 : decode cX0_mostShows 67 = .ok (.invokespecial 368, 3) := dk_183 1 112 (dk_at dksX0_mostShows_2 21 rfl rfl)
theorem dX0_mostShows_70 : decode cX0_mostShows 70 = .ok (.astore 4, 2) := dk_58 4 (dk_at dksX0_mostShows_3 0 rfl rfl)
theorem dX0_mostShows_72 : decode cX0_mostShows 72 = .ok (.iconst 0, 1) := dk_3 (dk_at dksX0_mostShows_3 2 rfl rfl)
theorem dX0_mostShows_73 : decode cX0_mostShows 73 = .ok (.istore 5, 2) := dk_54 5 (dk_at dksX0_mostShows_3 3 rfl rfl)
theorem dX0_mostShows_75 : decode cX0_mostShows 75 = .ok (.aload 4, 2) := dk_25 4 (dk_at dksX0_mostShows_3 5 rfl rfl)
theorem dX0_mostShows_77 : decode cX0_mostShows 77 = .ok (.invokevirtual 239, 3) := dk_182 0 239 (dk_at dksX0_mostShows_3 7 rfl rfl)
theorem dX0_mostShows_80 : decode cX0_mostShows 80 = .ok (.aload_n 3, 1) := dk_45 (dk_at dksX0_mostShows_3 10 rfl rfl)
theorem dX0_mostShows_81 : decode cX0_mostShows 81 = .ok (.getfield 227, 3) := dk_180 0 227 (dk_at dksX0_mostShows_3 11 rfl rfl)
theorem dX0_mostShows_84 : decode cX0_mostShows 84 = .ok (.if_icmp .lt 25, 3) := dk_161 0 25 (dk_at dksX0_mostShows_3 14 rfl rfl)
theorem dX0_mostShows_87 : decode cX0_mostShows 87 = .ok (.aload 4, 2) := dk_25 4 (dk_at dksX0_mostShows_3 17 rfl rfl)
theorem dX0_mostShows_89 : decode cX0_mostShows 89 = .ok (.aload_n 3, 1) := dk_45 (dk_at dksX0_mostShows_3 19 rfl rfl)
theorem dX0_mostShows_90 : decode cX0_mostShows 90 = .ok (.getfield 224, 3) := dk_180 0 224 (dk_at dksX0_mostShows_3 20 rfl rfl)
theorem dX0_mostShows_93 : decode cX0_mostShows 93 = .ok (.invokevirtual 359, 3) := dk_182 1 103 (dk_at dksX0_mostShows_4 0 rfl rfl)
theorem dX0_mostShows_96 : decode cX0_mostShows 96 = .ok (.aload_n 3, 1) := dk_45 (dk_at dksX0_mostShows_4 3 rfl rfl)
theorem dX0_mostShows_97 : decode cX0_mostShows 97 = .ok (.getfield 224, 3) := dk_180 0 224 (dk_at dksX0_mostShows_4 4 rfl rfl)
theorem dX0_mostShows_100 : decode cX0_mostShows 100 = .ok (.if_icmp .ne 9, 3) := dk_160 0 9 (dk_at dksX0_mostShows_4 7 rfl rfl)
theorem dX0_mostShows_103 : decode cX0_mostShows 103 = .ok (.iinc 5 1, 3) := dk_132 5 1 (dk_at dksX0_mostShows_4 10 rfl rfl)
theorem dX0_mostShows_106 : decode cX0_mostShows 106 = .ok (.goto (-31), 3) := dk_167 255 225 (dk_at dksX0_mostShows_4 13 rfl rfl)
theorem dX0_mostShows_109 : decode cX0_mostShows 109 = .ok (.iload 5, 2) := dk_21 5 (dk_at dksX0_mostShows_4 16 rfl rfl)
theorem dX0_mostShows_111 : decode cX0_mostShows 111 = .ok (.ireturn, 1) := dk_172 (dk_at dksX0_mostShows_4 18 rfl rfl)
abbrev cX0_rowFor : ByteArray := prog_1_method_44_code
def yX0_rowFor : MethodName := ⟨RX0, "rowFor", "(II)I"⟩
def dkwX0_rowFor_3 : List UInt8 := [185, 0, 89, 2, 0, 192, 0, 154, 28, 182, 1, 115, 172]
abbrev dktX0_rowFor_3 : List UInt8 := dkwX0_rowFor_3 ++ []
def dkwX0_rowFor_2 : List UInt8 := [42, 27, 28, 182, 0, 165, 62, 29, 156, 0, 7, 29, 167, 0, 23, 42, 180, 0, 10, 180, 0, 116, 27]
abbrev dktX0_rowFor_2 : List UInt8 := dkwX0_rowFor_2 ++ dktX0_rowFor_3
def dkwX0_rowFor_1 : List UInt8 := [4, 16, 40, 184, 0, 51, 16, 254, 184, 0, 69, 79, 184, 0, 76, 62, 29, 156, 0, 7, 29, 167, 0, 9]
abbrev dktX0_rowFor_1 : List UInt8 := dkwX0_rowFor_1 ++ dktX0_rowFor_2
def dkwX0_rowFor_0 : List UInt8 := [5, 188, 10, 89, 3, 27, 42, 180, 0, 10, 180, 0, 116, 184, 0, 85, 2, 184, 0, 69, 79, 89, 4, 28]
abbrev dktX0_rowFor_0 : List UInt8 := dkwX0_rowFor_0 ++ dktX0_rowFor_1
theorem dksX0_rowFor_0 : cX0_rowFor.data.toList.drop 0 = dktX0_rowFor_0 := by decide +kernel
theorem dksX0_rowFor_1 : cX0_rowFor.data.toList.drop 24 = dktX0_rowFor_1 := dk_seg dksX0_rowFor_0 24 rfl rfl
theorem dksX0_rowFor_2 : cX0_rowFor.data.toList.drop 48 = dktX0_rowFor_2 := dk_seg dksX0_rowFor_1 24 rfl rfl
theorem dksX0_rowFor_3 : cX0_rowFor.data.toList.drop 71 = dktX0_rowFor_3 := dk_seg dksX0_rowFor_2 23 rfl rfl
theorem dX0_rowFor_0 : decode cX0_rowFor 0 = .ok (.iconst 2, 1) := dk_5 (dk_at dksX0_rowFor_0 0 rfl rfl)
theorem dX0_rowFor_1 : decode cX0_rowFor 1 = .ok (.newarray .int, 2) := dk_188_10 (dk_at dksX0_rowFor_0 1 rfl rfl)
theorem dX0_rowFor_3 : decode cX0_rowFor 3 = .ok (.dup, 1) := dk_89 (dk_at dksX0_rowFor_0 3 rfl rfl)
theorem dX0_rowFor_4 : decode cX0_rowFor 4 = .ok (.iconst 0, 1) := dk_3 (dk_at dksX0_rowFor_0 4 rfl rfl)
theorem dX0_rowFor_5 : decode cX0_rowFor 5 = .ok (.iload_n 1, 1) := dk_27 (dk_at dksX0_rowFor_0 5 rfl rfl)
theorem dX0_rowFor_6 : decode cX0_rowFor 6 = .ok (.aload_n 0, 1) := dk_42 (dk_at dksX0_rowFor_0 6 rfl rfl)
theorem dX0_rowFor_7 : decode cX0_rowFor 7 = .ok (.getfield 10, 3) := dk_180 0 10 (dk_at dksX0_rowFor_0 7 rfl rfl)
theorem dX0_rowFor_10 : decode cX0_rowFor 10 = .ok (.getfield 116, 3) := dk_180 0 116 (dk_at dksX0_rowFor_0 10 rfl rfl)
theorem dX0_rowFor_13 : decode cX0_rowFor 13 = .ok (.invokestatic 85, 3) := dk_184 0 85 (dk_at dksX0_rowFor_0 13 rfl rfl)
theorem dX0_rowFor_16 : decode cX0_rowFor 16 = .ok (.iconst (-1), 1) := dk_2 (dk_at dksX0_rowFor_0 16 rfl rfl)
theorem dX0_rowFor_17 : decode cX0_rowFor 17 = .ok (.invokestatic 69, 3) := dk_184 0 69 (dk_at dksX0_rowFor_0 17 rfl rfl)
theorem dX0_rowFor_20 : decode cX0_rowFor 20 = .ok (.iastore, 1) := dk_79 (dk_at dksX0_rowFor_0 20 rfl rfl)
theorem dX0_rowFor_21 : decode cX0_rowFor 21 = .ok (.dup, 1) := dk_89 (dk_at dksX0_rowFor_0 21 rfl rfl)
theorem dX0_rowFor_22 : decode cX0_rowFor 22 = .ok (.iconst 1, 1) := dk_4 (dk_at dksX0_rowFor_0 22 rfl rfl)
theorem dX0_rowFor_23 : decode cX0_rowFor 23 = .ok (.iload_n 2, 1) := dk_28 (dk_at dksX0_rowFor_0 23 rfl rfl)
theorem dX0_rowFor_24 : decode cX0_rowFor 24 = .ok (.iconst 1, 1) := dk_4 (dk_at dksX0_rowFor_1 0 rfl rfl)
theorem dX0_rowFor_25 : decode cX0_rowFor 25 = .ok (.bipush 40, 2) := dk_16 40 (dk_at dksX0_rowFor_1 1 rfl rfl)
theorem dX0_rowFor_27 : decode cX0_rowFor 27 = .ok (.invokestatic 51, 3) := dk_184 0 51 (dk_at dksX0_rowFor_1 3 rfl rfl)
theorem dX0_rowFor_30 : decode cX0_rowFor 30 = .ok (.bipush (-2), 2) := dk_16 254 (dk_at dksX0_rowFor_1 6 rfl rfl)
theorem dX0_rowFor_32 : decode cX0_rowFor 32 = .ok (.invokestatic 69, 3) := dk_184 0 69 (dk_at dksX0_rowFor_1 8 rfl rfl)
theorem dX0_rowFor_35 : decode cX0_rowFor 35 = .ok (.iastore, 1) := dk_79 (dk_at dksX0_rowFor_1 11 rfl rfl)
theorem dX0_rowFor_36 : decode cX0_rowFor 36 = .ok (.invokestatic 76, 3) := dk_184 0 76 (dk_at dksX0_rowFor_1 12 rfl rfl)
theorem dX0_rowFor_39 : decode cX0_rowFor 39 = .ok (.istore_n 3, 1) := dk_62 (dk_at dksX0_rowFor_1 15 rfl rfl)
theorem dX0_rowFor_40 : decode cX0_rowFor 40 = .ok (.iload_n 3, 1) := dk_29 (dk_at dksX0_rowFor_1 16 rfl rfl)
theorem dX0_rowFor_41 : decode cX0_rowFor 41 = .ok (.ifCond .ge 7, 3) := dk_156 0 7 (dk_at dksX0_rowFor_1 17 rfl rfl)
theorem dX0_rowFor_44 : decode cX0_rowFor 44 = .ok (.iload_n 3, 1) := dk_29 (dk_at dksX0_rowFor_1 20 rfl rfl)
theorem dX0_rowFor_45 : decode cX0_rowFor 45 = .ok (.goto 9, 3) := dk_167 0 9 (dk_at dksX0_rowFor_1 21 rfl rfl)
theorem dX0_rowFor_48 : decode cX0_rowFor 48 = .ok (.aload_n 0, 1) := dk_42 (dk_at dksX0_rowFor_2 0 rfl rfl)
theorem dX0_rowFor_49 : decode cX0_rowFor 49 = .ok (.iload_n 1, 1) := dk_27 (dk_at dksX0_rowFor_2 1 rfl rfl)
theorem dX0_rowFor_50 : decode cX0_rowFor 50 = .ok (.iload_n 2, 1) := dk_28 (dk_at dksX0_rowFor_2 2 rfl rfl)
theorem dX0_rowFor_51 : decode cX0_rowFor 51 = .ok (.invokevirtual 165, 3) := dk_182 0 165 (dk_at dksX0_rowFor_2 3 rfl rfl)
theorem dX0_rowFor_54 : decode cX0_rowFor 54 = .ok (.istore_n 3, 1) := dk_62 (dk_at dksX0_rowFor_2 6 rfl rfl)
theorem dX0_rowFor_55 : decode cX0_rowFor 55 = .ok (.iload_n 3, 1) := dk_29 (dk_at dksX0_rowFor_2 7 rfl rfl)
theorem dX0_rowFor_56 : decode cX0_rowFor 56 = .ok (.ifCond .ge 7, 3) := dk_156 0 7 (dk_at dksX0_rowFor_2 8 rfl rfl)
theorem dX0_rowFor_59 : decode cX0_rowFor 59 = .ok (.iload_n 3, 1) := dk_29 (dk_at dksX0_rowFor_2 11 rfl rfl)
theorem dX0_rowFor_60 : decode cX0_rowFor 60 = .ok (.goto 23, 3) := dk_167 0 23 (dk_at dksX0_rowFor_2 12 rfl rfl)
theorem dX0_rowFor_63 : decode cX0_rowFor 63 = .ok (.aload_n 0, 1) := dk_42 (dk_at dksX0_rowFor_2 15 rfl rfl)
theorem dX0_rowFor_64 : decode cX0_rowFor 64 = .ok (.getfield 10, 3) := dk_180 0 10 (dk_at dksX0_rowFor_2 16 rfl rfl)
theorem dX0_rowFor_67 : decode cX0_rowFor 67 = .ok (.getfield 116, 3) := dk_180 0 116 (dk_at dksX0_rowFor_2 19 rfl rfl)
theorem dX0_rowFor_70 : decode cX0_rowFor 70 = .ok (.iload_n 1, 1) := dk_27 (dk_at dksX0_rowFor_2 22 rfl rfl)
theorem dX0_rowFor_71 : decode cX0_rowFor 71 = .ok (.invokeinterface 89 2, 5) := by decide +kernel
theorem dX0_rowFor_76 : decode cX0_rowFor 76 = .ok (.checkcast 154, 3) := dk_192 0 154 (dk_at dksX0_rowFor_3 5 rfl rfl)
theorem dX0_rowFor_79 : decode cX0_rowFor 79 = .ok (.iload_n 2, 1) := dk_28 (dk_at dksX0_rowFor_3 8 rfl rfl)
theorem dX0_rowFor_80 : decode cX0_rowFor 80 = .ok (.invokevirtual 371, 3) := dk_182 1 115 (dk_at dksX0_rowFor_3 9 rfl rfl)
theorem dX0_rowFor_83 : decode cX0_rowFor 83 = .ok (.ireturn, 1) := dk_172 (dk_at dksX0_rowFor_3 12 rfl rfl)
abbrev cX0_put : ByteArray := prog_1_method_45_code
def yX0_put : MethodName := ⟨RX0, "put", "(J)I"⟩
def dkwX0_put_5 : List UInt8 := [132, 6, 255, 167, 255, 227, 42, 180, 0, 30, 182, 1, 67, 172]
abbrev dktX0_put_5 : List UInt8 := dkwX0_put_5 ++ []
def dkwX0_put_4 : List UInt8 := [155, 0, 30, 42, 180, 0, 30, 31, 16, 8, 21, 6, 104, 123, 20, 1, 118, 127, 136, 146, 182, 1, 120, 87]
abbrev dktX0_put_4 : List UInt8 := dkwX0_put_4 ++ dktX0_put_5
def dkwX0_put_3 : List UInt8 := [180, 0, 30, 182, 1, 67, 29, 96, 16, 80, 164, 0, 6, 16, 252, 172, 29, 4, 100, 54, 6, 21, 6]
abbrev dktX0_put_3 : List UInt8 := dkwX0_put_3 ++ dktX0_put_4
def dkwX0_put_2 : List UInt8 := [16, 8, 125, 55, 4, 167, 255, 209, 29, 153, 0, 10, 22, 4, 9, 148, 153, 0, 6, 16, 254, 172, 42]
abbrev dktX0_put_2 : List UInt8 := dkwX0_put_2 ++ dktX0_put_3
def dkwX0_put_1 : List UInt8 := [20, 1, 118, 127, 136, 16, 33, 16, 126, 184, 0, 51, 154, 0, 6, 16, 254, 172, 132, 3, 1, 22, 4]
abbrev dktX0_put_1 : List UInt8 := dkwX0_put_1 ++ dktX0_put_2
def dkwX0_put_0 : List UInt8 := [3, 62, 31, 55, 4, 29, 16, 8, 162, 0, 47, 22, 4, 20, 1, 118, 127, 9, 148, 153, 0, 36, 22, 4]
abbrev dktX0_put_0 : List UInt8 := dkwX0_put_0 ++ dktX0_put_1
theorem dksX0_put_0 : cX0_put.data.toList.drop 0 = dktX0_put_0 := by decide +kernel
theorem dksX0_put_1 : cX0_put.data.toList.drop 24 = dktX0_put_1 := dk_seg dksX0_put_0 24 rfl rfl
theorem dksX0_put_2 : cX0_put.data.toList.drop 47 = dktX0_put_2 := dk_seg dksX0_put_1 23 rfl rfl
theorem dksX0_put_3 : cX0_put.data.toList.drop 70 = dktX0_put_3 := dk_seg dksX0_put_2 23 rfl rfl
theorem dksX0_put_4 : cX0_put.data.toList.drop 93 = dktX0_put_4 := dk_seg dksX0_put_3 23 rfl rfl
theorem dksX0_put_5 : cX0_put.data.toList.drop 117 = dktX0_put_5 := dk_seg dksX0_put_4 24 rfl rfl
theorem dX0_put_0 : decode cX0_put 0 = .ok (.iconst 0, 1) := dk_3 (dk_at dksX0_put_0 0 rfl rfl)
theorem dX0_put_1 : decode cX0_put 1 = .ok (.istore_n 3, 1) := dk_62 (dk_at dksX0_put_0 1 rfl rfl)
theorem dX0_put_2 : decode cX0_put 2 = .ok (.lload_n 1, 1) := dk_31 (dk_at dksX0_put_0 2 rfl rfl)
theorem dX0_put_3 : decode cX0_put 3 = .ok (.lstore 4, 2) := dk_55 4 (dk_at dksX0_put_0 3 rfl rfl)
theorem dX0_put_5 : decode cX0_put 5 = .ok (.iload_n 3, 1) := dk_29 (dk_at dksX0_put_0 5 rfl rfl)
theorem dX0_put_6 : decode cX0_put 6 = .ok (.bipush 8, 2) := dk_16 8 (dk_at dksX0_put_0 6 rfl rfl)
theorem dX0_put_8 : decode cX0_put 8 = .ok (.if_icmp .ge 47, 3) := dk_162 0 47 (dk_at dksX0_put_0 8 rfl rfl)
theorem dX0_put_11 : decode cX0_put 11 = .ok (.lload 4, 2) := dk_22 4 (dk_at dksX0_put_0 11 rfl rfl)
theorem dX0_put_13 : decode cX0_put 13 = .ok (.ldc2_w 374, 3) := dk_20 1 118 (dk_at dksX0_put_0 13 rfl rfl)
theorem dX0_put_16 : decode cX0_put 16 = .ok (.land, 1) := dk_127 (dk_at dksX0_put_0 16 rfl rfl)
theorem dX0_put_17 : decode cX0_put 17 = .ok (.lconst 0, 1) := dk_9 (dk_at dksX0_put_0 17 rfl rfl)
theorem dX0_put_18 : decode cX0_put 18 = .ok (.lcmp, 1) := dk_148 (dk_at dksX0_put_0 18 rfl rfl)
theorem dX0_put_19 : decode cX0_put 19 = .ok (.ifCond .eq 36, 3) := dk_153 0 36 (dk_at dksX0_put_0 19 rfl rfl)
theorem dX0_put_22 : decode cX0_put 22 = .ok (.lload 4, 2) := dk_22 4 (dk_at dksX0_put_0 22 rfl rfl)
theorem dX0_put_24 : decode cX0_put 24 = .ok (.ldc2_w 374, 3) := dk_20 1 118 (dk_at dksX0_put_1 0 rfl rfl)
theorem dX0_put_27 : decode cX0_put 27 = .ok (.land, 1) := dk_127 (dk_at dksX0_put_1 3 rfl rfl)
theorem dX0_put_28 : decode cX0_put 28 = .ok (.l2i, 1) := dk_136 (dk_at dksX0_put_1 4 rfl rfl)
theorem dX0_put_29 : decode cX0_put 29 = .ok (.bipush 33, 2) := dk_16 33 (dk_at dksX0_put_1 5 rfl rfl)
theorem dX0_put_31 : decode cX0_put 31 = .ok (.bipush 126, 2) := dk_16 126 (dk_at dksX0_put_1 7 rfl rfl)
theorem dX0_put_33 : decode cX0_put 33 = .ok (.invokestatic 51, 3) := dk_184 0 51 (dk_at dksX0_put_1 9 rfl rfl)
theorem dX0_put_36 : decode cX0_put 36 = .ok (.ifCond .ne 6, 3) := dk_154 0 6 (dk_at dksX0_put_1 12 rfl rfl)
theorem dX0_put_39 : decode cX0_put 39 = .ok (.bipush (-2), 2) := dk_16 254 (dk_at dksX0_put_1 15 rfl rfl)
theorem dX0_put_41 : decode cX0_put 41 = .ok (.ireturn, 1) := dk_172 (dk_at dksX0_put_1 17 rfl rfl)
theorem dX0_put_42 : decode cX0_put 42 = .ok (.iinc 3 1, 3) := dk_132 3 1 (dk_at dksX0_put_1 18 rfl rfl)
theorem dX0_put_45 : decode cX0_put 45 = .ok (.lload 4, 2) := dk_22 4 (dk_at dksX0_put_1 21 rfl rfl)
theorem dX0_put_47 : decode cX0_put 47 = .ok (.bipush 8, 2) := dk_16 8 (dk_at dksX0_put_2 0 rfl rfl)
theorem dX0_put_49 : decode cX0_put 49 = .ok (.lushr, 1) := dk_125 (dk_at dksX0_put_2 2 rfl rfl)
theorem dX0_put_50 : decode cX0_put 50 = .ok (.lstore 4, 2) := dk_55 4 (dk_at dksX0_put_2 3 rfl rfl)
theorem dX0_put_52 : decode cX0_put 52 = .ok (.goto (-47), 3) := dk_167 255 209 (dk_at dksX0_put_2 5 rfl rfl)
theorem dX0_put_55 : decode cX0_put 55 = .ok (.iload_n 3, 1) := dk_29 (dk_at dksX0_put_2 8 rfl rfl)
theorem dX0_put_56 : decode cX0_put 56 = .ok (.ifCond .eq 10, 3) := dk_153 0 10 (dk_at dksX0_put_2 9 rfl rfl)
theorem dX0_put_59 : decode cX0_put 59 = .ok (.lload 4, 2) := dk_22 4 (dk_at dksX0_put_2 12 rfl rfl)
theorem dX0_put_61 : decode cX0_put 61 = .ok (.lconst 0, 1) := dk_9 (dk_at dksX0_put_2 14 rfl rfl)
theorem dX0_put_62 : decode cX0_put 62 = .ok (.lcmp, 1) := dk_148 (dk_at dksX0_put_2 15 rfl rfl)
theorem dX0_put_63 : decode cX0_put 63 = .ok (.ifCond .eq 6, 3) := dk_153 0 6 (dk_at dksX0_put_2 16 rfl rfl)
theorem dX0_put_66 : decode cX0_put 66 = .ok (.bipush (-2), 2) := dk_16 254 (dk_at dksX0_put_2 19 rfl rfl)
theorem dX0_put_68 : decode cX0_put 68 = .ok (.ireturn, 1) := dk_172 (dk_at dksX0_put_2 21 rfl rfl)
theorem dX0_put_69 : decode cX0_put 69 = .ok (.aload_n 0, 1) := dk_42 (dk_at dksX0_put_2 22 rfl rfl)
theorem dX0_put_70 : decode cX0_put 70 = .ok (.getfield 30, 3) := dk_180 0 30 (dk_at dksX0_put_3 0 rfl rfl)
theorem dX0_put_73 : decode cX0_put 73 = .ok (.invokevirtual 323, 3) := dk_182 1 67 (dk_at dksX0_put_3 3 rfl rfl)
theorem dX0_put_76 : decode cX0_put 76 = .ok (.iload_n 3, 1) := dk_29 (dk_at dksX0_put_3 6 rfl rfl)
theorem dX0_put_77 : decode cX0_put 77 = .ok (.iadd, 1) := dk_96 (dk_at dksX0_put_3 7 rfl rfl)
theorem dX0_put_78 : decode cX0_put 78 = .ok (.bipush 80, 2) := dk_16 80 (dk_at dksX0_put_3 8 rfl rfl)
theorem dX0_put_80 : decode cX0_put 80 = .ok (.if_icmp .le 6, 3) := dk_164 0 6 (dk_at dksX0_put_3 10 rfl rfl)
theorem dX0_put_83 : decode cX0_put 83 = .ok (.bipush (-4), 2) := dk_16 252 (dk_at dksX0_put_3 13 rfl rfl)
theorem dX0_put_85 : decode cX0_put 85 = .ok (.ireturn, 1) := dk_172 (dk_at dksX0_put_3 15 rfl rfl)
theorem dX0_put_86 : decode cX0_put 86 = .ok (.iload_n 3, 1) := dk_29 (dk_at dksX0_put_3 16 rfl rfl)
theorem dX0_put_87 : decode cX0_put 87 = .ok (.iconst 1, 1) := dk_4 (dk_at dksX0_put_3 17 rfl rfl)
theorem dX0_put_88 : decode cX0_put 88 = .ok (.isub, 1) := dk_100 (dk_at dksX0_put_3 18 rfl rfl)
theorem dX0_put_89 : decode cX0_put 89 = .ok (.istore 6, 2) := dk_54 6 (dk_at dksX0_put_3 19 rfl rfl)
theorem dX0_put_91 : decode cX0_put 91 = .ok (.iload 6, 2) := dk_21 6 (dk_at dksX0_put_3 21 rfl rfl)
theorem dX0_put_93 : decode cX0_put 93 = .ok (.ifCond .lt 30, 3) := dk_155 0 30 (dk_at dksX0_put_4 0 rfl rfl)
theorem dX0_put_96 : decode cX0_put 96 = .ok (.aload_n 0, 1) := dk_42 (dk_at dksX0_put_4 3 rfl rfl)
theorem dX0_put_97 : decode cX0_put 97 = .ok (.getfield 30, 3) := dk_180 0 30 (dk_at dksX0_put_4 4 rfl rfl)
theorem dX0_put_100 : decode cX0_put 100 = .ok (.lload_n 1, 1) := dk_31 (dk_at dksX0_put_4 7 rfl rfl)
theorem dX0_put_101 : decode cX0_put 101 = .ok (.bipush 8, 2) := dk_16 8 (dk_at dksX0_put_4 8 rfl rfl)
theorem dX0_put_103 : decode cX0_put 103 = .ok (.iload 6, 2) := dk_21 6 (dk_at dksX0_put_4 10 rfl rfl)
theorem dX0_put_105 : decode cX0_put 105 = .ok (.imul, 1) := dk_104 (dk_at dksX0_put_4 12 rfl rfl)
theorem dX0_put_106 : decode cX0_put 106 = .ok (.lshr, 1) := dk_123 (dk_at dksX0_put_4 13 rfl rfl)
theorem dX0_put_107 : decode cX0_put 107 = .ok (.ldc2_w 374, 3) := dk_20 1 118 (dk_at dksX0_put_4 14 rfl rfl)
theorem dX0_put_110 : decode cX0_put 110 = .ok (.land, 1) := dk_127 (dk_at dksX0_put_4 17 rfl rfl)
theorem dX0_put_111 : decode cX0_put 111 = .ok (.l2i, 1) := dk_136 (dk_at dksX0_put_4 18 rfl rfl)
theorem dX0_put_112 : decode cX0_put 112 = .ok (.i2c, 1) := dk_146 (dk_at dksX0_put_4 19 rfl rfl)
theorem dX0_put_113 : decode cX0_put 113 = .ok (.invokevirtual 376, 3) := dk_182 1 120 (dk_at dksX0_put_4 20 rfl rfl)
theorem dX0_put_116 : decode cX0_put 116 = .ok (.pop, 1) := dk_87 (dk_at dksX0_put_4 23 rfl rfl)
theorem dX0_put_117 : decode cX0_put 117 = .ok (.iinc 6 (-1), 3) := dk_132 6 255 (dk_at dksX0_put_5 0 rfl rfl)
theorem dX0_put_120 : decode cX0_put 120 = .ok (.goto (-29), 3) := dk_167 255 227 (dk_at dksX0_put_5 3 rfl rfl)
theorem dX0_put_123 : decode cX0_put 123 = .ok (.aload_n 0, 1) := dk_42 (dk_at dksX0_put_5 6 rfl rfl)
theorem dX0_put_124 : decode cX0_put 124 = .ok (.getfield 30, 3) := dk_180 0 30 (dk_at dksX0_put_5 7 rfl rfl)
theorem dX0_put_127 : decode cX0_put 127 = .ok (.invokevirtual 323, 3) := dk_182 1 67 (dk_at dksX0_put_5 10 rfl rfl)
theorem dX0_put_130 : decode cX0_put 130 = .ok (.ireturn, 1) := dk_172 (dk_at dksX0_put_5 13 rfl rfl)
abbrev cX0_wipe : ByteArray := prog_1_method_46_code
def yX0_wipe : MethodName := ⟨RX0, "wipe", "()I"⟩
def dkwX0_wipe_0 : List UInt8 := [42, 180, 0, 30, 182, 1, 67, 60, 42, 180, 0, 30, 3, 182, 1, 124, 27, 172]
abbrev dktX0_wipe_0 : List UInt8 := dkwX0_wipe_0 ++ []
theorem dksX0_wipe_0 : cX0_wipe.data.toList.drop 0 = dktX0_wipe_0 := by decide +kernel
theorem dX0_wipe_0 : decode cX0_wipe 0 = .ok (.aload_n 0, 1) := dk_42 (dk_at dksX0_wipe_0 0 rfl rfl)
theorem dX0_wipe_1 : decode cX0_wipe 1 = .ok (.getfield 30, 3) := dk_180 0 30 (dk_at dksX0_wipe_0 1 rfl rfl)
theorem dX0_wipe_4 : decode cX0_wipe 4 = .ok (.invokevirtual 323, 3) := dk_182 1 67 (dk_at dksX0_wipe_0 4 rfl rfl)
theorem dX0_wipe_7 : decode cX0_wipe 7 = .ok (.istore_n 1, 1) := dk_60 (dk_at dksX0_wipe_0 7 rfl rfl)
theorem dX0_wipe_8 : decode cX0_wipe 8 = .ok (.aload_n 0, 1) := dk_42 (dk_at dksX0_wipe_0 8 rfl rfl)
theorem dX0_wipe_9 : decode cX0_wipe 9 = .ok (.getfield 30, 3) := dk_180 0 30 (dk_at dksX0_wipe_0 9 rfl rfl)
theorem dX0_wipe_12 : decode cX0_wipe 12 = .ok (.iconst 0, 1) := dk_3 (dk_at dksX0_wipe_0 12 rfl rfl)
theorem dX0_wipe_13 : decode cX0_wipe 13 = .ok (.invokevirtual 380, 3) := dk_182 1 124 (dk_at dksX0_wipe_0 13 rfl rfl)
theorem dX0_wipe_16 : decode cX0_wipe 16 = .ok (.iload_n 1, 1) := dk_27 (dk_at dksX0_wipe_0 16 rfl rfl)
theorem dX0_wipe_17 : decode cX0_wipe 17 = .ok (.ireturn, 1) := dk_172 (dk_at dksX0_wipe_0 17 rfl rfl)
abbrev cX0_fault : ByteArray := prog_1_method_47_code
def yX0_fault : MethodName := ⟨RX0, "fault", "()I"⟩
def dkwX0_fault_1 : List UInt8 := [167, 0, 5, 16, 250, 172]
abbrev dktX0_fault_1 : List UInt8 := dkwX0_fault_1 ++ []
def dkwX0_fault_0 : List UInt8 := [187, 1, 127, 89, 42, 180, 0, 30, 183, 1, 129, 76, 43, 180, 1, 132, 153, 0, 10, 43, 180, 1, 135]
abbrev dktX0_fault_0 : List UInt8 := dkwX0_fault_0 ++ dktX0_fault_1
theorem dksX0_fault_0 : cX0_fault.data.toList.drop 0 = dktX0_fault_0 := by decide +kernel
theorem dksX0_fault_1 : cX0_fault.data.toList.drop 23 = dktX0_fault_1 := dk_seg dksX0_fault_0 23 rfl rfl
theorem dX0_fault_0 : decode cX0_fault 0 = .ok (.new 383, 3) := dk_187 1 127 (dk_at dksX0_fault_0 0 rfl rfl)
theorem dX0_fault_3 : decode cX0_fault 3 = .ok (.dup, 1) := dk_89 (dk_at dksX0_fault_0 3 rfl rfl)
theorem dX0_fault_4 : decode cX0_fault 4 = .ok (.aload_n 0, 1) := dk_42 (dk_at dksX0_fault_0 4 rfl rfl)
theorem dX0_fault_5 : decode cX0_fault 5 = .ok (.getfield 30, 3) := dk_180 0 30 (dk_at dksX0_fault_0 5 rfl rfl)
theorem dX0_fault_8 : decode cX0_fault 8 = .ok (.invokespecial 385, 3) := dk_183 1 129 (dk_at dksX0_fault_0 8 rfl rfl)
theorem dX0_fault_11 : decode cX0_fault 11 = .ok (.astore_n 1, 1) := dk_76 (dk_at dksX0_fault_0 11 rfl rfl)
theorem dX0_fault_12 : decode cX0_fault 12 = .ok (.aload_n 1, 1) := dk_43 (dk_at dksX0_fault_0 12 rfl rfl)
theorem dX0_fault_13 : decode cX0_fault 13 = .ok (.getfield 388, 3) := dk_180 1 132 (dk_at dksX0_fault_0 13 rfl rfl)
theorem dX0_fault_16 : decode cX0_fault 16 = .ok (.ifCond .eq 10, 3) := dk_153 0 10 (dk_at dksX0_fault_0 16 rfl rfl)
theorem dX0_fault_19 : decode cX0_fault 19 = .ok (.aload_n 1, 1) := dk_43 (dk_at dksX0_fault_0 19 rfl rfl)
theorem dX0_fault_20 : decode cX0_fault 20 = .ok (.getfield 391, 3) := dk_180 1 135 (dk_at dksX0_fault_0 20 rfl rfl)
theorem dX0_fault_23 : decode cX0_fault 23 = .ok (.goto 5, 3) := dk_167 0 5 (dk_at dksX0_fault_1 0 rfl rfl)
theorem dX0_fault_26 : decode cX0_fault 26 = .ok (.bipush (-6), 2) := dk_16 250 (dk_at dksX0_fault_1 3 rfl rfl)
theorem dX0_fault_28 : decode cX0_fault 28 = .ok (.ireturn, 1) := dk_172 (dk_at dksX0_fault_1 5 rfl rfl)
abbrev cX0_carryOut : ByteArray := prog_1_method_49_code
def yX0_carryOut : MethodName := ⟨RX0, "carryOut", "()I"⟩
def dkwX0_carryOut_3 : List UInt8 := [182, 1, 150, 156, 0, 5, 28, 172, 132, 2, 1, 167, 255, 222, 28, 172]
abbrev dktX0_carryOut_3 : List UInt8 := dkwX0_carryOut_3 ++ []
def dkwX0_carryOut_2 : List UInt8 := [185, 0, 191, 1, 0, 153, 0, 31, 45, 185, 0, 197, 1, 0, 192, 1, 139, 58, 4, 42, 25, 4]
abbrev dktX0_carryOut_2 : List UInt8 := dkwX0_carryOut_2 ++ dktX0_carryOut_3
def dkwX0_carryOut_1 : List UInt8 := [182, 0, 63, 42, 180, 0, 30, 3, 182, 1, 124, 3, 61, 43, 180, 1, 147, 185, 0, 187, 1, 0, 78, 45]
abbrev dktX0_carryOut_1 : List UInt8 := dkwX0_carryOut_1 ++ dktX0_carryOut_2
def dkwX0_carryOut_0 : List UInt8 := [187, 1, 127, 89, 42, 180, 0, 30, 183, 1, 129, 76, 43, 180, 1, 132, 153, 0, 6, 16, 253, 172, 42]
abbrev dktX0_carryOut_0 : List UInt8 := dkwX0_carryOut_0 ++ dktX0_carryOut_1
theorem dksX0_carryOut_0 : cX0_carryOut.data.toList.drop 0 = dktX0_carryOut_0 := by decide +kernel
theorem dksX0_carryOut_1 : cX0_carryOut.data.toList.drop 23 = dktX0_carryOut_1 := dk_seg dksX0_carryOut_0 23 rfl rfl
theorem dksX0_carryOut_2 : cX0_carryOut.data.toList.drop 47 = dktX0_carryOut_2 := dk_seg dksX0_carryOut_1 24 rfl rfl
theorem dksX0_carryOut_3 : cX0_carryOut.data.toList.drop 69 = dktX0_carryOut_3 := dk_seg dksX0_carryOut_2 22 rfl rfl
theorem dX0_carryOut_0 : decode cX0_carryOut 0 = .ok (.new 383, 3) := dk_187 1 127 (dk_at dksX0_carryOut_0 0 rfl rfl)
theorem dX0_carryOut_3 : decode cX0_carryOut 3 = .ok (.dup, 1) := dk_89 (dk_at dksX0_carryOut_0 3 rfl rfl)
theorem dX0_carryOut_4 : decode cX0_carryOut 4 = .ok (.aload_n 0, 1) := dk_42 (dk_at dksX0_carryOut_0 4 rfl rfl)
theorem dX0_carryOut_5 : decode cX0_carryOut 5 = .ok (.getfield 30, 3) := dk_180 0 30 (dk_at dksX0_carryOut_0 5 rfl rfl)
theorem dX0_carryOut_8 : decode cX0_carryOut 8 = .ok (.invokespecial 385, 3) := dk_183 1 129 (dk_at dksX0_carryOut_0 8 rfl rfl)
theorem dX0_carryOut_11 : decode cX0_carryOut 11 = .ok (.astore_n 1, 1) := dk_76 (dk_at dksX0_carryOut_0 11 rfl rfl)
theorem dX0_carryOut_12 : decode cX0_carryOut 12 = .ok (.aload_n 1, 1) := dk_43 (dk_at dksX0_carryOut_0 12 rfl rfl)
theorem dX0_carryOut_13 : decode cX0_carryOut 13 = .ok (.getfield 388, 3) := dk_180 1 132 (dk_at dksX0_carryOut_0 13 rfl rfl)
theorem dX0_carryOut_16 : decode cX0_carryOut 16 = .ok (.ifCond .eq 6, 3) := dk_153 0 6 (dk_at dksX0_carryOut_0 16 rfl rfl)
theorem dX0_carryOut_19 : decode cX0_carryOut 19 = .ok (.bipush (-3), 2) := dk_16 253 (dk_at dksX0_carryOut_0 19 rfl rfl)
theorem dX0_carryOut_21 : decode cX0_carryOut 21 = .ok (.ireturn, 1) := dk_172 (dk_at dksX0_carryOut_0 21 rfl rfl)
theorem dX0_carryOut_22 : decode cX0_carryOut 22 = .ok (.aload_n 0, 1) := dk_42 (dk_at dksX0_carryOut_0 22 rfl rfl)
theorem dX0_carryOut_23 : decode cX0_carryOut 23 = .ok (.invokevirtual 63, 3) := dk_182 0 63 (dk_at dksX0_carryOut_1 0 rfl rfl)
theorem dX0_carryOut_26 : decode cX0_carryOut 26 = .ok (.aload_n 0, 1) := dk_42 (dk_at dksX0_carryOut_1 3 rfl rfl)
theorem dX0_carryOut_27 : decode cX0_carryOut 27 = .ok (.getfield 30, 3) := dk_180 0 30 (dk_at dksX0_carryOut_1 4 rfl rfl)
theorem dX0_carryOut_30 : decode cX0_carryOut 30 = .ok (.iconst 0, 1) := dk_3 (dk_at dksX0_carryOut_1 7 rfl rfl)
theorem dX0_carryOut_31 : decode cX0_carryOut 31 = .ok (.invokevirtual 380, 3) := dk_182 1 124 (dk_at dksX0_carryOut_1 8 rfl rfl)
theorem dX0_carryOut_34 : decode cX0_carryOut 34 = .ok (.iconst 0, 1) := dk_3 (dk_at dksX0_carryOut_1 11 rfl rfl)
theorem dX0_carryOut_35 : decode cX0_carryOut 35 = .ok (.istore_n 2, 1) := dk_61 (dk_at dksX0_carryOut_1 12 rfl rfl)
theorem dX0_carryOut_36 : decode cX0_carryOut 36 = .ok (.aload_n 1, 1) := dk_43 (dk_at dksX0_carryOut_1 13 rfl rfl)
theorem dX0_carryOut_37 : decode cX0_carryOut 37 = .ok (.getfield 403, 3) := dk_180 1 147 (dk_at dksX0_carryOut_1 14 rfl rfl)
theorem dX0_carryOut_40 : decode cX0_carryOut 40 = .ok (.invokeinterface 187 1, 5) := by decide +kernel
theorem dX0_carryOut_45 : decode cX0_carryOut 45 = .ok (.astore_n 3, 1) := dk_78 (dk_at dksX0_carryOut_1 22 rfl rfl)
theorem dX0_carryOut_46 : decode cX0_carryOut 46 = .ok (.aload_n 3, 1) := dk_45 (dk_at dksX0_carryOut_1 23 rfl rfl)
theorem dX0_carryOut_47 : decode cX0_carryOut 47 = .ok (.invokeinterface 191 1, 5) := by decide +kernel
theorem dX0_carryOut_52 : decode cX0_carryOut 52 = .ok (.ifCond .eq 31, 3) := dk_153 0 31 (dk_at dksX0_carryOut_2 5 rfl rfl)
theorem dX0_carryOut_55 : decode cX0_carryOut 55 = .ok (.aload_n 3, 1) := dk_45 (dk_at dksX0_carryOut_2 8 rfl rfl)
theorem dX0_carryOut_56 : decode cX0_carryOut 56 = .ok (.invokeinterface 197 1, 5) := by decide +kernel
theorem dX0_carryOut_61 : decode cX0_carryOut 61 = .ok (.checkcast 395, 3) := dk_192 1 139 (dk_at dksX0_carryOut_2 14 rfl rfl)
theorem dX0_carryOut_64 : decode cX0_carryOut 64 = .ok (.astore 4, 2) := dk_58 4 (dk_at dksX0_carryOut_2 17 rfl rfl)
theorem dX0_carryOut_66 : decode cX0_carryOut 66 = .ok (.aload_n 0, 1) := dk_42 (dk_at dksX0_carryOut_2 19 rfl rfl)
theorem dX0_carryOut_67 : decode cX0_carryOut 67 = .ok (.aload 4, 2) := dk_25 4 (dk_at dksX0_carryOut_2 20 rfl rfl)
theorem dX0_carryOut_69 : decode cX0_carryOut 69 = .ok (.invokevirtual 406, 3) := dk_182 1 150 (dk_at dksX0_carryOut_3 0 rfl rfl)
theorem dX0_carryOut_72 : decode cX0_carryOut 72 = .ok (.ifCond .ge 5, 3) := dk_156 0 5 (dk_at dksX0_carryOut_3 3 rfl rfl)
theorem dX0_carryOut_75 : decode cX0_carryOut 75 = .ok (.iload_n 2, 1) := dk_28 (dk_at dksX0_carryOut_3 6 rfl rfl)
theorem dX0_carryOut_76 : decode cX0_carryOut 76 = .ok (.ireturn, 1) := dk_172 (dk_at dksX0_carryOut_3 7 rfl rfl)
theorem dX0_carryOut_77 : decode cX0_carryOut 77 = .ok (.iinc 2 1, 3) := dk_132 2 1 (dk_at dksX0_carryOut_3 8 rfl rfl)
theorem dX0_carryOut_80 : decode cX0_carryOut 80 = .ok (.goto (-34), 3) := dk_167 255 222 (dk_at dksX0_carryOut_3 11 rfl rfl)
theorem dX0_carryOut_83 : decode cX0_carryOut 83 = .ok (.iload_n 2, 1) := dk_28 (dk_at dksX0_carryOut_3 14 rfl rfl)
theorem dX0_carryOut_84 : decode cX0_carryOut 84 = .ok (.ireturn, 1) := dk_172 (dk_at dksX0_carryOut_3 15 rfl rfl)
abbrev cX0_carry : ByteArray := prog_1_method_48_code
def yX0_carry : MethodName := ⟨RX0, "carry", "(LDomeNights$Order;)I"⟩
def dkwX0_carry_7 : List UInt8 := [167, 0, 4, 3, 182, 0, 173, 87, 3, 172]
abbrev dktX0_carry_7 : List UInt8 := dkwX0_carry_7 ++ []
def dkwX0_carry_6 : List UInt8 := [167, 0, 32, 42, 180, 0, 10, 44, 3, 46, 44, 4, 46, 44, 5, 46, 44, 6, 46, 4, 160, 0, 7, 4]
abbrev dktX0_carry_6 : List UInt8 := dkwX0_carry_6 ++ dktX0_carry_7
def dkwX0_carry_5 : List UInt8 := [16, 101, 160, 0, 23, 42, 180, 0, 10, 44, 3, 46, 44, 4, 46, 44, 5, 46, 182, 0, 151, 87]
abbrev dktX0_carry_5 : List UInt8 := dkwX0_carry_5 ++ dktX0_carry_6
def dkwX0_carry_4 : List UInt8 := [187, 0, 119, 89, 44, 3, 46, 44, 4, 46, 183, 0, 121, 182, 0, 132, 87, 167, 0, 61, 43, 180, 1, 143]
abbrev dktX0_carry_4 : List UInt8 := dkwX0_carry_4 ++ dktX0_carry_5
def dkwX0_carry_3 : List UInt8 := [29, 156, 0, 5, 29, 172, 43, 180, 1, 143, 16, 112, 160, 0, 30, 42, 180, 0, 10, 44, 5, 46]
abbrev dktX0_carry_3 : List UInt8 := dkwX0_carry_3 ++ dktX0_carry_4
def dkwX0_carry_2 : List UInt8 := [46, 182, 0, 148, 167, 0, 19, 42, 44, 3, 46, 44, 4, 46, 44, 5, 46, 44, 6, 46, 182, 0, 169, 62]
abbrev dktX0_carry_2 : List UInt8 := dkwX0_carry_2 ++ dktX0_carry_3
def dkwX0_carry_1 : List UInt8 := [182, 0, 128, 167, 0, 44, 43, 180, 1, 143, 16, 101, 160, 0, 19, 42, 44, 3, 46, 44, 4, 46, 44, 5]
abbrev dktX0_carry_1 : List UInt8 := dkwX0_carry_1 ++ dktX0_carry_2
def dkwX0_carry_0 : List UInt8 := [43, 180, 1, 138, 77, 43, 180, 1, 143, 16, 112, 160, 0, 19, 42, 44, 3, 46, 44, 4, 46, 44, 5, 46]
abbrev dktX0_carry_0 : List UInt8 := dkwX0_carry_0 ++ dktX0_carry_1
theorem dksX0_carry_0 : cX0_carry.data.toList.drop 0 = dktX0_carry_0 := by decide +kernel
theorem dksX0_carry_1 : cX0_carry.data.toList.drop 24 = dktX0_carry_1 := dk_seg dksX0_carry_0 24 rfl rfl
theorem dksX0_carry_2 : cX0_carry.data.toList.drop 48 = dktX0_carry_2 := dk_seg dksX0_carry_1 24 rfl rfl
theorem dksX0_carry_3 : cX0_carry.data.toList.drop 72 = dktX0_carry_3 := dk_seg dksX0_carry_2 24 rfl rfl
theorem dksX0_carry_4 : cX0_carry.data.toList.drop 94 = dktX0_carry_4 := dk_seg dksX0_carry_3 22 rfl rfl
theorem dksX0_carry_5 : cX0_carry.data.toList.drop 118 = dktX0_carry_5 := dk_seg dksX0_carry_4 24 rfl rfl
theorem dksX0_carry_6 : cX0_carry.data.toList.drop 140 = dktX0_carry_6 := dk_seg dksX0_carry_5 22 rfl rfl
theorem dksX0_carry_7 : cX0_carry.data.toList.drop 164 = dktX0_carry_7 := dk_seg dksX0_carry_6 24 rfl rfl
theorem dX0_carry_0 : decode cX0_carry 0 = .ok (.aload_n 1, 1) := dk_43 (dk_at dksX0_carry_0 0 rfl rfl)
theorem dX0_carry_1 : decode cX0_carry 1 = .ok (.getfield 394, 3) := dk_180 1 138 (dk_at dksX0_carry_0 1 rfl rfl)
theorem dX0_carry_4 : decode cX0_carry 4 = .ok (.astore_n 2, 1) := dk_77 (dk_at dksX0_carry_0 4 rfl rfl)
theorem dX0_carry_5 : decode cX0_carry 5 = .ok (.aload_n 1, 1) := dk_43 (dk_at dksX0_carry_0 5 rfl rfl)
theorem dX0_carry_6 : decode cX0_carry 6 = .ok (.getfield 399, 3) := dk_180 1 143 (dk_at dksX0_carry_0 6 rfl rfl)
theorem dX0_carry_9 : decode cX0_carry 9 = .ok (.bipush 112, 2) := dk_16 112 (dk_at dksX0_carry_0 9 rfl rfl)
theorem dX0_carry_11 : decode cX0_carry 11 = .ok (.if_icmp .ne 19, 3) := dk_160 0 19 (dk_at dksX0_carry_0 11 rfl rfl)
theorem dX0_carry_14 : decode cX0_carry 14 = .ok (.aload_n 0, 1) := dk_42 (dk_at dksX0_carry_0 14 rfl rfl)
theorem dX0_carry_15 : decode cX0_carry 15 = .ok (.aload_n 2, 1) := dk_44 (dk_at dksX0_carry_0 15 rfl rfl)
theorem dX0_carry_16 : decode cX0_carry 16 = .ok (.iconst 0, 1) := dk_3 (dk_at dksX0_carry_0 16 rfl rfl)
theorem dX0_carry_17 : decode cX0_carry 17 = .ok (.iaload, 1) := dk_46 (dk_at dksX0_carry_0 17 rfl rfl)
theorem dX0_carry_18 : decode cX0_carry 18 = .ok (.aload_n 2, 1) := dk_44 (dk_at dksX0_carry_0 18 rfl rfl)
theorem dX0_carry_19 : decode cX0_carry 19 = .ok (.iconst 1, 1) := dk_4 (dk_at dksX0_carry_0 19 rfl rfl)
theorem dX0_carry_20 : decode cX0_carry 20 = .ok (.iaload, 1) := dk_46 (dk_at dksX0_carry_0 20 rfl rfl)
theorem dX0_carry_21 : decode cX0_carry 21 = .ok (.aload_n 2, 1) := dk_44 (dk_at dksX0_carry_0 21 rfl rfl)
theorem dX0_carry_22 : decode cX0_carry 22 = .ok (.iconst 2, 1) := dk_5 (dk_at dksX0_carry_0 22 rfl rfl)
theorem dX0_carry_23 : decode cX0_carry 23 = .ok (.iaload, 1) := dk_46 (dk_at dksX0_carry_0 23 rfl rfl)
theorem dX0_carry_24 : decode cX0_carry 24 = .ok (.invokevirtual 128, 3) := dk_182 0 128 (dk_at dksX0_carry_1 0 rfl rfl)
theorem dX0_carry_27 : decode cX0_carry 27 = .ok (.goto 44, 3) := dk_167 0 44 (dk_at dksX0_carry_1 3 rfl rfl)
theorem dX0_carry_30 : decode cX0_carry 30 = .ok (.aload_n 1, 1) := dk_43 (dk_at dksX0_carry_1 6 rfl rfl)
theorem dX0_carry_31 : decode cX0_carry 31 = .ok (.getfield 399, 3) := dk_180 1 143 (dk_at dksX0_carry_1 7 rfl rfl)
theorem dX0_carry_34 : decode cX0_carry 34 = .ok (.bipush 101, 2) := dk_16 101 (dk_at dksX0_carry_1 10 rfl rfl)
theorem dX0_carry_36 : decode cX0_carry 36 = .ok (.if_icmp .ne 19, 3) := dk_160 0 19 (dk_at dksX0_carry_1 12 rfl rfl)
theorem dX0_carry_39 : decode cX0_carry 39 = .ok (.aload_n 0, 1) := dk_42 (dk_at dksX0_carry_1 15 rfl rfl)
theorem dX0_carry_40 : decode cX0_carry 40 = .ok (.aload_n 2, 1) := dk_44 (dk_at dksX0_carry_1 16 rfl rfl)
theorem dX0_carry_41 : decode cX0_carry 41 = .ok (.iconst 0, 1) := dk_3 (dk_at dksX0_carry_1 17 rfl rfl)
theorem dX0_carry_42 : decode cX0_carry 42 = .ok (.iaload, 1) := dk_46 (dk_at dksX0_carry_1 18 rfl rfl)
theorem dX0_carry_43 : decode cX0_carry 43 = .ok (.aload_n 2, 1) := dk_44 (dk_at dksX0_carry_1 19 rfl rfl)
theorem dX0_carry_44 : decode cX0_carry 44 = .ok (.iconst 1, 1) := dk_4 (dk_at dksX0_carry_1 20 rfl rfl)
theorem dX0_carry_45 : decode cX0_carry 45 = .ok (.iaload, 1) := dk_46 (dk_at dksX0_carry_1 21 rfl rfl)
theorem dX0_carry_46 : decode cX0_carry 46 = .ok (.aload_n 2, 1) := dk_44 (dk_at dksX0_carry_1 22 rfl rfl)
theorem dX0_carry_47 : decode cX0_carry 47 = .ok (.iconst 2, 1) := dk_5 (dk_at dksX0_carry_1 23 rfl rfl)
theorem dX0_carry_48 : decode cX0_carry 48 = .ok (.iaload, 1) := dk_46 (dk_at dksX0_carry_2 0 rfl rfl)
theorem dX0_carry_49 : decode cX0_carry 49 = .ok (.invokevirtual 148, 3) := dk_182 0 148 (dk_at dksX0_carry_2 1 rfl rfl)
theorem dX0_carry_52 : decode cX0_carry 52 = .ok (.goto 19, 3) := dk_167 0 19 (dk_at dksX0_carry_2 4 rfl rfl)
theorem dX0_carry_55 : decode cX0_carry 55 = .ok (.aload_n 0, 1) := dk_42 (dk_at dksX0_carry_2 7 rfl rfl)
theorem dX0_carry_56 : decode cX0_carry 56 = .ok (.aload_n 2, 1) := dk_44 (dk_at dksX0_carry_2 8 rfl rfl)
theorem dX0_carry_57 : decode cX0_carry 57 = .ok (.iconst 0, 1) := dk_3 (dk_at dksX0_carry_2 9 rfl rfl)
theorem dX0_carry_58 : decode cX0_carry 58 = .ok (.iaload, 1) := dk_46 (dk_at dksX0_carry_2 10 rfl rfl)
theorem dX0_carry_59 : decode cX0_carry 59 = .ok (.aload_n 2, 1) := dk_44 (dk_at dksX0_carry_2 11 rfl rfl)
theorem dX0_carry_60 : decode cX0_carry 60 = .ok (.iconst 1, 1) := dk_4 (dk_at dksX0_carry_2 12 rfl rfl)
theorem dX0_carry_61 : decode cX0_carry 61 = .ok (.iaload, 1) := dk_46 (dk_at dksX0_carry_2 13 rfl rfl)
theorem dX0_carry_62 : decode cX0_carry 62 = .ok (.aload_n 2, 1) := dk_44 (dk_at dksX0_carry_2 14 rfl rfl)
theorem dX0_carry_63 : decode cX0_carry 63 = .ok (.iconst 2, 1) := dk_5 (dk_at dksX0_carry_2 15 rfl rfl)
theorem dX0_carry_64 : decode cX0_carry 64 = .ok (.iaload, 1) := dk_46 (dk_at dksX0_carry_2 16 rfl rfl)
theorem dX0_carry_65 : decode cX0_carry 65 = .ok (.aload_n 2, 1) := dk_44 (dk_at dksX0_carry_2 17 rfl rfl)
theorem dX0_carry_66 : decode cX0_carry 66 = .ok (.iconst 3, 1) := dk_6 (dk_at dksX0_carry_2 18 rfl rfl)
theorem dX0_carry_67 : decode cX0_carry 67 = .ok (.iaload, 1) := dk_46 (dk_at dksX0_carry_2 19 rfl rfl)
theorem dX0_carry_68 : decode cX0_carry 68 = .ok (.invokevirtual 169, 3) := dk_182 0 169 (dk_at dksX0_carry_2 20 rfl rfl)
theorem dX0_carry_71 : decode cX0_carry 71 = .ok (.istore_n 3, 1) := dk_62 (dk_at dksX0_carry_2 23 rfl rfl)
theorem dX0_carry_72 : decode cX0_carry 72 = .ok (.iload_n 3, 1) := dk_29 (dk_at dksX0_carry_3 0 rfl rfl)
theorem dX0_carry_73 : decode cX0_carry 73 = .ok (.ifCond .ge 5, 3) := dk_156 0 5 (dk_at dksX0_carry_3 1 rfl rfl)
theorem dX0_carry_76 : decode cX0_carry 76 = .ok (.iload_n 3, 1) := dk_29 (dk_at dksX0_carry_3 4 rfl rfl)
theorem dX0_carry_77 : decode cX0_carry 77 = .ok (.ireturn, 1) := dk_172 (dk_at dksX0_carry_3 5 rfl rfl)
theorem dX0_carry_78 : decode cX0_carry 78 = .ok (.aload_n 1, 1) := dk_43 (dk_at dksX0_carry_3 6 rfl rfl)
theorem dX0_carry_79 : decode cX0_carry 79 = .ok (.getfield 399, 3) := dk_180 1 143 (dk_at dksX0_carry_3 7 rfl rfl)
theorem dX0_carry_82 : decode cX0_carry 82 = .ok (.bipush 112, 2) := dk_16 112 (dk_at dksX0_carry_3 10 rfl rfl)
theorem dX0_carry_84 : decode cX0_carry 84 = .ok (.if_icmp .ne 30, 3) := dk_160 0 30 (dk_at dksX0_carry_3 12 rfl rfl)
theorem dX0_carry_87 : decode cX0_carry 87 = .ok (.aload_n 0, 1) := dk_42 (dk_at dksX0_carry_3 15 rfl rfl)
theorem dX0_carry_88 : decode cX0_carry 88 = .ok (.getfield 10, 3) := dk_180 0 10 (dk_at dksX0_carry_3 16 rfl rfl)
theorem dX0_carry_91 : decode cX0_carry 91 = .ok (.aload_n 2, 1) := dk_44 (dk_at dksX0_carry_3 19 rfl rfl)
theorem dX0_carry_92 : decode cX0_carry 92 = .ok (.iconst 2, 1) := dk_5 (dk_at dksX0_carry_3 20 rfl rfl)
theorem dX0_carry_93 : decode cX0_carry 93 = .ok (.iaload, 1) := dk_46 (dk_at dksX0_carry_3 21 rfl rfl)
theorem dX0_carry_94 : decode cX0_carry 94 = .ok (.new 119, 3) := dk_187 0 119 (dk_at dksX0_carry_4 0 rfl rfl)
theorem dX0_carry_97 : decode cX0_carry 97 = .ok (.dup, 1) := dk_89 (dk_at dksX0_carry_4 3 rfl rfl)
theorem dX0_carry_98 : decode cX0_carry 98 = .ok (.aload_n 2, 1) := dk_44 (dk_at dksX0_carry_4 4 rfl rfl)
theorem dX0_carry_99 : decode cX0_carry 99 = .ok (.iconst 0, 1) := dk_3 (dk_at dksX0_carry_4 5 rfl rfl)
theorem dX0_carry_100 : decode cX0_carry 100 = .ok (.iaload, 1) := dk_46 (dk_at dksX0_carry_4 6 rfl rfl)
theorem dX0_carry_101 : decode cX0_carry 101 = .ok (.aload_n 2, 1) := dk_44 (dk_at dksX0_carry_4 7 rfl rfl)
theorem dX0_carry_102 : decode cX0_carry 102 = .ok (.iconst 1, 1) := dk_4 (dk_at dksX0_carry_4 8 rfl rfl)
theorem dX0_carry_103 : decode cX0_carry 103 = .ok (.iaload, 1) := dk_46 (dk_at dksX0_carry_4 9 rfl rfl)
theorem dX0_carry_104 : decode cX0_carry 104 = .ok (.invokespecial 121, 3) := dk_183 0 121 (dk_at dksX0_carry_4 10 rfl rfl)
theorem dX0_carry_107 : decode cX0_carry 107 = .ok (.invokevirtual 132, 3) := dk_182 0 132 (dk_at dksX0_carry_4 13 rfl rfl)
theorem dX0_carry_110 : decode cX0_carry 110 = .ok (.pop, 1) := dk_87 (dk_at dksX0_carry_4 16 rfl rfl)
theorem dX0_carry_111 : decode cX0_carry 111 = .ok (.goto 61, 3) := dk_167 0 61 (dk_at dksX0_carry_4 17 rfl rfl)
theorem dX0_carry_114 : decode cX0_carry 114 = .ok (.aload_n 1, 1) := dk_43 (dk_at dksX0_carry_4 20 rfl rfl)
theorem dX0_carry_115 : decode cX0_carry 115 = .ok (.getfield 399, 3) := dk_180 1 143 (dk_at dksX0_carry_4 21 rfl rfl)
theorem dX0_carry_118 : decode cX0_carry 118 = .ok (.bipush 101, 2) := dk_16 101 (dk_at dksX0_carry_5 0 rfl rfl)
theorem dX0_carry_120 : decode cX0_carry 120 = .ok (.if_icmp .ne 23, 3) := dk_160 0 23 (dk_at dksX0_carry_5 2 rfl rfl)
theorem dX0_carry_123 : decode cX0_carry 123 = .ok (.aload_n 0, 1) := dk_42 (dk_at dksX0_carry_5 5 rfl rfl)
theorem dX0_carry_124 : decode cX0_carry 124 = .ok (.getfield 10, 3) := dk_180 0 10 (dk_at dksX0_carry_5 6 rfl rfl)
theorem dX0_carry_127 : decode cX0_carry 127 = .ok (.aload_n 2, 1) := dk_44 (dk_at dksX0_carry_5 9 rfl rfl)
theorem dX0_carry_128 : decode cX0_carry 128 = .ok (.iconst 0, 1) := dk_3 (dk_at dksX0_carry_5 10 rfl rfl)
theorem dX0_carry_129 : decode cX0_carry 129 = .ok (.iaload, 1) := dk_46 (dk_at dksX0_carry_5 11 rfl rfl)
theorem dX0_carry_130 : decode cX0_carry 130 = .ok (.aload_n 2, 1) := dk_44 (dk_at dksX0_carry_5 12 rfl rfl)
theorem dX0_carry_131 : decode cX0_carry 131 = .ok (.iconst 1, 1) := dk_4 (dk_at dksX0_carry_5 13 rfl rfl)
theorem dX0_carry_132 : decode cX0_carry 132 = .ok (.iaload, 1) := dk_46 (dk_at dksX0_carry_5 14 rfl rfl)
theorem dX0_carry_133 : decode cX0_carry 133 = .ok (.aload_n 2, 1) := dk_44 (dk_at dksX0_carry_5 15 rfl rfl)
theorem dX0_carry_134 : decode cX0_carry 134 = .ok (.iconst 2, 1) := dk_5 (dk_at dksX0_carry_5 16 rfl rfl)
theorem dX0_carry_135 : decode cX0_carry 135 = .ok (.iaload, 1) := dk_46 (dk_at dksX0_carry_5 17 rfl rfl)
theorem dX0_carry_136 : decode cX0_carry 136 = .ok (.invokevirtual 151, 3) := dk_182 0 151 (dk_at dksX0_carry_5 18 rfl rfl)
theorem dX0_carry_139 : decode cX0_carry 139 = .ok (.pop, 1) := dk_87 (dk_at dksX0_carry_5 21 rfl rfl)
theorem dX0_carry_140 : decode cX0_carry 140 = .ok (.goto 32, 3) := dk_167 0 32 (dk_at dksX0_carry_6 0 rfl rfl)
theorem dX0_carry_143 : decode cX0_carry 143 = .ok (.aload_n 0, 1) := dk_42 (dk_at dksX0_carry_6 3 rfl rfl)
theorem dX0_carry_144 : decode cX0_carry 144 = .ok (.getfield 10, 3) := dk_180 0 10 (dk_at dksX0_carry_6 4 rfl rfl)
theorem dX0_carry_147 : decode cX0_carry 147 = .ok (.aload_n 2, 1) := dk_44 (dk_at dksX0_carry_6 7 rfl rfl)
theorem dX0_carry_148 : decode cX0_carry 148 = .ok (.iconst 0, 1) := dk_3 (dk_at dksX0_carry_6 8 rfl rfl)
theorem dX0_carry_149 : decode cX0_carry 149 = .ok (.iaload, 1) := dk_46 (dk_at dksX0_carry_6 9 rfl rfl)
theorem dX0_carry_150 : decode cX0_carry 150 = .ok (.aload_n 2, 1) := dk_44 (dk_at dksX0_carry_6 10 rfl rfl)
theorem dX0_carry_151 : decode cX0_carry 151 = .ok (.iconst 1, 1) := dk_4 (dk_at dksX0_carry_6 11 rfl rfl)
theorem dX0_carry_152 : decode cX0_carry 152 = .ok (.iaload, 1) := dk_46 (dk_at dksX0_carry_6 12 rfl rfl)
theorem dX0_carry_153 : decode cX0_carry 153 = .ok (.aload_n 2, 1) := dk_44 (dk_at dksX0_carry_6 13 rfl rfl)
theorem dX0_carry_154 : decode cX0_carry 154 = .ok (.iconst 2, 1) := dk_5 (dk_at dksX0_carry_6 14 rfl rfl)
theorem dX0_carry_155 : decode cX0_carry 155 = .ok (.iaload, 1) := dk_46 (dk_at dksX0_carry_6 15 rfl rfl)
theorem dX0_carry_156 : decode cX0_carry 156 = .ok (.aload_n 2, 1) := dk_44 (dk_at dksX0_carry_6 16 rfl rfl)
theorem dX0_carry_157 : decode cX0_carry 157 = .ok (.iconst 3, 1) := dk_6 (dk_at dksX0_carry_6 17 rfl rfl)
theorem dX0_carry_158 : decode cX0_carry 158 = .ok (.iaload, 1) := dk_46 (dk_at dksX0_carry_6 18 rfl rfl)
theorem dX0_carry_159 : decode cX0_carry 159 = .ok (.iconst 1, 1) := dk_4 (dk_at dksX0_carry_6 19 rfl rfl)
theorem dX0_carry_160 : decode cX0_carry 160 = .ok (.if_icmp .ne 7, 3) := dk_160 0 7 (dk_at dksX0_carry_6 20 rfl rfl)
theorem dX0_carry_163 : decode cX0_carry 163 = .ok (.iconst 1, 1) := dk_4 (dk_at dksX0_carry_6 23 rfl rfl)
theorem dX0_carry_164 : decode cX0_carry 164 = .ok (.goto 4, 3) := dk_167 0 4 (dk_at dksX0_carry_7 0 rfl rfl)
theorem dX0_carry_167 : decode cX0_carry 167 = .ok (.iconst 0, 1) := dk_3 (dk_at dksX0_carry_7 3 rfl rfl)
theorem dX0_carry_168 : decode cX0_carry 168 = .ok (.invokevirtual 173, 3) := dk_182 0 173 (dk_at dksX0_carry_7 4 rfl rfl)
theorem dX0_carry_171 : decode cX0_carry 171 = .ok (.pop, 1) := dk_87 (dk_at dksX0_carry_7 7 rfl rfl)
theorem dX0_carry_172 : decode cX0_carry 172 = .ok (.iconst 0, 1) := dk_3 (dk_at dksX0_carry_7 8 rfl rfl)
theorem dX0_carry_173 : decode cX0_carry 173 = .ok (.ireturn, 1) := dk_172 (dk_at dksX0_carry_7 9 rfl rfl)
abbrev cX0_undo : ByteArray := prog_1_method_50_code
def yX0_undo : MethodName := ⟨RX0, "undo", "()I"⟩
def dkwX0_undo_2 : List UInt8 := [185, 0, 34, 1, 0, 172]
abbrev dktX0_undo_2 : List UInt8 := dkwX0_undo_2 ++ []
def dkwX0_undo_1 : List UInt8 := [185, 0, 34, 1, 0, 4, 100, 185, 0, 40, 2, 0, 192, 0, 7, 181, 0, 10, 42, 180, 0, 19]
abbrev dktX0_undo_1 : List UInt8 := dkwX0_undo_1 ++ dktX0_undo_2
def dkwX0_undo_0 : List UInt8 := [42, 180, 0, 19, 185, 1, 154, 1, 0, 153, 0, 6, 16, 251, 172, 42, 42, 180, 0, 19, 42, 180, 0, 19]
abbrev dktX0_undo_0 : List UInt8 := dkwX0_undo_0 ++ dktX0_undo_1
theorem dksX0_undo_0 : cX0_undo.data.toList.drop 0 = dktX0_undo_0 := by decide +kernel
theorem dksX0_undo_1 : cX0_undo.data.toList.drop 24 = dktX0_undo_1 := dk_seg dksX0_undo_0 24 rfl rfl
theorem dksX0_undo_2 : cX0_undo.data.toList.drop 46 = dktX0_undo_2 := dk_seg dksX0_undo_1 22 rfl rfl
theorem dX0_undo_0 : decode cX0_undo 0 = .ok (.aload_n 0, 1) := dk_42 (dk_at dksX0_undo_0 0 rfl rfl)
theorem dX0_undo_1 : decode cX0_undo 1 = .ok (.getfield 19, 3) := dk_180 0 19 (dk_at dksX0_undo_0 1 rfl rfl)
theorem dX0_undo_4 : decode cX0_undo 4 = .ok (.invokeinterface 410 1, 5) := by decide +kernel
theorem dX0_undo_9 : decode cX0_undo 9 = .ok (.ifCond .eq 6, 3) := dk_153 0 6 (dk_at dksX0_undo_0 9 rfl rfl)
theorem dX0_undo_12 : decode cX0_undo 12 = .ok (.bipush (-5), 2) := dk_16 251 (dk_at dksX0_undo_0 12 rfl rfl)
theorem dX0_undo_14 : decode cX0_undo 14 = .ok (.ireturn, 1) := dk_172 (dk_at dksX0_undo_0 14 rfl rfl)
theorem dX0_undo_15 : decode cX0_undo 15 = .ok (.aload_n 0, 1) := dk_42 (dk_at dksX0_undo_0 15 rfl rfl)
theorem dX0_undo_16 : decode cX0_undo 16 = .ok (.aload_n 0, 1) := dk_42 (dk_at dksX0_undo_0 16 rfl rfl)
theorem dX0_undo_17 : decode cX0_undo 17 = .ok (.getfield 19, 3) := dk_180 0 19 (dk_at dksX0_undo_0 17 rfl rfl)
theorem dX0_undo_20 : decode cX0_undo 20 = .ok (.aload_n 0, 1) := dk_42 (dk_at dksX0_undo_0 20 rfl rfl)
theorem dX0_undo_21 : decode cX0_undo 21 = .ok (.getfield 19, 3) := dk_180 0 19 (dk_at dksX0_undo_0 21 rfl rfl)
theorem dX0_undo_24 : decode cX0_undo 24 = .ok (.invokeinterface 34 1, 5) := by decide +kernel
theorem dX0_undo_29 : decode cX0_undo 29 = .ok (.iconst 1, 1) := dk_4 (dk_at dksX0_undo_1 5 rfl rfl)
theorem dX0_undo_30 : decode cX0_undo 30 = .ok (.isub, 1) := dk_100 (dk_at dksX0_undo_1 6 rfl rfl)
theorem dX0_undo_31 : decode cX0_undo 31 = .ok (.invokeinterface 40 2, 5) := by decide +kernel
theorem dX0_undo_36 : decode cX0_undo 36 = .ok (.checkcast 7, 3) := dk_192 0 7 (dk_at dksX0_undo_1 12 rfl rfl)
theorem dX0_undo_39 : decode cX0_undo 39 = .ok (.putfield 10, 3) := dk_181 0 10 (dk_at dksX0_undo_1 15 rfl rfl)
theorem dX0_undo_42 : decode cX0_undo 42 = .ok (.aload_n 0, 1) := dk_42 (dk_at dksX0_undo_1 18 rfl rfl)
theorem dX0_undo_43 : decode cX0_undo 43 = .ok (.getfield 19, 3) := dk_180 0 19 (dk_at dksX0_undo_1 19 rfl rfl)
theorem dX0_undo_46 : decode cX0_undo 46 = .ok (.invokeinterface 34 1, 5) := by decide +kernel
theorem dX0_undo_51 : decode cX0_undo 51 = .ok (.ireturn, 1) := dk_172 (dk_at dksX0_undo_2 5 rfl rfl)
abbrev cX0_save : ByteArray := prog_1_method_51_code
def yX0_save : MethodName := ⟨RX0, "save", "(I)I"⟩
def dkwX0_save_1 : List UInt8 := [180, 0, 10, 183, 0, 44, 83, 42, 180, 0, 10, 180, 0, 55, 172]
abbrev dktX0_save_1 : List UInt8 := dkwX0_save_1 ++ []
def dkwX0_save_0 : List UInt8 := [27, 3, 4, 184, 0, 51, 154, 0, 6, 16, 254, 172, 42, 180, 0, 23, 27, 187, 0, 7, 89, 42]
abbrev dktX0_save_0 : List UInt8 := dkwX0_save_0 ++ dktX0_save_1
theorem dksX0_save_0 : cX0_save.data.toList.drop 0 = dktX0_save_0 := by decide +kernel
theorem dksX0_save_1 : cX0_save.data.toList.drop 22 = dktX0_save_1 := dk_seg dksX0_save_0 22 rfl rfl
theorem dX0_save_0 : decode cX0_save 0 = .ok (.iload_n 1, 1) := dk_27 (dk_at dksX0_save_0 0 rfl rfl)
theorem dX0_save_1 : decode cX0_save 1 = .ok (.iconst 0, 1) := dk_3 (dk_at dksX0_save_0 1 rfl rfl)
theorem dX0_save_2 : decode cX0_save 2 = .ok (.iconst 1, 1) := dk_4 (dk_at dksX0_save_0 2 rfl rfl)
theorem dX0_save_3 : decode cX0_save 3 = .ok (.invokestatic 51, 3) := dk_184 0 51 (dk_at dksX0_save_0 3 rfl rfl)
theorem dX0_save_6 : decode cX0_save 6 = .ok (.ifCond .ne 6, 3) := dk_154 0 6 (dk_at dksX0_save_0 6 rfl rfl)
theorem dX0_save_9 : decode cX0_save 9 = .ok (.bipush (-2), 2) := dk_16 254 (dk_at dksX0_save_0 9 rfl rfl)
theorem dX0_save_11 : decode cX0_save 11 = .ok (.ireturn, 1) := dk_172 (dk_at dksX0_save_0 11 rfl rfl)
theorem dX0_save_12 : decode cX0_save 12 = .ok (.aload_n 0, 1) := dk_42 (dk_at dksX0_save_0 12 rfl rfl)
theorem dX0_save_13 : decode cX0_save 13 = .ok (.getfield 23, 3) := dk_180 0 23 (dk_at dksX0_save_0 13 rfl rfl)
theorem dX0_save_16 : decode cX0_save 16 = .ok (.iload_n 1, 1) := dk_27 (dk_at dksX0_save_0 16 rfl rfl)
theorem dX0_save_17 : decode cX0_save 17 = .ok (.new 7, 3) := dk_187 0 7 (dk_at dksX0_save_0 17 rfl rfl)
theorem dX0_save_20 : decode cX0_save 20 = .ok (.dup, 1) := dk_89 (dk_at dksX0_save_0 20 rfl rfl)
theorem dX0_save_21 : decode cX0_save 21 = .ok (.aload_n 0, 1) := dk_42 (dk_at dksX0_save_0 21 rfl rfl)
theorem dX0_save_22 : decode cX0_save 22 = .ok (.getfield 10, 3) := dk_180 0 10 (dk_at dksX0_save_1 0 rfl rfl)
theorem dX0_save_25 : decode cX0_save 25 = .ok (.invokespecial 44, 3) := dk_183 0 44 (dk_at dksX0_save_1 3 rfl rfl)
theorem dX0_save_28 : decode cX0_save 28 = .ok (.aastore, 1) := dk_83 (dk_at dksX0_save_1 6 rfl rfl)
theorem dX0_save_29 : decode cX0_save 29 = .ok (.aload_n 0, 1) := dk_42 (dk_at dksX0_save_1 7 rfl rfl)
theorem dX0_save_30 : decode cX0_save 30 = .ok (.getfield 10, 3) := dk_180 0 10 (dk_at dksX0_save_1 8 rfl rfl)
theorem dX0_save_33 : decode cX0_save 33 = .ok (.getfield 55, 3) := dk_180 0 55 (dk_at dksX0_save_1 11 rfl rfl)
theorem dX0_save_36 : decode cX0_save 36 = .ok (.ireturn, 1) := dk_172 (dk_at dksX0_save_1 14 rfl rfl)
abbrev cX0_restore : ByteArray := prog_1_method_52_code
def yX0_restore : MethodName := ⟨RX0, "restore", "(I)I"⟩
def dkwX0_restore_2 : List UInt8 := [180, 0, 10, 180, 0, 55, 172]
abbrev dktX0_restore_2 : List UInt8 := dkwX0_restore_2 ++ []
def dkwX0_restore_1 : List UInt8 := [42, 182, 0, 63, 42, 187, 0, 7, 89, 42, 180, 0, 23, 27, 50, 183, 0, 44, 181, 0, 10, 42]
abbrev dktX0_restore_1 : List UInt8 := dkwX0_restore_1 ++ dktX0_restore_2
def dkwX0_restore_0 : List UInt8 := [27, 3, 4, 184, 0, 51, 154, 0, 6, 16, 254, 172, 42, 180, 0, 23, 27, 50, 199, 0, 6, 16, 251, 172]
abbrev dktX0_restore_0 : List UInt8 := dkwX0_restore_0 ++ dktX0_restore_1
theorem dksX0_restore_0 : cX0_restore.data.toList.drop 0 = dktX0_restore_0 := by decide +kernel
theorem dksX0_restore_1 : cX0_restore.data.toList.drop 24 = dktX0_restore_1 := dk_seg dksX0_restore_0 24 rfl rfl
theorem dksX0_restore_2 : cX0_restore.data.toList.drop 46 = dktX0_restore_2 := dk_seg dksX0_restore_1 22 rfl rfl
theorem dX0_restore_0 : decode cX0_restore 0 = .ok (.iload_n 1, 1) := dk_27 (dk_at dksX0_restore_0 0 rfl rfl)
theorem dX0_restore_1 : decode cX0_restore 1 = .ok (.iconst 0, 1) := dk_3 (dk_at dksX0_restore_0 1 rfl rfl)
theorem dX0_restore_2 : decode cX0_restore 2 = .ok (.iconst 1, 1) := dk_4 (dk_at dksX0_restore_0 2 rfl rfl)
theorem dX0_restore_3 : decode cX0_restore 3 = .ok (.invokestatic 51, 3) := dk_184 0 51 (dk_at dksX0_restore_0 3 rfl rfl)
theorem dX0_restore_6 : decode cX0_restore 6 = .ok (.ifCond .ne 6, 3) := dk_154 0 6 (dk_at dksX0_restore_0 6 rfl rfl)
theorem dX0_restore_9 : decode cX0_restore 9 = .ok (.bipush (-2), 2) := dk_16 254 (dk_at dksX0_restore_0 9 rfl rfl)
theorem dX0_restore_11 : decode cX0_restore 11 = .ok (.ireturn, 1) := dk_172 (dk_at dksX0_restore_0 11 rfl rfl)
theorem dX0_restore_12 : decode cX0_restore 12 = .ok (.aload_n 0, 1) := dk_42 (dk_at dksX0_restore_0 12 rfl rfl)
theorem dX0_restore_13 : decode cX0_restore 13 = .ok (.getfield 23, 3) := dk_180 0 23 (dk_at dksX0_restore_0 13 rfl rfl)
theorem dX0_restore_16 : decode cX0_restore 16 = .ok (.iload_n 1, 1) := dk_27 (dk_at dksX0_restore_0 16 rfl rfl)
theorem dX0_restore_17 : decode cX0_restore 17 = .ok (.aaload, 1) := dk_50 (dk_at dksX0_restore_0 17 rfl rfl)
theorem dX0_restore_18 : decode cX0_restore 18 = .ok (.ifnonnull 6, 3) := dk_199 0 6 (dk_at dksX0_restore_0 18 rfl rfl)
theorem dX0_restore_21 : decode cX0_restore 21 = .ok (.bipush (-5), 2) := dk_16 251 (dk_at dksX0_restore_0 21 rfl rfl)
theorem dX0_restore_23 : decode cX0_restore 23 = .ok (.ireturn, 1) := dk_172 (dk_at dksX0_restore_0 23 rfl rfl)
theorem dX0_restore_24 : decode cX0_restore 24 = .ok (.aload_n 0, 1) := dk_42 (dk_at dksX0_restore_1 0 rfl rfl)
theorem dX0_restore_25 : decode cX0_restore 25 = .ok (.invokevirtual 63, 3) := dk_182 0 63 (dk_at dksX0_restore_1 1 rfl rfl)
theorem dX0_restore_28 : decode cX0_restore 28 = .ok (.aload_n 0, 1) := dk_42 (dk_at dksX0_restore_1 4 rfl rfl)
theorem dX0_restore_29 : decode cX0_restore 29 = .ok (.new 7, 3) := dk_187 0 7 (dk_at dksX0_restore_1 5 rfl rfl)
theorem dX0_restore_32 : decode cX0_restore 32 = .ok (.dup, 1) := dk_89 (dk_at dksX0_restore_1 8 rfl rfl)
theorem dX0_restore_33 : decode cX0_restore 33 = .ok (.aload_n 0, 1) := dk_42 (dk_at dksX0_restore_1 9 rfl rfl)
theorem dX0_restore_34 : decode cX0_restore 34 = .ok (.getfield 23, 3) := dk_180 0 23 (dk_at dksX0_restore_1 10 rfl rfl)
theorem dX0_restore_37 : decode cX0_restore 37 = .ok (.iload_n 1, 1) := dk_27 (dk_at dksX0_restore_1 13 rfl rfl)
theorem dX0_restore_38 : decode cX0_restore 38 = .ok (.aaload, 1) := dk_50 (dk_at dksX0_restore_1 14 rfl rfl)
theorem dX0_restore_39 : decode cX0_restore 39 = .ok (.invokespecial 44, 3) := dk_183 0 44 (dk_at dksX0_restore_1 15 rfl rfl)
theorem dX0_restore_42 : decode cX0_restore 42 = .ok (.putfield 10, 3) := dk_181 0 10 (dk_at dksX0_restore_1 18 rfl rfl)
theorem dX0_restore_45 : decode cX0_restore 45 = .ok (.aload_n 0, 1) := dk_42 (dk_at dksX0_restore_1 21 rfl rfl)
theorem dX0_restore_46 : decode cX0_restore 46 = .ok (.getfield 10, 3) := dk_180 0 10 (dk_at dksX0_restore_2 0 rfl rfl)
theorem dX0_restore_49 : decode cX0_restore 49 = .ok (.getfield 55, 3) := dk_180 0 55 (dk_at dksX0_restore_2 3 rfl rfl)
theorem dX0_restore_52 : decode cX0_restore 52 = .ok (.ireturn, 1) := dk_172 (dk_at dksX0_restore_2 6 rfl rfl)
theorem q77 : (Jvm.Cond.initialized "DomeNights") ∈ lw_all := lw_g (lw_at lw_m1 1 rfl) rfl
theorem q122 : (Jvm.Cond.instantiable "DomeNights" (4 : Nat)) ∈ lw_all := lw_g (lw_at lw_m1 46 rfl) rfl
theorem q124 : (Jvm.Cond.instanceMethod ({ cls := "DomeNights", name := "<init>", desc := "()V" } : Jvm.MethodName)) ∈ lw_all := lw_g (lw_at lw_m1 48 rfl) rfl
theorem q125 : (Jvm.Cond.code ({ cls := "DomeNights", name := "<init>", desc := "()V" } : Jvm.MethodName) prog_1_method_2_code (1 : Nat) (Option.none : Option Jvm.ClassFile.FieldType)) ∈ lw_all := lw_g (lw_at lw_m1 49 rfl) rfl
theorem q126 : (Jvm.Cond.methodLink "DomeNights" (1 : Nat) ({ cls := "java/lang/Object", name := "<init>", desc := "()V" } : Jvm.MethodName)) ∈ lw_all := lw_g (lw_at lw_m1 50 rfl) rfl
theorem q129 : (Jvm.Cond.classLink "DomeNights" (7 : Nat) "DomeNights$Programme") ∈ lw_all := lw_g (lw_at lw_m1 53 rfl) rfl
theorem q131 : (Jvm.Cond.methodLink "DomeNights" (9 : Nat) ({ cls := "DomeNights$Programme", name := "<init>", desc := "()V" } : Jvm.MethodName)) ∈ lw_all := lw_g (lw_at lw_m1 55 rfl) rfl
theorem q202 : (Jvm.Cond.fieldLinkNest "DomeNights" (66 : Nat) "DomeNights$Programme" "settings" "[I" "DomeNights") ∈ lw_tbl := lw_at lw_m1 126 rfl
theorem q204 : (Jvm.Cond.fieldLinkNest "DomeNights" (73 : Nat) "DomeNights$Programme" "kinds" "Ljava/util/List;" "DomeNights") ∈ lw_tbl := lw_at lw_m1 128 rfl
theorem q206 : (Jvm.Cond.fieldLinkNest "DomeNights" (95 : Nat) "DomeNights$Programme" "lamps" "Ljava/util/List;" "DomeNights") ∈ lw_tbl := lw_at lw_m1 130 rfl
theorem q208 : (Jvm.Cond.fieldLinkNest "DomeNights" (116 : Nat) "DomeNights$Programme" "shows" "Ljava/util/List;" "DomeNights") ∈ lw_tbl := lw_at lw_m1 132 rfl
theorem q210 : (Jvm.Cond.fieldLinkNest "DomeNights" (162 : Nat) "DomeNights$Programme" "bookings" "Ljava/util/List;" "DomeNights") ∈ lw_tbl := lw_at lw_m1 134 rfl
theorem q212 : (Jvm.Cond.fieldLinkNest "DomeNights" (184 : Nat) "DomeNights$Programme" "promises" "Ljava/util/List;" "DomeNights") ∈ lw_tbl := lw_at lw_m1 136 rfl
theorem q214 : (Jvm.Cond.fieldLinkNest "DomeNights" (314 : Nat) "DomeNights$Programme" "planned" "Ljava/util/Map;" "DomeNights") ∈ lw_tbl := lw_at lw_m1 138 rfl
theorem q216 : (Jvm.Cond.fieldLinkNest "DomeNights" (139 : Nat) "DomeNights$Programme" "inEvents" "Ljava/util/Map;" "DomeNights") ∈ lw_tbl := lw_at lw_m1 140 rfl
theorem q218 : (Jvm.Cond.fieldLinkNest "DomeNights" (136 : Nat) "DomeNights$Programme" "events" "I" "DomeNights") ∈ lw_tbl := lw_at lw_m1 142 rfl
theorem q220 : (Jvm.Cond.fieldLinkNest "DomeNights" (55 : Nat) "DomeNights$Programme" "today" "I" "DomeNights") ∈ lw_tbl := lw_at lw_m1 144 rfl
theorem q222 : (Jvm.Cond.fieldLinkNest "DomeNights" (218 : Nat) "DomeNights$Programme" "held" "I" "DomeNights") ∈ lw_tbl := lw_at lw_m1 146 rfl
theorem q246 : (Jvm.Cond.classLink "DomeNights" (16 : Nat) "java/util/ArrayList") ∈ lw_all := lw_g (lw_at lw_m1 170 rfl) rfl
theorem q247 : (Jvm.Cond.methodLink "DomeNights" (18 : Nat) ({ cls := "java/util/ArrayList", name := "<init>", desc := "()V" } : Jvm.MethodName)) ∈ lw_all := lw_g (lw_at lw_m1 171 rfl) rfl
theorem q249 : (Jvm.Cond.classLink "DomeNights" (27 : Nat) "java/lang/StringBuilder") ∈ lw_all := lw_g (lw_at lw_m1 173 rfl) rfl
theorem q251 : (Jvm.Cond.methodLink "DomeNights" (29 : Nat) ({ cls := "java/lang/StringBuilder", name := "<init>", desc := "()V" } : Jvm.MethodName)) ∈ lw_all := lw_g (lw_at lw_m1 175 rfl) rfl
theorem q281 : (Jvm.Cond.fieldLink "DomeNights" (10 : Nat) "DomeNights" "now" "LDomeNights$Programme;") ∈ lw_all := lw_g (lw_at lw_m1 205 rfl) rfl
theorem q282 : (Jvm.Cond.fieldLink "DomeNights" (19 : Nat) "DomeNights" "past" "Ljava/util/List;") ∈ lw_all := lw_g (lw_at lw_m1 206 rfl) rfl
theorem q283 : (Jvm.Cond.fieldLink "DomeNights" (23 : Nat) "DomeNights" "saved" "[LDomeNights$Programme;") ∈ lw_all := lw_g (lw_at lw_m1 207 rfl) rfl
theorem q284 : (Jvm.Cond.fieldLink "DomeNights" (30 : Nat) "DomeNights" "pad" "Ljava/lang/StringBuilder;") ∈ lw_all := lw_g (lw_at lw_m1 208 rfl) rfl
theorem q285 : (Jvm.Cond.lays "DomeNights" "DomeNights" "now" "LDomeNights$Programme;") ∈ lw_all := lw_g (lw_at lw_m1 209 rfl) rfl
theorem q286 : (Jvm.Cond.soleField "DomeNights" "now") ∈ lw_all := lw_g (lw_at lw_m1 210 rfl) rfl
theorem q287 : (Jvm.Cond.laysFinal "DomeNights" "DomeNights" "past" "Ljava/util/List;") ∈ lw_all := lw_g (lw_at lw_m1 211 rfl) rfl
theorem q288 : (Jvm.Cond.soleField "DomeNights" "past") ∈ lw_all := lw_g (lw_at lw_m1 212 rfl) rfl
theorem q289 : (Jvm.Cond.laysFinal "DomeNights" "DomeNights" "saved" "[LDomeNights$Programme;") ∈ lw_all := lw_g (lw_at lw_m1 213 rfl) rfl
theorem q290 : (Jvm.Cond.soleField "DomeNights" "saved") ∈ lw_all := lw_g (lw_at lw_m1 214 rfl) rfl
theorem q291 : (Jvm.Cond.laysFinal "DomeNights" "DomeNights" "pad" "Ljava/lang/StringBuilder;") ∈ lw_all := lw_g (lw_at lw_m1 215 rfl) rfl
theorem q292 : (Jvm.Cond.soleField "DomeNights" "pad") ∈ lw_all := lw_g (lw_at lw_m1 216 rfl) rfl
theorem q293 : (Jvm.Cond.superclass "DomeNights" "java/lang/Object") ∈ lw_all := lw_g (lw_at lw_m1 217 rfl) rfl
theorem q295 : (Jvm.Cond.instanceMethod ({ cls := "DomeNights", name := "set", desc := "(II)I" } : Jvm.MethodName)) ∈ lw_all := lw_g (lw_at lw_m1 219 rfl) rfl
theorem q296 : (Jvm.Cond.selects "DomeNights" ({ cls := "DomeNights", name := "set", desc := "(II)I" } : Jvm.MethodName) ({ cls := "DomeNights", name := "set", desc := "(II)I" } : Jvm.MethodName)) ∈ lw_all := lw_g (lw_at lw_m1 220 rfl) rfl
theorem q297 : (Jvm.Cond.code ({ cls := "DomeNights", name := "set", desc := "(II)I" } : Jvm.MethodName) prog_1_method_8_code (4 : Nat) (Option.some Jvm.ClassFile.FieldType.int)) ∈ lw_all := lw_g (lw_at lw_m1 221 rfl) rfl
theorem q298 : (Jvm.Cond.fieldLink "DomeNights" (59 : Nat) "DomeNights" "GREATEST" "[I") ∈ lw_all := lw_g (lw_at lw_m1 222 rfl) rfl
theorem q299 : (Jvm.Cond.laysStatic "DomeNights" "GREATEST" "[I") ∈ lw_tbl := lw_at lw_m1 223 rfl
theorem q300 : (Jvm.Cond.methodLink "DomeNights" (51 : Nat) ({ cls := "DomeNights", name := "isIn", desc := "(III)Z" } : Jvm.MethodName)) ∈ lw_all := lw_g (lw_at lw_m1 224 rfl) rfl
theorem q301 : (Jvm.Cond.static ({ cls := "DomeNights", name := "isIn", desc := "(III)Z" } : Jvm.MethodName)) ∈ lw_all := lw_g (lw_at lw_m1 225 rfl) rfl
theorem q302 : (Jvm.Cond.code ({ cls := "DomeNights", name := "isIn", desc := "(III)Z" } : Jvm.MethodName) prog_1_method_1_code (3 : Nat) (Option.some Jvm.ClassFile.FieldType.boolean)) ∈ lw_all := lw_g (lw_at lw_m1 226 rfl) rfl
theorem q303 : (Jvm.Cond.methodLink "DomeNights" (63 : Nat) ({ cls := "DomeNights", name := "record", desc := "()V" } : Jvm.MethodName)) ∈ lw_all := lw_g (lw_at lw_m1 227 rfl) rfl
theorem q304 : (Jvm.Cond.privateMethod ({ cls := "DomeNights", name := "record", desc := "()V" } : Jvm.MethodName)) ∈ lw_tbl := lw_at lw_m1 228 rfl
theorem q305 : (Jvm.Cond.instanceMethod ({ cls := "DomeNights", name := "record", desc := "()V" } : Jvm.MethodName)) ∈ lw_all := lw_g (lw_at lw_m1 229 rfl) rfl
theorem q306 : (Jvm.Cond.code ({ cls := "DomeNights", name := "record", desc := "()V" } : Jvm.MethodName) prog_1_method_3_code (1 : Nat) (Option.none : Option Jvm.ClassFile.FieldType)) ∈ lw_all := lw_g (lw_at lw_m1 230 rfl) rfl
theorem q307 : (Jvm.Cond.interfaceEntry "DomeNights" (34 : Nat)) ∈ lw_tbl := lw_at lw_m1 231 rfl
theorem q308 : (Jvm.Cond.methodLink "DomeNights" (34 : Nat) ({ cls := "java/util/List", name := "size", desc := "()I" } : Jvm.MethodName)) ∈ lw_all := lw_g (lw_at lw_m1 232 rfl) rfl
theorem q317 : (Jvm.Cond.interfaceEntry "DomeNights" (40 : Nat)) ∈ lw_tbl := lw_at lw_m2 1 rfl
theorem q318 : (Jvm.Cond.methodLink "DomeNights" (40 : Nat) ({ cls := "java/util/List", name := "remove", desc := "(I)Ljava/lang/Object;" } : Jvm.MethodName)) ∈ lw_all := lw_g (lw_at lw_m2 2 rfl) rfl
theorem q339 : (Jvm.Cond.methodLink "DomeNights" (44 : Nat) ({ cls := "DomeNights$Programme", name := "<init>", desc := "(LDomeNights$Programme;)V" } : Jvm.MethodName)) ∈ lw_all := lw_g (lw_at lw_m2 23 rfl) rfl
theorem q426 : (Jvm.Cond.fieldLinkNest "DomeNights" (224 : Nat) "DomeNights$Kind" "wear" "I" "DomeNights") ∈ lw_tbl := lw_at lw_m2 110 rfl
theorem q429 : (Jvm.Cond.fieldLinkNest "DomeNights" (227 : Nat) "DomeNights$Kind" "least" "I" "DomeNights") ∈ lw_tbl := lw_at lw_m2 113 rfl
theorem q431 : (Jvm.Cond.fieldLinkNest "DomeNights" (92 : Nat) "DomeNights$Kind" "price" "I" "DomeNights") ∈ lw_tbl := lw_at lw_m2 115 rfl
theorem q477 : (Jvm.Cond.selects "DomeNights" ({ cls := "java/lang/Object", name := "getClass", desc := "()Ljava/lang/Class;" } : Jvm.MethodName) ({ cls := "java/lang/Object", name := "getClass", desc := "()Ljava/lang/Class;" } : Jvm.MethodName)) ∈ lw_all := lw_g (lw_at lw_m2 161 rfl) rfl
theorem q522 : (Jvm.Cond.fieldLinkNest "DomeNights" (233 : Nat) "DomeNights$Lamp" "life" "I" "DomeNights") ∈ lw_tbl := lw_at lw_m2 206 rfl
theorem q524 : (Jvm.Cond.fieldLinkNest "DomeNights" (236 : Nat) "DomeNights$Lamp" "used" "I" "DomeNights") ∈ lw_tbl := lw_at lw_m2 208 rfl
theorem q527 : (Jvm.Cond.fieldLinkNest "DomeNights" (103 : Nat) "DomeNights$Lamp" "place" "I" "DomeNights") ∈ lw_tbl := lw_at lw_m2 211 rfl
theorem q547 : (Jvm.Cond.fieldLinkNest "DomeNights" (246 : Nat) "DomeNights$Show" "kind" "I" "DomeNights") ∈ lw_tbl := lw_at lw_m2 231 rfl
theorem q551 : (Jvm.Cond.fieldLinkNest "DomeNights" (247 : Nat) "DomeNights$Show" "time" "LDomeNights$Time;" "DomeNights") ∈ lw_tbl := lw_at lw_m2 235 rfl
theorem q553 : (Jvm.Cond.fieldLinkNest "DomeNights" (156 : Nat) "DomeNights$Show" "state" "I" "DomeNights") ∈ lw_tbl := lw_at lw_m2 237 rfl
theorem q557 : (Jvm.Cond.fieldLinkNest "DomeNights" (257 : Nat) "DomeNights$Show" "lamp" "I" "DomeNights") ∈ lw_tbl := lw_at lw_m3 1 rfl
theorem q560 : (Jvm.Cond.fieldLinkNest "DomeNights" (260 : Nat) "DomeNights$Show" "worn" "I" "DomeNights") ∈ lw_tbl := lw_at lw_m3 4 rfl
theorem q563 : (Jvm.Cond.fieldLinkNest "DomeNights" (269 : Nat) "DomeNights$Show" "moved" "I" "DomeNights") ∈ lw_tbl := lw_at lw_m3 7 rfl
theorem q566 : (Jvm.Cond.fieldLinkNest "DomeNights" (272 : Nat) "DomeNights$Show" "free" "[I" "DomeNights") ∈ lw_tbl := lw_at lw_m3 10 rfl
theorem q594 : (Jvm.Cond.fieldLinkNest "DomeNights" (278 : Nat) "DomeNights$Booking" "show" "I" "DomeNights") ∈ lw_tbl := lw_at lw_m3 38 rfl
theorem q597 : (Jvm.Cond.fieldLinkNest "DomeNights" (281 : Nat) "DomeNights$Booking" "seats" "I" "DomeNights") ∈ lw_tbl := lw_at lw_m3 41 rfl
theorem q601 : (Jvm.Cond.fieldLinkNest "DomeNights" (284 : Nat) "DomeNights$Booking" "school" "I" "DomeNights") ∈ lw_tbl := lw_at lw_m3 45 rfl
theorem q604 : (Jvm.Cond.fieldLinkNest "DomeNights" (285 : Nat) "DomeNights$Booking" "isBound" "Z" "DomeNights") ∈ lw_tbl := lw_at lw_m3 48 rfl
theorem q607 : (Jvm.Cond.fieldLinkNest "DomeNights" (289 : Nat) "DomeNights$Booking" "cost" "I" "DomeNights") ∈ lw_tbl := lw_at lw_m3 51 rfl
theorem q610 : (Jvm.Cond.fieldLinkNest "DomeNights" (179 : Nat) "DomeNights$Booking" "state" "I" "DomeNights") ∈ lw_tbl := lw_at lw_m3 54 rfl
theorem q613 : (Jvm.Cond.fieldLinkNest "DomeNights" (292 : Nat) "DomeNights$Booking" "refunded" "I" "DomeNights") ∈ lw_tbl := lw_at lw_m3 57 rfl
theorem q616 : (Jvm.Cond.fieldLinkNest "DomeNights" (275 : Nat) "DomeNights$Booking" "inRow" "[I" "DomeNights") ∈ lw_tbl := lw_at lw_m3 60 rfl
theorem q645 : (Jvm.Cond.fieldLinkNest "DomeNights" (204 : Nat) "DomeNights$Promise" "school" "I" "DomeNights") ∈ lw_tbl := lw_at lw_m3 89 rfl
theorem q647 : (Jvm.Cond.fieldLinkNest "DomeNights" (207 : Nat) "DomeNights$Promise" "kind" "I" "DomeNights") ∈ lw_tbl := lw_at lw_m3 91 rfl
theorem q649 : (Jvm.Cond.fieldLinkNest "DomeNights" (298 : Nat) "DomeNights$Promise" "seats" "I" "DomeNights") ∈ lw_tbl := lw_at lw_m3 93 rfl
theorem q652 : (Jvm.Cond.fieldLinkNest "DomeNights" (299 : Nat) "DomeNights$Promise" "last" "I" "DomeNights") ∈ lw_tbl := lw_at lw_m3 96 rfl
theorem q655 : (Jvm.Cond.fieldLinkNest "DomeNights" (203 : Nat) "DomeNights$Promise" "state" "I" "DomeNights") ∈ lw_tbl := lw_at lw_m3 99 rfl
theorem q658 : (Jvm.Cond.fieldLinkNest "DomeNights" (295 : Nat) "DomeNights$Promise" "counted" "[I" "DomeNights") ∈ lw_tbl := lw_at lw_m3 102 rfl
theorem q1095 : (Jvm.Cond.selects "DomeNights" ({ cls := "java/lang/Object", name := "hashCode", desc := "()I" } : Jvm.MethodName) ({ cls := "java/lang/Object", name := "hashCode", desc := "()I" } : Jvm.MethodName)) ∈ lw_all := lw_g (lw_at lw_m5 59 rfl) rfl
theorem q1129 : (Jvm.Cond.selects "DomeNights" ({ cls := "java/lang/Object", name := "equals", desc := "(Ljava/lang/Object;)Z" } : Jvm.MethodName) ({ cls := "java/lang/Object", name := "equals", desc := "(Ljava/lang/Object;)Z" } : Jvm.MethodName)) ∈ lw_all := lw_g (lw_at lw_m5 93 rfl) rfl
theorem q1220 : (Jvm.Cond.interfaceEntry "DomeNights" (47 : Nat)) ∈ lw_tbl := lw_at lw_m5 184 rfl
theorem q1221 : (Jvm.Cond.methodLink "DomeNights" (47 : Nat) ({ cls := "java/util/List", name := "add", desc := "(Ljava/lang/Object;)Z" } : Jvm.MethodName)) ∈ lw_all := lw_g (lw_at lw_m5 185 rfl) rfl
theorem q1223 : (Jvm.Cond.instanceMethod ({ cls := "DomeNights", name := "kind", desc := "(III)I" } : Jvm.MethodName)) ∈ lw_all := lw_g (lw_at lw_m5 187 rfl) rfl
theorem q1224 : (Jvm.Cond.selects "DomeNights" ({ cls := "DomeNights", name := "kind", desc := "(III)I" } : Jvm.MethodName) ({ cls := "DomeNights", name := "kind", desc := "(III)I" } : Jvm.MethodName)) ∈ lw_all := lw_g (lw_at lw_m5 188 rfl) rfl
theorem q1225 : (Jvm.Cond.code ({ cls := "DomeNights", name := "kind", desc := "(III)I" } : Jvm.MethodName) prog_1_method_9_code (5 : Nat) (Option.some Jvm.ClassFile.FieldType.int)) ∈ lw_all := lw_g (lw_at lw_m5 189 rfl) rfl
theorem q1226 : (Jvm.Cond.methodLink "DomeNights" (69 : Nat) ({ cls := "DomeNights", name := "unless", desc := "(ZI)I" } : Jvm.MethodName)) ∈ lw_all := lw_g (lw_at lw_m5 190 rfl) rfl
theorem q1227 : (Jvm.Cond.static ({ cls := "DomeNights", name := "unless", desc := "(ZI)I" } : Jvm.MethodName)) ∈ lw_all := lw_g (lw_at lw_m5 191 rfl) rfl
theorem q1228 : (Jvm.Cond.code ({ cls := "DomeNights", name := "unless", desc := "(ZI)I" } : Jvm.MethodName) prog_1_method_5_code (2 : Nat) (Option.some Jvm.ClassFile.FieldType.int)) ∈ lw_all := lw_g (lw_at lw_m5 192 rfl) rfl
theorem q1229 : (Jvm.Cond.methodLink "DomeNights" (76 : Nat) ({ cls := "DomeNights", name := "firstOf", desc := "([I)I" } : Jvm.MethodName)) ∈ lw_all := lw_g (lw_at lw_m5 193 rfl) rfl
theorem q1230 : (Jvm.Cond.static ({ cls := "DomeNights", name := "firstOf", desc := "([I)I" } : Jvm.MethodName)) ∈ lw_all := lw_g (lw_at lw_m5 194 rfl) rfl
theorem q1231 : (Jvm.Cond.code ({ cls := "DomeNights", name := "firstOf", desc := "([I)I" } : Jvm.MethodName) prog_1_method_4_code (5 : Nat) (Option.some Jvm.ClassFile.FieldType.int)) ∈ lw_all := lw_g (lw_at lw_m5 195 rfl) rfl
theorem q1232 : (Jvm.Cond.classLink "DomeNights" (80 : Nat) "DomeNights$Kind") ∈ lw_all := lw_g (lw_at lw_m5 196 rfl) rfl
theorem q1233 : (Jvm.Cond.methodLink "DomeNights" (82 : Nat) ({ cls := "DomeNights$Kind", name := "<init>", desc := "(III)V" } : Jvm.MethodName)) ∈ lw_all := lw_g (lw_at lw_m5 197 rfl) rfl
theorem q1235 : (Jvm.Cond.instanceMethod ({ cls := "DomeNights", name := "price", desc := "(II)I" } : Jvm.MethodName)) ∈ lw_all := lw_g (lw_at lw_m5 199 rfl) rfl
theorem q1236 : (Jvm.Cond.selects "DomeNights" ({ cls := "DomeNights", name := "price", desc := "(II)I" } : Jvm.MethodName) ({ cls := "DomeNights", name := "price", desc := "(II)I" } : Jvm.MethodName)) ∈ lw_all := lw_g (lw_at lw_m5 200 rfl) rfl
theorem q1237 : (Jvm.Cond.code ({ cls := "DomeNights", name := "price", desc := "(II)I" } : Jvm.MethodName) prog_1_method_10_code (5 : Nat) (Option.some Jvm.ClassFile.FieldType.int)) ∈ lw_all := lw_g (lw_at lw_m5 201 rfl) rfl
theorem q1238 : (Jvm.Cond.methodLink "DomeNights" (85 : Nat) ({ cls := "DomeNights", name := "isNumber", desc := "(ILjava/util/List;)Z" } : Jvm.MethodName)) ∈ lw_all := lw_g (lw_at lw_m5 202 rfl) rfl
theorem q1239 : (Jvm.Cond.static ({ cls := "DomeNights", name := "isNumber", desc := "(ILjava/util/List;)Z" } : Jvm.MethodName)) ∈ lw_all := lw_g (lw_at lw_m5 203 rfl) rfl
theorem q1240 : (Jvm.Cond.code ({ cls := "DomeNights", name := "isNumber", desc := "(ILjava/util/List;)Z" } : Jvm.MethodName) prog_1_method_6_code (2 : Nat) (Option.some Jvm.ClassFile.FieldType.boolean)) ∈ lw_all := lw_g (lw_at lw_m5 204 rfl) rfl
theorem q1241 : (Jvm.Cond.interfaceEntry "DomeNights" (89 : Nat)) ∈ lw_tbl := lw_at lw_m5 205 rfl
theorem q1242 : (Jvm.Cond.methodLink "DomeNights" (89 : Nat) ({ cls := "java/util/List", name := "get", desc := "(I)Ljava/lang/Object;" } : Jvm.MethodName)) ∈ lw_all := lw_g (lw_at lw_m5 206 rfl) rfl
theorem q1255 : (Jvm.Cond.instanceMethod ({ cls := "DomeNights", name := "lamp", desc := "(I)I" } : Jvm.MethodName)) ∈ lw_all := lw_g (lw_at lw_m5 219 rfl) rfl
theorem q1256 : (Jvm.Cond.selects "DomeNights" ({ cls := "DomeNights", name := "lamp", desc := "(I)I" } : Jvm.MethodName) ({ cls := "DomeNights", name := "lamp", desc := "(I)I" } : Jvm.MethodName)) ∈ lw_all := lw_g (lw_at lw_m5 220 rfl) rfl
theorem q1257 : (Jvm.Cond.code ({ cls := "DomeNights", name := "lamp", desc := "(I)I" } : Jvm.MethodName) prog_1_method_11_code (3 : Nat) (Option.some Jvm.ClassFile.FieldType.int)) ∈ lw_all := lw_g (lw_at lw_m5 221 rfl) rfl
theorem q1258 : (Jvm.Cond.classLink "DomeNights" (98 : Nat) "DomeNights$Lamp") ∈ lw_all := lw_g (lw_at lw_m5 222 rfl) rfl
theorem q1259 : (Jvm.Cond.methodLink "DomeNights" (100 : Nat) ({ cls := "DomeNights$Lamp", name := "<init>", desc := "(I)V" } : Jvm.MethodName)) ∈ lw_all := lw_g (lw_at lw_m5 223 rfl) rfl
theorem q1261 : (Jvm.Cond.instanceMethod ({ cls := "DomeNights", name := "fit", desc := "(I)I" } : Jvm.MethodName)) ∈ lw_all := lw_g (lw_at lw_m5 225 rfl) rfl
theorem q1262 : (Jvm.Cond.selects "DomeNights" ({ cls := "DomeNights", name := "fit", desc := "(I)I" } : Jvm.MethodName) ({ cls := "DomeNights", name := "fit", desc := "(I)I" } : Jvm.MethodName)) ∈ lw_all := lw_g (lw_at lw_m5 226 rfl) rfl
theorem q1263 : (Jvm.Cond.code ({ cls := "DomeNights", name := "fit", desc := "(I)I" } : Jvm.MethodName) prog_1_method_12_code (3 : Nat) (Option.some Jvm.ClassFile.FieldType.int)) ∈ lw_all := lw_g (lw_at lw_m5 227 rfl) rfl
theorem q1264 : (Jvm.Cond.methodLink "DomeNights" (106 : Nat) ({ cls := "DomeNights$Programme", name := "fitted", desc := "()I" } : Jvm.MethodName)) ∈ lw_all := lw_g (lw_at lw_m5 228 rfl) rfl
theorem q1272 : (Jvm.Cond.methodLink "DomeNights" (109 : Nat) ({ cls := "DomeNights$Programme", name := "fit", desc := "(I)V" } : Jvm.MethodName)) ∈ lw_all := lw_g (lw_at lw_m5 236 rfl) rfl
theorem q1278 : (Jvm.Cond.instanceMethod ({ cls := "DomeNights", name := "plan", desc := "(III)I" } : Jvm.MethodName)) ∈ lw_all := lw_g (lw_at lw_m6 2 rfl) rfl
theorem q1279 : (Jvm.Cond.selects "DomeNights" ({ cls := "DomeNights", name := "plan", desc := "(III)I" } : Jvm.MethodName) ({ cls := "DomeNights", name := "plan", desc := "(III)I" } : Jvm.MethodName)) ∈ lw_all := lw_g (lw_at lw_m6 3 rfl) rfl
theorem q1280 : (Jvm.Cond.code ({ cls := "DomeNights", name := "plan", desc := "(III)I" } : Jvm.MethodName) prog_1_method_14_code (5 : Nat) (Option.some Jvm.ClassFile.FieldType.int)) ∈ lw_all := lw_g (lw_at lw_m6 4 rfl) rfl
theorem q1281 : (Jvm.Cond.methodLink "DomeNights" (128 : Nat) ({ cls := "DomeNights", name := "whyNotPlan", desc := "(III)I" } : Jvm.MethodName)) ∈ lw_all := lw_g (lw_at lw_m6 5 rfl) rfl
theorem q1282 : (Jvm.Cond.privateMethod ({ cls := "DomeNights", name := "whyNotPlan", desc := "(III)I" } : Jvm.MethodName)) ∈ lw_tbl := lw_at lw_m6 6 rfl
theorem q1283 : (Jvm.Cond.instanceMethod ({ cls := "DomeNights", name := "whyNotPlan", desc := "(III)I" } : Jvm.MethodName)) ∈ lw_all := lw_g (lw_at lw_m6 7 rfl) rfl
theorem q1284 : (Jvm.Cond.code ({ cls := "DomeNights", name := "whyNotPlan", desc := "(III)I" } : Jvm.MethodName) prog_1_method_13_code (5 : Nat) (Option.some Jvm.ClassFile.FieldType.int)) ∈ lw_all := lw_g (lw_at lw_m6 8 rfl) rfl
theorem q1285 : (Jvm.Cond.methodLink "DomeNights" (112 : Nat) ({ cls := "DomeNights", name := "isTime", desc := "(II)Z" } : Jvm.MethodName)) ∈ lw_all := lw_g (lw_at lw_m6 9 rfl) rfl
theorem q1286 : (Jvm.Cond.privateMethod ({ cls := "DomeNights", name := "isTime", desc := "(II)Z" } : Jvm.MethodName)) ∈ lw_tbl := lw_at lw_m6 10 rfl
theorem q1287 : (Jvm.Cond.instanceMethod ({ cls := "DomeNights", name := "isTime", desc := "(II)Z" } : Jvm.MethodName)) ∈ lw_all := lw_g (lw_at lw_m6 11 rfl) rfl
theorem q1288 : (Jvm.Cond.code ({ cls := "DomeNights", name := "isTime", desc := "(II)Z" } : Jvm.MethodName) prog_1_method_7_code (3 : Nat) (Option.some Jvm.ClassFile.FieldType.boolean)) ∈ lw_all := lw_g (lw_at lw_m6 12 rfl) rfl
theorem q1289 : (Jvm.Cond.classLink "DomeNights" (119 : Nat) "DomeNights$Time") ∈ lw_all := lw_g (lw_at lw_m6 13 rfl) rfl
theorem q1291 : (Jvm.Cond.methodLink "DomeNights" (121 : Nat) ({ cls := "DomeNights$Time", name := "<init>", desc := "(II)V" } : Jvm.MethodName)) ∈ lw_all := lw_g (lw_at lw_m6 15 rfl) rfl
theorem q1298 : (Jvm.Cond.fieldLinkNest "DomeNights" (251 : Nat) "DomeNights$Time" "day" "I" "DomeNights") ∈ lw_tbl := lw_at lw_m6 22 rfl
theorem q1300 : (Jvm.Cond.fieldLinkNest "DomeNights" (254 : Nat) "DomeNights$Time" "slot" "I" "DomeNights") ∈ lw_tbl := lw_at lw_m6 24 rfl
theorem q1306 : (Jvm.Cond.methodLink "DomeNights" (124 : Nat) ({ cls := "DomeNights$Programme", name := "isFree", desc := "(LDomeNights$Time;)Z" } : Jvm.MethodName)) ∈ lw_all := lw_g (lw_at lw_m6 30 rfl) rfl
theorem q1327 : (Jvm.Cond.methodLink "DomeNights" (132 : Nat) ({ cls := "DomeNights$Programme", name := "plan", desc := "(ILDomeNights$Time;)I" } : Jvm.MethodName)) ∈ lw_all := lw_g (lw_at lw_m6 51 rfl) rfl
theorem q1361 : (Jvm.Cond.instanceMethod ({ cls := "DomeNights", name := "event", desc := "(III)I" } : Jvm.MethodName)) ∈ lw_all := lw_g (lw_at lw_m6 85 rfl) rfl
theorem q1362 : (Jvm.Cond.selects "DomeNights" ({ cls := "DomeNights", name := "event", desc := "(III)I" } : Jvm.MethodName) ({ cls := "DomeNights", name := "event", desc := "(III)I" } : Jvm.MethodName)) ∈ lw_all := lw_g (lw_at lw_m6 86 rfl) rfl
theorem q1363 : (Jvm.Cond.code ({ cls := "DomeNights", name := "event", desc := "(III)I" } : Jvm.MethodName) prog_1_method_16_code (5 : Nat) (Option.some Jvm.ClassFile.FieldType.int)) ∈ lw_all := lw_g (lw_at lw_m6 87 rfl) rfl
theorem q1364 : (Jvm.Cond.methodLink "DomeNights" (148 : Nat) ({ cls := "DomeNights", name := "whyNotEvent", desc := "(III)I" } : Jvm.MethodName)) ∈ lw_all := lw_g (lw_at lw_m6 88 rfl) rfl
theorem q1365 : (Jvm.Cond.privateMethod ({ cls := "DomeNights", name := "whyNotEvent", desc := "(III)I" } : Jvm.MethodName)) ∈ lw_tbl := lw_at lw_m6 89 rfl
theorem q1366 : (Jvm.Cond.instanceMethod ({ cls := "DomeNights", name := "whyNotEvent", desc := "(III)I" } : Jvm.MethodName)) ∈ lw_all := lw_g (lw_at lw_m6 90 rfl) rfl
theorem q1367 : (Jvm.Cond.code ({ cls := "DomeNights", name := "whyNotEvent", desc := "(III)I" } : Jvm.MethodName) prog_1_method_15_code (6 : Nat) (Option.some Jvm.ClassFile.FieldType.int)) ∈ lw_all := lw_g (lw_at lw_m6 91 rfl) rfl
theorem q1368 : (Jvm.Cond.interfaceEntry "DomeNights" (143 : Nat)) ∈ lw_tbl := lw_at lw_m6 92 rfl
theorem q1369 : (Jvm.Cond.methodLink "DomeNights" (143 : Nat) ({ cls := "java/util/Map", name := "containsKey", desc := "(Ljava/lang/Object;)Z" } : Jvm.MethodName)) ∈ lw_all := lw_g (lw_at lw_m6 93 rfl) rfl
theorem q1370 : (Jvm.Cond.methodLink "DomeNights" (151 : Nat) ({ cls := "DomeNights$Programme", name := "event", desc := "(III)I" } : Jvm.MethodName)) ∈ lw_all := lw_g (lw_at lw_m6 94 rfl) rfl
theorem q1470 : (Jvm.Cond.instanceMethod ({ cls := "DomeNights", name := "book", desc := "(IIII)I" } : Jvm.MethodName)) ∈ lw_all := lw_g (lw_at lw_m6 194 rfl) rfl
theorem q1471 : (Jvm.Cond.selects "DomeNights" ({ cls := "DomeNights", name := "book", desc := "(IIII)I" } : Jvm.MethodName) ({ cls := "DomeNights", name := "book", desc := "(IIII)I" } : Jvm.MethodName)) ∈ lw_all := lw_g (lw_at lw_m6 195 rfl) rfl
theorem q1472 : (Jvm.Cond.code ({ cls := "DomeNights", name := "book", desc := "(IIII)I" } : Jvm.MethodName) prog_1_method_19_code (6 : Nat) (Option.some Jvm.ClassFile.FieldType.int)) ∈ lw_all := lw_g (lw_at lw_m6 196 rfl) rfl
theorem q1473 : (Jvm.Cond.methodLink "DomeNights" (169 : Nat) ({ cls := "DomeNights", name := "whyNotBook", desc := "(IIII)I" } : Jvm.MethodName)) ∈ lw_all := lw_g (lw_at lw_m6 197 rfl) rfl
theorem q1474 : (Jvm.Cond.privateMethod ({ cls := "DomeNights", name := "whyNotBook", desc := "(IIII)I" } : Jvm.MethodName)) ∈ lw_tbl := lw_at lw_m6 198 rfl
theorem q1475 : (Jvm.Cond.instanceMethod ({ cls := "DomeNights", name := "whyNotBook", desc := "(IIII)I" } : Jvm.MethodName)) ∈ lw_all := lw_g (lw_at lw_m6 199 rfl) rfl
theorem q1476 : (Jvm.Cond.code ({ cls := "DomeNights", name := "whyNotBook", desc := "(IIII)I" } : Jvm.MethodName) prog_1_method_18_code (7 : Nat) (Option.some Jvm.ClassFile.FieldType.int)) ∈ lw_all := lw_g (lw_at lw_m6 200 rfl) rfl
theorem q1477 : (Jvm.Cond.methodLink "DomeNights" (165 : Nat) ({ cls := "DomeNights", name := "whyNoSeats", desc := "(II)I" } : Jvm.MethodName)) ∈ lw_all := lw_g (lw_at lw_m6 201 rfl) rfl
theorem q1478 : (Jvm.Cond.privateMethod ({ cls := "DomeNights", name := "whyNoSeats", desc := "(II)I" } : Jvm.MethodName)) ∈ lw_tbl := lw_at lw_m6 202 rfl
theorem q1479 : (Jvm.Cond.instanceMethod ({ cls := "DomeNights", name := "whyNoSeats", desc := "(II)I" } : Jvm.MethodName)) ∈ lw_all := lw_g (lw_at lw_m6 203 rfl) rfl
theorem q1480 : (Jvm.Cond.code ({ cls := "DomeNights", name := "whyNoSeats", desc := "(II)I" } : Jvm.MethodName) prog_1_method_17_code (4 : Nat) (Option.some Jvm.ClassFile.FieldType.int)) ∈ lw_all := lw_g (lw_at lw_m6 204 rfl) rfl
theorem q1481 : (Jvm.Cond.classLink "DomeNights" (154 : Nat) "DomeNights$Show") ∈ lw_all := lw_g (lw_at lw_m6 205 rfl) rfl
theorem q1482 : (Jvm.Cond.methodLink "DomeNights" (159 : Nat) ({ cls := "DomeNights$Show", name := "allFree", desc := "()I" } : Jvm.MethodName)) ∈ lw_all := lw_g (lw_at lw_m6 206 rfl) rfl
theorem q1486 : (Jvm.Cond.methodLink "DomeNights" (173 : Nat) ({ cls := "DomeNights$Programme", name := "book", desc := "(IIIZ)I" } : Jvm.MethodName)) ∈ lw_all := lw_g (lw_at lw_m6 210 rfl) rfl
theorem q1501 : (Jvm.Cond.instanceMethod ({ cls := "DomeNights", name := "giveBack", desc := "(I)I" } : Jvm.MethodName)) ∈ lw_all := lw_g (lw_at lw_m6 225 rfl) rfl
theorem q1502 : (Jvm.Cond.selects "DomeNights" ({ cls := "DomeNights", name := "giveBack", desc := "(I)I" } : Jvm.MethodName) ({ cls := "DomeNights", name := "giveBack", desc := "(I)I" } : Jvm.MethodName)) ∈ lw_all := lw_g (lw_at lw_m6 226 rfl) rfl
theorem q1503 : (Jvm.Cond.code ({ cls := "DomeNights", name := "giveBack", desc := "(I)I" } : Jvm.MethodName) prog_1_method_20_code (2 : Nat) (Option.some Jvm.ClassFile.FieldType.int)) ∈ lw_all := lw_g (lw_at lw_m6 227 rfl) rfl
theorem q1504 : (Jvm.Cond.classLink "DomeNights" (177 : Nat) "DomeNights$Booking") ∈ lw_all := lw_g (lw_at lw_m6 228 rfl) rfl
theorem q1505 : (Jvm.Cond.methodLink "DomeNights" (180 : Nat) ({ cls := "DomeNights$Programme", name := "giveBack", desc := "(LDomeNights$Booking;)I" } : Jvm.MethodName)) ∈ lw_all := lw_g (lw_at lw_m6 229 rfl) rfl
theorem q1510 : (Jvm.Cond.instanceMethod ({ cls := "DomeNights", name := "promise", desc := "(IIII)I" } : Jvm.MethodName)) ∈ lw_all := lw_g (lw_at lw_m6 234 rfl) rfl
theorem q1511 : (Jvm.Cond.selects "DomeNights" ({ cls := "DomeNights", name := "promise", desc := "(IIII)I" } : Jvm.MethodName) ({ cls := "DomeNights", name := "promise", desc := "(IIII)I" } : Jvm.MethodName)) ∈ lw_all := lw_g (lw_at lw_m6 235 rfl) rfl
theorem q1512 : (Jvm.Cond.code ({ cls := "DomeNights", name := "promise", desc := "(IIII)I" } : Jvm.MethodName) prog_1_method_22_code (7 : Nat) (Option.some Jvm.ClassFile.FieldType.int)) ∈ lw_all := lw_g (lw_at lw_m6 236 rfl) rfl
theorem q1513 : (Jvm.Cond.methodLink "DomeNights" (210 : Nat) ({ cls := "DomeNights", name := "hasPromise", desc := "(II)Z" } : Jvm.MethodName)) ∈ lw_all := lw_g (lw_at lw_m6 237 rfl) rfl
theorem q1514 : (Jvm.Cond.privateMethod ({ cls := "DomeNights", name := "hasPromise", desc := "(II)Z" } : Jvm.MethodName)) ∈ lw_tbl := lw_at lw_m6 238 rfl
theorem q1515 : (Jvm.Cond.instanceMethod ({ cls := "DomeNights", name := "hasPromise", desc := "(II)Z" } : Jvm.MethodName)) ∈ lw_all := lw_g (lw_at lw_m6 239 rfl) rfl
theorem q1516 : (Jvm.Cond.code ({ cls := "DomeNights", name := "hasPromise", desc := "(II)Z" } : Jvm.MethodName) prog_1_method_21_code (5 : Nat) (Option.some Jvm.ClassFile.FieldType.boolean)) ∈ lw_all := lw_g (lw_at lw_m7 0 rfl) rfl
theorem q1517 : (Jvm.Cond.interfaceEntry "DomeNights" (187 : Nat)) ∈ lw_tbl := lw_at lw_m7 1 rfl
theorem q1518 : (Jvm.Cond.methodLink "DomeNights" (187 : Nat) ({ cls := "java/util/List", name := "iterator", desc := "()Ljava/util/Iterator;" } : Jvm.MethodName)) ∈ lw_all := lw_g (lw_at lw_m7 2 rfl) rfl
theorem q1519 : (Jvm.Cond.interfaceEntry "DomeNights" (191 : Nat)) ∈ lw_tbl := lw_at lw_m7 3 rfl
theorem q1520 : (Jvm.Cond.methodLink "DomeNights" (191 : Nat) ({ cls := "java/util/Iterator", name := "hasNext", desc := "()Z" } : Jvm.MethodName)) ∈ lw_all := lw_g (lw_at lw_m7 4 rfl) rfl
theorem q1521 : (Jvm.Cond.interfaceEntry "DomeNights" (197 : Nat)) ∈ lw_tbl := lw_at lw_m7 5 rfl
theorem q1522 : (Jvm.Cond.methodLink "DomeNights" (197 : Nat) ({ cls := "java/util/Iterator", name := "next", desc := "()Ljava/lang/Object;" } : Jvm.MethodName)) ∈ lw_all := lw_g (lw_at lw_m7 6 rfl) rfl
theorem q1523 : (Jvm.Cond.classLink "DomeNights" (201 : Nat) "DomeNights$Promise") ∈ lw_all := lw_g (lw_at lw_m7 7 rfl) rfl
theorem q1524 : (Jvm.Cond.methodLink "DomeNights" (213 : Nat) ({ cls := "DomeNights$Promise", name := "<init>", desc := "(IIII)V" } : Jvm.MethodName)) ∈ lw_all := lw_g (lw_at lw_m7 8 rfl) rfl
theorem q1526 : (Jvm.Cond.instanceMethod ({ cls := "DomeNights", name := "pass", desc := "(I)I" } : Jvm.MethodName)) ∈ lw_all := lw_g (lw_at lw_m7 10 rfl) rfl
theorem q1527 : (Jvm.Cond.selects "DomeNights" ({ cls := "DomeNights", name := "pass", desc := "(I)I" } : Jvm.MethodName) ({ cls := "DomeNights", name := "pass", desc := "(I)I" } : Jvm.MethodName)) ∈ lw_all := lw_g (lw_at lw_m7 11 rfl) rfl
theorem q1528 : (Jvm.Cond.code ({ cls := "DomeNights", name := "pass", desc := "(I)I" } : Jvm.MethodName) prog_1_method_23_code (5 : Nat) (Option.some Jvm.ClassFile.FieldType.int)) ∈ lw_all := lw_g (lw_at lw_m7 12 rfl) rfl
theorem q1529 : (Jvm.Cond.constantLong "DomeNights" (216 : Nat) (900 : Int64)) ∈ lw_all := lw_g (lw_at lw_m7 13 rfl) rfl
theorem q1530 : (Jvm.Cond.methodLink "DomeNights" (221 : Nat) ({ cls := "DomeNights$Programme", name := "passDay", desc := "()V" } : Jvm.MethodName)) ∈ lw_all := lw_g (lw_at lw_m7 14 rfl) rfl
theorem q1572 : (Jvm.Cond.instanceMethod ({ cls := "DomeNights", name := "ofKind", desc := "(II)I" } : Jvm.MethodName)) ∈ lw_all := lw_g (lw_at lw_m7 56 rfl) rfl
theorem q1573 : (Jvm.Cond.selects "DomeNights" ({ cls := "DomeNights", name := "ofKind", desc := "(II)I" } : Jvm.MethodName) ({ cls := "DomeNights", name := "ofKind", desc := "(II)I" } : Jvm.MethodName)) ∈ lw_all := lw_g (lw_at lw_m7 57 rfl) rfl
theorem q1574 : (Jvm.Cond.code ({ cls := "DomeNights", name := "ofKind", desc := "(II)I" } : Jvm.MethodName) prog_1_method_24_code (4 : Nat) (Option.some Jvm.ClassFile.FieldType.int)) ∈ lw_all := lw_g (lw_at lw_m7 58 rfl) rfl
theorem q1575 : (Jvm.Cond.methodLink "DomeNights" (230 : Nat) ({ cls := "DomeNights$Programme", name := "showsOf", desc := "(II)I" } : Jvm.MethodName)) ∈ lw_all := lw_g (lw_at lw_m7 59 rfl) rfl
theorem q1580 : (Jvm.Cond.instanceMethod ({ cls := "DomeNights", name := "ofLamp", desc := "(II)I" } : Jvm.MethodName)) ∈ lw_all := lw_g (lw_at lw_m7 64 rfl) rfl
theorem q1581 : (Jvm.Cond.selects "DomeNights" ({ cls := "DomeNights", name := "ofLamp", desc := "(II)I" } : Jvm.MethodName) ({ cls := "DomeNights", name := "ofLamp", desc := "(II)I" } : Jvm.MethodName)) ∈ lw_all := lw_g (lw_at lw_m7 65 rfl) rfl
theorem q1582 : (Jvm.Cond.code ({ cls := "DomeNights", name := "ofLamp", desc := "(II)I" } : Jvm.MethodName) prog_1_method_25_code (4 : Nat) (Option.some Jvm.ClassFile.FieldType.int)) ∈ lw_all := lw_g (lw_at lw_m7 66 rfl) rfl
theorem q1583 : (Jvm.Cond.methodLink "DomeNights" (239 : Nat) ({ cls := "DomeNights$Lamp", name := "brightness", desc := "()I" } : Jvm.MethodName)) ∈ lw_all := lw_g (lw_at lw_m7 67 rfl) rfl
theorem q1584 : (Jvm.Cond.methodLink "DomeNights" (242 : Nat) ({ cls := "DomeNights$Programme", name := "wornBy", desc := "(I)I" } : Jvm.MethodName)) ∈ lw_all := lw_g (lw_at lw_m7 68 rfl) rfl
theorem q1589 : (Jvm.Cond.instanceMethod ({ cls := "DomeNights", name := "show", desc := "(II)I" } : Jvm.MethodName)) ∈ lw_all := lw_g (lw_at lw_m7 73 rfl) rfl
theorem q1590 : (Jvm.Cond.selects "DomeNights" ({ cls := "DomeNights", name := "show", desc := "(II)I" } : Jvm.MethodName) ({ cls := "DomeNights", name := "show", desc := "(II)I" } : Jvm.MethodName)) ∈ lw_all := lw_g (lw_at lw_m7 74 rfl) rfl
theorem q1591 : (Jvm.Cond.code ({ cls := "DomeNights", name := "show", desc := "(II)I" } : Jvm.MethodName) prog_1_method_26_code (4 : Nat) (Option.some Jvm.ClassFile.FieldType.int)) ∈ lw_all := lw_g (lw_at lw_m7 75 rfl) rfl
theorem q1592 : (Jvm.Cond.methodLink "DomeNights" (263 : Nat) ({ cls := "DomeNights$Programme", name := "costOf", desc := "(I)I" } : Jvm.MethodName)) ∈ lw_all := lw_g (lw_at lw_m7 76 rfl) rfl
theorem q1596 : (Jvm.Cond.methodLink "DomeNights" (266 : Nat) ({ cls := "DomeNights$Programme", name := "refundedOf", desc := "(I)I" } : Jvm.MethodName)) ∈ lw_all := lw_g (lw_at lw_m7 80 rfl) rfl
theorem q1601 : (Jvm.Cond.instanceMethod ({ cls := "DomeNights", name := "free", desc := "(II)I" } : Jvm.MethodName)) ∈ lw_all := lw_g (lw_at lw_m7 85 rfl) rfl
theorem q1602 : (Jvm.Cond.selects "DomeNights" ({ cls := "DomeNights", name := "free", desc := "(II)I" } : Jvm.MethodName) ({ cls := "DomeNights", name := "free", desc := "(II)I" } : Jvm.MethodName)) ∈ lw_all := lw_g (lw_at lw_m7 86 rfl) rfl
theorem q1603 : (Jvm.Cond.code ({ cls := "DomeNights", name := "free", desc := "(II)I" } : Jvm.MethodName) prog_1_method_27_code (3 : Nat) (Option.some Jvm.ClassFile.FieldType.int)) ∈ lw_all := lw_g (lw_at lw_m7 87 rfl) rfl
theorem q1605 : (Jvm.Cond.instanceMethod ({ cls := "DomeNights", name := "booking", desc := "(II)I" } : Jvm.MethodName)) ∈ lw_all := lw_g (lw_at lw_m7 89 rfl) rfl
theorem q1606 : (Jvm.Cond.selects "DomeNights" ({ cls := "DomeNights", name := "booking", desc := "(II)I" } : Jvm.MethodName) ({ cls := "DomeNights", name := "booking", desc := "(II)I" } : Jvm.MethodName)) ∈ lw_all := lw_g (lw_at lw_m7 90 rfl) rfl
theorem q1607 : (Jvm.Cond.code ({ cls := "DomeNights", name := "booking", desc := "(II)I" } : Jvm.MethodName) prog_1_method_28_code (4 : Nat) (Option.some Jvm.ClassFile.FieldType.int)) ∈ lw_all := lw_g (lw_at lw_m7 91 rfl) rfl
theorem q1609 : (Jvm.Cond.instanceMethod ({ cls := "DomeNights", name := "ofPromise", desc := "(II)I" } : Jvm.MethodName)) ∈ lw_all := lw_g (lw_at lw_m7 93 rfl) rfl
theorem q1610 : (Jvm.Cond.selects "DomeNights" ({ cls := "DomeNights", name := "ofPromise", desc := "(II)I" } : Jvm.MethodName) ({ cls := "DomeNights", name := "ofPromise", desc := "(II)I" } : Jvm.MethodName)) ∈ lw_all := lw_g (lw_at lw_m7 94 rfl) rfl
theorem q1611 : (Jvm.Cond.code ({ cls := "DomeNights", name := "ofPromise", desc := "(II)I" } : Jvm.MethodName) prog_1_method_29_code (4 : Nat) (Option.some Jvm.ClassFile.FieldType.int)) ∈ lw_all := lw_g (lw_at lw_m7 95 rfl) rfl
theorem q1612 : (Jvm.Cond.methodLink "DomeNights" (302 : Nat) ({ cls := "DomeNights$Programme", name := "willBeSeen", desc := "(LDomeNights$Promise;)I" } : Jvm.MethodName)) ∈ lw_all := lw_g (lw_at lw_m7 96 rfl) rfl
theorem q1617 : (Jvm.Cond.instanceMethod ({ cls := "DomeNights", name := "reason", desc := "(I)I" } : Jvm.MethodName)) ∈ lw_all := lw_g (lw_at lw_m7 101 rfl) rfl
theorem q1618 : (Jvm.Cond.selects "DomeNights" ({ cls := "DomeNights", name := "reason", desc := "(I)I" } : Jvm.MethodName) ({ cls := "DomeNights", name := "reason", desc := "(I)I" } : Jvm.MethodName)) ∈ lw_all := lw_g (lw_at lw_m7 102 rfl) rfl
theorem q1619 : (Jvm.Cond.code ({ cls := "DomeNights", name := "reason", desc := "(I)I" } : Jvm.MethodName) prog_1_method_30_code (2 : Nat) (Option.some Jvm.ClassFile.FieldType.int)) ∈ lw_all := lw_g (lw_at lw_m7 103 rfl) rfl
theorem q1620 : (Jvm.Cond.methodLink "DomeNights" (306 : Nat) ({ cls := "DomeNights$Promise", name := "reason", desc := "()I" } : Jvm.MethodName)) ∈ lw_all := lw_g (lw_at lw_m7 104 rfl) rfl
theorem q1625 : (Jvm.Cond.instanceMethod ({ cls := "DomeNights", name := "at", desc := "(II)I" } : Jvm.MethodName)) ∈ lw_all := lw_g (lw_at lw_m7 109 rfl) rfl
theorem q1626 : (Jvm.Cond.selects "DomeNights" ({ cls := "DomeNights", name := "at", desc := "(II)I" } : Jvm.MethodName) ({ cls := "DomeNights", name := "at", desc := "(II)I" } : Jvm.MethodName)) ∈ lw_all := lw_g (lw_at lw_m7 110 rfl) rfl
theorem q1627 : (Jvm.Cond.code ({ cls := "DomeNights", name := "at", desc := "(II)I" } : Jvm.MethodName) prog_1_method_31_code (6 : Nat) (Option.some Jvm.ClassFile.FieldType.int)) ∈ lw_all := lw_g (lw_at lw_m7 111 rfl) rfl
theorem q1628 : (Jvm.Cond.interfaceEntry "DomeNights" (309 : Nat)) ∈ lw_tbl := lw_at lw_m7 112 rfl
theorem q1629 : (Jvm.Cond.methodLink "DomeNights" (309 : Nat) ({ cls := "java/util/Map", name := "get", desc := "(Ljava/lang/Object;)Ljava/lang/Object;" } : Jvm.MethodName)) ∈ lw_all := lw_g (lw_at lw_m7 113 rfl) rfl
theorem q1637 : (Jvm.Cond.classLink "DomeNights" (312 : Nat) "java/lang/Integer") ∈ lw_all := lw_g (lw_at lw_m7 121 rfl) rfl
theorem q1638 : (Jvm.Cond.methodLink "DomeNights" (317 : Nat) ({ cls := "java/lang/Integer", name := "intValue", desc := "()I" } : Jvm.MethodName)) ∈ lw_all := lw_g (lw_at lw_m7 122 rfl) rfl
theorem q1640 : (Jvm.Cond.instanceMethod ({ cls := "DomeNights", name := "count", desc := "(I)I" } : Jvm.MethodName)) ∈ lw_all := lw_g (lw_at lw_m7 124 rfl) rfl
theorem q1641 : (Jvm.Cond.selects "DomeNights" ({ cls := "DomeNights", name := "count", desc := "(I)I" } : Jvm.MethodName) ({ cls := "DomeNights", name := "count", desc := "(I)I" } : Jvm.MethodName)) ∈ lw_all := lw_g (lw_at lw_m7 125 rfl) rfl
theorem q1642 : (Jvm.Cond.code ({ cls := "DomeNights", name := "count", desc := "(I)I" } : Jvm.MethodName) prog_1_method_34_code (2 : Nat) (Option.some Jvm.ClassFile.FieldType.int)) ∈ lw_all := lw_g (lw_at lw_m7 126 rfl) rfl
theorem q1643 : (Jvm.Cond.methodLink "DomeNights" (320 : Nat) ({ cls := "DomeNights$Programme", name := "showsIn", desc := "(I)I" } : Jvm.MethodName)) ∈ lw_all := lw_g (lw_at lw_m7 127 rfl) rfl
theorem q1647 : (Jvm.Cond.methodLink "DomeNights" (323 : Nat) ({ cls := "java/lang/StringBuilder", name := "length", desc := "()I" } : Jvm.MethodName)) ∈ lw_all := lw_g (lw_at lw_m7 131 rfl) rfl
theorem q1654 : (Jvm.Cond.methodLink "DomeNights" (326 : Nat) ({ cls := "DomeNights", name := "lampHours", desc := "()I" } : Jvm.MethodName)) ∈ lw_all := lw_g (lw_at lw_m7 138 rfl) rfl
theorem q1655 : (Jvm.Cond.privateMethod ({ cls := "DomeNights", name := "lampHours", desc := "()I" } : Jvm.MethodName)) ∈ lw_tbl := lw_at lw_m7 139 rfl
theorem q1656 : (Jvm.Cond.instanceMethod ({ cls := "DomeNights", name := "lampHours", desc := "()I" } : Jvm.MethodName)) ∈ lw_all := lw_g (lw_at lw_m7 140 rfl) rfl
theorem q1657 : (Jvm.Cond.code ({ cls := "DomeNights", name := "lampHours", desc := "()I" } : Jvm.MethodName) prog_1_method_32_code (4 : Nat) (Option.some Jvm.ClassFile.FieldType.int)) ∈ lw_all := lw_g (lw_at lw_m7 141 rfl) rfl
theorem q1658 : (Jvm.Cond.methodLink "DomeNights" (329 : Nat) ({ cls := "DomeNights", name := "showHours", desc := "()I" } : Jvm.MethodName)) ∈ lw_all := lw_g (lw_at lw_m7 142 rfl) rfl
theorem q1659 : (Jvm.Cond.privateMethod ({ cls := "DomeNights", name := "showHours", desc := "()I" } : Jvm.MethodName)) ∈ lw_tbl := lw_at lw_m7 143 rfl
theorem q1660 : (Jvm.Cond.instanceMethod ({ cls := "DomeNights", name := "showHours", desc := "()I" } : Jvm.MethodName)) ∈ lw_all := lw_g (lw_at lw_m7 144 rfl) rfl
theorem q1661 : (Jvm.Cond.code ({ cls := "DomeNights", name := "showHours", desc := "()I" } : Jvm.MethodName) prog_1_method_33_code (4 : Nat) (Option.some Jvm.ClassFile.FieldType.int)) ∈ lw_all := lw_g (lw_at lw_m7 145 rfl) rfl
theorem q1663 : (Jvm.Cond.instanceMethod ({ cls := "DomeNights", name := "money", desc := "(I)I" } : Jvm.MethodName)) ∈ lw_all := lw_g (lw_at lw_m7 147 rfl) rfl
theorem q1664 : (Jvm.Cond.selects "DomeNights" ({ cls := "DomeNights", name := "money", desc := "(I)I" } : Jvm.MethodName) ({ cls := "DomeNights", name := "money", desc := "(I)I" } : Jvm.MethodName)) ∈ lw_all := lw_g (lw_at lw_m7 148 rfl) rfl
theorem q1665 : (Jvm.Cond.code ({ cls := "DomeNights", name := "money", desc := "(I)I" } : Jvm.MethodName) prog_1_method_35_code (2 : Nat) (Option.some Jvm.ClassFile.FieldType.int)) ∈ lw_all := lw_g (lw_at lw_m7 149 rfl) rfl
theorem q1666 : (Jvm.Cond.methodLink "DomeNights" (332 : Nat) ({ cls := "DomeNights$Programme", name := "rest", desc := "(Z)I" } : Jvm.MethodName)) ∈ lw_all := lw_g (lw_at lw_m7 150 rfl) rfl
theorem q1670 : (Jvm.Cond.methodLink "DomeNights" (336 : Nat) ({ cls := "DomeNights$Programme", name := "allRefunded", desc := "()I" } : Jvm.MethodName)) ∈ lw_all := lw_g (lw_at lw_m7 154 rfl) rfl
theorem q1676 : (Jvm.Cond.instanceMethod ({ cls := "DomeNights", name := "brightness", desc := "(I)I" } : Jvm.MethodName)) ∈ lw_all := lw_g (lw_at lw_m7 160 rfl) rfl
theorem q1677 : (Jvm.Cond.selects "DomeNights" ({ cls := "DomeNights", name := "brightness", desc := "(I)I" } : Jvm.MethodName) ({ cls := "DomeNights", name := "brightness", desc := "(I)I" } : Jvm.MethodName)) ∈ lw_all := lw_g (lw_at lw_m7 161 rfl) rfl
theorem q1678 : (Jvm.Cond.code ({ cls := "DomeNights", name := "brightness", desc := "(I)I" } : Jvm.MethodName) prog_1_method_36_code (3 : Nat) (Option.some Jvm.ClassFile.FieldType.int)) ∈ lw_all := lw_g (lw_at lw_m7 162 rfl) rfl
theorem q1679 : (Jvm.Cond.methodLink "DomeNights" (339 : Nat) ({ cls := "DomeNights$Programme", name := "behind", desc := "(I)LDomeNights$Programme;" } : Jvm.MethodName)) ∈ lw_all := lw_g (lw_at lw_m7 163 rfl) rfl
theorem q1687 : (Jvm.Cond.instanceMethod ({ cls := "DomeNights", name := "stateIn", desc := "(II)I" } : Jvm.MethodName)) ∈ lw_all := lw_g (lw_at lw_m7 171 rfl) rfl
theorem q1688 : (Jvm.Cond.selects "DomeNights" ({ cls := "DomeNights", name := "stateIn", desc := "(II)I" } : Jvm.MethodName) ({ cls := "DomeNights", name := "stateIn", desc := "(II)I" } : Jvm.MethodName)) ∈ lw_all := lw_g (lw_at lw_m7 172 rfl) rfl
theorem q1689 : (Jvm.Cond.code ({ cls := "DomeNights", name := "stateIn", desc := "(II)I" } : Jvm.MethodName) prog_1_method_37_code (4 : Nat) (Option.some Jvm.ClassFile.FieldType.int)) ∈ lw_all := lw_g (lw_at lw_m7 173 rfl) rfl
theorem q1691 : (Jvm.Cond.instanceMethod ({ cls := "DomeNights", name := "nextFree", desc := "(II)I" } : Jvm.MethodName)) ∈ lw_all := lw_g (lw_at lw_m7 175 rfl) rfl
theorem q1692 : (Jvm.Cond.selects "DomeNights" ({ cls := "DomeNights", name := "nextFree", desc := "(II)I" } : Jvm.MethodName) ({ cls := "DomeNights", name := "nextFree", desc := "(II)I" } : Jvm.MethodName)) ∈ lw_all := lw_g (lw_at lw_m7 176 rfl) rfl
theorem q1693 : (Jvm.Cond.code ({ cls := "DomeNights", name := "nextFree", desc := "(II)I" } : Jvm.MethodName) prog_1_method_38_code (4 : Nat) (Option.some Jvm.ClassFile.FieldType.int)) ∈ lw_all := lw_g (lw_at lw_m7 177 rfl) rfl
theorem q1694 : (Jvm.Cond.constant "DomeNights" (343 : Nat) (2147483647 : Int32)) ∈ lw_all := lw_g (lw_at lw_m7 178 rfl) rfl
theorem q1695 : (Jvm.Cond.methodLink "DomeNights" (344 : Nat) ({ cls := "DomeNights$Programme", name := "freeFrom", desc := "(LDomeNights$Time;I)Ljava/util/Optional;" } : Jvm.MethodName)) ∈ lw_all := lw_g (lw_at lw_m7 179 rfl) rfl
theorem q1696 : (Jvm.Cond.methodLink "DomeNights" (348 : Nat) ({ cls := "java/util/Optional", name := "get", desc := "()Ljava/lang/Object;" } : Jvm.MethodName)) ∈ lw_all := lw_g (lw_at lw_m7 180 rfl) rfl
theorem q1698 : (Jvm.Cond.instanceMethod ({ cls := "DomeNights", name := "wouldDisplace", desc := "(IIII)I" } : Jvm.MethodName)) ∈ lw_all := lw_g (lw_at lw_m7 182 rfl) rfl
theorem q1699 : (Jvm.Cond.selects "DomeNights" ({ cls := "DomeNights", name := "wouldDisplace", desc := "(IIII)I" } : Jvm.MethodName) ({ cls := "DomeNights", name := "wouldDisplace", desc := "(IIII)I" } : Jvm.MethodName)) ∈ lw_all := lw_g (lw_at lw_m7 183 rfl) rfl
theorem q1700 : (Jvm.Cond.code ({ cls := "DomeNights", name := "wouldDisplace", desc := "(IIII)I" } : Jvm.MethodName) prog_1_method_39_code (9 : Nat) (Option.some Jvm.ClassFile.FieldType.int)) ∈ lw_all := lw_g (lw_at lw_m7 184 rfl) rfl
theorem q1701 : (Jvm.Cond.methodLink "DomeNights" (352 : Nat) ({ cls := "DomeNights$Programme", name := "lostSeats", desc := "()I" } : Jvm.MethodName)) ∈ lw_all := lw_g (lw_at lw_m7 185 rfl) rfl
theorem q1706 : (Jvm.Cond.instanceMethod ({ cls := "DomeNights", name := "leastLife", desc := "()I" } : Jvm.MethodName)) ∈ lw_all := lw_g (lw_at lw_m7 190 rfl) rfl
theorem q1707 : (Jvm.Cond.selects "DomeNights" ({ cls := "DomeNights", name := "leastLife", desc := "()I" } : Jvm.MethodName) ({ cls := "DomeNights", name := "leastLife", desc := "()I" } : Jvm.MethodName)) ∈ lw_all := lw_g (lw_at lw_m7 191 rfl) rfl
theorem q1708 : (Jvm.Cond.code ({ cls := "DomeNights", name := "leastLife", desc := "()I" } : Jvm.MethodName) prog_1_method_42_code (5 : Nat) (Option.some Jvm.ClassFile.FieldType.int)) ∈ lw_all := lw_g (lw_at lw_m7 192 rfl) rfl
theorem q1709 : (Jvm.Cond.methodLink "DomeNights" (361 : Nat) ({ cls := "DomeNights", name := "plannedKinds", desc := "()Ljava/util/List;" } : Jvm.MethodName)) ∈ lw_all := lw_g (lw_at lw_m7 193 rfl) rfl
theorem q1710 : (Jvm.Cond.privateMethod ({ cls := "DomeNights", name := "plannedKinds", desc := "()Ljava/util/List;" } : Jvm.MethodName)) ∈ lw_tbl := lw_at lw_m7 194 rfl
theorem q1711 : (Jvm.Cond.instanceMethod ({ cls := "DomeNights", name := "plannedKinds", desc := "()Ljava/util/List;" } : Jvm.MethodName)) ∈ lw_all := lw_g (lw_at lw_m7 195 rfl) rfl
theorem q1712 : (Jvm.Cond.code ({ cls := "DomeNights", name := "plannedKinds", desc := "()Ljava/util/List;" } : Jvm.MethodName) prog_1_method_40_code (5 : Nat) (Option.some (Jvm.ClassFile.FieldType.object "java/util/List"))) ∈ lw_all := lw_g (lw_at lw_m7 196 rfl) rfl
theorem q1713 : (Jvm.Cond.interfaceEntry "DomeNights" (355 : Nat)) ∈ lw_tbl := lw_at lw_m7 197 rfl
theorem q1714 : (Jvm.Cond.methodLink "DomeNights" (355 : Nat) ({ cls := "java/util/Map", name := "size", desc := "()I" } : Jvm.MethodName)) ∈ lw_all := lw_g (lw_at lw_m7 198 rfl) rfl
theorem q1715 : (Jvm.Cond.methodLink "DomeNights" (356 : Nat) ({ cls := "DomeNights$Time", name := "next", desc := "()LDomeNights$Time;" } : Jvm.MethodName)) ∈ lw_all := lw_g (lw_at lw_m7 199 rfl) rfl
theorem q1716 : (Jvm.Cond.methodLink "DomeNights" (365 : Nat) ({ cls := "DomeNights", name := "does", desc := "(ILjava/util/List;)Z" } : Jvm.MethodName)) ∈ lw_all := lw_g (lw_at lw_m7 200 rfl) rfl
theorem q1717 : (Jvm.Cond.static ({ cls := "DomeNights", name := "does", desc := "(ILjava/util/List;)Z" } : Jvm.MethodName)) ∈ lw_all := lw_g (lw_at lw_m7 201 rfl) rfl
theorem q1718 : (Jvm.Cond.code ({ cls := "DomeNights", name := "does", desc := "(ILjava/util/List;)Z" } : Jvm.MethodName) prog_1_method_41_code (5 : Nat) (Option.some Jvm.ClassFile.FieldType.boolean)) ∈ lw_all := lw_g (lw_at lw_m7 202 rfl) rfl
theorem q1719 : (Jvm.Cond.methodLink "DomeNights" (359 : Nat) ({ cls := "DomeNights$Lamp", name := "wear", desc := "(I)I" } : Jvm.MethodName)) ∈ lw_all := lw_g (lw_at lw_m7 203 rfl) rfl
theorem q1721 : (Jvm.Cond.instanceMethod ({ cls := "DomeNights", name := "mostShows", desc := "(II)I" } : Jvm.MethodName)) ∈ lw_all := lw_g (lw_at lw_m7 205 rfl) rfl
theorem q1722 : (Jvm.Cond.selects "DomeNights" ({ cls := "DomeNights", name := "mostShows", desc := "(II)I" } : Jvm.MethodName) ({ cls := "DomeNights", name := "mostShows", desc := "(II)I" } : Jvm.MethodName)) ∈ lw_all := lw_g (lw_at lw_m7 206 rfl) rfl
theorem q1723 : (Jvm.Cond.code ({ cls := "DomeNights", name := "mostShows", desc := "(II)I" } : Jvm.MethodName) prog_1_method_43_code (6 : Nat) (Option.some Jvm.ClassFile.FieldType.int)) ∈ lw_all := lw_g (lw_at lw_m7 207 rfl) rfl
theorem q1724 : (Jvm.Cond.methodLink "DomeNights" (368 : Nat) ({ cls := "DomeNights$Lamp", name := "<init>", desc := "(LDomeNights$Lamp;)V" } : Jvm.MethodName)) ∈ lw_all := lw_g (lw_at lw_m7 208 rfl) rfl
theorem q1726 : (Jvm.Cond.instanceMethod ({ cls := "DomeNights", name := "rowFor", desc := "(II)I" } : Jvm.MethodName)) ∈ lw_all := lw_g (lw_at lw_m7 210 rfl) rfl
theorem q1727 : (Jvm.Cond.selects "DomeNights" ({ cls := "DomeNights", name := "rowFor", desc := "(II)I" } : Jvm.MethodName) ({ cls := "DomeNights", name := "rowFor", desc := "(II)I" } : Jvm.MethodName)) ∈ lw_all := lw_g (lw_at lw_m7 211 rfl) rfl
theorem q1728 : (Jvm.Cond.code ({ cls := "DomeNights", name := "rowFor", desc := "(II)I" } : Jvm.MethodName) prog_1_method_44_code (4 : Nat) (Option.some Jvm.ClassFile.FieldType.int)) ∈ lw_all := lw_g (lw_at lw_m7 212 rfl) rfl
theorem q1729 : (Jvm.Cond.methodLink "DomeNights" (371 : Nat) ({ cls := "DomeNights$Show", name := "rowFor", desc := "(I)I" } : Jvm.MethodName)) ∈ lw_all := lw_g (lw_at lw_m7 213 rfl) rfl
theorem q1731 : (Jvm.Cond.instanceMethod ({ cls := "DomeNights", name := "put", desc := "(J)I" } : Jvm.MethodName)) ∈ lw_all := lw_g (lw_at lw_m7 215 rfl) rfl
theorem q1732 : (Jvm.Cond.selects "DomeNights" ({ cls := "DomeNights", name := "put", desc := "(J)I" } : Jvm.MethodName) ({ cls := "DomeNights", name := "put", desc := "(J)I" } : Jvm.MethodName)) ∈ lw_all := lw_g (lw_at lw_m7 216 rfl) rfl
theorem q1733 : (Jvm.Cond.code ({ cls := "DomeNights", name := "put", desc := "(J)I" } : Jvm.MethodName) prog_1_method_45_code (7 : Nat) (Option.some Jvm.ClassFile.FieldType.int)) ∈ lw_all := lw_g (lw_at lw_m7 217 rfl) rfl
theorem q1734 : (Jvm.Cond.constantLong "DomeNights" (374 : Nat) (255 : Int64)) ∈ lw_all := lw_g (lw_at lw_m7 218 rfl) rfl
theorem q1735 : (Jvm.Cond.methodLink "DomeNights" (376 : Nat) ({ cls := "java/lang/StringBuilder", name := "append", desc := "(C)Ljava/lang/StringBuilder;" } : Jvm.MethodName)) ∈ lw_all := lw_g (lw_at lw_m7 219 rfl) rfl
theorem q1798 : (Jvm.Cond.instanceMethod ({ cls := "DomeNights", name := "wipe", desc := "()I" } : Jvm.MethodName)) ∈ lw_all := lw_g (lw_at lw_m8 42 rfl) rfl
theorem q1799 : (Jvm.Cond.selects "DomeNights" ({ cls := "DomeNights", name := "wipe", desc := "()I" } : Jvm.MethodName) ({ cls := "DomeNights", name := "wipe", desc := "()I" } : Jvm.MethodName)) ∈ lw_all := lw_g (lw_at lw_m8 43 rfl) rfl
theorem q1800 : (Jvm.Cond.code ({ cls := "DomeNights", name := "wipe", desc := "()I" } : Jvm.MethodName) prog_1_method_46_code (2 : Nat) (Option.some Jvm.ClassFile.FieldType.int)) ∈ lw_all := lw_g (lw_at lw_m8 44 rfl) rfl
theorem q1801 : (Jvm.Cond.methodLink "DomeNights" (380 : Nat) ({ cls := "java/lang/StringBuilder", name := "setLength", desc := "(I)V" } : Jvm.MethodName)) ∈ lw_all := lw_g (lw_at lw_m8 45 rfl) rfl
theorem q1822 : (Jvm.Cond.instanceMethod ({ cls := "DomeNights", name := "fault", desc := "()I" } : Jvm.MethodName)) ∈ lw_all := lw_g (lw_at lw_m8 66 rfl) rfl
theorem q1823 : (Jvm.Cond.selects "DomeNights" ({ cls := "DomeNights", name := "fault", desc := "()I" } : Jvm.MethodName) ({ cls := "DomeNights", name := "fault", desc := "()I" } : Jvm.MethodName)) ∈ lw_all := lw_g (lw_at lw_m8 67 rfl) rfl
theorem q1824 : (Jvm.Cond.code ({ cls := "DomeNights", name := "fault", desc := "()I" } : Jvm.MethodName) prog_1_method_47_code (2 : Nat) (Option.some Jvm.ClassFile.FieldType.int)) ∈ lw_all := lw_g (lw_at lw_m8 68 rfl) rfl
theorem q1825 : (Jvm.Cond.classLink "DomeNights" (383 : Nat) "DomeNights$Reader") ∈ lw_all := lw_g (lw_at lw_m8 69 rfl) rfl
theorem q1827 : (Jvm.Cond.methodLink "DomeNights" (385 : Nat) ({ cls := "DomeNights$Reader", name := "<init>", desc := "(Ljava/lang/CharSequence;)V" } : Jvm.MethodName)) ∈ lw_all := lw_g (lw_at lw_m8 71 rfl) rfl
theorem q1872 : (Jvm.Cond.fieldLinkNest "DomeNights" (399 : Nat) "DomeNights$Order" "sort" "C" "DomeNights") ∈ lw_tbl := lw_at lw_m8 116 rfl
theorem q1875 : (Jvm.Cond.fieldLinkNest "DomeNights" (394 : Nat) "DomeNights$Order" "numbers" "[I" "DomeNights") ∈ lw_tbl := lw_at lw_m8 119 rfl
theorem q1905 : (Jvm.Cond.fieldLinkNest "DomeNights" (403 : Nat) "DomeNights$Reader" "orders" "Ljava/util/List;" "DomeNights") ∈ lw_tbl := lw_at lw_m8 149 rfl
theorem q1907 : (Jvm.Cond.fieldLinkNest "DomeNights" (391 : Nat) "DomeNights$Reader" "spot" "I" "DomeNights") ∈ lw_tbl := lw_at lw_m8 151 rfl
theorem q1909 : (Jvm.Cond.fieldLinkNest "DomeNights" (388 : Nat) "DomeNights$Reader" "isWrong" "Z" "DomeNights") ∈ lw_tbl := lw_at lw_m8 153 rfl
theorem q1920 : (Jvm.Cond.instanceMethod ({ cls := "DomeNights", name := "carryOut", desc := "()I" } : Jvm.MethodName)) ∈ lw_all := lw_g (lw_at lw_m8 164 rfl) rfl
theorem q1921 : (Jvm.Cond.selects "DomeNights" ({ cls := "DomeNights", name := "carryOut", desc := "()I" } : Jvm.MethodName) ({ cls := "DomeNights", name := "carryOut", desc := "()I" } : Jvm.MethodName)) ∈ lw_all := lw_g (lw_at lw_m8 165 rfl) rfl
theorem q1922 : (Jvm.Cond.code ({ cls := "DomeNights", name := "carryOut", desc := "()I" } : Jvm.MethodName) prog_1_method_49_code (5 : Nat) (Option.some Jvm.ClassFile.FieldType.int)) ∈ lw_all := lw_g (lw_at lw_m8 166 rfl) rfl
theorem q1923 : (Jvm.Cond.classLink "DomeNights" (395 : Nat) "DomeNights$Order") ∈ lw_all := lw_g (lw_at lw_m8 167 rfl) rfl
theorem q1924 : (Jvm.Cond.methodLink "DomeNights" (406 : Nat) ({ cls := "DomeNights", name := "carry", desc := "(LDomeNights$Order;)I" } : Jvm.MethodName)) ∈ lw_all := lw_g (lw_at lw_m8 168 rfl) rfl
theorem q1925 : (Jvm.Cond.privateMethod ({ cls := "DomeNights", name := "carry", desc := "(LDomeNights$Order;)I" } : Jvm.MethodName)) ∈ lw_tbl := lw_at lw_m8 169 rfl
theorem q1926 : (Jvm.Cond.instanceMethod ({ cls := "DomeNights", name := "carry", desc := "(LDomeNights$Order;)I" } : Jvm.MethodName)) ∈ lw_all := lw_g (lw_at lw_m8 170 rfl) rfl
theorem q1927 : (Jvm.Cond.code ({ cls := "DomeNights", name := "carry", desc := "(LDomeNights$Order;)I" } : Jvm.MethodName) prog_1_method_48_code (4 : Nat) (Option.some Jvm.ClassFile.FieldType.int)) ∈ lw_all := lw_g (lw_at lw_m8 171 rfl) rfl
theorem q1929 : (Jvm.Cond.instanceMethod ({ cls := "DomeNights", name := "undo", desc := "()I" } : Jvm.MethodName)) ∈ lw_all := lw_g (lw_at lw_m8 173 rfl) rfl
theorem q1930 : (Jvm.Cond.selects "DomeNights" ({ cls := "DomeNights", name := "undo", desc := "()I" } : Jvm.MethodName) ({ cls := "DomeNights", name := "undo", desc := "()I" } : Jvm.MethodName)) ∈ lw_all := lw_g (lw_at lw_m8 174 rfl) rfl
theorem q1931 : (Jvm.Cond.code ({ cls := "DomeNights", name := "undo", desc := "()I" } : Jvm.MethodName) prog_1_method_50_code (1 : Nat) (Option.some Jvm.ClassFile.FieldType.int)) ∈ lw_all := lw_g (lw_at lw_m8 175 rfl) rfl
theorem q1932 : (Jvm.Cond.interfaceEntry "DomeNights" (410 : Nat)) ∈ lw_tbl := lw_at lw_m8 176 rfl
theorem q1933 : (Jvm.Cond.methodLink "DomeNights" (410 : Nat) ({ cls := "java/util/List", name := "isEmpty", desc := "()Z" } : Jvm.MethodName)) ∈ lw_all := lw_g (lw_at lw_m8 177 rfl) rfl
theorem q1942 : (Jvm.Cond.instanceMethod ({ cls := "DomeNights", name := "save", desc := "(I)I" } : Jvm.MethodName)) ∈ lw_all := lw_g (lw_at lw_m8 186 rfl) rfl
theorem q1943 : (Jvm.Cond.selects "DomeNights" ({ cls := "DomeNights", name := "save", desc := "(I)I" } : Jvm.MethodName) ({ cls := "DomeNights", name := "save", desc := "(I)I" } : Jvm.MethodName)) ∈ lw_all := lw_g (lw_at lw_m8 187 rfl) rfl
theorem q1944 : (Jvm.Cond.code ({ cls := "DomeNights", name := "save", desc := "(I)I" } : Jvm.MethodName) prog_1_method_51_code (2 : Nat) (Option.some Jvm.ClassFile.FieldType.int)) ∈ lw_all := lw_g (lw_at lw_m8 188 rfl) rfl
theorem q1946 : (Jvm.Cond.instanceMethod ({ cls := "DomeNights", name := "restore", desc := "(I)I" } : Jvm.MethodName)) ∈ lw_all := lw_g (lw_at lw_m8 190 rfl) rfl
theorem q1947 : (Jvm.Cond.selects "DomeNights" ({ cls := "DomeNights", name := "restore", desc := "(I)I" } : Jvm.MethodName) ({ cls := "DomeNights", name := "restore", desc := "(I)I" } : Jvm.MethodName)) ∈ lw_all := lw_g (lw_at lw_m8 191 rfl) rfl
theorem q1948 : (Jvm.Cond.code ({ cls := "DomeNights", name := "restore", desc := "(I)I" } : Jvm.MethodName) prog_1_method_52_code (2 : Nat) (Option.some Jvm.ClassFile.FieldType.int)) ∈ lw_all := lw_g (lw_at lw_m8 192 rfl) rfl
theorem q2350 : (Jvm.Cond.castable "DomeNights" "java/lang/Object") ∈ lw_tbl := lw_at lw_m10 114 rfl
theorem in_X0 : ∀ w ∈ wsX00, w ∈ lw_all := lw_in wsX00 [285, 287, 289, 291] (by decide +kernel) (by decide +kernel)
