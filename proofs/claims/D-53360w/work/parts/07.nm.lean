/-! DomeNightsModel -/
set_option maxRecDepth 100000
def RX2 : String := "DomeNightsModel"
def TX2 : u_T := fun k => match k with
  | 0 => ("DomeNightsModel", "now", "[I", true)
  | 1 => ("DomeNightsModel", "kept", "[I", true)
  | 2 => ("DomeNightsModel", "history", "[I", true)
  | 3 => ("DomeNightsModel", "undos", "I", false)
  | 4 => ("DomeNightsModel", "saved", "[I", true)
  | 5 => ("DomeNightsModel", "isSaved", "[Z", true)
  | 6 => ("DomeNightsModel", "pad", "[I", true)
  | 7 => ("DomeNightsModel", "signs", "I", false)
  | 8 => ("DomeNightsModel", "isInText", "Z", false)
  | 9 => ("DomeNightsModel", "free", "[I", true)
  | 10 => ("DomeNightsModel", "did", "[I", true)
  | 11 => ("DomeNightsModel", "order", "[I", true)
  | 12 => ("DomeNightsModel", "planned", "I", false)
  | 13 => ("DomeNightsModel", "orders", "[I", true)
  | 14 => ("DomeNightsModel", "ordered", "I", false)
  | 15 => ("DomeNightsModel", "at", "I", false)
  | _ => ("DomeNightsModel", "isWrong", "Z", false)
def tyX2 : Nat → FieldType := fun k => match k with
  | 0 => .array .int
  | 1 => .array .int
  | 2 => .array .int
  | 3 => .int
  | 4 => .array .int
  | 5 => .array .boolean
  | 6 => .array .int
  | 7 => .int
  | 8 => .boolean
  | 9 => .array .int
  | 10 => .array .int
  | 11 => .array .int
  | 12 => .int
  | 13 => .array .int
  | 14 => .int
  | 15 => .int
  | _ => .boolean
abbrev wsX20 : List Cond := u_ws RX2 TX2 17
set_option maxRecDepth 100000 in
theorem nmX2 : ∀ a, a < 17 → ∀ b, b < 17 → a ≠ b → (TX2 a).2.1 ≠ (TX2 b).2.1 := by decide +kernel
set_option maxRecDepth 100000 in
theorem tyX2_ok : ∀ k, k < 17 → parseFieldDescriptor (TX2 k).2.2.1 = some (tyX2 k) := by decide +kernel
abbrev cX2_init : ByteArray := prog_12_method_1_code
def yX2_init : MethodName := ⟨RX2, "<init>", "()V"⟩
def dkwX2_init_5 : List UInt8 := [180, 0, 7, 7, 16, 60, 79, 42, 180, 0, 7, 8, 4, 79, 177]
abbrev dktX2_init_5 : List UInt8 := dkwX2_init_5 ++ []
def dkwX2_init_4 : List UInt8 := [180, 0, 7, 4, 16, 7, 79, 42, 180, 0, 7, 5, 16, 50, 79, 42, 180, 0, 7, 6, 16, 50, 79, 42]
abbrev dktX2_init_4 : List UInt8 := dkwX2_init_4 ++ dktX2_init_5
def dkwX2_init_3 : List UInt8 := [16, 60, 188, 10, 181, 0, 35, 42, 17, 0, 200, 188, 10, 181, 0, 38, 42, 180, 0, 7, 3, 6, 79, 42]
abbrev dktX2_init_3 : List UInt8 := dkwX2_init_3 ++ dktX2_init_4
def dkwX2_init_2 : List UInt8 := [42, 16, 80, 188, 10, 181, 0, 26, 42, 16, 8, 188, 10, 181, 0, 29, 42, 7, 188, 10, 181, 0, 32, 42]
abbrev dktX2_init_2 : List UInt8 := dkwX2_init_2 ++ dktX2_init_3
def dkwX2_init_1 : List UInt8 := [17, 46, 104, 188, 10, 181, 0, 16, 42, 17, 15, 120, 188, 10, 181, 0, 19, 42, 5, 188, 4, 181, 0, 22]
abbrev dktX2_init_1 : List UInt8 := dkwX2_init_1 ++ dktX2_init_2
def dkwX2_init_0 : List UInt8 := [42, 183, 0, 1, 42, 17, 7, 188, 188, 10, 181, 0, 7, 42, 17, 7, 188, 188, 10, 181, 0, 13, 42]
abbrev dktX2_init_0 : List UInt8 := dkwX2_init_0 ++ dktX2_init_1
theorem dksX2_init_0 : cX2_init.data.toList.drop 0 = dktX2_init_0 := by decide +kernel
theorem dksX2_init_1 : cX2_init.data.toList.drop 23 = dktX2_init_1 := dk_seg dksX2_init_0 23 rfl rfl
theorem dksX2_init_2 : cX2_init.data.toList.drop 47 = dktX2_init_2 := dk_seg dksX2_init_1 24 rfl rfl
theorem dksX2_init_3 : cX2_init.data.toList.drop 71 = dktX2_init_3 := dk_seg dksX2_init_2 24 rfl rfl
theorem dksX2_init_4 : cX2_init.data.toList.drop 95 = dktX2_init_4 := dk_seg dksX2_init_3 24 rfl rfl
theorem dksX2_init_5 : cX2_init.data.toList.drop 119 = dktX2_init_5 := dk_seg dksX2_init_4 24 rfl rfl
theorem dX2_init_0 : decode cX2_init 0 = .ok (.aload_n 0, 1) := dk_42 (dk_at dksX2_init_0 0 rfl rfl)
theorem dX2_init_1 : decode cX2_init 1 = .ok (.invokespecial 1, 3) := dk_183 0 1 (dk_at dksX2_init_0 1 rfl rfl)
theorem dX2_init_4 : decode cX2_init 4 = .ok (.aload_n 0, 1) := dk_42 (dk_at dksX2_init_0 4 rfl rfl)
theorem dX2_init_5 : decode cX2_init 5 = .ok (.sipush 1980, 3) := dk_17 7 188 (dk_at dksX2_init_0 5 rfl rfl)
theorem dX2_init_8 : decode cX2_init 8 = .ok (.newarray .int, 2) := dk_188_10 (dk_at dksX2_init_0 8 rfl rfl)
theorem dX2_init_10 : decode cX2_init 10 = .ok (.putfield 7, 3) := dk_181 0 7 (dk_at dksX2_init_0 10 rfl rfl)
theorem dX2_init_13 : decode cX2_init 13 = .ok (.aload_n 0, 1) := dk_42 (dk_at dksX2_init_0 13 rfl rfl)
theorem dX2_init_14 : decode cX2_init 14 = .ok (.sipush 1980, 3) := dk_17 7 188 (dk_at dksX2_init_0 14 rfl rfl)
theorem dX2_init_17 : decode cX2_init 17 = .ok (.newarray .int, 2) := dk_188_10 (dk_at dksX2_init_0 17 rfl rfl)
theorem dX2_init_19 : decode cX2_init 19 = .ok (.putfield 13, 3) := dk_181 0 13 (dk_at dksX2_init_0 19 rfl rfl)
theorem dX2_init_22 : decode cX2_init 22 = .ok (.aload_n 0, 1) := dk_42 (dk_at dksX2_init_0 22 rfl rfl)
theorem dX2_init_23 : decode cX2_init 23 = .ok (.sipush 11880, 3) := dk_17 46 104 (dk_at dksX2_init_1 0 rfl rfl)
theorem dX2_init_26 : decode cX2_init 26 = .ok (.newarray .int, 2) := dk_188_10 (dk_at dksX2_init_1 3 rfl rfl)
theorem dX2_init_28 : decode cX2_init 28 = .ok (.putfield 16, 3) := dk_181 0 16 (dk_at dksX2_init_1 5 rfl rfl)
theorem dX2_init_31 : decode cX2_init 31 = .ok (.aload_n 0, 1) := dk_42 (dk_at dksX2_init_1 8 rfl rfl)
theorem dX2_init_32 : decode cX2_init 32 = .ok (.sipush 3960, 3) := dk_17 15 120 (dk_at dksX2_init_1 9 rfl rfl)
theorem dX2_init_35 : decode cX2_init 35 = .ok (.newarray .int, 2) := dk_188_10 (dk_at dksX2_init_1 12 rfl rfl)
theorem dX2_init_37 : decode cX2_init 37 = .ok (.putfield 19, 3) := dk_181 0 19 (dk_at dksX2_init_1 14 rfl rfl)
theorem dX2_init_40 : decode cX2_init 40 = .ok (.aload_n 0, 1) := dk_42 (dk_at dksX2_init_1 17 rfl rfl)
theorem dX2_init_41 : decode cX2_init 41 = .ok (.iconst 2, 1) := dk_5 (dk_at dksX2_init_1 18 rfl rfl)
theorem dX2_init_42 : decode cX2_init 42 = .ok (.newarray .boolean, 2) := dk_188_4 (dk_at dksX2_init_1 19 rfl rfl)
theorem dX2_init_44 : decode cX2_init 44 = .ok (.putfield 22, 3) := dk_181 0 22 (dk_at dksX2_init_1 21 rfl rfl)
theorem dX2_init_47 : decode cX2_init 47 = .ok (.aload_n 0, 1) := dk_42 (dk_at dksX2_init_2 0 rfl rfl)
theorem dX2_init_48 : decode cX2_init 48 = .ok (.bipush 80, 2) := dk_16 80 (dk_at dksX2_init_2 1 rfl rfl)
theorem dX2_init_50 : decode cX2_init 50 = .ok (.newarray .int, 2) := dk_188_10 (dk_at dksX2_init_2 3 rfl rfl)
theorem dX2_init_52 : decode cX2_init 52 = .ok (.putfield 26, 3) := dk_181 0 26 (dk_at dksX2_init_2 5 rfl rfl)
theorem dX2_init_55 : decode cX2_init 55 = .ok (.aload_n 0, 1) := dk_42 (dk_at dksX2_init_2 8 rfl rfl)
theorem dX2_init_56 : decode cX2_init 56 = .ok (.bipush 8, 2) := dk_16 8 (dk_at dksX2_init_2 9 rfl rfl)
theorem dX2_init_58 : decode cX2_init 58 = .ok (.newarray .int, 2) := dk_188_10 (dk_at dksX2_init_2 11 rfl rfl)
theorem dX2_init_60 : decode cX2_init 60 = .ok (.putfield 29, 3) := dk_181 0 29 (dk_at dksX2_init_2 13 rfl rfl)
theorem dX2_init_63 : decode cX2_init 63 = .ok (.aload_n 0, 1) := dk_42 (dk_at dksX2_init_2 16 rfl rfl)
theorem dX2_init_64 : decode cX2_init 64 = .ok (.iconst 4, 1) := dk_7 (dk_at dksX2_init_2 17 rfl rfl)
theorem dX2_init_65 : decode cX2_init 65 = .ok (.newarray .int, 2) := dk_188_10 (dk_at dksX2_init_2 18 rfl rfl)
theorem dX2_init_67 : decode cX2_init 67 = .ok (.putfield 32, 3) := dk_181 0 32 (dk_at dksX2_init_2 20 rfl rfl)
theorem dX2_init_70 : decode cX2_init 70 = .ok (.aload_n 0, 1) := dk_42 (dk_at dksX2_init_2 23 rfl rfl)
theorem dX2_init_71 : decode cX2_init 71 = .ok (.bipush 60, 2) := dk_16 60 (dk_at dksX2_init_3 0 rfl rfl)
theorem dX2_init_73 : decode cX2_init 73 = .ok (.newarray .int, 2) := dk_188_10 (dk_at dksX2_init_3 2 rfl rfl)
theorem dX2_init_75 : decode cX2_init 75 = .ok (.putfield 35, 3) := dk_181 0 35 (dk_at dksX2_init_3 4 rfl rfl)
theorem dX2_init_78 : decode cX2_init 78 = .ok (.aload_n 0, 1) := dk_42 (dk_at dksX2_init_3 7 rfl rfl)
theorem dX2_init_79 : decode cX2_init 79 = .ok (.sipush 200, 3) := dk_17 0 200 (dk_at dksX2_init_3 8 rfl rfl)
theorem dX2_init_82 : decode cX2_init 82 = .ok (.newarray .int, 2) := dk_188_10 (dk_at dksX2_init_3 11 rfl rfl)
theorem dX2_init_84 : decode cX2_init 84 = .ok (.putfield 38, 3) := dk_181 0 38 (dk_at dksX2_init_3 13 rfl rfl)
theorem dX2_init_87 : decode cX2_init 87 = .ok (.aload_n 0, 1) := dk_42 (dk_at dksX2_init_3 16 rfl rfl)
theorem dX2_init_88 : decode cX2_init 88 = .ok (.getfield 7, 3) := dk_180 0 7 (dk_at dksX2_init_3 17 rfl rfl)
theorem dX2_init_91 : decode cX2_init 91 = .ok (.iconst 0, 1) := dk_3 (dk_at dksX2_init_3 20 rfl rfl)
theorem dX2_init_92 : decode cX2_init 92 = .ok (.iconst 3, 1) := dk_6 (dk_at dksX2_init_3 21 rfl rfl)
theorem dX2_init_93 : decode cX2_init 93 = .ok (.iastore, 1) := dk_79 (dk_at dksX2_init_3 22 rfl rfl)
theorem dX2_init_94 : decode cX2_init 94 = .ok (.aload_n 0, 1) := dk_42 (dk_at dksX2_init_3 23 rfl rfl)
theorem dX2_init_95 : decode cX2_init 95 = .ok (.getfield 7, 3) := dk_180 0 7 (dk_at dksX2_init_4 0 rfl rfl)
theorem dX2_init_98 : decode cX2_init 98 = .ok (.iconst 1, 1) := dk_4 (dk_at dksX2_init_4 3 rfl rfl)
theorem dX2_init_99 : decode cX2_init 99 = .ok (.bipush 7, 2) := dk_16 7 (dk_at dksX2_init_4 4 rfl rfl)
theorem dX2_init_101 : decode cX2_init 101 = .ok (.iastore, 1) := dk_79 (dk_at dksX2_init_4 6 rfl rfl)
theorem dX2_init_102 : decode cX2_init 102 = .ok (.aload_n 0, 1) := dk_42 (dk_at dksX2_init_4 7 rfl rfl)
theorem dX2_init_103 : decode cX2_init 103 = .ok (.getfield 7, 3) := dk_180 0 7 (dk_at dksX2_init_4 8 rfl rfl)
theorem dX2_init_106 : decode cX2_init 106 = .ok (.iconst 2, 1) := dk_5 (dk_at dksX2_init_4 11 rfl rfl)
theorem dX2_init_107 : decode cX2_init 107 = .ok (.bipush 50, 2) := dk_16 50 (dk_at dksX2_init_4 12 rfl rfl)
theorem dX2_init_109 : decode cX2_init 109 = .ok (.iastore, 1) := dk_79 (dk_at dksX2_init_4 14 rfl rfl)
theorem dX2_init_110 : decode cX2_init 110 = .ok (.aload_n 0, 1) := dk_42 (dk_at dksX2_init_4 15 rfl rfl)
theorem dX2_init_111 : decode cX2_init 111 = .ok (.getfield 7, 3) := dk_180 0 7 (dk_at dksX2_init_4 16 rfl rfl)
theorem dX2_init_114 : decode cX2_init 114 = .ok (.iconst 3, 1) := dk_6 (dk_at dksX2_init_4 19 rfl rfl)
theorem dX2_init_115 : decode cX2_init 115 = .ok (.bipush 50, 2) := dk_16 50 (dk_at dksX2_init_4 20 rfl rfl)
theorem dX2_init_117 : decode cX2_init 117 = .ok (.iastore, 1) := dk_79 (dk_at dksX2_init_4 22 rfl rfl)
theorem dX2_init_118 : decode cX2_init 118 = .ok (.aload_n 0, 1) := dk_42 (dk_at dksX2_init_4 23 rfl rfl)
theorem dX2_init_119 : decode cX2_init 119 = .ok (.getfield 7, 3) := dk_180 0 7 (dk_at dksX2_init_5 0 rfl rfl)
theorem dX2_init_122 : decode cX2_init 122 = .ok (.iconst 4, 1) := dk_7 (dk_at dksX2_init_5 3 rfl rfl)
theorem dX2_init_123 : decode cX2_init 123 = .ok (.bipush 60, 2) := dk_16 60 (dk_at dksX2_init_5 4 rfl rfl)
theorem dX2_init_125 : decode cX2_init 125 = .ok (.iastore, 1) := dk_79 (dk_at dksX2_init_5 6 rfl rfl)
theorem dX2_init_126 : decode cX2_init 126 = .ok (.aload_n 0, 1) := dk_42 (dk_at dksX2_init_5 7 rfl rfl)
theorem dX2_init_127 : decode cX2_init 127 = .ok (.getfield 7, 3) := dk_180 0 7 (dk_at dksX2_init_5 8 rfl rfl)
theorem dX2_init_130 : decode cX2_init 130 = .ok (.iconst 5, 1) := dk_8 (dk_at dksX2_init_5 11 rfl rfl)
theorem dX2_init_131 : decode cX2_init 131 = .ok (.iconst 1, 1) := dk_4 (dk_at dksX2_init_5 12 rfl rfl)
theorem dX2_init_132 : decode cX2_init 132 = .ok (.iastore, 1) := dk_79 (dk_at dksX2_init_5 13 rfl rfl)
theorem dX2_init_133 : decode cX2_init 133 = .ok (.return_, 1) := dk_177 (dk_at dksX2_init_5 14 rfl rfl)
abbrev cX2_set : ByteArray := prog_12_method_6_code
def yX2_set : MethodName := ⟨RX2, "set", "(II)I"⟩
def dkwX2_set_3 : List UInt8 := [79, 21, 4, 172]
abbrev dktX2_set_3 : List UInt8 := dkwX2_set_3 ++ []
def dkwX2_set_2 : List UInt8 := [154, 0, 6, 16, 254, 172, 42, 182, 0, 53, 42, 180, 0, 7, 27, 46, 54, 4, 42, 180, 0, 7, 27, 28]
abbrev dktX2_set_2 : List UInt8 := dkwX2_set_2 ++ dktX2_set_3
def dkwX2_set_1 : List UInt8 := [4, 167, 0, 5, 16, 100, 62, 27, 3, 8, 184, 0, 49, 153, 0, 12, 28, 3, 29, 184, 0, 49]
abbrev dktX2_set_1 : List UInt8 := dkwX2_set_1 ++ dktX2_set_2
def dkwX2_set_0 : List UInt8 := [27, 154, 0, 8, 16, 14, 167, 0, 24, 27, 4, 160, 0, 8, 16, 30, 167, 0, 14, 27, 8, 160, 0, 7]
abbrev dktX2_set_0 : List UInt8 := dkwX2_set_0 ++ dktX2_set_1
theorem dksX2_set_0 : cX2_set.data.toList.drop 0 = dktX2_set_0 := by decide +kernel
theorem dksX2_set_1 : cX2_set.data.toList.drop 24 = dktX2_set_1 := dk_seg dksX2_set_0 24 rfl rfl
theorem dksX2_set_2 : cX2_set.data.toList.drop 46 = dktX2_set_2 := dk_seg dksX2_set_1 22 rfl rfl
theorem dksX2_set_3 : cX2_set.data.toList.drop 70 = dktX2_set_3 := dk_seg dksX2_set_2 24 rfl rfl
theorem dX2_set_0 : decode cX2_set 0 = .ok (.iload_n 1, 1) := dk_27 (dk_at dksX2_set_0 0 rfl rfl)
theorem dX2_set_1 : decode cX2_set 1 = .ok (.ifCond .ne 8, 3) := dk_154 0 8 (dk_at dksX2_set_0 1 rfl rfl)
theorem dX2_set_4 : decode cX2_set 4 = .ok (.bipush 14, 2) := dk_16 14 (dk_at dksX2_set_0 4 rfl rfl)
theorem dX2_set_6 : decode cX2_set 6 = .ok (.goto 24, 3) := dk_167 0 24 (dk_at dksX2_set_0 6 rfl rfl)
theorem dX2_set_9 : decode cX2_set 9 = .ok (.iload_n 1, 1) := dk_27 (dk_at dksX2_set_0 9 rfl rfl)
theorem dX2_set_10 : decode cX2_set 10 = .ok (.iconst 1, 1) := dk_4 (dk_at dksX2_set_0 10 rfl rfl)
theorem dX2_set_11 : decode cX2_set 11 = .ok (.if_icmp .ne 8, 3) := dk_160 0 8 (dk_at dksX2_set_0 11 rfl rfl)
theorem dX2_set_14 : decode cX2_set 14 = .ok (.bipush 30, 2) := dk_16 30 (dk_at dksX2_set_0 14 rfl rfl)
theorem dX2_set_16 : decode cX2_set 16 = .ok (.goto 14, 3) := dk_167 0 14 (dk_at dksX2_set_0 16 rfl rfl)
theorem dX2_set_19 : decode cX2_set 19 = .ok (.iload_n 1, 1) := dk_27 (dk_at dksX2_set_0 19 rfl rfl)
theorem dX2_set_20 : decode cX2_set 20 = .ok (.iconst 5, 1) := dk_8 (dk_at dksX2_set_0 20 rfl rfl)
theorem dX2_set_21 : decode cX2_set 21 = .ok (.if_icmp .ne 7, 3) := dk_160 0 7 (dk_at dksX2_set_0 21 rfl rfl)
theorem dX2_set_24 : decode cX2_set 24 = .ok (.iconst 1, 1) := dk_4 (dk_at dksX2_set_1 0 rfl rfl)
theorem dX2_set_25 : decode cX2_set 25 = .ok (.goto 5, 3) := dk_167 0 5 (dk_at dksX2_set_1 1 rfl rfl)
theorem dX2_set_28 : decode cX2_set 28 = .ok (.bipush 100, 2) := dk_16 100 (dk_at dksX2_set_1 4 rfl rfl)
theorem dX2_set_30 : decode cX2_set 30 = .ok (.istore_n 3, 1) := dk_62 (dk_at dksX2_set_1 6 rfl rfl)
theorem dX2_set_31 : decode cX2_set 31 = .ok (.iload_n 1, 1) := dk_27 (dk_at dksX2_set_1 7 rfl rfl)
theorem dX2_set_32 : decode cX2_set 32 = .ok (.iconst 0, 1) := dk_3 (dk_at dksX2_set_1 8 rfl rfl)
theorem dX2_set_33 : decode cX2_set 33 = .ok (.iconst 5, 1) := dk_8 (dk_at dksX2_set_1 9 rfl rfl)
theorem dX2_set_34 : decode cX2_set 34 = .ok (.invokestatic 49, 3) := dk_184 0 49 (dk_at dksX2_set_1 10 rfl rfl)
theorem dX2_set_37 : decode cX2_set 37 = .ok (.ifCond .eq 12, 3) := dk_153 0 12 (dk_at dksX2_set_1 13 rfl rfl)
theorem dX2_set_40 : decode cX2_set 40 = .ok (.iload_n 2, 1) := dk_28 (dk_at dksX2_set_1 16 rfl rfl)
theorem dX2_set_41 : decode cX2_set 41 = .ok (.iconst 0, 1) := dk_3 (dk_at dksX2_set_1 17 rfl rfl)
theorem dX2_set_42 : decode cX2_set 42 = .ok (.iload_n 3, 1) := dk_29 (dk_at dksX2_set_1 18 rfl rfl)
theorem dX2_set_43 : decode cX2_set 43 = .ok (.invokestatic 49, 3) := dk_184 0 49 (dk_at dksX2_set_1 19 rfl rfl)
theorem dX2_set_46 : decode cX2_set 46 = .ok (.ifCond .ne 6, 3) := dk_154 0 6 (dk_at dksX2_set_2 0 rfl rfl)
theorem dX2_set_49 : decode cX2_set 49 = .ok (.bipush (-2), 2) := dk_16 254 (dk_at dksX2_set_2 3 rfl rfl)
theorem dX2_set_51 : decode cX2_set 51 = .ok (.ireturn, 1) := dk_172 (dk_at dksX2_set_2 5 rfl rfl)
theorem dX2_set_52 : decode cX2_set 52 = .ok (.aload_n 0, 1) := dk_42 (dk_at dksX2_set_2 6 rfl rfl)
theorem dX2_set_53 : decode cX2_set 53 = .ok (.invokevirtual 53, 3) := dk_182 0 53 (dk_at dksX2_set_2 7 rfl rfl)
theorem dX2_set_56 : decode cX2_set 56 = .ok (.aload_n 0, 1) := dk_42 (dk_at dksX2_set_2 10 rfl rfl)
theorem dX2_set_57 : decode cX2_set 57 = .ok (.getfield 7, 3) := dk_180 0 7 (dk_at dksX2_set_2 11 rfl rfl)
theorem dX2_set_60 : decode cX2_set 60 = .ok (.iload_n 1, 1) := dk_27 (dk_at dksX2_set_2 14 rfl rfl)
theorem dX2_set_61 : decode cX2_set 61 = .ok (.iaload, 1) := dk_46 (dk_at dksX2_set_2 15 rfl rfl)
theorem dX2_set_62 : decode cX2_set 62 = .ok (.istore 4, 2) := dk_54 4 (dk_at dksX2_set_2 16 rfl rfl)
theorem dX2_set_64 : decode cX2_set 64 = .ok (.aload_n 0, 1) := dk_42 (dk_at dksX2_set_2 18 rfl rfl)
theorem dX2_set_65 : decode cX2_set 65 = .ok (.getfield 7, 3) := dk_180 0 7 (dk_at dksX2_set_2 19 rfl rfl)
theorem dX2_set_68 : decode cX2_set 68 = .ok (.iload_n 1, 1) := dk_27 (dk_at dksX2_set_2 22 rfl rfl)
theorem dX2_set_69 : decode cX2_set 69 = .ok (.iload_n 2, 1) := dk_28 (dk_at dksX2_set_2 23 rfl rfl)
theorem dX2_set_70 : decode cX2_set 70 = .ok (.iastore, 1) := dk_79 (dk_at dksX2_set_3 0 rfl rfl)
theorem dX2_set_71 : decode cX2_set 71 = .ok (.iload 4, 2) := dk_21 4 (dk_at dksX2_set_3 1 rfl rfl)
theorem dX2_set_73 : decode cX2_set 73 = .ok (.ireturn, 1) := dk_172 (dk_at dksX2_set_3 3 rfl rfl)
abbrev cX2_in : ByteArray := prog_12_method_2_code
def yX2_in : MethodName := ⟨RX2, "in", "(III)Z"⟩
def dkwX2_in_0 : List UInt8 := [26, 27, 161, 0, 12, 26, 28, 163, 0, 7, 4, 167, 0, 4, 3, 172]
abbrev dktX2_in_0 : List UInt8 := dkwX2_in_0 ++ []
theorem dksX2_in_0 : cX2_in.data.toList.drop 0 = dktX2_in_0 := by decide +kernel
theorem dX2_in_0 : decode cX2_in 0 = .ok (.iload_n 0, 1) := dk_26 (dk_at dksX2_in_0 0 rfl rfl)
theorem dX2_in_1 : decode cX2_in 1 = .ok (.iload_n 1, 1) := dk_27 (dk_at dksX2_in_0 1 rfl rfl)
theorem dX2_in_2 : decode cX2_in 2 = .ok (.if_icmp .lt 12, 3) := dk_161 0 12 (dk_at dksX2_in_0 2 rfl rfl)
theorem dX2_in_5 : decode cX2_in 5 = .ok (.iload_n 0, 1) := dk_26 (dk_at dksX2_in_0 5 rfl rfl)
theorem dX2_in_6 : decode cX2_in 6 = .ok (.iload_n 2, 1) := dk_28 (dk_at dksX2_in_0 6 rfl rfl)
theorem dX2_in_7 : decode cX2_in 7 = .ok (.if_icmp .gt 7, 3) := dk_163 0 7 (dk_at dksX2_in_0 7 rfl rfl)
theorem dX2_in_10 : decode cX2_in 10 = .ok (.iconst 1, 1) := dk_4 (dk_at dksX2_in_0 10 rfl rfl)
theorem dX2_in_11 : decode cX2_in 11 = .ok (.goto 4, 3) := dk_167 0 4 (dk_at dksX2_in_0 11 rfl rfl)
theorem dX2_in_14 : decode cX2_in 14 = .ok (.iconst 0, 1) := dk_3 (dk_at dksX2_in_0 14 rfl rfl)
theorem dX2_in_15 : decode cX2_in 15 = .ok (.ireturn, 1) := dk_172 (dk_at dksX2_in_0 15 rfl rfl)
abbrev cX2_record : ByteArray := prog_12_method_3_code
def yX2_record : MethodName := ⟨RX2, "record", "()V"⟩
def dkwX2_record_4 : List UInt8 := [180, 0, 45, 4, 96, 181, 0, 45, 177]
abbrev dktX2_record_4 : List UInt8 := dkwX2_record_4 ++ []
def dkwX2_record_3 : List UInt8 := [180, 0, 45, 17, 7, 188, 104, 27, 96, 42, 180, 0, 7, 27, 46, 79, 132, 1, 1, 167, 255, 225, 42, 89]
abbrev dktX2_record_3 : List UInt8 := dkwX2_record_3 ++ dktX2_record_4
def dkwX2_record_2 : List UInt8 := [167, 255, 230, 42, 8, 181, 0, 45, 3, 60, 27, 17, 7, 188, 162, 0, 30, 42, 180, 0, 16, 42]
abbrev dktX2_record_2 : List UInt8 := dkwX2_record_2 ++ dktX2_record_3
def dkwX2_record_1 : List UInt8 := [162, 0, 25, 42, 180, 0, 16, 27, 42, 180, 0, 16, 27, 17, 7, 188, 96, 46, 79, 132, 1, 1]
abbrev dktX2_record_1 : List UInt8 := dkwX2_record_1 ++ dktX2_record_2
def dkwX2_record_0 : List UInt8 := [42, 180, 0, 41, 153, 0, 4, 177, 42, 180, 0, 45, 16, 6, 160, 0, 39, 3, 60, 27, 17, 38, 172]
abbrev dktX2_record_0 : List UInt8 := dkwX2_record_0 ++ dktX2_record_1
theorem dksX2_record_0 : cX2_record.data.toList.drop 0 = dktX2_record_0 := by decide +kernel
theorem dksX2_record_1 : cX2_record.data.toList.drop 23 = dktX2_record_1 := dk_seg dksX2_record_0 23 rfl rfl
theorem dksX2_record_2 : cX2_record.data.toList.drop 45 = dktX2_record_2 := dk_seg dksX2_record_1 22 rfl rfl
theorem dksX2_record_3 : cX2_record.data.toList.drop 67 = dktX2_record_3 := dk_seg dksX2_record_2 22 rfl rfl
theorem dksX2_record_4 : cX2_record.data.toList.drop 91 = dktX2_record_4 := dk_seg dksX2_record_3 24 rfl rfl
theorem dX2_record_0 : decode cX2_record 0 = .ok (.aload_n 0, 1) := dk_42 (dk_at dksX2_record_0 0 rfl rfl)
theorem dX2_record_1 : decode cX2_record 1 = .ok (.getfield 41, 3) := dk_180 0 41 (dk_at dksX2_record_0 1 rfl rfl)
theorem dX2_record_4 : decode cX2_record 4 = .ok (.ifCond .eq 4, 3) := dk_153 0 4 (dk_at dksX2_record_0 4 rfl rfl)
theorem dX2_record_7 : decode cX2_record 7 = .ok (.return_, 1) := dk_177 (dk_at dksX2_record_0 7 rfl rfl)
theorem dX2_record_8 : decode cX2_record 8 = .ok (.aload_n 0, 1) := dk_42 (dk_at dksX2_record_0 8 rfl rfl)
theorem dX2_record_9 : decode cX2_record 9 = .ok (.getfield 45, 3) := dk_180 0 45 (dk_at dksX2_record_0 9 rfl rfl)
theorem dX2_record_12 : decode cX2_record 12 = .ok (.bipush 6, 2) := dk_16 6 (dk_at dksX2_record_0 12 rfl rfl)
theorem dX2_record_14 : decode cX2_record 14 = .ok (.if_icmp .ne 39, 3) := dk_160 0 39 (dk_at dksX2_record_0 14 rfl rfl)
theorem dX2_record_17 : decode cX2_record 17 = .ok (.iconst 0, 1) := dk_3 (dk_at dksX2_record_0 17 rfl rfl)
theorem dX2_record_18 : decode cX2_record 18 = .ok (.istore_n 1, 1) := dk_60 (dk_at dksX2_record_0 18 rfl rfl)
theorem dX2_record_19 : decode cX2_record 19 = .ok (.iload_n 1, 1) := dk_27 (dk_at dksX2_record_0 19 rfl rfl)
theorem dX2_record_20 : decode cX2_record 20 = .ok (.sipush 9900, 3) := dk_17 38 172 (dk_at dksX2_record_0 20 rfl rfl)
theorem dX2_record_23 : decode cX2_record 23 = .ok (.if_icmp .ge 25, 3) := dk_162 0 25 (dk_at dksX2_record_1 0 rfl rfl)
theorem dX2_record_26 : decode cX2_record 26 = .ok (.aload_n 0, 1) := dk_42 (dk_at dksX2_record_1 3 rfl rfl)
theorem dX2_record_27 : decode cX2_record 27 = .ok (.getfield 16, 3) := dk_180 0 16 (dk_at dksX2_record_1 4 rfl rfl)
theorem dX2_record_30 : decode cX2_record 30 = .ok (.iload_n 1, 1) := dk_27 (dk_at dksX2_record_1 7 rfl rfl)
theorem dX2_record_31 : decode cX2_record 31 = .ok (.aload_n 0, 1) := dk_42 (dk_at dksX2_record_1 8 rfl rfl)
theorem dX2_record_32 : decode cX2_record 32 = .ok (.getfield 16, 3) := dk_180 0 16 (dk_at dksX2_record_1 9 rfl rfl)
theorem dX2_record_35 : decode cX2_record 35 = .ok (.iload_n 1, 1) := dk_27 (dk_at dksX2_record_1 12 rfl rfl)
theorem dX2_record_36 : decode cX2_record 36 = .ok (.sipush 1980, 3) := dk_17 7 188 (dk_at dksX2_record_1 13 rfl rfl)
theorem dX2_record_39 : decode cX2_record 39 = .ok (.iadd, 1) := dk_96 (dk_at dksX2_record_1 16 rfl rfl)
theorem dX2_record_40 : decode cX2_record 40 = .ok (.iaload, 1) := dk_46 (dk_at dksX2_record_1 17 rfl rfl)
theorem dX2_record_41 : decode cX2_record 41 = .ok (.iastore, 1) := dk_79 (dk_at dksX2_record_1 18 rfl rfl)
theorem dX2_record_42 : decode cX2_record 42 = .ok (.iinc 1 1, 3) := dk_132 1 1 (dk_at dksX2_record_1 19 rfl rfl)
theorem dX2_record_45 : decode cX2_record 45 = .ok (.goto (-26), 3) := dk_167 255 230 (dk_at dksX2_record_2 0 rfl rfl)
theorem dX2_record_48 : decode cX2_record 48 = .ok (.aload_n 0, 1) := dk_42 (dk_at dksX2_record_2 3 rfl rfl)
theorem dX2_record_49 : decode cX2_record 49 = .ok (.iconst 5, 1) := dk_8 (dk_at dksX2_record_2 4 rfl rfl)
theorem dX2_record_50 : decode cX2_record 50 = .ok (.putfield 45, 3) := dk_181 0 45 (dk_at dksX2_record_2 5 rfl rfl)
theorem dX2_record_53 : decode cX2_record 53 = .ok (.iconst 0, 1) := dk_3 (dk_at dksX2_record_2 8 rfl rfl)
theorem dX2_record_54 : decode cX2_record 54 = .ok (.istore_n 1, 1) := dk_60 (dk_at dksX2_record_2 9 rfl rfl)
theorem dX2_record_55 : decode cX2_record 55 = .ok (.iload_n 1, 1) := dk_27 (dk_at dksX2_record_2 10 rfl rfl)
theorem dX2_record_56 : decode cX2_record 56 = .ok (.sipush 1980, 3) := dk_17 7 188 (dk_at dksX2_record_2 11 rfl rfl)
theorem dX2_record_59 : decode cX2_record 59 = .ok (.if_icmp .ge 30, 3) := dk_162 0 30 (dk_at dksX2_record_2 14 rfl rfl)
theorem dX2_record_62 : decode cX2_record 62 = .ok (.aload_n 0, 1) := dk_42 (dk_at dksX2_record_2 17 rfl rfl)
theorem dX2_record_63 : decode cX2_record 63 = .ok (.getfield 16, 3) := dk_180 0 16 (dk_at dksX2_record_2 18 rfl rfl)
theorem dX2_record_66 : decode cX2_record 66 = .ok (.aload_n 0, 1) := dk_42 (dk_at dksX2_record_2 21 rfl rfl)
theorem dX2_record_67 : decode cX2_record 67 = .ok (.getfield 45, 3) := dk_180 0 45 (dk_at dksX2_record_3 0 rfl rfl)
theorem dX2_record_70 : decode cX2_record 70 = .ok (.sipush 1980, 3) := dk_17 7 188 (dk_at dksX2_record_3 3 rfl rfl)
theorem dX2_record_73 : decode cX2_record 73 = .ok (.imul, 1) := dk_104 (dk_at dksX2_record_3 6 rfl rfl)
theorem dX2_record_74 : decode cX2_record 74 = .ok (.iload_n 1, 1) := dk_27 (dk_at dksX2_record_3 7 rfl rfl)
theorem dX2_record_75 : decode cX2_record 75 = .ok (.iadd, 1) := dk_96 (dk_at dksX2_record_3 8 rfl rfl)
theorem dX2_record_76 : decode cX2_record 76 = .ok (.aload_n 0, 1) := dk_42 (dk_at dksX2_record_3 9 rfl rfl)
theorem dX2_record_77 : decode cX2_record 77 = .ok (.getfield 7, 3) := dk_180 0 7 (dk_at dksX2_record_3 10 rfl rfl)
theorem dX2_record_80 : decode cX2_record 80 = .ok (.iload_n 1, 1) := dk_27 (dk_at dksX2_record_3 13 rfl rfl)
theorem dX2_record_81 : decode cX2_record 81 = .ok (.iaload, 1) := dk_46 (dk_at dksX2_record_3 14 rfl rfl)
theorem dX2_record_82 : decode cX2_record 82 = .ok (.iastore, 1) := dk_79 (dk_at dksX2_record_3 15 rfl rfl)
theorem dX2_record_83 : decode cX2_record 83 = .ok (.iinc 1 1, 3) := dk_132 1 1 (dk_at dksX2_record_3 16 rfl rfl)
theorem dX2_record_86 : decode cX2_record 86 = .ok (.goto (-31), 3) := dk_167 255 225 (dk_at dksX2_record_3 19 rfl rfl)
theorem dX2_record_89 : decode cX2_record 89 = .ok (.aload_n 0, 1) := dk_42 (dk_at dksX2_record_3 22 rfl rfl)
theorem dX2_record_90 : decode cX2_record 90 = .ok (.dup, 1) := dk_89 (dk_at dksX2_record_3 23 rfl rfl)
theorem dX2_record_91 : decode cX2_record 91 = .ok (.getfield 45, 3) := dk_180 0 45 (dk_at dksX2_record_4 0 rfl rfl)
theorem dX2_record_94 : decode cX2_record 94 = .ok (.iconst 1, 1) := dk_4 (dk_at dksX2_record_4 3 rfl rfl)
theorem dX2_record_95 : decode cX2_record 95 = .ok (.iadd, 1) := dk_96 (dk_at dksX2_record_4 4 rfl rfl)
theorem dX2_record_96 : decode cX2_record 96 = .ok (.putfield 45, 3) := dk_181 0 45 (dk_at dksX2_record_4 5 rfl rfl)
theorem dX2_record_99 : decode cX2_record 99 = .ok (.return_, 1) := dk_177 (dk_at dksX2_record_4 8 rfl rfl)
abbrev cX2_kind : ByteArray := prog_12_method_8_code
def yX2_kind : MethodName := ⟨RX2, "kind", "(III)I"⟩
def dkwX2_kind_4 : List UInt8 := [96, 29, 79, 42, 180, 0, 7, 16, 7, 92, 46, 4, 96, 79, 42, 180, 0, 7, 16, 7, 46, 4, 100, 172]
abbrev dktX2_kind_4 : List UInt8 := dkwX2_kind_4 ++ []
def dkwX2_kind_3 : List UInt8 := [180, 0, 7, 21, 4, 27, 79, 42, 180, 0, 7, 21, 4, 4, 96, 28, 79, 42, 180, 0, 7, 21, 4, 5]
abbrev dktX2_kind_3 : List UInt8 := dkwX2_kind_3 ++ dktX2_kind_4
def dkwX2_kind_2 : List UInt8 := [16, 252, 172, 42, 182, 0, 53, 16, 20, 6, 42, 180, 0, 7, 16, 7, 46, 104, 96, 54, 4, 42]
abbrev dktX2_kind_2 : List UInt8 := dkwX2_kind_2 ++ dktX2_kind_3
def dkwX2_kind_1 : List UInt8 := [17, 19, 136, 184, 0, 49, 154, 0, 6, 16, 254, 172, 42, 180, 0, 7, 16, 7, 46, 16, 10, 160, 0, 6]
abbrev dktX2_kind_1 : List UInt8 := dkwX2_kind_1 ++ dktX2_kind_2
def dkwX2_kind_0 : List UInt8 := [27, 4, 16, 40, 184, 0, 49, 153, 0, 25, 28, 16, 10, 16, 90, 184, 0, 49, 153, 0, 14, 29, 3]
abbrev dktX2_kind_0 : List UInt8 := dkwX2_kind_0 ++ dktX2_kind_1
theorem dksX2_kind_0 : cX2_kind.data.toList.drop 0 = dktX2_kind_0 := by decide +kernel
theorem dksX2_kind_1 : cX2_kind.data.toList.drop 23 = dktX2_kind_1 := dk_seg dksX2_kind_0 23 rfl rfl
theorem dksX2_kind_2 : cX2_kind.data.toList.drop 47 = dktX2_kind_2 := dk_seg dksX2_kind_1 24 rfl rfl
theorem dksX2_kind_3 : cX2_kind.data.toList.drop 69 = dktX2_kind_3 := dk_seg dksX2_kind_2 22 rfl rfl
theorem dksX2_kind_4 : cX2_kind.data.toList.drop 93 = dktX2_kind_4 := dk_seg dksX2_kind_3 24 rfl rfl
theorem dX2_kind_0 : decode cX2_kind 0 = .ok (.iload_n 1, 1) := dk_27 (dk_at dksX2_kind_0 0 rfl rfl)
theorem dX2_kind_1 : decode cX2_kind 1 = .ok (.iconst 1, 1) := dk_4 (dk_at dksX2_kind_0 1 rfl rfl)
theorem dX2_kind_2 : decode cX2_kind 2 = .ok (.bipush 40, 2) := dk_16 40 (dk_at dksX2_kind_0 2 rfl rfl)
theorem dX2_kind_4 : decode cX2_kind 4 = .ok (.invokestatic 49, 3) := dk_184 0 49 (dk_at dksX2_kind_0 4 rfl rfl)
theorem dX2_kind_7 : decode cX2_kind 7 = .ok (.ifCond .eq 25, 3) := dk_153 0 25 (dk_at dksX2_kind_0 7 rfl rfl)
theorem dX2_kind_10 : decode cX2_kind 10 = .ok (.iload_n 2, 1) := dk_28 (dk_at dksX2_kind_0 10 rfl rfl)
theorem dX2_kind_11 : decode cX2_kind 11 = .ok (.bipush 10, 2) := dk_16 10 (dk_at dksX2_kind_0 11 rfl rfl)
theorem dX2_kind_13 : decode cX2_kind 13 = .ok (.bipush 90, 2) := dk_16 90 (dk_at dksX2_kind_0 13 rfl rfl)
theorem dX2_kind_15 : decode cX2_kind 15 = .ok (.invokestatic 49, 3) := dk_184 0 49 (dk_at dksX2_kind_0 15 rfl rfl)
theorem dX2_kind_18 : decode cX2_kind 18 = .ok (.ifCond .eq 14, 3) := dk_153 0 14 (dk_at dksX2_kind_0 18 rfl rfl)
theorem dX2_kind_21 : decode cX2_kind 21 = .ok (.iload_n 3, 1) := dk_29 (dk_at dksX2_kind_0 21 rfl rfl)
theorem dX2_kind_22 : decode cX2_kind 22 = .ok (.iconst 0, 1) := dk_3 (dk_at dksX2_kind_0 22 rfl rfl)
theorem dX2_kind_23 : decode cX2_kind 23 = .ok (.sipush 5000, 3) := dk_17 19 136 (dk_at dksX2_kind_1 0 rfl rfl)
theorem dX2_kind_26 : decode cX2_kind 26 = .ok (.invokestatic 49, 3) := dk_184 0 49 (dk_at dksX2_kind_1 3 rfl rfl)
theorem dX2_kind_29 : decode cX2_kind 29 = .ok (.ifCond .ne 6, 3) := dk_154 0 6 (dk_at dksX2_kind_1 6 rfl rfl)
theorem dX2_kind_32 : decode cX2_kind 32 = .ok (.bipush (-2), 2) := dk_16 254 (dk_at dksX2_kind_1 9 rfl rfl)
theorem dX2_kind_34 : decode cX2_kind 34 = .ok (.ireturn, 1) := dk_172 (dk_at dksX2_kind_1 11 rfl rfl)
theorem dX2_kind_35 : decode cX2_kind 35 = .ok (.aload_n 0, 1) := dk_42 (dk_at dksX2_kind_1 12 rfl rfl)
theorem dX2_kind_36 : decode cX2_kind 36 = .ok (.getfield 7, 3) := dk_180 0 7 (dk_at dksX2_kind_1 13 rfl rfl)
theorem dX2_kind_39 : decode cX2_kind 39 = .ok (.bipush 7, 2) := dk_16 7 (dk_at dksX2_kind_1 16 rfl rfl)
theorem dX2_kind_41 : decode cX2_kind 41 = .ok (.iaload, 1) := dk_46 (dk_at dksX2_kind_1 18 rfl rfl)
theorem dX2_kind_42 : decode cX2_kind 42 = .ok (.bipush 10, 2) := dk_16 10 (dk_at dksX2_kind_1 19 rfl rfl)
theorem dX2_kind_44 : decode cX2_kind 44 = .ok (.if_icmp .ne 6, 3) := dk_160 0 6 (dk_at dksX2_kind_1 21 rfl rfl)
theorem dX2_kind_47 : decode cX2_kind 47 = .ok (.bipush (-4), 2) := dk_16 252 (dk_at dksX2_kind_2 0 rfl rfl)
theorem dX2_kind_49 : decode cX2_kind 49 = .ok (.ireturn, 1) := dk_172 (dk_at dksX2_kind_2 2 rfl rfl)
theorem dX2_kind_50 : decode cX2_kind 50 = .ok (.aload_n 0, 1) := dk_42 (dk_at dksX2_kind_2 3 rfl rfl)
theorem dX2_kind_51 : decode cX2_kind 51 = .ok (.invokevirtual 53, 3) := dk_182 0 53 (dk_at dksX2_kind_2 4 rfl rfl)
theorem dX2_kind_54 : decode cX2_kind 54 = .ok (.bipush 20, 2) := dk_16 20 (dk_at dksX2_kind_2 7 rfl rfl)
theorem dX2_kind_56 : decode cX2_kind 56 = .ok (.iconst 3, 1) := dk_6 (dk_at dksX2_kind_2 9 rfl rfl)
theorem dX2_kind_57 : decode cX2_kind 57 = .ok (.aload_n 0, 1) := dk_42 (dk_at dksX2_kind_2 10 rfl rfl)
theorem dX2_kind_58 : decode cX2_kind 58 = .ok (.getfield 7, 3) := dk_180 0 7 (dk_at dksX2_kind_2 11 rfl rfl)
theorem dX2_kind_61 : decode cX2_kind 61 = .ok (.bipush 7, 2) := dk_16 7 (dk_at dksX2_kind_2 14 rfl rfl)
theorem dX2_kind_63 : decode cX2_kind 63 = .ok (.iaload, 1) := dk_46 (dk_at dksX2_kind_2 16 rfl rfl)
theorem dX2_kind_64 : decode cX2_kind 64 = .ok (.imul, 1) := dk_104 (dk_at dksX2_kind_2 17 rfl rfl)
theorem dX2_kind_65 : decode cX2_kind 65 = .ok (.iadd, 1) := dk_96 (dk_at dksX2_kind_2 18 rfl rfl)
theorem dX2_kind_66 : decode cX2_kind 66 = .ok (.istore 4, 2) := dk_54 4 (dk_at dksX2_kind_2 19 rfl rfl)
theorem dX2_kind_68 : decode cX2_kind 68 = .ok (.aload_n 0, 1) := dk_42 (dk_at dksX2_kind_2 21 rfl rfl)
theorem dX2_kind_69 : decode cX2_kind 69 = .ok (.getfield 7, 3) := dk_180 0 7 (dk_at dksX2_kind_3 0 rfl rfl)
theorem dX2_kind_72 : decode cX2_kind 72 = .ok (.iload 4, 2) := dk_21 4 (dk_at dksX2_kind_3 3 rfl rfl)
theorem dX2_kind_74 : decode cX2_kind 74 = .ok (.iload_n 1, 1) := dk_27 (dk_at dksX2_kind_3 5 rfl rfl)
theorem dX2_kind_75 : decode cX2_kind 75 = .ok (.iastore, 1) := dk_79 (dk_at dksX2_kind_3 6 rfl rfl)
theorem dX2_kind_76 : decode cX2_kind 76 = .ok (.aload_n 0, 1) := dk_42 (dk_at dksX2_kind_3 7 rfl rfl)
theorem dX2_kind_77 : decode cX2_kind 77 = .ok (.getfield 7, 3) := dk_180 0 7 (dk_at dksX2_kind_3 8 rfl rfl)
theorem dX2_kind_80 : decode cX2_kind 80 = .ok (.iload 4, 2) := dk_21 4 (dk_at dksX2_kind_3 11 rfl rfl)
theorem dX2_kind_82 : decode cX2_kind 82 = .ok (.iconst 1, 1) := dk_4 (dk_at dksX2_kind_3 13 rfl rfl)
theorem dX2_kind_83 : decode cX2_kind 83 = .ok (.iadd, 1) := dk_96 (dk_at dksX2_kind_3 14 rfl rfl)
theorem dX2_kind_84 : decode cX2_kind 84 = .ok (.iload_n 2, 1) := dk_28 (dk_at dksX2_kind_3 15 rfl rfl)
theorem dX2_kind_85 : decode cX2_kind 85 = .ok (.iastore, 1) := dk_79 (dk_at dksX2_kind_3 16 rfl rfl)
theorem dX2_kind_86 : decode cX2_kind 86 = .ok (.aload_n 0, 1) := dk_42 (dk_at dksX2_kind_3 17 rfl rfl)
theorem dX2_kind_87 : decode cX2_kind 87 = .ok (.getfield 7, 3) := dk_180 0 7 (dk_at dksX2_kind_3 18 rfl rfl)
theorem dX2_kind_90 : decode cX2_kind 90 = .ok (.iload 4, 2) := dk_21 4 (dk_at dksX2_kind_3 21 rfl rfl)
theorem dX2_kind_92 : decode cX2_kind 92 = .ok (.iconst 2, 1) := dk_5 (dk_at dksX2_kind_3 23 rfl rfl)
theorem dX2_kind_93 : decode cX2_kind 93 = .ok (.iadd, 1) := dk_96 (dk_at dksX2_kind_4 0 rfl rfl)
theorem dX2_kind_94 : decode cX2_kind 94 = .ok (.iload_n 3, 1) := dk_29 (dk_at dksX2_kind_4 1 rfl rfl)
theorem dX2_kind_95 : decode cX2_kind 95 = .ok (.iastore, 1) := dk_79 (dk_at dksX2_kind_4 2 rfl rfl)
theorem dX2_kind_96 : decode cX2_kind 96 = .ok (.aload_n 0, 1) := dk_42 (dk_at dksX2_kind_4 3 rfl rfl)
theorem dX2_kind_97 : decode cX2_kind 97 = .ok (.getfield 7, 3) := dk_180 0 7 (dk_at dksX2_kind_4 4 rfl rfl)
theorem dX2_kind_100 : decode cX2_kind 100 = .ok (.bipush 7, 2) := dk_16 7 (dk_at dksX2_kind_4 7 rfl rfl)
theorem dX2_kind_102 : decode cX2_kind 102 = .ok (.dup2, 1) := dk_92 (dk_at dksX2_kind_4 9 rfl rfl)
theorem dX2_kind_103 : decode cX2_kind 103 = .ok (.iaload, 1) := dk_46 (dk_at dksX2_kind_4 10 rfl rfl)
theorem dX2_kind_104 : decode cX2_kind 104 = .ok (.iconst 1, 1) := dk_4 (dk_at dksX2_kind_4 11 rfl rfl)
theorem dX2_kind_105 : decode cX2_kind 105 = .ok (.iadd, 1) := dk_96 (dk_at dksX2_kind_4 12 rfl rfl)
theorem dX2_kind_106 : decode cX2_kind 106 = .ok (.iastore, 1) := dk_79 (dk_at dksX2_kind_4 13 rfl rfl)
theorem dX2_kind_107 : decode cX2_kind 107 = .ok (.aload_n 0, 1) := dk_42 (dk_at dksX2_kind_4 14 rfl rfl)
theorem dX2_kind_108 : decode cX2_kind 108 = .ok (.getfield 7, 3) := dk_180 0 7 (dk_at dksX2_kind_4 15 rfl rfl)
theorem dX2_kind_111 : decode cX2_kind 111 = .ok (.bipush 7, 2) := dk_16 7 (dk_at dksX2_kind_4 18 rfl rfl)
theorem dX2_kind_113 : decode cX2_kind 113 = .ok (.iaload, 1) := dk_46 (dk_at dksX2_kind_4 20 rfl rfl)
theorem dX2_kind_114 : decode cX2_kind 114 = .ok (.iconst 1, 1) := dk_4 (dk_at dksX2_kind_4 21 rfl rfl)
theorem dX2_kind_115 : decode cX2_kind 115 = .ok (.isub, 1) := dk_100 (dk_at dksX2_kind_4 22 rfl rfl)
theorem dX2_kind_116 : decode cX2_kind 116 = .ok (.ireturn, 1) := dk_172 (dk_at dksX2_kind_4 23 rfl rfl)
abbrev cX2_price : ByteArray := prog_12_method_9_code
def yX2_price : MethodName := ⟨RX2, "price", "(II)I"⟩
def dkwX2_price_2 : List UInt8 := [6, 27, 104, 96, 5, 96, 28, 79, 29, 172]
abbrev dktX2_price_2 : List UInt8 := dkwX2_price_2 ++ []
def dkwX2_price_1 : List UInt8 := [42, 182, 0, 53, 42, 180, 0, 7, 16, 20, 6, 27, 104, 96, 5, 96, 46, 62, 42, 180, 0, 7, 16, 20]
abbrev dktX2_price_1 : List UInt8 := dkwX2_price_1 ++ dktX2_price_2
def dkwX2_price_0 : List UInt8 := [42, 27, 182, 0, 56, 154, 0, 5, 2, 172, 28, 3, 17, 19, 136, 184, 0, 49, 154, 0, 6, 16, 254, 172]
abbrev dktX2_price_0 : List UInt8 := dkwX2_price_0 ++ dktX2_price_1
theorem dksX2_price_0 : cX2_price.data.toList.drop 0 = dktX2_price_0 := by decide +kernel
theorem dksX2_price_1 : cX2_price.data.toList.drop 24 = dktX2_price_1 := dk_seg dksX2_price_0 24 rfl rfl
theorem dksX2_price_2 : cX2_price.data.toList.drop 48 = dktX2_price_2 := dk_seg dksX2_price_1 24 rfl rfl
theorem dX2_price_0 : decode cX2_price 0 = .ok (.aload_n 0, 1) := dk_42 (dk_at dksX2_price_0 0 rfl rfl)
theorem dX2_price_1 : decode cX2_price 1 = .ok (.iload_n 1, 1) := dk_27 (dk_at dksX2_price_0 1 rfl rfl)
theorem dX2_price_2 : decode cX2_price 2 = .ok (.invokevirtual 56, 3) := dk_182 0 56 (dk_at dksX2_price_0 2 rfl rfl)
theorem dX2_price_5 : decode cX2_price 5 = .ok (.ifCond .ne 5, 3) := dk_154 0 5 (dk_at dksX2_price_0 5 rfl rfl)
theorem dX2_price_8 : decode cX2_price 8 = .ok (.iconst (-1), 1) := dk_2 (dk_at dksX2_price_0 8 rfl rfl)
theorem dX2_price_9 : decode cX2_price 9 = .ok (.ireturn, 1) := dk_172 (dk_at dksX2_price_0 9 rfl rfl)
theorem dX2_price_10 : decode cX2_price 10 = .ok (.iload_n 2, 1) := dk_28 (dk_at dksX2_price_0 10 rfl rfl)
theorem dX2_price_11 : decode cX2_price 11 = .ok (.iconst 0, 1) := dk_3 (dk_at dksX2_price_0 11 rfl rfl)
theorem dX2_price_12 : decode cX2_price 12 = .ok (.sipush 5000, 3) := dk_17 19 136 (dk_at dksX2_price_0 12 rfl rfl)
theorem dX2_price_15 : decode cX2_price 15 = .ok (.invokestatic 49, 3) := dk_184 0 49 (dk_at dksX2_price_0 15 rfl rfl)
theorem dX2_price_18 : decode cX2_price 18 = .ok (.ifCond .ne 6, 3) := dk_154 0 6 (dk_at dksX2_price_0 18 rfl rfl)
theorem dX2_price_21 : decode cX2_price 21 = .ok (.bipush (-2), 2) := dk_16 254 (dk_at dksX2_price_0 21 rfl rfl)
theorem dX2_price_23 : decode cX2_price 23 = .ok (.ireturn, 1) := dk_172 (dk_at dksX2_price_0 23 rfl rfl)
theorem dX2_price_24 : decode cX2_price 24 = .ok (.aload_n 0, 1) := dk_42 (dk_at dksX2_price_1 0 rfl rfl)
theorem dX2_price_25 : decode cX2_price 25 = .ok (.invokevirtual 53, 3) := dk_182 0 53 (dk_at dksX2_price_1 1 rfl rfl)
theorem dX2_price_28 : decode cX2_price 28 = .ok (.aload_n 0, 1) := dk_42 (dk_at dksX2_price_1 4 rfl rfl)
theorem dX2_price_29 : decode cX2_price 29 = .ok (.getfield 7, 3) := dk_180 0 7 (dk_at dksX2_price_1 5 rfl rfl)
theorem dX2_price_32 : decode cX2_price 32 = .ok (.bipush 20, 2) := dk_16 20 (dk_at dksX2_price_1 8 rfl rfl)
theorem dX2_price_34 : decode cX2_price 34 = .ok (.iconst 3, 1) := dk_6 (dk_at dksX2_price_1 10 rfl rfl)
theorem dX2_price_35 : decode cX2_price 35 = .ok (.iload_n 1, 1) := dk_27 (dk_at dksX2_price_1 11 rfl rfl)
theorem dX2_price_36 : decode cX2_price 36 = .ok (.imul, 1) := dk_104 (dk_at dksX2_price_1 12 rfl rfl)
theorem dX2_price_37 : decode cX2_price 37 = .ok (.iadd, 1) := dk_96 (dk_at dksX2_price_1 13 rfl rfl)
theorem dX2_price_38 : decode cX2_price 38 = .ok (.iconst 2, 1) := dk_5 (dk_at dksX2_price_1 14 rfl rfl)
theorem dX2_price_39 : decode cX2_price 39 = .ok (.iadd, 1) := dk_96 (dk_at dksX2_price_1 15 rfl rfl)
theorem dX2_price_40 : decode cX2_price 40 = .ok (.iaload, 1) := dk_46 (dk_at dksX2_price_1 16 rfl rfl)
theorem dX2_price_41 : decode cX2_price 41 = .ok (.istore_n 3, 1) := dk_62 (dk_at dksX2_price_1 17 rfl rfl)
theorem dX2_price_42 : decode cX2_price 42 = .ok (.aload_n 0, 1) := dk_42 (dk_at dksX2_price_1 18 rfl rfl)
theorem dX2_price_43 : decode cX2_price 43 = .ok (.getfield 7, 3) := dk_180 0 7 (dk_at dksX2_price_1 19 rfl rfl)
theorem dX2_price_46 : decode cX2_price 46 = .ok (.bipush 20, 2) := dk_16 20 (dk_at dksX2_price_1 22 rfl rfl)
theorem dX2_price_48 : decode cX2_price 48 = .ok (.iconst 3, 1) := dk_6 (dk_at dksX2_price_2 0 rfl rfl)
theorem dX2_price_49 : decode cX2_price 49 = .ok (.iload_n 1, 1) := dk_27 (dk_at dksX2_price_2 1 rfl rfl)
theorem dX2_price_50 : decode cX2_price 50 = .ok (.imul, 1) := dk_104 (dk_at dksX2_price_2 2 rfl rfl)
theorem dX2_price_51 : decode cX2_price 51 = .ok (.iadd, 1) := dk_96 (dk_at dksX2_price_2 3 rfl rfl)
theorem dX2_price_52 : decode cX2_price 52 = .ok (.iconst 2, 1) := dk_5 (dk_at dksX2_price_2 4 rfl rfl)
theorem dX2_price_53 : decode cX2_price 53 = .ok (.iadd, 1) := dk_96 (dk_at dksX2_price_2 5 rfl rfl)
theorem dX2_price_54 : decode cX2_price 54 = .ok (.iload_n 2, 1) := dk_28 (dk_at dksX2_price_2 6 rfl rfl)
theorem dX2_price_55 : decode cX2_price 55 = .ok (.iastore, 1) := dk_79 (dk_at dksX2_price_2 7 rfl rfl)
theorem dX2_price_56 : decode cX2_price 56 = .ok (.iload_n 3, 1) := dk_29 (dk_at dksX2_price_2 8 rfl rfl)
theorem dX2_price_57 : decode cX2_price 57 = .ok (.ireturn, 1) := dk_172 (dk_at dksX2_price_2 9 rfl rfl)
abbrev cX2_isKind : ByteArray := prog_12_method_7_code
def yX2_isKind : MethodName := ⟨RX2, "isKind", "(I)Z"⟩
def dkwX2_isKind_0 : List UInt8 := [27, 3, 42, 180, 0, 7, 16, 7, 46, 4, 100, 184, 0, 49, 172]
abbrev dktX2_isKind_0 : List UInt8 := dkwX2_isKind_0 ++ []
theorem dksX2_isKind_0 : cX2_isKind.data.toList.drop 0 = dktX2_isKind_0 := by decide +kernel
theorem dX2_isKind_0 : decode cX2_isKind 0 = .ok (.iload_n 1, 1) := dk_27 (dk_at dksX2_isKind_0 0 rfl rfl)
theorem dX2_isKind_1 : decode cX2_isKind 1 = .ok (.iconst 0, 1) := dk_3 (dk_at dksX2_isKind_0 1 rfl rfl)
theorem dX2_isKind_2 : decode cX2_isKind 2 = .ok (.aload_n 0, 1) := dk_42 (dk_at dksX2_isKind_0 2 rfl rfl)
theorem dX2_isKind_3 : decode cX2_isKind 3 = .ok (.getfield 7, 3) := dk_180 0 7 (dk_at dksX2_isKind_0 3 rfl rfl)
theorem dX2_isKind_6 : decode cX2_isKind 6 = .ok (.bipush 7, 2) := dk_16 7 (dk_at dksX2_isKind_0 6 rfl rfl)
theorem dX2_isKind_8 : decode cX2_isKind 8 = .ok (.iaload, 1) := dk_46 (dk_at dksX2_isKind_0 8 rfl rfl)
theorem dX2_isKind_9 : decode cX2_isKind 9 = .ok (.iconst 1, 1) := dk_4 (dk_at dksX2_isKind_0 9 rfl rfl)
theorem dX2_isKind_10 : decode cX2_isKind 10 = .ok (.isub, 1) := dk_100 (dk_at dksX2_isKind_0 10 rfl rfl)
theorem dX2_isKind_11 : decode cX2_isKind 11 = .ok (.invokestatic 49, 3) := dk_184 0 49 (dk_at dksX2_isKind_0 11 rfl rfl)
theorem dX2_isKind_14 : decode cX2_isKind 14 = .ok (.ireturn, 1) := dk_172 (dk_at dksX2_isKind_0 14 rfl rfl)
abbrev cX2_lamp : ByteArray := prog_12_method_11_code
def yX2_lamp : MethodName := ⟨RX2, "lamp", "(I)I"⟩
def dkwX2_lamp_4 : List UInt8 := [16, 8, 46, 4, 100, 172]
abbrev dktX2_lamp_4 : List UInt8 := dkwX2_lamp_4 ++ []
def dkwX2_lamp_3 : List UInt8 := [42, 180, 0, 7, 28, 6, 96, 3, 79, 42, 180, 0, 7, 16, 8, 92, 46, 4, 96, 79, 42, 180, 0, 7]
abbrev dktX2_lamp_3 : List UInt8 := dkwX2_lamp_3 ++ dktX2_lamp_4
def dkwX2_lamp_2 : List UInt8 := [180, 0, 7, 28, 27, 79, 42, 180, 0, 7, 28, 4, 96, 3, 79, 42, 180, 0, 7, 28, 5, 96, 3, 79]
abbrev dktX2_lamp_2 : List UInt8 := dkwX2_lamp_2 ++ dktX2_lamp_3
def dkwX2_lamp_1 : List UInt8 := [160, 0, 6, 16, 252, 172, 42, 182, 0, 53, 16, 50, 7, 42, 180, 0, 7, 16, 8, 46, 104, 96, 61, 42]
abbrev dktX2_lamp_1 : List UInt8 := dkwX2_lamp_1 ++ dktX2_lamp_2
def dkwX2_lamp_0 : List UInt8 := [27, 16, 50, 17, 19, 136, 184, 0, 49, 154, 0, 6, 16, 254, 172, 42, 180, 0, 7, 16, 8, 46, 16, 12]
abbrev dktX2_lamp_0 : List UInt8 := dkwX2_lamp_0 ++ dktX2_lamp_1
theorem dksX2_lamp_0 : cX2_lamp.data.toList.drop 0 = dktX2_lamp_0 := by decide +kernel
theorem dksX2_lamp_1 : cX2_lamp.data.toList.drop 24 = dktX2_lamp_1 := dk_seg dksX2_lamp_0 24 rfl rfl
theorem dksX2_lamp_2 : cX2_lamp.data.toList.drop 48 = dktX2_lamp_2 := dk_seg dksX2_lamp_1 24 rfl rfl
theorem dksX2_lamp_3 : cX2_lamp.data.toList.drop 72 = dktX2_lamp_3 := dk_seg dksX2_lamp_2 24 rfl rfl
theorem dksX2_lamp_4 : cX2_lamp.data.toList.drop 96 = dktX2_lamp_4 := dk_seg dksX2_lamp_3 24 rfl rfl
theorem dX2_lamp_0 : decode cX2_lamp 0 = .ok (.iload_n 1, 1) := dk_27 (dk_at dksX2_lamp_0 0 rfl rfl)
theorem dX2_lamp_1 : decode cX2_lamp 1 = .ok (.bipush 50, 2) := dk_16 50 (dk_at dksX2_lamp_0 1 rfl rfl)
theorem dX2_lamp_3 : decode cX2_lamp 3 = .ok (.sipush 5000, 3) := dk_17 19 136 (dk_at dksX2_lamp_0 3 rfl rfl)
theorem dX2_lamp_6 : decode cX2_lamp 6 = .ok (.invokestatic 49, 3) := dk_184 0 49 (dk_at dksX2_lamp_0 6 rfl rfl)
theorem dX2_lamp_9 : decode cX2_lamp 9 = .ok (.ifCond .ne 6, 3) := dk_154 0 6 (dk_at dksX2_lamp_0 9 rfl rfl)
theorem dX2_lamp_12 : decode cX2_lamp 12 = .ok (.bipush (-2), 2) := dk_16 254 (dk_at dksX2_lamp_0 12 rfl rfl)
theorem dX2_lamp_14 : decode cX2_lamp 14 = .ok (.ireturn, 1) := dk_172 (dk_at dksX2_lamp_0 14 rfl rfl)
theorem dX2_lamp_15 : decode cX2_lamp 15 = .ok (.aload_n 0, 1) := dk_42 (dk_at dksX2_lamp_0 15 rfl rfl)
theorem dX2_lamp_16 : decode cX2_lamp 16 = .ok (.getfield 7, 3) := dk_180 0 7 (dk_at dksX2_lamp_0 16 rfl rfl)
theorem dX2_lamp_19 : decode cX2_lamp 19 = .ok (.bipush 8, 2) := dk_16 8 (dk_at dksX2_lamp_0 19 rfl rfl)
theorem dX2_lamp_21 : decode cX2_lamp 21 = .ok (.iaload, 1) := dk_46 (dk_at dksX2_lamp_0 21 rfl rfl)
theorem dX2_lamp_22 : decode cX2_lamp 22 = .ok (.bipush 12, 2) := dk_16 12 (dk_at dksX2_lamp_0 22 rfl rfl)
theorem dX2_lamp_24 : decode cX2_lamp 24 = .ok (.if_icmp .ne 6, 3) := dk_160 0 6 (dk_at dksX2_lamp_1 0 rfl rfl)
theorem dX2_lamp_27 : decode cX2_lamp 27 = .ok (.bipush (-4), 2) := dk_16 252 (dk_at dksX2_lamp_1 3 rfl rfl)
theorem dX2_lamp_29 : decode cX2_lamp 29 = .ok (.ireturn, 1) := dk_172 (dk_at dksX2_lamp_1 5 rfl rfl)
theorem dX2_lamp_30 : decode cX2_lamp 30 = .ok (.aload_n 0, 1) := dk_42 (dk_at dksX2_lamp_1 6 rfl rfl)
theorem dX2_lamp_31 : decode cX2_lamp 31 = .ok (.invokevirtual 53, 3) := dk_182 0 53 (dk_at dksX2_lamp_1 7 rfl rfl)
theorem dX2_lamp_34 : decode cX2_lamp 34 = .ok (.bipush 50, 2) := dk_16 50 (dk_at dksX2_lamp_1 10 rfl rfl)
theorem dX2_lamp_36 : decode cX2_lamp 36 = .ok (.iconst 4, 1) := dk_7 (dk_at dksX2_lamp_1 12 rfl rfl)
theorem dX2_lamp_37 : decode cX2_lamp 37 = .ok (.aload_n 0, 1) := dk_42 (dk_at dksX2_lamp_1 13 rfl rfl)
theorem dX2_lamp_38 : decode cX2_lamp 38 = .ok (.getfield 7, 3) := dk_180 0 7 (dk_at dksX2_lamp_1 14 rfl rfl)
theorem dX2_lamp_41 : decode cX2_lamp 41 = .ok (.bipush 8, 2) := dk_16 8 (dk_at dksX2_lamp_1 17 rfl rfl)
theorem dX2_lamp_43 : decode cX2_lamp 43 = .ok (.iaload, 1) := dk_46 (dk_at dksX2_lamp_1 19 rfl rfl)
theorem dX2_lamp_44 : decode cX2_lamp 44 = .ok (.imul, 1) := dk_104 (dk_at dksX2_lamp_1 20 rfl rfl)
theorem dX2_lamp_45 : decode cX2_lamp 45 = .ok (.iadd, 1) := dk_96 (dk_at dksX2_lamp_1 21 rfl rfl)
theorem dX2_lamp_46 : decode cX2_lamp 46 = .ok (.istore_n 2, 1) := dk_61 (dk_at dksX2_lamp_1 22 rfl rfl)
theorem dX2_lamp_47 : decode cX2_lamp 47 = .ok (.aload_n 0, 1) := dk_42 (dk_at dksX2_lamp_1 23 rfl rfl)
theorem dX2_lamp_48 : decode cX2_lamp 48 = .ok (.getfield 7, 3) := dk_180 0 7 (dk_at dksX2_lamp_2 0 rfl rfl)
theorem dX2_lamp_51 : decode cX2_lamp 51 = .ok (.iload_n 2, 1) := dk_28 (dk_at dksX2_lamp_2 3 rfl rfl)
theorem dX2_lamp_52 : decode cX2_lamp 52 = .ok (.iload_n 1, 1) := dk_27 (dk_at dksX2_lamp_2 4 rfl rfl)
theorem dX2_lamp_53 : decode cX2_lamp 53 = .ok (.iastore, 1) := dk_79 (dk_at dksX2_lamp_2 5 rfl rfl)
theorem dX2_lamp_54 : decode cX2_lamp 54 = .ok (.aload_n 0, 1) := dk_42 (dk_at dksX2_lamp_2 6 rfl rfl)
theorem dX2_lamp_55 : decode cX2_lamp 55 = .ok (.getfield 7, 3) := dk_180 0 7 (dk_at dksX2_lamp_2 7 rfl rfl)
theorem dX2_lamp_58 : decode cX2_lamp 58 = .ok (.iload_n 2, 1) := dk_28 (dk_at dksX2_lamp_2 10 rfl rfl)
theorem dX2_lamp_59 : decode cX2_lamp 59 = .ok (.iconst 1, 1) := dk_4 (dk_at dksX2_lamp_2 11 rfl rfl)
theorem dX2_lamp_60 : decode cX2_lamp 60 = .ok (.iadd, 1) := dk_96 (dk_at dksX2_lamp_2 12 rfl rfl)
theorem dX2_lamp_61 : decode cX2_lamp 61 = .ok (.iconst 0, 1) := dk_3 (dk_at dksX2_lamp_2 13 rfl rfl)
theorem dX2_lamp_62 : decode cX2_lamp 62 = .ok (.iastore, 1) := dk_79 (dk_at dksX2_lamp_2 14 rfl rfl)
theorem dX2_lamp_63 : decode cX2_lamp 63 = .ok (.aload_n 0, 1) := dk_42 (dk_at dksX2_lamp_2 15 rfl rfl)
theorem dX2_lamp_64 : decode cX2_lamp 64 = .ok (.getfield 7, 3) := dk_180 0 7 (dk_at dksX2_lamp_2 16 rfl rfl)
theorem dX2_lamp_67 : decode cX2_lamp 67 = .ok (.iload_n 2, 1) := dk_28 (dk_at dksX2_lamp_2 19 rfl rfl)
theorem dX2_lamp_68 : decode cX2_lamp 68 = .ok (.iconst 2, 1) := dk_5 (dk_at dksX2_lamp_2 20 rfl rfl)
theorem dX2_lamp_69 : decode cX2_lamp 69 = .ok (.iadd, 1) := dk_96 (dk_at dksX2_lamp_2 21 rfl rfl)
theorem dX2_lamp_70 : decode cX2_lamp 70 = .ok (.iconst 0, 1) := dk_3 (dk_at dksX2_lamp_2 22 rfl rfl)
theorem dX2_lamp_71 : decode cX2_lamp 71 = .ok (.iastore, 1) := dk_79 (dk_at dksX2_lamp_2 23 rfl rfl)
theorem dX2_lamp_72 : decode cX2_lamp 72 = .ok (.aload_n 0, 1) := dk_42 (dk_at dksX2_lamp_3 0 rfl rfl)
theorem dX2_lamp_73 : decode cX2_lamp 73 = .ok (.getfield 7, 3) := dk_180 0 7 (dk_at dksX2_lamp_3 1 rfl rfl)
theorem dX2_lamp_76 : decode cX2_lamp 76 = .ok (.iload_n 2, 1) := dk_28 (dk_at dksX2_lamp_3 4 rfl rfl)
theorem dX2_lamp_77 : decode cX2_lamp 77 = .ok (.iconst 3, 1) := dk_6 (dk_at dksX2_lamp_3 5 rfl rfl)
theorem dX2_lamp_78 : decode cX2_lamp 78 = .ok (.iadd, 1) := dk_96 (dk_at dksX2_lamp_3 6 rfl rfl)
theorem dX2_lamp_79 : decode cX2_lamp 79 = .ok (.iconst 0, 1) := dk_3 (dk_at dksX2_lamp_3 7 rfl rfl)
theorem dX2_lamp_80 : decode cX2_lamp 80 = .ok (.iastore, 1) := dk_79 (dk_at dksX2_lamp_3 8 rfl rfl)
theorem dX2_lamp_81 : decode cX2_lamp 81 = .ok (.aload_n 0, 1) := dk_42 (dk_at dksX2_lamp_3 9 rfl rfl)
theorem dX2_lamp_82 : decode cX2_lamp 82 = .ok (.getfield 7, 3) := dk_180 0 7 (dk_at dksX2_lamp_3 10 rfl rfl)
theorem dX2_lamp_85 : decode cX2_lamp 85 = .ok (.bipush 8, 2) := dk_16 8 (dk_at dksX2_lamp_3 13 rfl rfl)
theorem dX2_lamp_87 : decode cX2_lamp 87 = .ok (.dup2, 1) := dk_92 (dk_at dksX2_lamp_3 15 rfl rfl)
theorem dX2_lamp_88 : decode cX2_lamp 88 = .ok (.iaload, 1) := dk_46 (dk_at dksX2_lamp_3 16 rfl rfl)
theorem dX2_lamp_89 : decode cX2_lamp 89 = .ok (.iconst 1, 1) := dk_4 (dk_at dksX2_lamp_3 17 rfl rfl)
theorem dX2_lamp_90 : decode cX2_lamp 90 = .ok (.iadd, 1) := dk_96 (dk_at dksX2_lamp_3 18 rfl rfl)
theorem dX2_lamp_91 : decode cX2_lamp 91 = .ok (.iastore, 1) := dk_79 (dk_at dksX2_lamp_3 19 rfl rfl)
theorem dX2_lamp_92 : decode cX2_lamp 92 = .ok (.aload_n 0, 1) := dk_42 (dk_at dksX2_lamp_3 20 rfl rfl)
theorem dX2_lamp_93 : decode cX2_lamp 93 = .ok (.getfield 7, 3) := dk_180 0 7 (dk_at dksX2_lamp_3 21 rfl rfl)
theorem dX2_lamp_96 : decode cX2_lamp 96 = .ok (.bipush 8, 2) := dk_16 8 (dk_at dksX2_lamp_4 0 rfl rfl)
theorem dX2_lamp_98 : decode cX2_lamp 98 = .ok (.iaload, 1) := dk_46 (dk_at dksX2_lamp_4 2 rfl rfl)
theorem dX2_lamp_99 : decode cX2_lamp 99 = .ok (.iconst 1, 1) := dk_4 (dk_at dksX2_lamp_4 3 rfl rfl)
theorem dX2_lamp_100 : decode cX2_lamp 100 = .ok (.isub, 1) := dk_100 (dk_at dksX2_lamp_4 4 rfl rfl)
theorem dX2_lamp_101 : decode cX2_lamp 101 = .ok (.ireturn, 1) := dk_172 (dk_at dksX2_lamp_4 5 rfl rfl)
abbrev cX2_fit : ByteArray := prog_12_method_16_code
def yX2_fit : MethodName := ⟨RX2, "fit", "(I)I"⟩
def dkwX2_fit_1 : List UInt8 := [153, 0, 6, 16, 251, 172, 42, 182, 0, 53, 42, 27, 182, 0, 71, 172]
abbrev dktX2_fit_1 : List UInt8 := dkwX2_fit_1 ++ []
def dkwX2_fit_0 : List UInt8 := [42, 27, 182, 0, 68, 154, 0, 5, 2, 172, 42, 180, 0, 7, 16, 50, 7, 27, 104, 96, 5, 96, 46]
abbrev dktX2_fit_0 : List UInt8 := dkwX2_fit_0 ++ dktX2_fit_1
theorem dksX2_fit_0 : cX2_fit.data.toList.drop 0 = dktX2_fit_0 := by decide +kernel
theorem dksX2_fit_1 : cX2_fit.data.toList.drop 23 = dktX2_fit_1 := dk_seg dksX2_fit_0 23 rfl rfl
theorem dX2_fit_0 : decode cX2_fit 0 = .ok (.aload_n 0, 1) := dk_42 (dk_at dksX2_fit_0 0 rfl rfl)
theorem dX2_fit_1 : decode cX2_fit 1 = .ok (.iload_n 1, 1) := dk_27 (dk_at dksX2_fit_0 1 rfl rfl)
theorem dX2_fit_2 : decode cX2_fit 2 = .ok (.invokevirtual 68, 3) := dk_182 0 68 (dk_at dksX2_fit_0 2 rfl rfl)
theorem dX2_fit_5 : decode cX2_fit 5 = .ok (.ifCond .ne 5, 3) := dk_154 0 5 (dk_at dksX2_fit_0 5 rfl rfl)
theorem dX2_fit_8 : decode cX2_fit 8 = .ok (.iconst (-1), 1) := dk_2 (dk_at dksX2_fit_0 8 rfl rfl)
theorem dX2_fit_9 : decode cX2_fit 9 = .ok (.ireturn, 1) := dk_172 (dk_at dksX2_fit_0 9 rfl rfl)
theorem dX2_fit_10 : decode cX2_fit 10 = .ok (.aload_n 0, 1) := dk_42 (dk_at dksX2_fit_0 10 rfl rfl)
theorem dX2_fit_11 : decode cX2_fit 11 = .ok (.getfield 7, 3) := dk_180 0 7 (dk_at dksX2_fit_0 11 rfl rfl)
theorem dX2_fit_14 : decode cX2_fit 14 = .ok (.bipush 50, 2) := dk_16 50 (dk_at dksX2_fit_0 14 rfl rfl)
theorem dX2_fit_16 : decode cX2_fit 16 = .ok (.iconst 4, 1) := dk_7 (dk_at dksX2_fit_0 16 rfl rfl)
theorem dX2_fit_17 : decode cX2_fit 17 = .ok (.iload_n 1, 1) := dk_27 (dk_at dksX2_fit_0 17 rfl rfl)
theorem dX2_fit_18 : decode cX2_fit 18 = .ok (.imul, 1) := dk_104 (dk_at dksX2_fit_0 18 rfl rfl)
theorem dX2_fit_19 : decode cX2_fit 19 = .ok (.iadd, 1) := dk_96 (dk_at dksX2_fit_0 19 rfl rfl)
theorem dX2_fit_20 : decode cX2_fit 20 = .ok (.iconst 2, 1) := dk_5 (dk_at dksX2_fit_0 20 rfl rfl)
theorem dX2_fit_21 : decode cX2_fit 21 = .ok (.iadd, 1) := dk_96 (dk_at dksX2_fit_0 21 rfl rfl)
theorem dX2_fit_22 : decode cX2_fit 22 = .ok (.iaload, 1) := dk_46 (dk_at dksX2_fit_0 22 rfl rfl)
theorem dX2_fit_23 : decode cX2_fit 23 = .ok (.ifCond .eq 6, 3) := dk_153 0 6 (dk_at dksX2_fit_1 0 rfl rfl)
theorem dX2_fit_26 : decode cX2_fit 26 = .ok (.bipush (-5), 2) := dk_16 251 (dk_at dksX2_fit_1 3 rfl rfl)
theorem dX2_fit_28 : decode cX2_fit 28 = .ok (.ireturn, 1) := dk_172 (dk_at dksX2_fit_1 5 rfl rfl)
theorem dX2_fit_29 : decode cX2_fit 29 = .ok (.aload_n 0, 1) := dk_42 (dk_at dksX2_fit_1 6 rfl rfl)
theorem dX2_fit_30 : decode cX2_fit 30 = .ok (.invokevirtual 53, 3) := dk_182 0 53 (dk_at dksX2_fit_1 7 rfl rfl)
theorem dX2_fit_33 : decode cX2_fit 33 = .ok (.aload_n 0, 1) := dk_42 (dk_at dksX2_fit_1 10 rfl rfl)
theorem dX2_fit_34 : decode cX2_fit 34 = .ok (.iload_n 1, 1) := dk_27 (dk_at dksX2_fit_1 11 rfl rfl)
theorem dX2_fit_35 : decode cX2_fit 35 = .ok (.invokevirtual 71, 3) := dk_182 0 71 (dk_at dksX2_fit_1 12 rfl rfl)
theorem dX2_fit_38 : decode cX2_fit 38 = .ok (.ireturn, 1) := dk_172 (dk_at dksX2_fit_1 15 rfl rfl)
abbrev cX2_isLamp : ByteArray := prog_12_method_10_code
def yX2_isLamp : MethodName := ⟨RX2, "isLamp", "(I)Z"⟩
def dkwX2_isLamp_0 : List UInt8 := [27, 3, 42, 180, 0, 7, 16, 8, 46, 4, 100, 184, 0, 49, 172]
abbrev dktX2_isLamp_0 : List UInt8 := dkwX2_isLamp_0 ++ []
theorem dksX2_isLamp_0 : cX2_isLamp.data.toList.drop 0 = dktX2_isLamp_0 := by decide +kernel
theorem dX2_isLamp_0 : decode cX2_isLamp 0 = .ok (.iload_n 1, 1) := dk_27 (dk_at dksX2_isLamp_0 0 rfl rfl)
theorem dX2_isLamp_1 : decode cX2_isLamp 1 = .ok (.iconst 0, 1) := dk_3 (dk_at dksX2_isLamp_0 1 rfl rfl)
theorem dX2_isLamp_2 : decode cX2_isLamp 2 = .ok (.aload_n 0, 1) := dk_42 (dk_at dksX2_isLamp_0 2 rfl rfl)
theorem dX2_isLamp_3 : decode cX2_isLamp 3 = .ok (.getfield 7, 3) := dk_180 0 7 (dk_at dksX2_isLamp_0 3 rfl rfl)
theorem dX2_isLamp_6 : decode cX2_isLamp 6 = .ok (.bipush 8, 2) := dk_16 8 (dk_at dksX2_isLamp_0 6 rfl rfl)
theorem dX2_isLamp_8 : decode cX2_isLamp 8 = .ok (.iaload, 1) := dk_46 (dk_at dksX2_isLamp_0 8 rfl rfl)
theorem dX2_isLamp_9 : decode cX2_isLamp 9 = .ok (.iconst 1, 1) := dk_4 (dk_at dksX2_isLamp_0 9 rfl rfl)
theorem dX2_isLamp_10 : decode cX2_isLamp 10 = .ok (.isub, 1) := dk_100 (dk_at dksX2_isLamp_0 10 rfl rfl)
theorem dX2_isLamp_11 : decode cX2_isLamp 11 = .ok (.invokestatic 49, 3) := dk_184 0 49 (dk_at dksX2_isLamp_0 11 rfl rfl)
theorem dX2_isLamp_14 : decode cX2_isLamp 14 = .ok (.ireturn, 1) := dk_172 (dk_at dksX2_isLamp_0 14 rfl rfl)
abbrev cX2_putIn : ByteArray := prog_12_method_15_code
def yX2_putIn : MethodName := ⟨RX2, "putIn", "(I)I"⟩
def dkwX2_putIn_1 : List UInt8 := [180, 0, 7, 16, 50, 7, 27, 104, 96, 5, 96, 4, 79, 28, 172]
abbrev dktX2_putIn_1 : List UInt8 := dkwX2_putIn_1 ++ []
def dkwX2_putIn_0 : List UInt8 := [42, 182, 0, 64, 61, 28, 155, 0, 17, 42, 180, 0, 7, 16, 50, 7, 28, 104, 96, 5, 96, 3, 79, 42]
abbrev dktX2_putIn_0 : List UInt8 := dkwX2_putIn_0 ++ dktX2_putIn_1
theorem dksX2_putIn_0 : cX2_putIn.data.toList.drop 0 = dktX2_putIn_0 := by decide +kernel
theorem dksX2_putIn_1 : cX2_putIn.data.toList.drop 24 = dktX2_putIn_1 := dk_seg dksX2_putIn_0 24 rfl rfl
theorem dX2_putIn_0 : decode cX2_putIn 0 = .ok (.aload_n 0, 1) := dk_42 (dk_at dksX2_putIn_0 0 rfl rfl)
theorem dX2_putIn_1 : decode cX2_putIn 1 = .ok (.invokevirtual 64, 3) := dk_182 0 64 (dk_at dksX2_putIn_0 1 rfl rfl)
theorem dX2_putIn_4 : decode cX2_putIn 4 = .ok (.istore_n 2, 1) := dk_61 (dk_at dksX2_putIn_0 4 rfl rfl)
theorem dX2_putIn_5 : decode cX2_putIn 5 = .ok (.iload_n 2, 1) := dk_28 (dk_at dksX2_putIn_0 5 rfl rfl)
theorem dX2_putIn_6 : decode cX2_putIn 6 = .ok (.ifCond .lt 17, 3) := dk_155 0 17 (dk_at dksX2_putIn_0 6 rfl rfl)
theorem dX2_putIn_9 : decode cX2_putIn 9 = .ok (.aload_n 0, 1) := dk_42 (dk_at dksX2_putIn_0 9 rfl rfl)
theorem dX2_putIn_10 : decode cX2_putIn 10 = .ok (.getfield 7, 3) := dk_180 0 7 (dk_at dksX2_putIn_0 10 rfl rfl)
theorem dX2_putIn_13 : decode cX2_putIn 13 = .ok (.bipush 50, 2) := dk_16 50 (dk_at dksX2_putIn_0 13 rfl rfl)
theorem dX2_putIn_15 : decode cX2_putIn 15 = .ok (.iconst 4, 1) := dk_7 (dk_at dksX2_putIn_0 15 rfl rfl)
theorem dX2_putIn_16 : decode cX2_putIn 16 = .ok (.iload_n 2, 1) := dk_28 (dk_at dksX2_putIn_0 16 rfl rfl)
theorem dX2_putIn_17 : decode cX2_putIn 17 = .ok (.imul, 1) := dk_104 (dk_at dksX2_putIn_0 17 rfl rfl)
theorem dX2_putIn_18 : decode cX2_putIn 18 = .ok (.iadd, 1) := dk_96 (dk_at dksX2_putIn_0 18 rfl rfl)
theorem dX2_putIn_19 : decode cX2_putIn 19 = .ok (.iconst 2, 1) := dk_5 (dk_at dksX2_putIn_0 19 rfl rfl)
theorem dX2_putIn_20 : decode cX2_putIn 20 = .ok (.iadd, 1) := dk_96 (dk_at dksX2_putIn_0 20 rfl rfl)
theorem dX2_putIn_21 : decode cX2_putIn 21 = .ok (.iconst 0, 1) := dk_3 (dk_at dksX2_putIn_0 21 rfl rfl)
theorem dX2_putIn_22 : decode cX2_putIn 22 = .ok (.iastore, 1) := dk_79 (dk_at dksX2_putIn_0 22 rfl rfl)
theorem dX2_putIn_23 : decode cX2_putIn 23 = .ok (.aload_n 0, 1) := dk_42 (dk_at dksX2_putIn_0 23 rfl rfl)
theorem dX2_putIn_24 : decode cX2_putIn 24 = .ok (.getfield 7, 3) := dk_180 0 7 (dk_at dksX2_putIn_1 0 rfl rfl)
theorem dX2_putIn_27 : decode cX2_putIn 27 = .ok (.bipush 50, 2) := dk_16 50 (dk_at dksX2_putIn_1 3 rfl rfl)
theorem dX2_putIn_29 : decode cX2_putIn 29 = .ok (.iconst 4, 1) := dk_7 (dk_at dksX2_putIn_1 5 rfl rfl)
theorem dX2_putIn_30 : decode cX2_putIn 30 = .ok (.iload_n 1, 1) := dk_27 (dk_at dksX2_putIn_1 6 rfl rfl)
theorem dX2_putIn_31 : decode cX2_putIn 31 = .ok (.imul, 1) := dk_104 (dk_at dksX2_putIn_1 7 rfl rfl)
theorem dX2_putIn_32 : decode cX2_putIn 32 = .ok (.iadd, 1) := dk_96 (dk_at dksX2_putIn_1 8 rfl rfl)
theorem dX2_putIn_33 : decode cX2_putIn 33 = .ok (.iconst 2, 1) := dk_5 (dk_at dksX2_putIn_1 9 rfl rfl)
theorem dX2_putIn_34 : decode cX2_putIn 34 = .ok (.iadd, 1) := dk_96 (dk_at dksX2_putIn_1 10 rfl rfl)
theorem dX2_putIn_35 : decode cX2_putIn 35 = .ok (.iconst 1, 1) := dk_4 (dk_at dksX2_putIn_1 11 rfl rfl)
theorem dX2_putIn_36 : decode cX2_putIn 36 = .ok (.iastore, 1) := dk_79 (dk_at dksX2_putIn_1 12 rfl rfl)
theorem dX2_putIn_37 : decode cX2_putIn 37 = .ok (.iload_n 2, 1) := dk_28 (dk_at dksX2_putIn_1 13 rfl rfl)
theorem dX2_putIn_38 : decode cX2_putIn 38 = .ok (.ireturn, 1) := dk_172 (dk_at dksX2_putIn_1 14 rfl rfl)
abbrev cX2_fitted : ByteArray := prog_12_method_12_code
def yX2_fitted : MethodName := ⟨RX2, "fitted", "()I"⟩
def dkwX2_fitted_1 : List UInt8 := [104, 96, 5, 96, 46, 4, 160, 0, 7, 28, 167, 0, 4, 27, 60, 132, 2, 1, 167, 255, 219, 27, 172]
abbrev dktX2_fitted_1 : List UInt8 := dkwX2_fitted_1 ++ []
def dkwX2_fitted_0 : List UInt8 := [16, 250, 60, 3, 61, 28, 42, 180, 0, 7, 16, 8, 46, 162, 0, 32, 42, 180, 0, 7, 16, 50, 7, 28]
abbrev dktX2_fitted_0 : List UInt8 := dkwX2_fitted_0 ++ dktX2_fitted_1
theorem dksX2_fitted_0 : cX2_fitted.data.toList.drop 0 = dktX2_fitted_0 := by decide +kernel
theorem dksX2_fitted_1 : cX2_fitted.data.toList.drop 24 = dktX2_fitted_1 := dk_seg dksX2_fitted_0 24 rfl rfl
theorem dX2_fitted_0 : decode cX2_fitted 0 = .ok (.bipush (-6), 2) := dk_16 250 (dk_at dksX2_fitted_0 0 rfl rfl)
theorem dX2_fitted_2 : decode cX2_fitted 2 = .ok (.istore_n 1, 1) := dk_60 (dk_at dksX2_fitted_0 2 rfl rfl)
theorem dX2_fitted_3 : decode cX2_fitted 3 = .ok (.iconst 0, 1) := dk_3 (dk_at dksX2_fitted_0 3 rfl rfl)
theorem dX2_fitted_4 : decode cX2_fitted 4 = .ok (.istore_n 2, 1) := dk_61 (dk_at dksX2_fitted_0 4 rfl rfl)
theorem dX2_fitted_5 : decode cX2_fitted 5 = .ok (.iload_n 2, 1) := dk_28 (dk_at dksX2_fitted_0 5 rfl rfl)
theorem dX2_fitted_6 : decode cX2_fitted 6 = .ok (.aload_n 0, 1) := dk_42 (dk_at dksX2_fitted_0 6 rfl rfl)
theorem dX2_fitted_7 : decode cX2_fitted 7 = .ok (.getfield 7, 3) := dk_180 0 7 (dk_at dksX2_fitted_0 7 rfl rfl)
theorem dX2_fitted_10 : decode cX2_fitted 10 = .ok (.bipush 8, 2) := dk_16 8 (dk_at dksX2_fitted_0 10 rfl rfl)
theorem dX2_fitted_12 : decode cX2_fitted 12 = .ok (.iaload, 1) := dk_46 (dk_at dksX2_fitted_0 12 rfl rfl)
theorem dX2_fitted_13 : decode cX2_fitted 13 = .ok (.if_icmp .ge 32, 3) := dk_162 0 32 (dk_at dksX2_fitted_0 13 rfl rfl)
theorem dX2_fitted_16 : decode cX2_fitted 16 = .ok (.aload_n 0, 1) := dk_42 (dk_at dksX2_fitted_0 16 rfl rfl)
theorem dX2_fitted_17 : decode cX2_fitted 17 = .ok (.getfield 7, 3) := dk_180 0 7 (dk_at dksX2_fitted_0 17 rfl rfl)
theorem dX2_fitted_20 : decode cX2_fitted 20 = .ok (.bipush 50, 2) := dk_16 50 (dk_at dksX2_fitted_0 20 rfl rfl)
theorem dX2_fitted_22 : decode cX2_fitted 22 = .ok (.iconst 4, 1) := dk_7 (dk_at dksX2_fitted_0 22 rfl rfl)
theorem dX2_fitted_23 : decode cX2_fitted 23 = .ok (.iload_n 2, 1) := dk_28 (dk_at dksX2_fitted_0 23 rfl rfl)
theorem dX2_fitted_24 : decode cX2_fitted 24 = .ok (.imul, 1) := dk_104 (dk_at dksX2_fitted_1 0 rfl rfl)
theorem dX2_fitted_25 : decode cX2_fitted 25 = .ok (.iadd, 1) := dk_96 (dk_at dksX2_fitted_1 1 rfl rfl)
theorem dX2_fitted_26 : decode cX2_fitted 26 = .ok (.iconst 2, 1) := dk_5 (dk_at dksX2_fitted_1 2 rfl rfl)
theorem dX2_fitted_27 : decode cX2_fitted 27 = .ok (.iadd, 1) := dk_96 (dk_at dksX2_fitted_1 3 rfl rfl)
theorem dX2_fitted_28 : decode cX2_fitted 28 = .ok (.iaload, 1) := dk_46 (dk_at dksX2_fitted_1 4 rfl rfl)
theorem dX2_fitted_29 : decode cX2_fitted 29 = .ok (.iconst 1, 1) := dk_4 (dk_at dksX2_fitted_1 5 rfl rfl)
theorem dX2_fitted_30 : decode cX2_fitted 30 = .ok (.if_icmp .ne 7, 3) := dk_160 0 7 (dk_at dksX2_fitted_1 6 rfl rfl)
theorem dX2_fitted_33 : decode cX2_fitted 33 = .ok (.iload_n 2, 1) := dk_28 (dk_at dksX2_fitted_1 9 rfl rfl)
theorem dX2_fitted_34 : decode cX2_fitted 34 = .ok (.goto 4, 3) := dk_167 0 4 (dk_at dksX2_fitted_1 10 rfl rfl)
theorem dX2_fitted_37 : decode cX2_fitted 37 = .ok (.iload_n 1, 1) := dk_27 (dk_at dksX2_fitted_1 13 rfl rfl)
theorem dX2_fitted_38 : decode cX2_fitted 38 = .ok (.istore_n 1, 1) := dk_60 (dk_at dksX2_fitted_1 14 rfl rfl)
theorem dX2_fitted_39 : decode cX2_fitted 39 = .ok (.iinc 2 1, 3) := dk_132 2 1 (dk_at dksX2_fitted_1 15 rfl rfl)
theorem dX2_fitted_42 : decode cX2_fitted 42 = .ok (.goto (-37), 3) := dk_167 255 219 (dk_at dksX2_fitted_1 18 rfl rfl)
theorem dX2_fitted_45 : decode cX2_fitted 45 = .ok (.iload_n 1, 1) := dk_27 (dk_at dksX2_fitted_1 21 rfl rfl)
theorem dX2_fitted_46 : decode cX2_fitted 46 = .ok (.ireturn, 1) := dk_172 (dk_at dksX2_fitted_1 22 rfl rfl)
abbrev cX2_plan : ByteArray := prog_12_method_22_code
def yX2_plan : MethodName := ⟨RX2, "plan", "(III)I"⟩
def dkwX2_plan_7 : List UInt8 := [180, 0, 7, 16, 9, 92, 46, 4, 96, 79, 42, 180, 0, 7, 16, 9, 46, 4, 100, 172]
abbrev dktX2_plan_7 : List UInt8 := dkwX2_plan_7 ++ []
def dkwX2_plan_6 : List UInt8 := [42, 180, 0, 7, 21, 4, 8, 96, 3, 79, 42, 180, 0, 7, 21, 4, 16, 6, 96, 3, 79, 42]
abbrev dktX2_plan_6 : List UInt8 := dkwX2_plan_6 ++ dktX2_plan_7
def dkwX2_plan_5 : List UInt8 := [96, 28, 79, 42, 180, 0, 7, 21, 4, 6, 96, 3, 79, 42, 180, 0, 7, 21, 4, 7, 96, 16, 250, 79]
abbrev dktX2_plan_5 : List UInt8 := dkwX2_plan_5 ++ dktX2_plan_6
def dkwX2_plan_4 : List UInt8 := [180, 0, 7, 21, 4, 29, 79, 42, 180, 0, 7, 21, 4, 4, 96, 27, 79, 42, 180, 0, 7, 21, 4, 5]
abbrev dktX2_plan_4 : List UInt8 := dkwX2_plan_4 ++ dktX2_plan_5
def dkwX2_plan_3 : List UInt8 := [16, 251, 172, 42, 182, 0, 53, 16, 100, 16, 7, 42, 180, 0, 7, 16, 9, 46, 104, 96, 54, 4, 42]
abbrev dktX2_plan_3 : List UInt8 := dkwX2_plan_3 ++ dktX2_plan_4
def dkwX2_plan_2 : List UInt8 := [180, 0, 7, 16, 9, 46, 16, 60, 160, 0, 6, 16, 252, 172, 42, 27, 28, 182, 0, 84, 154, 0, 6]
abbrev dktX2_plan_2 : List UInt8 := dkwX2_plan_2 ++ dktX2_plan_3
def dkwX2_plan_1 : List UInt8 := [28, 3, 8, 184, 0, 49, 154, 0, 6, 16, 254, 172, 42, 29, 182, 0, 56, 154, 0, 5, 2, 172, 42]
abbrev dktX2_plan_1 : List UInt8 := dkwX2_plan_1 ++ dktX2_plan_2
def dkwX2_plan_0 : List UInt8 := [27, 42, 180, 0, 7, 16, 6, 46, 42, 180, 0, 7, 16, 6, 46, 16, 60, 96, 184, 0, 49, 153, 0, 12]
abbrev dktX2_plan_0 : List UInt8 := dkwX2_plan_0 ++ dktX2_plan_1
theorem dksX2_plan_0 : cX2_plan.data.toList.drop 0 = dktX2_plan_0 := by decide +kernel
theorem dksX2_plan_1 : cX2_plan.data.toList.drop 24 = dktX2_plan_1 := dk_seg dksX2_plan_0 24 rfl rfl
theorem dksX2_plan_2 : cX2_plan.data.toList.drop 47 = dktX2_plan_2 := dk_seg dksX2_plan_1 23 rfl rfl
theorem dksX2_plan_3 : cX2_plan.data.toList.drop 70 = dktX2_plan_3 := dk_seg dksX2_plan_2 23 rfl rfl
theorem dksX2_plan_4 : cX2_plan.data.toList.drop 93 = dktX2_plan_4 := dk_seg dksX2_plan_3 23 rfl rfl
theorem dksX2_plan_5 : cX2_plan.data.toList.drop 117 = dktX2_plan_5 := dk_seg dksX2_plan_4 24 rfl rfl
theorem dksX2_plan_6 : cX2_plan.data.toList.drop 141 = dktX2_plan_6 := dk_seg dksX2_plan_5 24 rfl rfl
theorem dksX2_plan_7 : cX2_plan.data.toList.drop 163 = dktX2_plan_7 := dk_seg dksX2_plan_6 22 rfl rfl
theorem dX2_plan_0 : decode cX2_plan 0 = .ok (.iload_n 1, 1) := dk_27 (dk_at dksX2_plan_0 0 rfl rfl)
theorem dX2_plan_1 : decode cX2_plan 1 = .ok (.aload_n 0, 1) := dk_42 (dk_at dksX2_plan_0 1 rfl rfl)
theorem dX2_plan_2 : decode cX2_plan 2 = .ok (.getfield 7, 3) := dk_180 0 7 (dk_at dksX2_plan_0 2 rfl rfl)
theorem dX2_plan_5 : decode cX2_plan 5 = .ok (.bipush 6, 2) := dk_16 6 (dk_at dksX2_plan_0 5 rfl rfl)
theorem dX2_plan_7 : decode cX2_plan 7 = .ok (.iaload, 1) := dk_46 (dk_at dksX2_plan_0 7 rfl rfl)
theorem dX2_plan_8 : decode cX2_plan 8 = .ok (.aload_n 0, 1) := dk_42 (dk_at dksX2_plan_0 8 rfl rfl)
theorem dX2_plan_9 : decode cX2_plan 9 = .ok (.getfield 7, 3) := dk_180 0 7 (dk_at dksX2_plan_0 9 rfl rfl)
theorem dX2_plan_12 : decode cX2_plan 12 = .ok (.bipush 6, 2) := dk_16 6 (dk_at dksX2_plan_0 12 rfl rfl)
theorem dX2_plan_14 : decode cX2_plan 14 = .ok (.iaload, 1) := dk_46 (dk_at dksX2_plan_0 14 rfl rfl)
theorem dX2_plan_15 : decode cX2_plan 15 = .ok (.bipush 60, 2) := dk_16 60 (dk_at dksX2_plan_0 15 rfl rfl)
theorem dX2_plan_17 : decode cX2_plan 17 = .ok (.iadd, 1) := dk_96 (dk_at dksX2_plan_0 17 rfl rfl)
theorem dX2_plan_18 : decode cX2_plan 18 = .ok (.invokestatic 49, 3) := dk_184 0 49 (dk_at dksX2_plan_0 18 rfl rfl)
theorem dX2_plan_21 : decode cX2_plan 21 = .ok (.ifCond .eq 12, 3) := dk_153 0 12 (dk_at dksX2_plan_0 21 rfl rfl)
theorem dX2_plan_24 : decode cX2_plan 24 = .ok (.iload_n 2, 1) := dk_28 (dk_at dksX2_plan_1 0 rfl rfl)
theorem dX2_plan_25 : decode cX2_plan 25 = .ok (.iconst 0, 1) := dk_3 (dk_at dksX2_plan_1 1 rfl rfl)
theorem dX2_plan_26 : decode cX2_plan 26 = .ok (.iconst 5, 1) := dk_8 (dk_at dksX2_plan_1 2 rfl rfl)
theorem dX2_plan_27 : decode cX2_plan 27 = .ok (.invokestatic 49, 3) := dk_184 0 49 (dk_at dksX2_plan_1 3 rfl rfl)
theorem dX2_plan_30 : decode cX2_plan 30 = .ok (.ifCond .ne 6, 3) := dk_154 0 6 (dk_at dksX2_plan_1 6 rfl rfl)
theorem dX2_plan_33 : decode cX2_plan 33 = .ok (.bipush (-2), 2) := dk_16 254 (dk_at dksX2_plan_1 9 rfl rfl)
theorem dX2_plan_35 : decode cX2_plan 35 = .ok (.ireturn, 1) := dk_172 (dk_at dksX2_plan_1 11 rfl rfl)
theorem dX2_plan_36 : decode cX2_plan 36 = .ok (.aload_n 0, 1) := dk_42 (dk_at dksX2_plan_1 12 rfl rfl)
theorem dX2_plan_37 : decode cX2_plan 37 = .ok (.iload_n 3, 1) := dk_29 (dk_at dksX2_plan_1 13 rfl rfl)
theorem dX2_plan_38 : decode cX2_plan 38 = .ok (.invokevirtual 56, 3) := dk_182 0 56 (dk_at dksX2_plan_1 14 rfl rfl)
theorem dX2_plan_41 : decode cX2_plan 41 = .ok (.ifCond .ne 5, 3) := dk_154 0 5 (dk_at dksX2_plan_1 17 rfl rfl)
theorem dX2_plan_44 : decode cX2_plan 44 = .ok (.iconst (-1), 1) := dk_2 (dk_at dksX2_plan_1 20 rfl rfl)
theorem dX2_plan_45 : decode cX2_plan 45 = .ok (.ireturn, 1) := dk_172 (dk_at dksX2_plan_1 21 rfl rfl)
theorem dX2_plan_46 : decode cX2_plan 46 = .ok (.aload_n 0, 1) := dk_42 (dk_at dksX2_plan_1 22 rfl rfl)
theorem dX2_plan_47 : decode cX2_plan 47 = .ok (.getfield 7, 3) := dk_180 0 7 (dk_at dksX2_plan_2 0 rfl rfl)
theorem dX2_plan_50 : decode cX2_plan 50 = .ok (.bipush 9, 2) := dk_16 9 (dk_at dksX2_plan_2 3 rfl rfl)
theorem dX2_plan_52 : decode cX2_plan 52 = .ok (.iaload, 1) := dk_46 (dk_at dksX2_plan_2 5 rfl rfl)
theorem dX2_plan_53 : decode cX2_plan 53 = .ok (.bipush 60, 2) := dk_16 60 (dk_at dksX2_plan_2 6 rfl rfl)
theorem dX2_plan_55 : decode cX2_plan 55 = .ok (.if_icmp .ne 6, 3) := dk_160 0 6 (dk_at dksX2_plan_2 8 rfl rfl)
theorem dX2_plan_58 : decode cX2_plan 58 = .ok (.bipush (-4), 2) := dk_16 252 (dk_at dksX2_plan_2 11 rfl rfl)
theorem dX2_plan_60 : decode cX2_plan 60 = .ok (.ireturn, 1) := dk_172 (dk_at dksX2_plan_2 13 rfl rfl)
theorem dX2_plan_61 : decode cX2_plan 61 = .ok (.aload_n 0, 1) := dk_42 (dk_at dksX2_plan_2 14 rfl rfl)
theorem dX2_plan_62 : decode cX2_plan 62 = .ok (.iload_n 1, 1) := dk_27 (dk_at dksX2_plan_2 15 rfl rfl)
theorem dX2_plan_63 : decode cX2_plan 63 = .ok (.iload_n 2, 1) := dk_28 (dk_at dksX2_plan_2 16 rfl rfl)
theorem dX2_plan_64 : decode cX2_plan 64 = .ok (.invokevirtual 84, 3) := dk_182 0 84 (dk_at dksX2_plan_2 17 rfl rfl)
theorem dX2_plan_67 : decode cX2_plan 67 = .ok (.ifCond .ne 6, 3) := dk_154 0 6 (dk_at dksX2_plan_2 20 rfl rfl)
theorem dX2_plan_70 : decode cX2_plan 70 = .ok (.bipush (-5), 2) := dk_16 251 (dk_at dksX2_plan_3 0 rfl rfl)
theorem dX2_plan_72 : decode cX2_plan 72 = .ok (.ireturn, 1) := dk_172 (dk_at dksX2_plan_3 2 rfl rfl)
theorem dX2_plan_73 : decode cX2_plan 73 = .ok (.aload_n 0, 1) := dk_42 (dk_at dksX2_plan_3 3 rfl rfl)
theorem dX2_plan_74 : decode cX2_plan 74 = .ok (.invokevirtual 53, 3) := dk_182 0 53 (dk_at dksX2_plan_3 4 rfl rfl)
theorem dX2_plan_77 : decode cX2_plan 77 = .ok (.bipush 100, 2) := dk_16 100 (dk_at dksX2_plan_3 7 rfl rfl)
theorem dX2_plan_79 : decode cX2_plan 79 = .ok (.bipush 7, 2) := dk_16 7 (dk_at dksX2_plan_3 9 rfl rfl)
theorem dX2_plan_81 : decode cX2_plan 81 = .ok (.aload_n 0, 1) := dk_42 (dk_at dksX2_plan_3 11 rfl rfl)
theorem dX2_plan_82 : decode cX2_plan 82 = .ok (.getfield 7, 3) := dk_180 0 7 (dk_at dksX2_plan_3 12 rfl rfl)
theorem dX2_plan_85 : decode cX2_plan 85 = .ok (.bipush 9, 2) := dk_16 9 (dk_at dksX2_plan_3 15 rfl rfl)
theorem dX2_plan_87 : decode cX2_plan 87 = .ok (.iaload, 1) := dk_46 (dk_at dksX2_plan_3 17 rfl rfl)
theorem dX2_plan_88 : decode cX2_plan 88 = .ok (.imul, 1) := dk_104 (dk_at dksX2_plan_3 18 rfl rfl)
theorem dX2_plan_89 : decode cX2_plan 89 = .ok (.iadd, 1) := dk_96 (dk_at dksX2_plan_3 19 rfl rfl)
theorem dX2_plan_90 : decode cX2_plan 90 = .ok (.istore 4, 2) := dk_54 4 (dk_at dksX2_plan_3 20 rfl rfl)
theorem dX2_plan_92 : decode cX2_plan 92 = .ok (.aload_n 0, 1) := dk_42 (dk_at dksX2_plan_3 22 rfl rfl)
theorem dX2_plan_93 : decode cX2_plan 93 = .ok (.getfield 7, 3) := dk_180 0 7 (dk_at dksX2_plan_4 0 rfl rfl)
theorem dX2_plan_96 : decode cX2_plan 96 = .ok (.iload 4, 2) := dk_21 4 (dk_at dksX2_plan_4 3 rfl rfl)
theorem dX2_plan_98 : decode cX2_plan 98 = .ok (.iload_n 3, 1) := dk_29 (dk_at dksX2_plan_4 5 rfl rfl)
theorem dX2_plan_99 : decode cX2_plan 99 = .ok (.iastore, 1) := dk_79 (dk_at dksX2_plan_4 6 rfl rfl)
theorem dX2_plan_100 : decode cX2_plan 100 = .ok (.aload_n 0, 1) := dk_42 (dk_at dksX2_plan_4 7 rfl rfl)
theorem dX2_plan_101 : decode cX2_plan 101 = .ok (.getfield 7, 3) := dk_180 0 7 (dk_at dksX2_plan_4 8 rfl rfl)
theorem dX2_plan_104 : decode cX2_plan 104 = .ok (.iload 4, 2) := dk_21 4 (dk_at dksX2_plan_4 11 rfl rfl)
theorem dX2_plan_106 : decode cX2_plan 106 = .ok (.iconst 1, 1) := dk_4 (dk_at dksX2_plan_4 13 rfl rfl)
theorem dX2_plan_107 : decode cX2_plan 107 = .ok (.iadd, 1) := dk_96 (dk_at dksX2_plan_4 14 rfl rfl)
theorem dX2_plan_108 : decode cX2_plan 108 = .ok (.iload_n 1, 1) := dk_27 (dk_at dksX2_plan_4 15 rfl rfl)
theorem dX2_plan_109 : decode cX2_plan 109 = .ok (.iastore, 1) := dk_79 (dk_at dksX2_plan_4 16 rfl rfl)
theorem dX2_plan_110 : decode cX2_plan 110 = .ok (.aload_n 0, 1) := dk_42 (dk_at dksX2_plan_4 17 rfl rfl)
theorem dX2_plan_111 : decode cX2_plan 111 = .ok (.getfield 7, 3) := dk_180 0 7 (dk_at dksX2_plan_4 18 rfl rfl)
theorem dX2_plan_114 : decode cX2_plan 114 = .ok (.iload 4, 2) := dk_21 4 (dk_at dksX2_plan_4 21 rfl rfl)
theorem dX2_plan_116 : decode cX2_plan 116 = .ok (.iconst 2, 1) := dk_5 (dk_at dksX2_plan_4 23 rfl rfl)
theorem dX2_plan_117 : decode cX2_plan 117 = .ok (.iadd, 1) := dk_96 (dk_at dksX2_plan_5 0 rfl rfl)
theorem dX2_plan_118 : decode cX2_plan 118 = .ok (.iload_n 2, 1) := dk_28 (dk_at dksX2_plan_5 1 rfl rfl)
theorem dX2_plan_119 : decode cX2_plan 119 = .ok (.iastore, 1) := dk_79 (dk_at dksX2_plan_5 2 rfl rfl)
theorem dX2_plan_120 : decode cX2_plan 120 = .ok (.aload_n 0, 1) := dk_42 (dk_at dksX2_plan_5 3 rfl rfl)
theorem dX2_plan_121 : decode cX2_plan 121 = .ok (.getfield 7, 3) := dk_180 0 7 (dk_at dksX2_plan_5 4 rfl rfl)
theorem dX2_plan_124 : decode cX2_plan 124 = .ok (.iload 4, 2) := dk_21 4 (dk_at dksX2_plan_5 7 rfl rfl)
theorem dX2_plan_126 : decode cX2_plan 126 = .ok (.iconst 3, 1) := dk_6 (dk_at dksX2_plan_5 9 rfl rfl)
theorem dX2_plan_127 : decode cX2_plan 127 = .ok (.iadd, 1) := dk_96 (dk_at dksX2_plan_5 10 rfl rfl)
theorem dX2_plan_128 : decode cX2_plan 128 = .ok (.iconst 0, 1) := dk_3 (dk_at dksX2_plan_5 11 rfl rfl)
theorem dX2_plan_129 : decode cX2_plan 129 = .ok (.iastore, 1) := dk_79 (dk_at dksX2_plan_5 12 rfl rfl)
theorem dX2_plan_130 : decode cX2_plan 130 = .ok (.aload_n 0, 1) := dk_42 (dk_at dksX2_plan_5 13 rfl rfl)
theorem dX2_plan_131 : decode cX2_plan 131 = .ok (.getfield 7, 3) := dk_180 0 7 (dk_at dksX2_plan_5 14 rfl rfl)
theorem dX2_plan_134 : decode cX2_plan 134 = .ok (.iload 4, 2) := dk_21 4 (dk_at dksX2_plan_5 17 rfl rfl)
theorem dX2_plan_136 : decode cX2_plan 136 = .ok (.iconst 4, 1) := dk_7 (dk_at dksX2_plan_5 19 rfl rfl)
theorem dX2_plan_137 : decode cX2_plan 137 = .ok (.iadd, 1) := dk_96 (dk_at dksX2_plan_5 20 rfl rfl)
theorem dX2_plan_138 : decode cX2_plan 138 = .ok (.bipush (-6), 2) := dk_16 250 (dk_at dksX2_plan_5 21 rfl rfl)
theorem dX2_plan_140 : decode cX2_plan 140 = .ok (.iastore, 1) := dk_79 (dk_at dksX2_plan_5 23 rfl rfl)
theorem dX2_plan_141 : decode cX2_plan 141 = .ok (.aload_n 0, 1) := dk_42 (dk_at dksX2_plan_6 0 rfl rfl)
theorem dX2_plan_142 : decode cX2_plan 142 = .ok (.getfield 7, 3) := dk_180 0 7 (dk_at dksX2_plan_6 1 rfl rfl)
theorem dX2_plan_145 : decode cX2_plan 145 = .ok (.iload 4, 2) := dk_21 4 (dk_at dksX2_plan_6 4 rfl rfl)
theorem dX2_plan_147 : decode cX2_plan 147 = .ok (.iconst 5, 1) := dk_8 (dk_at dksX2_plan_6 6 rfl rfl)
theorem dX2_plan_148 : decode cX2_plan 148 = .ok (.iadd, 1) := dk_96 (dk_at dksX2_plan_6 7 rfl rfl)
theorem dX2_plan_149 : decode cX2_plan 149 = .ok (.iconst 0, 1) := dk_3 (dk_at dksX2_plan_6 8 rfl rfl)
theorem dX2_plan_150 : decode cX2_plan 150 = .ok (.iastore, 1) := dk_79 (dk_at dksX2_plan_6 9 rfl rfl)
theorem dX2_plan_151 : decode cX2_plan 151 = .ok (.aload_n 0, 1) := dk_42 (dk_at dksX2_plan_6 10 rfl rfl)
theorem dX2_plan_152 : decode cX2_plan 152 = .ok (.getfield 7, 3) := dk_180 0 7 (dk_at dksX2_plan_6 11 rfl rfl)
theorem dX2_plan_155 : decode cX2_plan 155 = .ok (.iload 4, 2) := dk_21 4 (dk_at dksX2_plan_6 14 rfl rfl)
theorem dX2_plan_157 : decode cX2_plan 157 = .ok (.bipush 6, 2) := dk_16 6 (dk_at dksX2_plan_6 16 rfl rfl)
theorem dX2_plan_159 : decode cX2_plan 159 = .ok (.iadd, 1) := dk_96 (dk_at dksX2_plan_6 18 rfl rfl)
theorem dX2_plan_160 : decode cX2_plan 160 = .ok (.iconst 0, 1) := dk_3 (dk_at dksX2_plan_6 19 rfl rfl)
theorem dX2_plan_161 : decode cX2_plan 161 = .ok (.iastore, 1) := dk_79 (dk_at dksX2_plan_6 20 rfl rfl)
theorem dX2_plan_162 : decode cX2_plan 162 = .ok (.aload_n 0, 1) := dk_42 (dk_at dksX2_plan_6 21 rfl rfl)
theorem dX2_plan_163 : decode cX2_plan 163 = .ok (.getfield 7, 3) := dk_180 0 7 (dk_at dksX2_plan_7 0 rfl rfl)
theorem dX2_plan_166 : decode cX2_plan 166 = .ok (.bipush 9, 2) := dk_16 9 (dk_at dksX2_plan_7 3 rfl rfl)
theorem dX2_plan_168 : decode cX2_plan 168 = .ok (.dup2, 1) := dk_92 (dk_at dksX2_plan_7 5 rfl rfl)
theorem dX2_plan_169 : decode cX2_plan 169 = .ok (.iaload, 1) := dk_46 (dk_at dksX2_plan_7 6 rfl rfl)
theorem dX2_plan_170 : decode cX2_plan 170 = .ok (.iconst 1, 1) := dk_4 (dk_at dksX2_plan_7 7 rfl rfl)
theorem dX2_plan_171 : decode cX2_plan 171 = .ok (.iadd, 1) := dk_96 (dk_at dksX2_plan_7 8 rfl rfl)
theorem dX2_plan_172 : decode cX2_plan 172 = .ok (.iastore, 1) := dk_79 (dk_at dksX2_plan_7 9 rfl rfl)
theorem dX2_plan_173 : decode cX2_plan 173 = .ok (.aload_n 0, 1) := dk_42 (dk_at dksX2_plan_7 10 rfl rfl)
theorem dX2_plan_174 : decode cX2_plan 174 = .ok (.getfield 7, 3) := dk_180 0 7 (dk_at dksX2_plan_7 11 rfl rfl)
theorem dX2_plan_177 : decode cX2_plan 177 = .ok (.bipush 9, 2) := dk_16 9 (dk_at dksX2_plan_7 14 rfl rfl)
theorem dX2_plan_179 : decode cX2_plan 179 = .ok (.iaload, 1) := dk_46 (dk_at dksX2_plan_7 16 rfl rfl)
theorem dX2_plan_180 : decode cX2_plan 180 = .ok (.iconst 1, 1) := dk_4 (dk_at dksX2_plan_7 17 rfl rfl)
theorem dX2_plan_181 : decode cX2_plan 181 = .ok (.isub, 1) := dk_100 (dk_at dksX2_plan_7 18 rfl rfl)
theorem dX2_plan_182 : decode cX2_plan 182 = .ok (.ireturn, 1) := dk_172 (dk_at dksX2_plan_7 19 rfl rfl)
abbrev cX2_isFree : ByteArray := prog_12_method_21_code
def yX2_isFree : MethodName := ⟨RX2, "isFree", "(II)Z"⟩
def dkwX2_isFree_0 : List UInt8 := [42, 27, 28, 182, 0, 78, 156, 0, 16, 42, 27, 28, 182, 0, 81, 156, 0, 7, 4, 167, 0, 4, 3, 172]
abbrev dktX2_isFree_0 : List UInt8 := dkwX2_isFree_0 ++ []
theorem dksX2_isFree_0 : cX2_isFree.data.toList.drop 0 = dktX2_isFree_0 := by decide +kernel
theorem dX2_isFree_0 : decode cX2_isFree 0 = .ok (.aload_n 0, 1) := dk_42 (dk_at dksX2_isFree_0 0 rfl rfl)
theorem dX2_isFree_1 : decode cX2_isFree 1 = .ok (.iload_n 1, 1) := dk_27 (dk_at dksX2_isFree_0 1 rfl rfl)
theorem dX2_isFree_2 : decode cX2_isFree 2 = .ok (.iload_n 2, 1) := dk_28 (dk_at dksX2_isFree_0 2 rfl rfl)
theorem dX2_isFree_3 : decode cX2_isFree 3 = .ok (.invokevirtual 78, 3) := dk_182 0 78 (dk_at dksX2_isFree_0 3 rfl rfl)
theorem dX2_isFree_6 : decode cX2_isFree 6 = .ok (.ifCond .ge 16, 3) := dk_156 0 16 (dk_at dksX2_isFree_0 6 rfl rfl)
theorem dX2_isFree_9 : decode cX2_isFree 9 = .ok (.aload_n 0, 1) := dk_42 (dk_at dksX2_isFree_0 9 rfl rfl)
theorem dX2_isFree_10 : decode cX2_isFree 10 = .ok (.iload_n 1, 1) := dk_27 (dk_at dksX2_isFree_0 10 rfl rfl)
theorem dX2_isFree_11 : decode cX2_isFree 11 = .ok (.iload_n 2, 1) := dk_28 (dk_at dksX2_isFree_0 11 rfl rfl)
theorem dX2_isFree_12 : decode cX2_isFree 12 = .ok (.invokevirtual 81, 3) := dk_182 0 81 (dk_at dksX2_isFree_0 12 rfl rfl)
theorem dX2_isFree_15 : decode cX2_isFree 15 = .ok (.ifCond .ge 7, 3) := dk_156 0 7 (dk_at dksX2_isFree_0 15 rfl rfl)
theorem dX2_isFree_18 : decode cX2_isFree 18 = .ok (.iconst 1, 1) := dk_4 (dk_at dksX2_isFree_0 18 rfl rfl)
theorem dX2_isFree_19 : decode cX2_isFree 19 = .ok (.goto 4, 3) := dk_167 0 4 (dk_at dksX2_isFree_0 19 rfl rfl)
theorem dX2_isFree_22 : decode cX2_isFree 22 = .ok (.iconst 0, 1) := dk_3 (dk_at dksX2_isFree_0 22 rfl rfl)
theorem dX2_isFree_23 : decode cX2_isFree 23 = .ok (.ireturn, 1) := dk_172 (dk_at dksX2_isFree_0 23 rfl rfl)
abbrev cX2_eventAt : ByteArray := prog_12_method_19_code
def yX2_eventAt : MethodName := ⟨RX2, "eventAt", "(II)I"⟩
def dkwX2_eventAt_4 : List UInt8 := [62, 132, 4, 1, 167, 255, 164, 29, 172]
abbrev dktX2_eventAt_4 : List UInt8 := dkwX2_eventAt_4 ++ []
def dkwX2_eventAt_3 : List UInt8 := [184, 0, 49, 153, 0, 7, 4, 167, 0, 4, 3, 54, 6, 21, 6, 153, 0, 8, 21, 4, 167, 0, 4, 29]
abbrev dktX2_eventAt_3 : List UInt8 := dkwX2_eventAt_3 ++ dktX2_eventAt_4
def dkwX2_eventAt_2 : List UInt8 := [46, 42, 180, 0, 7, 21, 5, 4, 96, 46, 42, 180, 0, 7, 21, 5, 5, 96, 46, 96, 4, 100]
abbrev dktX2_eventAt_2 : List UInt8 := dkwX2_eventAt_2 ++ dktX2_eventAt_3
def dkwX2_eventAt_1 : List UInt8 := [104, 96, 54, 5, 42, 180, 0, 7, 21, 5, 46, 27, 160, 0, 44, 28, 42, 180, 0, 7, 21, 5, 4, 96]
abbrev dktX2_eventAt_1 : List UInt8 := dkwX2_eventAt_1 ++ dktX2_eventAt_2
def dkwX2_eventAt_0 : List UInt8 := [16, 250, 62, 3, 54, 4, 21, 4, 42, 180, 0, 7, 16, 11, 46, 162, 0, 86, 17, 7, 8, 6, 21, 4]
abbrev dktX2_eventAt_0 : List UInt8 := dkwX2_eventAt_0 ++ dktX2_eventAt_1
theorem dksX2_eventAt_0 : cX2_eventAt.data.toList.drop 0 = dktX2_eventAt_0 := by decide +kernel
theorem dksX2_eventAt_1 : cX2_eventAt.data.toList.drop 24 = dktX2_eventAt_1 := dk_seg dksX2_eventAt_0 24 rfl rfl
theorem dksX2_eventAt_2 : cX2_eventAt.data.toList.drop 48 = dktX2_eventAt_2 := dk_seg dksX2_eventAt_1 24 rfl rfl
theorem dksX2_eventAt_3 : cX2_eventAt.data.toList.drop 70 = dktX2_eventAt_3 := dk_seg dksX2_eventAt_2 22 rfl rfl
theorem dksX2_eventAt_4 : cX2_eventAt.data.toList.drop 94 = dktX2_eventAt_4 := dk_seg dksX2_eventAt_3 24 rfl rfl
theorem dX2_eventAt_0 : decode cX2_eventAt 0 = .ok (.bipush (-6), 2) := dk_16 250 (dk_at dksX2_eventAt_0 0 rfl rfl)
theorem dX2_eventAt_2 : decode cX2_eventAt 2 = .ok (.istore_n 3, 1) := dk_62 (dk_at dksX2_eventAt_0 2 rfl rfl)
theorem dX2_eventAt_3 : decode cX2_eventAt 3 = .ok (.iconst 0, 1) := dk_3 (dk_at dksX2_eventAt_0 3 rfl rfl)
theorem dX2_eventAt_4 : decode cX2_eventAt 4 = .ok (.istore 4, 2) := dk_54 4 (dk_at dksX2_eventAt_0 4 rfl rfl)
theorem dX2_eventAt_6 : decode cX2_eventAt 6 = .ok (.iload 4, 2) := dk_21 4 (dk_at dksX2_eventAt_0 6 rfl rfl)
theorem dX2_eventAt_8 : decode cX2_eventAt 8 = .ok (.aload_n 0, 1) := dk_42 (dk_at dksX2_eventAt_0 8 rfl rfl)
theorem dX2_eventAt_9 : decode cX2_eventAt 9 = .ok (.getfield 7, 3) := dk_180 0 7 (dk_at dksX2_eventAt_0 9 rfl rfl)
theorem dX2_eventAt_12 : decode cX2_eventAt 12 = .ok (.bipush 11, 2) := dk_16 11 (dk_at dksX2_eventAt_0 12 rfl rfl)
theorem dX2_eventAt_14 : decode cX2_eventAt 14 = .ok (.iaload, 1) := dk_46 (dk_at dksX2_eventAt_0 14 rfl rfl)
theorem dX2_eventAt_15 : decode cX2_eventAt 15 = .ok (.if_icmp .ge 86, 3) := dk_162 0 86 (dk_at dksX2_eventAt_0 15 rfl rfl)
theorem dX2_eventAt_18 : decode cX2_eventAt 18 = .ok (.sipush 1800, 3) := dk_17 7 8 (dk_at dksX2_eventAt_0 18 rfl rfl)
theorem dX2_eventAt_21 : decode cX2_eventAt 21 = .ok (.iconst 3, 1) := dk_6 (dk_at dksX2_eventAt_0 21 rfl rfl)
theorem dX2_eventAt_22 : decode cX2_eventAt 22 = .ok (.iload 4, 2) := dk_21 4 (dk_at dksX2_eventAt_0 22 rfl rfl)
theorem dX2_eventAt_24 : decode cX2_eventAt 24 = .ok (.imul, 1) := dk_104 (dk_at dksX2_eventAt_1 0 rfl rfl)
theorem dX2_eventAt_25 : decode cX2_eventAt 25 = .ok (.iadd, 1) := dk_96 (dk_at dksX2_eventAt_1 1 rfl rfl)
theorem dX2_eventAt_26 : decode cX2_eventAt 26 = .ok (.istore 5, 2) := dk_54 5 (dk_at dksX2_eventAt_1 2 rfl rfl)
theorem dX2_eventAt_28 : decode cX2_eventAt 28 = .ok (.aload_n 0, 1) := dk_42 (dk_at dksX2_eventAt_1 4 rfl rfl)
theorem dX2_eventAt_29 : decode cX2_eventAt 29 = .ok (.getfield 7, 3) := dk_180 0 7 (dk_at dksX2_eventAt_1 5 rfl rfl)
theorem dX2_eventAt_32 : decode cX2_eventAt 32 = .ok (.iload 5, 2) := dk_21 5 (dk_at dksX2_eventAt_1 8 rfl rfl)
theorem dX2_eventAt_34 : decode cX2_eventAt 34 = .ok (.iaload, 1) := dk_46 (dk_at dksX2_eventAt_1 10 rfl rfl)
theorem dX2_eventAt_35 : decode cX2_eventAt 35 = .ok (.iload_n 1, 1) := dk_27 (dk_at dksX2_eventAt_1 11 rfl rfl)
theorem dX2_eventAt_36 : decode cX2_eventAt 36 = .ok (.if_icmp .ne 44, 3) := dk_160 0 44 (dk_at dksX2_eventAt_1 12 rfl rfl)
theorem dX2_eventAt_39 : decode cX2_eventAt 39 = .ok (.iload_n 2, 1) := dk_28 (dk_at dksX2_eventAt_1 15 rfl rfl)
theorem dX2_eventAt_40 : decode cX2_eventAt 40 = .ok (.aload_n 0, 1) := dk_42 (dk_at dksX2_eventAt_1 16 rfl rfl)
theorem dX2_eventAt_41 : decode cX2_eventAt 41 = .ok (.getfield 7, 3) := dk_180 0 7 (dk_at dksX2_eventAt_1 17 rfl rfl)
theorem dX2_eventAt_44 : decode cX2_eventAt 44 = .ok (.iload 5, 2) := dk_21 5 (dk_at dksX2_eventAt_1 20 rfl rfl)
theorem dX2_eventAt_46 : decode cX2_eventAt 46 = .ok (.iconst 1, 1) := dk_4 (dk_at dksX2_eventAt_1 22 rfl rfl)
theorem dX2_eventAt_47 : decode cX2_eventAt 47 = .ok (.iadd, 1) := dk_96 (dk_at dksX2_eventAt_1 23 rfl rfl)
theorem dX2_eventAt_48 : decode cX2_eventAt 48 = .ok (.iaload, 1) := dk_46 (dk_at dksX2_eventAt_2 0 rfl rfl)
theorem dX2_eventAt_49 : decode cX2_eventAt 49 = .ok (.aload_n 0, 1) := dk_42 (dk_at dksX2_eventAt_2 1 rfl rfl)
theorem dX2_eventAt_50 : decode cX2_eventAt 50 = .ok (.getfield 7, 3) := dk_180 0 7 (dk_at dksX2_eventAt_2 2 rfl rfl)
theorem dX2_eventAt_53 : decode cX2_eventAt 53 = .ok (.iload 5, 2) := dk_21 5 (dk_at dksX2_eventAt_2 5 rfl rfl)
theorem dX2_eventAt_55 : decode cX2_eventAt 55 = .ok (.iconst 1, 1) := dk_4 (dk_at dksX2_eventAt_2 7 rfl rfl)
theorem dX2_eventAt_56 : decode cX2_eventAt 56 = .ok (.iadd, 1) := dk_96 (dk_at dksX2_eventAt_2 8 rfl rfl)
theorem dX2_eventAt_57 : decode cX2_eventAt 57 = .ok (.iaload, 1) := dk_46 (dk_at dksX2_eventAt_2 9 rfl rfl)
theorem dX2_eventAt_58 : decode cX2_eventAt 58 = .ok (.aload_n 0, 1) := dk_42 (dk_at dksX2_eventAt_2 10 rfl rfl)
theorem dX2_eventAt_59 : decode cX2_eventAt 59 = .ok (.getfield 7, 3) := dk_180 0 7 (dk_at dksX2_eventAt_2 11 rfl rfl)
theorem dX2_eventAt_62 : decode cX2_eventAt 62 = .ok (.iload 5, 2) := dk_21 5 (dk_at dksX2_eventAt_2 14 rfl rfl)
theorem dX2_eventAt_64 : decode cX2_eventAt 64 = .ok (.iconst 2, 1) := dk_5 (dk_at dksX2_eventAt_2 16 rfl rfl)
theorem dX2_eventAt_65 : decode cX2_eventAt 65 = .ok (.iadd, 1) := dk_96 (dk_at dksX2_eventAt_2 17 rfl rfl)
theorem dX2_eventAt_66 : decode cX2_eventAt 66 = .ok (.iaload, 1) := dk_46 (dk_at dksX2_eventAt_2 18 rfl rfl)
theorem dX2_eventAt_67 : decode cX2_eventAt 67 = .ok (.iadd, 1) := dk_96 (dk_at dksX2_eventAt_2 19 rfl rfl)
theorem dX2_eventAt_68 : decode cX2_eventAt 68 = .ok (.iconst 1, 1) := dk_4 (dk_at dksX2_eventAt_2 20 rfl rfl)
theorem dX2_eventAt_69 : decode cX2_eventAt 69 = .ok (.isub, 1) := dk_100 (dk_at dksX2_eventAt_2 21 rfl rfl)
theorem dX2_eventAt_70 : decode cX2_eventAt 70 = .ok (.invokestatic 49, 3) := dk_184 0 49 (dk_at dksX2_eventAt_3 0 rfl rfl)
theorem dX2_eventAt_73 : decode cX2_eventAt 73 = .ok (.ifCond .eq 7, 3) := dk_153 0 7 (dk_at dksX2_eventAt_3 3 rfl rfl)
theorem dX2_eventAt_76 : decode cX2_eventAt 76 = .ok (.iconst 1, 1) := dk_4 (dk_at dksX2_eventAt_3 6 rfl rfl)
theorem dX2_eventAt_77 : decode cX2_eventAt 77 = .ok (.goto 4, 3) := dk_167 0 4 (dk_at dksX2_eventAt_3 7 rfl rfl)
theorem dX2_eventAt_80 : decode cX2_eventAt 80 = .ok (.iconst 0, 1) := dk_3 (dk_at dksX2_eventAt_3 10 rfl rfl)
theorem dX2_eventAt_81 : decode cX2_eventAt 81 = .ok (.istore 6, 2) := dk_54 6 (dk_at dksX2_eventAt_3 11 rfl rfl)
theorem dX2_eventAt_83 : decode cX2_eventAt 83 = .ok (.iload 6, 2) := dk_21 6 (dk_at dksX2_eventAt_3 13 rfl rfl)
theorem dX2_eventAt_85 : decode cX2_eventAt 85 = .ok (.ifCond .eq 8, 3) := dk_153 0 8 (dk_at dksX2_eventAt_3 15 rfl rfl)
theorem dX2_eventAt_88 : decode cX2_eventAt 88 = .ok (.iload 4, 2) := dk_21 4 (dk_at dksX2_eventAt_3 18 rfl rfl)
theorem dX2_eventAt_90 : decode cX2_eventAt 90 = .ok (.goto 4, 3) := dk_167 0 4 (dk_at dksX2_eventAt_3 20 rfl rfl)
theorem dX2_eventAt_93 : decode cX2_eventAt 93 = .ok (.iload_n 3, 1) := dk_29 (dk_at dksX2_eventAt_3 23 rfl rfl)
theorem dX2_eventAt_94 : decode cX2_eventAt 94 = .ok (.istore_n 3, 1) := dk_62 (dk_at dksX2_eventAt_4 0 rfl rfl)
theorem dX2_eventAt_95 : decode cX2_eventAt 95 = .ok (.iinc 4 1, 3) := dk_132 4 1 (dk_at dksX2_eventAt_4 1 rfl rfl)
theorem dX2_eventAt_98 : decode cX2_eventAt 98 = .ok (.goto (-92), 3) := dk_167 255 164 (dk_at dksX2_eventAt_4 4 rfl rfl)
theorem dX2_eventAt_101 : decode cX2_eventAt 101 = .ok (.iload_n 3, 1) := dk_29 (dk_at dksX2_eventAt_4 7 rfl rfl)
theorem dX2_eventAt_102 : decode cX2_eventAt 102 = .ok (.ireturn, 1) := dk_172 (dk_at dksX2_eventAt_4 8 rfl rfl)
abbrev cX2_plannedAt : ByteArray := prog_12_method_20_code
def yX2_plannedAt : MethodName := ⟨RX2, "plannedAt", "(II)I"⟩
def dkwX2_plannedAt_2 : List UInt8 := [28, 160, 0, 8, 21, 4, 167, 0, 4, 29, 62, 132, 4, 1, 167, 255, 202, 29, 172]
abbrev dktX2_plannedAt_2 : List UInt8 := dkwX2_plannedAt_2 ++ []
def dkwX2_plannedAt_1 : List UInt8 := [182, 0, 75, 154, 0, 30, 42, 21, 4, 4, 182, 0, 75, 27, 160, 0, 19, 42, 21, 4, 5, 182, 0, 75]
abbrev dktX2_plannedAt_1 : List UInt8 := dkwX2_plannedAt_1 ++ dktX2_plannedAt_2
def dkwX2_plannedAt_0 : List UInt8 := [16, 250, 62, 3, 54, 4, 21, 4, 42, 180, 0, 7, 16, 9, 46, 162, 0, 48, 42, 21, 4, 6]
abbrev dktX2_plannedAt_0 : List UInt8 := dkwX2_plannedAt_0 ++ dktX2_plannedAt_1
theorem dksX2_plannedAt_0 : cX2_plannedAt.data.toList.drop 0 = dktX2_plannedAt_0 := by decide +kernel
theorem dksX2_plannedAt_1 : cX2_plannedAt.data.toList.drop 22 = dktX2_plannedAt_1 := dk_seg dksX2_plannedAt_0 22 rfl rfl
theorem dksX2_plannedAt_2 : cX2_plannedAt.data.toList.drop 46 = dktX2_plannedAt_2 := dk_seg dksX2_plannedAt_1 24 rfl rfl
theorem dX2_plannedAt_0 : decode cX2_plannedAt 0 = .ok (.bipush (-6), 2) := dk_16 250 (dk_at dksX2_plannedAt_0 0 rfl rfl)
theorem dX2_plannedAt_2 : decode cX2_plannedAt 2 = .ok (.istore_n 3, 1) := dk_62 (dk_at dksX2_plannedAt_0 2 rfl rfl)
theorem dX2_plannedAt_3 : decode cX2_plannedAt 3 = .ok (.iconst 0, 1) := dk_3 (dk_at dksX2_plannedAt_0 3 rfl rfl)
theorem dX2_plannedAt_4 : decode cX2_plannedAt 4 = .ok (.istore 4, 2) := dk_54 4 (dk_at dksX2_plannedAt_0 4 rfl rfl)
theorem dX2_plannedAt_6 : decode cX2_plannedAt 6 = .ok (.iload 4, 2) := dk_21 4 (dk_at dksX2_plannedAt_0 6 rfl rfl)
theorem dX2_plannedAt_8 : decode cX2_plannedAt 8 = .ok (.aload_n 0, 1) := dk_42 (dk_at dksX2_plannedAt_0 8 rfl rfl)
theorem dX2_plannedAt_9 : decode cX2_plannedAt 9 = .ok (.getfield 7, 3) := dk_180 0 7 (dk_at dksX2_plannedAt_0 9 rfl rfl)
theorem dX2_plannedAt_12 : decode cX2_plannedAt 12 = .ok (.bipush 9, 2) := dk_16 9 (dk_at dksX2_plannedAt_0 12 rfl rfl)
theorem dX2_plannedAt_14 : decode cX2_plannedAt 14 = .ok (.iaload, 1) := dk_46 (dk_at dksX2_plannedAt_0 14 rfl rfl)
theorem dX2_plannedAt_15 : decode cX2_plannedAt 15 = .ok (.if_icmp .ge 48, 3) := dk_162 0 48 (dk_at dksX2_plannedAt_0 15 rfl rfl)
theorem dX2_plannedAt_18 : decode cX2_plannedAt 18 = .ok (.aload_n 0, 1) := dk_42 (dk_at dksX2_plannedAt_0 18 rfl rfl)
theorem dX2_plannedAt_19 : decode cX2_plannedAt 19 = .ok (.iload 4, 2) := dk_21 4 (dk_at dksX2_plannedAt_0 19 rfl rfl)
theorem dX2_plannedAt_21 : decode cX2_plannedAt 21 = .ok (.iconst 3, 1) := dk_6 (dk_at dksX2_plannedAt_0 21 rfl rfl)
theorem dX2_plannedAt_22 : decode cX2_plannedAt 22 = .ok (.invokevirtual 75, 3) := dk_182 0 75 (dk_at dksX2_plannedAt_1 0 rfl rfl)
theorem dX2_plannedAt_25 : decode cX2_plannedAt 25 = .ok (.ifCond .ne 30, 3) := dk_154 0 30 (dk_at dksX2_plannedAt_1 3 rfl rfl)
theorem dX2_plannedAt_28 : decode cX2_plannedAt 28 = .ok (.aload_n 0, 1) := dk_42 (dk_at dksX2_plannedAt_1 6 rfl rfl)
theorem dX2_plannedAt_29 : decode cX2_plannedAt 29 = .ok (.iload 4, 2) := dk_21 4 (dk_at dksX2_plannedAt_1 7 rfl rfl)
theorem dX2_plannedAt_31 : decode cX2_plannedAt 31 = .ok (.iconst 1, 1) := dk_4 (dk_at dksX2_plannedAt_1 9 rfl rfl)
theorem dX2_plannedAt_32 : decode cX2_plannedAt 32 = .ok (.invokevirtual 75, 3) := dk_182 0 75 (dk_at dksX2_plannedAt_1 10 rfl rfl)
theorem dX2_plannedAt_35 : decode cX2_plannedAt 35 = .ok (.iload_n 1, 1) := dk_27 (dk_at dksX2_plannedAt_1 13 rfl rfl)
theorem dX2_plannedAt_36 : decode cX2_plannedAt 36 = .ok (.if_icmp .ne 19, 3) := dk_160 0 19 (dk_at dksX2_plannedAt_1 14 rfl rfl)
theorem dX2_plannedAt_39 : decode cX2_plannedAt 39 = .ok (.aload_n 0, 1) := dk_42 (dk_at dksX2_plannedAt_1 17 rfl rfl)
theorem dX2_plannedAt_40 : decode cX2_plannedAt 40 = .ok (.iload 4, 2) := dk_21 4 (dk_at dksX2_plannedAt_1 18 rfl rfl)
theorem dX2_plannedAt_42 : decode cX2_plannedAt 42 = .ok (.iconst 2, 1) := dk_5 (dk_at dksX2_plannedAt_1 20 rfl rfl)
theorem dX2_plannedAt_43 : decode cX2_plannedAt 43 = .ok (.invokevirtual 75, 3) := dk_182 0 75 (dk_at dksX2_plannedAt_1 21 rfl rfl)
theorem dX2_plannedAt_46 : decode cX2_plannedAt 46 = .ok (.iload_n 2, 1) := dk_28 (dk_at dksX2_plannedAt_2 0 rfl rfl)
theorem dX2_plannedAt_47 : decode cX2_plannedAt 47 = .ok (.if_icmp .ne 8, 3) := dk_160 0 8 (dk_at dksX2_plannedAt_2 1 rfl rfl)
theorem dX2_plannedAt_50 : decode cX2_plannedAt 50 = .ok (.iload 4, 2) := dk_21 4 (dk_at dksX2_plannedAt_2 4 rfl rfl)
theorem dX2_plannedAt_52 : decode cX2_plannedAt 52 = .ok (.goto 4, 3) := dk_167 0 4 (dk_at dksX2_plannedAt_2 6 rfl rfl)
theorem dX2_plannedAt_55 : decode cX2_plannedAt 55 = .ok (.iload_n 3, 1) := dk_29 (dk_at dksX2_plannedAt_2 9 rfl rfl)
theorem dX2_plannedAt_56 : decode cX2_plannedAt 56 = .ok (.istore_n 3, 1) := dk_62 (dk_at dksX2_plannedAt_2 10 rfl rfl)
theorem dX2_plannedAt_57 : decode cX2_plannedAt 57 = .ok (.iinc 4 1, 3) := dk_132 4 1 (dk_at dksX2_plannedAt_2 11 rfl rfl)
theorem dX2_plannedAt_60 : decode cX2_plannedAt 60 = .ok (.goto (-54), 3) := dk_167 255 202 (dk_at dksX2_plannedAt_2 14 rfl rfl)
theorem dX2_plannedAt_63 : decode cX2_plannedAt 63 = .ok (.iload_n 3, 1) := dk_29 (dk_at dksX2_plannedAt_2 17 rfl rfl)
theorem dX2_plannedAt_64 : decode cX2_plannedAt 64 = .ok (.ireturn, 1) := dk_172 (dk_at dksX2_plannedAt_2 18 rfl rfl)
abbrev cX2_ofShow : ByteArray := prog_12_method_18_code
def yX2_ofShow : MethodName := ⟨RX2, "ofShow", "(II)I"⟩
def dkwX2_ofShow_0 : List UInt8 := [42, 180, 0, 7, 16, 100, 16, 7, 27, 104, 96, 28, 96, 46, 172]
abbrev dktX2_ofShow_0 : List UInt8 := dkwX2_ofShow_0 ++ []
theorem dksX2_ofShow_0 : cX2_ofShow.data.toList.drop 0 = dktX2_ofShow_0 := by decide +kernel
theorem dX2_ofShow_0 : decode cX2_ofShow 0 = .ok (.aload_n 0, 1) := dk_42 (dk_at dksX2_ofShow_0 0 rfl rfl)
theorem dX2_ofShow_1 : decode cX2_ofShow 1 = .ok (.getfield 7, 3) := dk_180 0 7 (dk_at dksX2_ofShow_0 1 rfl rfl)
theorem dX2_ofShow_4 : decode cX2_ofShow 4 = .ok (.bipush 100, 2) := dk_16 100 (dk_at dksX2_ofShow_0 4 rfl rfl)
theorem dX2_ofShow_6 : decode cX2_ofShow 6 = .ok (.bipush 7, 2) := dk_16 7 (dk_at dksX2_ofShow_0 6 rfl rfl)
theorem dX2_ofShow_8 : decode cX2_ofShow 8 = .ok (.iload_n 1, 1) := dk_27 (dk_at dksX2_ofShow_0 8 rfl rfl)
theorem dX2_ofShow_9 : decode cX2_ofShow 9 = .ok (.imul, 1) := dk_104 (dk_at dksX2_ofShow_0 9 rfl rfl)
theorem dX2_ofShow_10 : decode cX2_ofShow 10 = .ok (.iadd, 1) := dk_96 (dk_at dksX2_ofShow_0 10 rfl rfl)
theorem dX2_ofShow_11 : decode cX2_ofShow 11 = .ok (.iload_n 2, 1) := dk_28 (dk_at dksX2_ofShow_0 11 rfl rfl)
theorem dX2_ofShow_12 : decode cX2_ofShow 12 = .ok (.iadd, 1) := dk_96 (dk_at dksX2_ofShow_0 12 rfl rfl)
theorem dX2_ofShow_13 : decode cX2_ofShow 13 = .ok (.iaload, 1) := dk_46 (dk_at dksX2_ofShow_0 13 rfl rfl)
theorem dX2_ofShow_14 : decode cX2_ofShow 14 = .ok (.ireturn, 1) := dk_172 (dk_at dksX2_ofShow_0 14 rfl rfl)
abbrev cX2_book : ByteArray := prog_12_method_32_code
def yX2_book : MethodName := ⟨RX2, "book", "(IIII)I"⟩
def dkwX2_book_15 : List UInt8 := [180, 0, 7, 16, 10, 46, 4, 100, 172]
abbrev dktX2_book_15 : List UInt8 := dkwX2_book_15 ++ []
def dkwX2_book_14 : List UInt8 := [21, 7, 21, 9, 100, 54, 7, 167, 255, 180, 42, 180, 0, 7, 16, 10, 92, 46, 4, 96, 79, 42]
abbrev dktX2_book_14 : List UInt8 := dkwX2_book_14 ++ dktX2_book_15
def dkwX2_book_13 : List UInt8 := [16, 8, 96, 21, 8, 96, 92, 46, 21, 9, 96, 79, 42, 180, 0, 29, 21, 8, 92, 46, 21, 9, 100, 79]
abbrev dktX2_book_13 : List UInt8 := dkwX2_book_13 ++ dktX2_book_14
def dkwX2_book_12 : List UInt8 := [162, 0, 13, 42, 180, 0, 29, 21, 8, 46, 167, 0, 5, 21, 7, 54, 9, 42, 180, 0, 7, 21, 5]
abbrev dktX2_book_12 : List UInt8 := dkwX2_book_12 ++ dktX2_book_13
def dkwX2_book_11 : List UInt8 := [21, 7, 158, 0, 77, 42, 21, 7, 182, 0, 107, 54, 8, 42, 180, 0, 29, 21, 8, 46, 21, 7]
abbrev dktX2_book_11 : List UInt8 := dkwX2_book_11 ++ dktX2_book_12
def dkwX2_book_10 : List UInt8 := [42, 180, 0, 7, 21, 5, 16, 8, 96, 21, 7, 96, 3, 79, 132, 7, 1, 167, 255, 232, 28, 54, 7]
abbrev dktX2_book_10 : List UInt8 := dkwX2_book_10 ++ dktX2_book_11
def dkwX2_book_9 : List UInt8 := [96, 3, 79, 42, 180, 0, 7, 21, 5, 16, 7, 96, 3, 79, 3, 54, 7, 21, 7, 16, 8, 162, 0, 23]
abbrev dktX2_book_9 : List UInt8 := dkwX2_book_9 ++ dktX2_book_10
def dkwX2_book_8 : List UInt8 := [180, 0, 7, 7, 46, 104, 16, 100, 108, 167, 0, 5, 21, 6, 104, 79, 42, 180, 0, 7, 21, 5, 16, 6]
abbrev dktX2_book_8 : List UInt8 := dkwX2_book_8 ++ dktX2_book_9
def dkwX2_book_7 : List UInt8 := [21, 5, 7, 96, 3, 79, 42, 180, 0, 7, 21, 5, 8, 96, 28, 29, 155, 0, 18, 21, 6, 42]
abbrev dktX2_book_7 : List UInt8 := dkwX2_book_7 ++ dktX2_book_8
def dkwX2_book_6 : List UInt8 := [180, 0, 7, 21, 5, 5, 96, 29, 79, 42, 180, 0, 7, 21, 5, 6, 96, 21, 4, 79, 42, 180, 0, 7]
abbrev dktX2_book_6 : List UInt8 := dkwX2_book_6 ++ dktX2_book_7
def dkwX2_book_5 : List UInt8 := [46, 54, 6, 42, 180, 0, 7, 21, 5, 27, 79, 42, 180, 0, 7, 21, 5, 4, 96, 28, 79, 42]
abbrev dktX2_book_5 : List UInt8 := dkwX2_book_5 ++ dktX2_book_6
def dkwX2_book_4 : List UInt8 := [16, 10, 46, 104, 96, 54, 5, 42, 180, 0, 7, 16, 20, 6, 42, 27, 3, 182, 0, 75, 104, 96, 5, 96]
abbrev dktX2_book_4 : List UInt8 := dkwX2_book_4 ++ dktX2_book_5
def dkwX2_book_3 : List UInt8 := [154, 0, 6, 16, 251, 172, 42, 182, 0, 53, 42, 27, 182, 0, 103, 17, 2, 8, 16, 16, 42, 180, 0, 7]
abbrev dktX2_book_3 : List UInt8 := dkwX2_book_3 ++ dktX2_book_4
def dkwX2_book_2 : List UInt8 := [172, 42, 180, 0, 7, 16, 10, 46, 16, 80, 160, 0, 6, 16, 252, 172, 42, 27, 28, 182, 0, 100]
abbrev dktX2_book_2 : List UInt8 := dkwX2_book_2 ++ dktX2_book_3
def dkwX2_book_1 : List UInt8 := [159, 0, 12, 29, 3, 8, 184, 0, 49, 153, 0, 13, 21, 4, 3, 4, 184, 0, 49, 154, 0, 6, 16, 254]
abbrev dktX2_book_1 : List UInt8 := dkwX2_book_1 ++ dktX2_book_2
def dkwX2_book_0 : List UInt8 := [42, 27, 182, 0, 97, 154, 0, 5, 2, 172, 28, 4, 16, 40, 184, 0, 49, 153, 0, 28, 29, 16, 250]
abbrev dktX2_book_0 : List UInt8 := dkwX2_book_0 ++ dktX2_book_1
theorem dksX2_book_0 : cX2_book.data.toList.drop 0 = dktX2_book_0 := by decide +kernel
theorem dksX2_book_1 : cX2_book.data.toList.drop 23 = dktX2_book_1 := dk_seg dksX2_book_0 23 rfl rfl
theorem dksX2_book_2 : cX2_book.data.toList.drop 47 = dktX2_book_2 := dk_seg dksX2_book_1 24 rfl rfl
theorem dksX2_book_3 : cX2_book.data.toList.drop 69 = dktX2_book_3 := dk_seg dksX2_book_2 22 rfl rfl
theorem dksX2_book_4 : cX2_book.data.toList.drop 93 = dktX2_book_4 := dk_seg dksX2_book_3 24 rfl rfl
theorem dksX2_book_5 : cX2_book.data.toList.drop 117 = dktX2_book_5 := dk_seg dksX2_book_4 24 rfl rfl
theorem dksX2_book_6 : cX2_book.data.toList.drop 139 = dktX2_book_6 := dk_seg dksX2_book_5 22 rfl rfl
theorem dksX2_book_7 : cX2_book.data.toList.drop 163 = dktX2_book_7 := dk_seg dksX2_book_6 24 rfl rfl
theorem dksX2_book_8 : cX2_book.data.toList.drop 185 = dktX2_book_8 := dk_seg dksX2_book_7 22 rfl rfl
theorem dksX2_book_9 : cX2_book.data.toList.drop 209 = dktX2_book_9 := dk_seg dksX2_book_8 24 rfl rfl
theorem dksX2_book_10 : cX2_book.data.toList.drop 233 = dktX2_book_10 := dk_seg dksX2_book_9 24 rfl rfl
theorem dksX2_book_11 : cX2_book.data.toList.drop 256 = dktX2_book_11 := dk_seg dksX2_book_10 23 rfl rfl
theorem dksX2_book_12 : cX2_book.data.toList.drop 278 = dktX2_book_12 := dk_seg dksX2_book_11 22 rfl rfl
theorem dksX2_book_13 : cX2_book.data.toList.drop 301 = dktX2_book_13 := dk_seg dksX2_book_12 23 rfl rfl
theorem dksX2_book_14 : cX2_book.data.toList.drop 325 = dktX2_book_14 := dk_seg dksX2_book_13 24 rfl rfl
theorem dksX2_book_15 : cX2_book.data.toList.drop 347 = dktX2_book_15 := dk_seg dksX2_book_14 22 rfl rfl
theorem dX2_book_0 : decode cX2_book 0 = .ok (.aload_n 0, 1) := dk_42 (dk_at dksX2_book_0 0 rfl rfl)
theorem dX2_book_1 : decode cX2_book 1 = .ok (.iload_n 1, 1) := dk_27 (dk_at dksX2_book_0 1 rfl rfl)
theorem dX2_book_2 : decode cX2_book 2 = .ok (.invokevirtual 97, 3) := dk_182 0 97 (dk_at dksX2_book_0 2 rfl rfl)
theorem dX2_book_5 : decode cX2_book 5 = .ok (.ifCond .ne 5, 3) := dk_154 0 5 (dk_at dksX2_book_0 5 rfl rfl)
theorem dX2_book_8 : decode cX2_book 8 = .ok (.iconst (-1), 1) := dk_2 (dk_at dksX2_book_0 8 rfl rfl)
theorem dX2_book_9 : decode cX2_book 9 = .ok (.ireturn, 1) := dk_172 (dk_at dksX2_book_0 9 rfl rfl)
theorem dX2_book_10 : decode cX2_book 10 = .ok (.iload_n 2, 1) := dk_28 (dk_at dksX2_book_0 10 rfl rfl)
theorem dX2_book_11 : decode cX2_book 11 = .ok (.iconst 1, 1) := dk_4 (dk_at dksX2_book_0 11 rfl rfl)
theorem dX2_book_12 : decode cX2_book 12 = .ok (.bipush 40, 2) := dk_16 40 (dk_at dksX2_book_0 12 rfl rfl)
theorem dX2_book_14 : decode cX2_book 14 = .ok (.invokestatic 49, 3) := dk_184 0 49 (dk_at dksX2_book_0 14 rfl rfl)
theorem dX2_book_17 : decode cX2_book 17 = .ok (.ifCond .eq 28, 3) := dk_153 0 28 (dk_at dksX2_book_0 17 rfl rfl)
theorem dX2_book_20 : decode cX2_book 20 = .ok (.iload_n 3, 1) := dk_29 (dk_at dksX2_book_0 20 rfl rfl)
theorem dX2_book_21 : decode cX2_book 21 = .ok (.bipush (-6), 2) := dk_16 250 (dk_at dksX2_book_0 21 rfl rfl)
theorem dX2_book_23 : decode cX2_book 23 = .ok (.if_icmp .eq 12, 3) := dk_159 0 12 (dk_at dksX2_book_1 0 rfl rfl)
theorem dX2_book_26 : decode cX2_book 26 = .ok (.iload_n 3, 1) := dk_29 (dk_at dksX2_book_1 3 rfl rfl)
theorem dX2_book_27 : decode cX2_book 27 = .ok (.iconst 0, 1) := dk_3 (dk_at dksX2_book_1 4 rfl rfl)
theorem dX2_book_28 : decode cX2_book 28 = .ok (.iconst 5, 1) := dk_8 (dk_at dksX2_book_1 5 rfl rfl)
theorem dX2_book_29 : decode cX2_book 29 = .ok (.invokestatic 49, 3) := dk_184 0 49 (dk_at dksX2_book_1 6 rfl rfl)
theorem dX2_book_32 : decode cX2_book 32 = .ok (.ifCond .eq 13, 3) := dk_153 0 13 (dk_at dksX2_book_1 9 rfl rfl)
theorem dX2_book_35 : decode cX2_book 35 = .ok (.iload 4, 2) := dk_21 4 (dk_at dksX2_book_1 12 rfl rfl)
theorem dX2_book_37 : decode cX2_book 37 = .ok (.iconst 0, 1) := dk_3 (dk_at dksX2_book_1 14 rfl rfl)
theorem dX2_book_38 : decode cX2_book 38 = .ok (.iconst 1, 1) := dk_4 (dk_at dksX2_book_1 15 rfl rfl)
theorem dX2_book_39 : decode cX2_book 39 = .ok (.invokestatic 49, 3) := dk_184 0 49 (dk_at dksX2_book_1 16 rfl rfl)
theorem dX2_book_42 : decode cX2_book 42 = .ok (.ifCond .ne 6, 3) := dk_154 0 6 (dk_at dksX2_book_1 19 rfl rfl)
theorem dX2_book_45 : decode cX2_book 45 = .ok (.bipush (-2), 2) := dk_16 254 (dk_at dksX2_book_1 22 rfl rfl)
theorem dX2_book_47 : decode cX2_book 47 = .ok (.ireturn, 1) := dk_172 (dk_at dksX2_book_2 0 rfl rfl)
theorem dX2_book_48 : decode cX2_book 48 = .ok (.aload_n 0, 1) := dk_42 (dk_at dksX2_book_2 1 rfl rfl)
theorem dX2_book_49 : decode cX2_book 49 = .ok (.getfield 7, 3) := dk_180 0 7 (dk_at dksX2_book_2 2 rfl rfl)
theorem dX2_book_52 : decode cX2_book 52 = .ok (.bipush 10, 2) := dk_16 10 (dk_at dksX2_book_2 5 rfl rfl)
theorem dX2_book_54 : decode cX2_book 54 = .ok (.iaload, 1) := dk_46 (dk_at dksX2_book_2 7 rfl rfl)
theorem dX2_book_55 : decode cX2_book 55 = .ok (.bipush 80, 2) := dk_16 80 (dk_at dksX2_book_2 8 rfl rfl)
theorem dX2_book_57 : decode cX2_book 57 = .ok (.if_icmp .ne 6, 3) := dk_160 0 6 (dk_at dksX2_book_2 10 rfl rfl)
theorem dX2_book_60 : decode cX2_book 60 = .ok (.bipush (-4), 2) := dk_16 252 (dk_at dksX2_book_2 13 rfl rfl)
theorem dX2_book_62 : decode cX2_book 62 = .ok (.ireturn, 1) := dk_172 (dk_at dksX2_book_2 15 rfl rfl)
theorem dX2_book_63 : decode cX2_book 63 = .ok (.aload_n 0, 1) := dk_42 (dk_at dksX2_book_2 16 rfl rfl)
theorem dX2_book_64 : decode cX2_book 64 = .ok (.iload_n 1, 1) := dk_27 (dk_at dksX2_book_2 17 rfl rfl)
theorem dX2_book_65 : decode cX2_book 65 = .ok (.iload_n 2, 1) := dk_28 (dk_at dksX2_book_2 18 rfl rfl)
theorem dX2_book_66 : decode cX2_book 66 = .ok (.invokevirtual 100, 3) := dk_182 0 100 (dk_at dksX2_book_2 19 rfl rfl)
theorem dX2_book_69 : decode cX2_book 69 = .ok (.ifCond .ne 6, 3) := dk_154 0 6 (dk_at dksX2_book_3 0 rfl rfl)
theorem dX2_book_72 : decode cX2_book 72 = .ok (.bipush (-5), 2) := dk_16 251 (dk_at dksX2_book_3 3 rfl rfl)
theorem dX2_book_74 : decode cX2_book 74 = .ok (.ireturn, 1) := dk_172 (dk_at dksX2_book_3 5 rfl rfl)
theorem dX2_book_75 : decode cX2_book 75 = .ok (.aload_n 0, 1) := dk_42 (dk_at dksX2_book_3 6 rfl rfl)
theorem dX2_book_76 : decode cX2_book 76 = .ok (.invokevirtual 53, 3) := dk_182 0 53 (dk_at dksX2_book_3 7 rfl rfl)
theorem dX2_book_79 : decode cX2_book 79 = .ok (.aload_n 0, 1) := dk_42 (dk_at dksX2_book_3 10 rfl rfl)
theorem dX2_book_80 : decode cX2_book 80 = .ok (.iload_n 1, 1) := dk_27 (dk_at dksX2_book_3 11 rfl rfl)
theorem dX2_book_81 : decode cX2_book 81 = .ok (.invokevirtual 103, 3) := dk_182 0 103 (dk_at dksX2_book_3 12 rfl rfl)
theorem dX2_book_84 : decode cX2_book 84 = .ok (.sipush 520, 3) := dk_17 2 8 (dk_at dksX2_book_3 15 rfl rfl)
theorem dX2_book_87 : decode cX2_book 87 = .ok (.bipush 16, 2) := dk_16 16 (dk_at dksX2_book_3 18 rfl rfl)
theorem dX2_book_89 : decode cX2_book 89 = .ok (.aload_n 0, 1) := dk_42 (dk_at dksX2_book_3 20 rfl rfl)
theorem dX2_book_90 : decode cX2_book 90 = .ok (.getfield 7, 3) := dk_180 0 7 (dk_at dksX2_book_3 21 rfl rfl)
theorem dX2_book_93 : decode cX2_book 93 = .ok (.bipush 10, 2) := dk_16 10 (dk_at dksX2_book_4 0 rfl rfl)
theorem dX2_book_95 : decode cX2_book 95 = .ok (.iaload, 1) := dk_46 (dk_at dksX2_book_4 2 rfl rfl)
theorem dX2_book_96 : decode cX2_book 96 = .ok (.imul, 1) := dk_104 (dk_at dksX2_book_4 3 rfl rfl)
theorem dX2_book_97 : decode cX2_book 97 = .ok (.iadd, 1) := dk_96 (dk_at dksX2_book_4 4 rfl rfl)
theorem dX2_book_98 : decode cX2_book 98 = .ok (.istore 5, 2) := dk_54 5 (dk_at dksX2_book_4 5 rfl rfl)
theorem dX2_book_100 : decode cX2_book 100 = .ok (.aload_n 0, 1) := dk_42 (dk_at dksX2_book_4 7 rfl rfl)
theorem dX2_book_101 : decode cX2_book 101 = .ok (.getfield 7, 3) := dk_180 0 7 (dk_at dksX2_book_4 8 rfl rfl)
theorem dX2_book_104 : decode cX2_book 104 = .ok (.bipush 20, 2) := dk_16 20 (dk_at dksX2_book_4 11 rfl rfl)
theorem dX2_book_106 : decode cX2_book 106 = .ok (.iconst 3, 1) := dk_6 (dk_at dksX2_book_4 13 rfl rfl)
theorem dX2_book_107 : decode cX2_book 107 = .ok (.aload_n 0, 1) := dk_42 (dk_at dksX2_book_4 14 rfl rfl)
theorem dX2_book_108 : decode cX2_book 108 = .ok (.iload_n 1, 1) := dk_27 (dk_at dksX2_book_4 15 rfl rfl)
theorem dX2_book_109 : decode cX2_book 109 = .ok (.iconst 0, 1) := dk_3 (dk_at dksX2_book_4 16 rfl rfl)
theorem dX2_book_110 : decode cX2_book 110 = .ok (.invokevirtual 75, 3) := dk_182 0 75 (dk_at dksX2_book_4 17 rfl rfl)
theorem dX2_book_113 : decode cX2_book 113 = .ok (.imul, 1) := dk_104 (dk_at dksX2_book_4 20 rfl rfl)
theorem dX2_book_114 : decode cX2_book 114 = .ok (.iadd, 1) := dk_96 (dk_at dksX2_book_4 21 rfl rfl)
theorem dX2_book_115 : decode cX2_book 115 = .ok (.iconst 2, 1) := dk_5 (dk_at dksX2_book_4 22 rfl rfl)
theorem dX2_book_116 : decode cX2_book 116 = .ok (.iadd, 1) := dk_96 (dk_at dksX2_book_4 23 rfl rfl)
theorem dX2_book_117 : decode cX2_book 117 = .ok (.iaload, 1) := dk_46 (dk_at dksX2_book_5 0 rfl rfl)
theorem dX2_book_118 : decode cX2_book 118 = .ok (.istore 6, 2) := dk_54 6 (dk_at dksX2_book_5 1 rfl rfl)
theorem dX2_book_120 : decode cX2_book 120 = .ok (.aload_n 0, 1) := dk_42 (dk_at dksX2_book_5 3 rfl rfl)
theorem dX2_book_121 : decode cX2_book 121 = .ok (.getfield 7, 3) := dk_180 0 7 (dk_at dksX2_book_5 4 rfl rfl)
theorem dX2_book_124 : decode cX2_book 124 = .ok (.iload 5, 2) := dk_21 5 (dk_at dksX2_book_5 7 rfl rfl)
theorem dX2_book_126 : decode cX2_book 126 = .ok (.iload_n 1, 1) := dk_27 (dk_at dksX2_book_5 9 rfl rfl)
theorem dX2_book_127 : decode cX2_book 127 = .ok (.iastore, 1) := dk_79 (dk_at dksX2_book_5 10 rfl rfl)
theorem dX2_book_128 : decode cX2_book 128 = .ok (.aload_n 0, 1) := dk_42 (dk_at dksX2_book_5 11 rfl rfl)
theorem dX2_book_129 : decode cX2_book 129 = .ok (.getfield 7, 3) := dk_180 0 7 (dk_at dksX2_book_5 12 rfl rfl)
theorem dX2_book_132 : decode cX2_book 132 = .ok (.iload 5, 2) := dk_21 5 (dk_at dksX2_book_5 15 rfl rfl)
theorem dX2_book_134 : decode cX2_book 134 = .ok (.iconst 1, 1) := dk_4 (dk_at dksX2_book_5 17 rfl rfl)
theorem dX2_book_135 : decode cX2_book 135 = .ok (.iadd, 1) := dk_96 (dk_at dksX2_book_5 18 rfl rfl)
theorem dX2_book_136 : decode cX2_book 136 = .ok (.iload_n 2, 1) := dk_28 (dk_at dksX2_book_5 19 rfl rfl)
theorem dX2_book_137 : decode cX2_book 137 = .ok (.iastore, 1) := dk_79 (dk_at dksX2_book_5 20 rfl rfl)
theorem dX2_book_138 : decode cX2_book 138 = .ok (.aload_n 0, 1) := dk_42 (dk_at dksX2_book_5 21 rfl rfl)
theorem dX2_book_139 : decode cX2_book 139 = .ok (.getfield 7, 3) := dk_180 0 7 (dk_at dksX2_book_6 0 rfl rfl)
theorem dX2_book_142 : decode cX2_book 142 = .ok (.iload 5, 2) := dk_21 5 (dk_at dksX2_book_6 3 rfl rfl)
theorem dX2_book_144 : decode cX2_book 144 = .ok (.iconst 2, 1) := dk_5 (dk_at dksX2_book_6 5 rfl rfl)
theorem dX2_book_145 : decode cX2_book 145 = .ok (.iadd, 1) := dk_96 (dk_at dksX2_book_6 6 rfl rfl)
theorem dX2_book_146 : decode cX2_book 146 = .ok (.iload_n 3, 1) := dk_29 (dk_at dksX2_book_6 7 rfl rfl)
theorem dX2_book_147 : decode cX2_book 147 = .ok (.iastore, 1) := dk_79 (dk_at dksX2_book_6 8 rfl rfl)
theorem dX2_book_148 : decode cX2_book 148 = .ok (.aload_n 0, 1) := dk_42 (dk_at dksX2_book_6 9 rfl rfl)
theorem dX2_book_149 : decode cX2_book 149 = .ok (.getfield 7, 3) := dk_180 0 7 (dk_at dksX2_book_6 10 rfl rfl)
theorem dX2_book_152 : decode cX2_book 152 = .ok (.iload 5, 2) := dk_21 5 (dk_at dksX2_book_6 13 rfl rfl)
theorem dX2_book_154 : decode cX2_book 154 = .ok (.iconst 3, 1) := dk_6 (dk_at dksX2_book_6 15 rfl rfl)
theorem dX2_book_155 : decode cX2_book 155 = .ok (.iadd, 1) := dk_96 (dk_at dksX2_book_6 16 rfl rfl)
theorem dX2_book_156 : decode cX2_book 156 = .ok (.iload 4, 2) := dk_21 4 (dk_at dksX2_book_6 17 rfl rfl)
theorem dX2_book_158 : decode cX2_book 158 = .ok (.iastore, 1) := dk_79 (dk_at dksX2_book_6 19 rfl rfl)
theorem dX2_book_159 : decode cX2_book 159 = .ok (.aload_n 0, 1) := dk_42 (dk_at dksX2_book_6 20 rfl rfl)
theorem dX2_book_160 : decode cX2_book 160 = .ok (.getfield 7, 3) := dk_180 0 7 (dk_at dksX2_book_6 21 rfl rfl)
theorem dX2_book_163 : decode cX2_book 163 = .ok (.iload 5, 2) := dk_21 5 (dk_at dksX2_book_7 0 rfl rfl)
theorem dX2_book_165 : decode cX2_book 165 = .ok (.iconst 4, 1) := dk_7 (dk_at dksX2_book_7 2 rfl rfl)
theorem dX2_book_166 : decode cX2_book 166 = .ok (.iadd, 1) := dk_96 (dk_at dksX2_book_7 3 rfl rfl)
theorem dX2_book_167 : decode cX2_book 167 = .ok (.iconst 0, 1) := dk_3 (dk_at dksX2_book_7 4 rfl rfl)
theorem dX2_book_168 : decode cX2_book 168 = .ok (.iastore, 1) := dk_79 (dk_at dksX2_book_7 5 rfl rfl)
theorem dX2_book_169 : decode cX2_book 169 = .ok (.aload_n 0, 1) := dk_42 (dk_at dksX2_book_7 6 rfl rfl)
theorem dX2_book_170 : decode cX2_book 170 = .ok (.getfield 7, 3) := dk_180 0 7 (dk_at dksX2_book_7 7 rfl rfl)
theorem dX2_book_173 : decode cX2_book 173 = .ok (.iload 5, 2) := dk_21 5 (dk_at dksX2_book_7 10 rfl rfl)
theorem dX2_book_175 : decode cX2_book 175 = .ok (.iconst 5, 1) := dk_8 (dk_at dksX2_book_7 12 rfl rfl)
theorem dX2_book_176 : decode cX2_book 176 = .ok (.iadd, 1) := dk_96 (dk_at dksX2_book_7 13 rfl rfl)
theorem dX2_book_177 : decode cX2_book 177 = .ok (.iload_n 2, 1) := dk_28 (dk_at dksX2_book_7 14 rfl rfl)
theorem dX2_book_178 : decode cX2_book 178 = .ok (.iload_n 3, 1) := dk_29 (dk_at dksX2_book_7 15 rfl rfl)
theorem dX2_book_179 : decode cX2_book 179 = .ok (.ifCond .lt 18, 3) := dk_155 0 18 (dk_at dksX2_book_7 16 rfl rfl)
theorem dX2_book_182 : decode cX2_book 182 = .ok (.iload 6, 2) := dk_21 6 (dk_at dksX2_book_7 19 rfl rfl)
theorem dX2_book_184 : decode cX2_book 184 = .ok (.aload_n 0, 1) := dk_42 (dk_at dksX2_book_7 21 rfl rfl)
theorem dX2_book_185 : decode cX2_book 185 = .ok (.getfield 7, 3) := dk_180 0 7 (dk_at dksX2_book_8 0 rfl rfl)
theorem dX2_book_188 : decode cX2_book 188 = .ok (.iconst 4, 1) := dk_7 (dk_at dksX2_book_8 3 rfl rfl)
theorem dX2_book_189 : decode cX2_book 189 = .ok (.iaload, 1) := dk_46 (dk_at dksX2_book_8 4 rfl rfl)
theorem dX2_book_190 : decode cX2_book 190 = .ok (.imul, 1) := dk_104 (dk_at dksX2_book_8 5 rfl rfl)
theorem dX2_book_191 : decode cX2_book 191 = .ok (.bipush 100, 2) := dk_16 100 (dk_at dksX2_book_8 6 rfl rfl)
theorem dX2_book_193 : decode cX2_book 193 = .ok (.idiv, 1) := dk_108 (dk_at dksX2_book_8 8 rfl rfl)
theorem dX2_book_194 : decode cX2_book 194 = .ok (.goto 5, 3) := dk_167 0 5 (dk_at dksX2_book_8 9 rfl rfl)
theorem dX2_book_197 : decode cX2_book 197 = .ok (.iload 6, 2) := dk_21 6 (dk_at dksX2_book_8 12 rfl rfl)
theorem dX2_book_199 : decode cX2_book 199 = .ok (.imul, 1) := dk_104 (dk_at dksX2_book_8 14 rfl rfl)
theorem dX2_book_200 : decode cX2_book 200 = .ok (.iastore, 1) := dk_79 (dk_at dksX2_book_8 15 rfl rfl)
theorem dX2_book_201 : decode cX2_book 201 = .ok (.aload_n 0, 1) := dk_42 (dk_at dksX2_book_8 16 rfl rfl)
theorem dX2_book_202 : decode cX2_book 202 = .ok (.getfield 7, 3) := dk_180 0 7 (dk_at dksX2_book_8 17 rfl rfl)
theorem dX2_book_205 : decode cX2_book 205 = .ok (.iload 5, 2) := dk_21 5 (dk_at dksX2_book_8 20 rfl rfl)
theorem dX2_book_207 : decode cX2_book 207 = .ok (.bipush 6, 2) := dk_16 6 (dk_at dksX2_book_8 22 rfl rfl)
theorem dX2_book_209 : decode cX2_book 209 = .ok (.iadd, 1) := dk_96 (dk_at dksX2_book_9 0 rfl rfl)
theorem dX2_book_210 : decode cX2_book 210 = .ok (.iconst 0, 1) := dk_3 (dk_at dksX2_book_9 1 rfl rfl)
theorem dX2_book_211 : decode cX2_book 211 = .ok (.iastore, 1) := dk_79 (dk_at dksX2_book_9 2 rfl rfl)
theorem dX2_book_212 : decode cX2_book 212 = .ok (.aload_n 0, 1) := dk_42 (dk_at dksX2_book_9 3 rfl rfl)
theorem dX2_book_213 : decode cX2_book 213 = .ok (.getfield 7, 3) := dk_180 0 7 (dk_at dksX2_book_9 4 rfl rfl)
theorem dX2_book_216 : decode cX2_book 216 = .ok (.iload 5, 2) := dk_21 5 (dk_at dksX2_book_9 7 rfl rfl)
theorem dX2_book_218 : decode cX2_book 218 = .ok (.bipush 7, 2) := dk_16 7 (dk_at dksX2_book_9 9 rfl rfl)
theorem dX2_book_220 : decode cX2_book 220 = .ok (.iadd, 1) := dk_96 (dk_at dksX2_book_9 11 rfl rfl)
theorem dX2_book_221 : decode cX2_book 221 = .ok (.iconst 0, 1) := dk_3 (dk_at dksX2_book_9 12 rfl rfl)
theorem dX2_book_222 : decode cX2_book 222 = .ok (.iastore, 1) := dk_79 (dk_at dksX2_book_9 13 rfl rfl)
theorem dX2_book_223 : decode cX2_book 223 = .ok (.iconst 0, 1) := dk_3 (dk_at dksX2_book_9 14 rfl rfl)
theorem dX2_book_224 : decode cX2_book 224 = .ok (.istore 7, 2) := dk_54 7 (dk_at dksX2_book_9 15 rfl rfl)
theorem dX2_book_226 : decode cX2_book 226 = .ok (.iload 7, 2) := dk_21 7 (dk_at dksX2_book_9 17 rfl rfl)
theorem dX2_book_228 : decode cX2_book 228 = .ok (.bipush 8, 2) := dk_16 8 (dk_at dksX2_book_9 19 rfl rfl)
theorem dX2_book_230 : decode cX2_book 230 = .ok (.if_icmp .ge 23, 3) := dk_162 0 23 (dk_at dksX2_book_9 21 rfl rfl)
theorem dX2_book_233 : decode cX2_book 233 = .ok (.aload_n 0, 1) := dk_42 (dk_at dksX2_book_10 0 rfl rfl)
theorem dX2_book_234 : decode cX2_book 234 = .ok (.getfield 7, 3) := dk_180 0 7 (dk_at dksX2_book_10 1 rfl rfl)
theorem dX2_book_237 : decode cX2_book 237 = .ok (.iload 5, 2) := dk_21 5 (dk_at dksX2_book_10 4 rfl rfl)
theorem dX2_book_239 : decode cX2_book 239 = .ok (.bipush 8, 2) := dk_16 8 (dk_at dksX2_book_10 6 rfl rfl)
theorem dX2_book_241 : decode cX2_book 241 = .ok (.iadd, 1) := dk_96 (dk_at dksX2_book_10 8 rfl rfl)
theorem dX2_book_242 : decode cX2_book 242 = .ok (.iload 7, 2) := dk_21 7 (dk_at dksX2_book_10 9 rfl rfl)
theorem dX2_book_244 : decode cX2_book 244 = .ok (.iadd, 1) := dk_96 (dk_at dksX2_book_10 11 rfl rfl)
theorem dX2_book_245 : decode cX2_book 245 = .ok (.iconst 0, 1) := dk_3 (dk_at dksX2_book_10 12 rfl rfl)
theorem dX2_book_246 : decode cX2_book 246 = .ok (.iastore, 1) := dk_79 (dk_at dksX2_book_10 13 rfl rfl)
theorem dX2_book_247 : decode cX2_book 247 = .ok (.iinc 7 1, 3) := dk_132 7 1 (dk_at dksX2_book_10 14 rfl rfl)
theorem dX2_book_250 : decode cX2_book 250 = .ok (.goto (-24), 3) := dk_167 255 232 (dk_at dksX2_book_10 17 rfl rfl)
theorem dX2_book_253 : decode cX2_book 253 = .ok (.iload_n 2, 1) := dk_28 (dk_at dksX2_book_10 20 rfl rfl)
theorem dX2_book_254 : decode cX2_book 254 = .ok (.istore 7, 2) := dk_54 7 (dk_at dksX2_book_10 21 rfl rfl)
theorem dX2_book_256 : decode cX2_book 256 = .ok (.iload 7, 2) := dk_21 7 (dk_at dksX2_book_11 0 rfl rfl)
theorem dX2_book_258 : decode cX2_book 258 = .ok (.ifCond .le 77, 3) := dk_158 0 77 (dk_at dksX2_book_11 2 rfl rfl)
theorem dX2_book_261 : decode cX2_book 261 = .ok (.aload_n 0, 1) := dk_42 (dk_at dksX2_book_11 5 rfl rfl)
theorem dX2_book_262 : decode cX2_book 262 = .ok (.iload 7, 2) := dk_21 7 (dk_at dksX2_book_11 6 rfl rfl)
theorem dX2_book_264 : decode cX2_book 264 = .ok (.invokevirtual 107, 3) := dk_182 0 107 (dk_at dksX2_book_11 8 rfl rfl)
theorem dX2_book_267 : decode cX2_book 267 = .ok (.istore 8, 2) := dk_54 8 (dk_at dksX2_book_11 11 rfl rfl)
theorem dX2_book_269 : decode cX2_book 269 = .ok (.aload_n 0, 1) := dk_42 (dk_at dksX2_book_11 13 rfl rfl)
theorem dX2_book_270 : decode cX2_book 270 = .ok (.getfield 29, 3) := dk_180 0 29 (dk_at dksX2_book_11 14 rfl rfl)
theorem dX2_book_273 : decode cX2_book 273 = .ok (.iload 8, 2) := dk_21 8 (dk_at dksX2_book_11 17 rfl rfl)
theorem dX2_book_275 : decode cX2_book 275 = .ok (.iaload, 1) := dk_46 (dk_at dksX2_book_11 19 rfl rfl)
theorem dX2_book_276 : decode cX2_book 276 = .ok (.iload 7, 2) := dk_21 7 (dk_at dksX2_book_11 20 rfl rfl)
theorem dX2_book_278 : decode cX2_book 278 = .ok (.if_icmp .ge 13, 3) := dk_162 0 13 (dk_at dksX2_book_12 0 rfl rfl)
theorem dX2_book_281 : decode cX2_book 281 = .ok (.aload_n 0, 1) := dk_42 (dk_at dksX2_book_12 3 rfl rfl)
theorem dX2_book_282 : decode cX2_book 282 = .ok (.getfield 29, 3) := dk_180 0 29 (dk_at dksX2_book_12 4 rfl rfl)
theorem dX2_book_285 : decode cX2_book 285 = .ok (.iload 8, 2) := dk_21 8 (dk_at dksX2_book_12 7 rfl rfl)
theorem dX2_book_287 : decode cX2_book 287 = .ok (.iaload, 1) := dk_46 (dk_at dksX2_book_12 9 rfl rfl)
theorem dX2_book_288 : decode cX2_book 288 = .ok (.goto 5, 3) := dk_167 0 5 (dk_at dksX2_book_12 10 rfl rfl)
theorem dX2_book_291 : decode cX2_book 291 = .ok (.iload 7, 2) := dk_21 7 (dk_at dksX2_book_12 13 rfl rfl)
theorem dX2_book_293 : decode cX2_book 293 = .ok (.istore 9, 2) := dk_54 9 (dk_at dksX2_book_12 15 rfl rfl)
theorem dX2_book_295 : decode cX2_book 295 = .ok (.aload_n 0, 1) := dk_42 (dk_at dksX2_book_12 17 rfl rfl)
theorem dX2_book_296 : decode cX2_book 296 = .ok (.getfield 7, 3) := dk_180 0 7 (dk_at dksX2_book_12 18 rfl rfl)
theorem dX2_book_299 : decode cX2_book 299 = .ok (.iload 5, 2) := dk_21 5 (dk_at dksX2_book_12 21 rfl rfl)
theorem dX2_book_301 : decode cX2_book 301 = .ok (.bipush 8, 2) := dk_16 8 (dk_at dksX2_book_13 0 rfl rfl)
theorem dX2_book_303 : decode cX2_book 303 = .ok (.iadd, 1) := dk_96 (dk_at dksX2_book_13 2 rfl rfl)
theorem dX2_book_304 : decode cX2_book 304 = .ok (.iload 8, 2) := dk_21 8 (dk_at dksX2_book_13 3 rfl rfl)
theorem dX2_book_306 : decode cX2_book 306 = .ok (.iadd, 1) := dk_96 (dk_at dksX2_book_13 5 rfl rfl)
theorem dX2_book_307 : decode cX2_book 307 = .ok (.dup2, 1) := dk_92 (dk_at dksX2_book_13 6 rfl rfl)
theorem dX2_book_308 : decode cX2_book 308 = .ok (.iaload, 1) := dk_46 (dk_at dksX2_book_13 7 rfl rfl)
theorem dX2_book_309 : decode cX2_book 309 = .ok (.iload 9, 2) := dk_21 9 (dk_at dksX2_book_13 8 rfl rfl)
theorem dX2_book_311 : decode cX2_book 311 = .ok (.iadd, 1) := dk_96 (dk_at dksX2_book_13 10 rfl rfl)
theorem dX2_book_312 : decode cX2_book 312 = .ok (.iastore, 1) := dk_79 (dk_at dksX2_book_13 11 rfl rfl)
theorem dX2_book_313 : decode cX2_book 313 = .ok (.aload_n 0, 1) := dk_42 (dk_at dksX2_book_13 12 rfl rfl)
theorem dX2_book_314 : decode cX2_book 314 = .ok (.getfield 29, 3) := dk_180 0 29 (dk_at dksX2_book_13 13 rfl rfl)
theorem dX2_book_317 : decode cX2_book 317 = .ok (.iload 8, 2) := dk_21 8 (dk_at dksX2_book_13 16 rfl rfl)
theorem dX2_book_319 : decode cX2_book 319 = .ok (.dup2, 1) := dk_92 (dk_at dksX2_book_13 18 rfl rfl)
theorem dX2_book_320 : decode cX2_book 320 = .ok (.iaload, 1) := dk_46 (dk_at dksX2_book_13 19 rfl rfl)
theorem dX2_book_321 : decode cX2_book 321 = .ok (.iload 9, 2) := dk_21 9 (dk_at dksX2_book_13 20 rfl rfl)
theorem dX2_book_323 : decode cX2_book 323 = .ok (.isub, 1) := dk_100 (dk_at dksX2_book_13 22 rfl rfl)
theorem dX2_book_324 : decode cX2_book 324 = .ok (.iastore, 1) := dk_79 (dk_at dksX2_book_13 23 rfl rfl)
theorem dX2_book_325 : decode cX2_book 325 = .ok (.iload 7, 2) := dk_21 7 (dk_at dksX2_book_14 0 rfl rfl)
theorem dX2_book_327 : decode cX2_book 327 = .ok (.iload 9, 2) := dk_21 9 (dk_at dksX2_book_14 2 rfl rfl)
theorem dX2_book_329 : decode cX2_book 329 = .ok (.isub, 1) := dk_100 (dk_at dksX2_book_14 4 rfl rfl)
theorem dX2_book_330 : decode cX2_book 330 = .ok (.istore 7, 2) := dk_54 7 (dk_at dksX2_book_14 5 rfl rfl)
theorem dX2_book_332 : decode cX2_book 332 = .ok (.goto (-76), 3) := dk_167 255 180 (dk_at dksX2_book_14 7 rfl rfl)
theorem dX2_book_335 : decode cX2_book 335 = .ok (.aload_n 0, 1) := dk_42 (dk_at dksX2_book_14 10 rfl rfl)
theorem dX2_book_336 : decode cX2_book 336 = .ok (.getfield 7, 3) := dk_180 0 7 (dk_at dksX2_book_14 11 rfl rfl)
theorem dX2_book_339 : decode cX2_book 339 = .ok (.bipush 10, 2) := dk_16 10 (dk_at dksX2_book_14 14 rfl rfl)
theorem dX2_book_341 : decode cX2_book 341 = .ok (.dup2, 1) := dk_92 (dk_at dksX2_book_14 16 rfl rfl)
theorem dX2_book_342 : decode cX2_book 342 = .ok (.iaload, 1) := dk_46 (dk_at dksX2_book_14 17 rfl rfl)
theorem dX2_book_343 : decode cX2_book 343 = .ok (.iconst 1, 1) := dk_4 (dk_at dksX2_book_14 18 rfl rfl)
theorem dX2_book_344 : decode cX2_book 344 = .ok (.iadd, 1) := dk_96 (dk_at dksX2_book_14 19 rfl rfl)
theorem dX2_book_345 : decode cX2_book 345 = .ok (.iastore, 1) := dk_79 (dk_at dksX2_book_14 20 rfl rfl)
theorem dX2_book_346 : decode cX2_book 346 = .ok (.aload_n 0, 1) := dk_42 (dk_at dksX2_book_14 21 rfl rfl)
theorem dX2_book_347 : decode cX2_book 347 = .ok (.getfield 7, 3) := dk_180 0 7 (dk_at dksX2_book_15 0 rfl rfl)
theorem dX2_book_350 : decode cX2_book 350 = .ok (.bipush 10, 2) := dk_16 10 (dk_at dksX2_book_15 3 rfl rfl)
theorem dX2_book_352 : decode cX2_book 352 = .ok (.iaload, 1) := dk_46 (dk_at dksX2_book_15 5 rfl rfl)
theorem dX2_book_353 : decode cX2_book 353 = .ok (.iconst 1, 1) := dk_4 (dk_at dksX2_book_15 6 rfl rfl)
theorem dX2_book_354 : decode cX2_book 354 = .ok (.isub, 1) := dk_100 (dk_at dksX2_book_15 7 rfl rfl)
theorem dX2_book_355 : decode cX2_book 355 = .ok (.ireturn, 1) := dk_172 (dk_at dksX2_book_15 8 rfl rfl)
abbrev cX2_isShow : ByteArray := prog_12_method_17_code
def yX2_isShow : MethodName := ⟨RX2, "isShow", "(I)Z"⟩
def dkwX2_isShow_0 : List UInt8 := [27, 3, 42, 180, 0, 7, 16, 9, 46, 4, 100, 184, 0, 49, 172]
abbrev dktX2_isShow_0 : List UInt8 := dkwX2_isShow_0 ++ []
theorem dksX2_isShow_0 : cX2_isShow.data.toList.drop 0 = dktX2_isShow_0 := by decide +kernel
theorem dX2_isShow_0 : decode cX2_isShow 0 = .ok (.iload_n 1, 1) := dk_27 (dk_at dksX2_isShow_0 0 rfl rfl)
theorem dX2_isShow_1 : decode cX2_isShow 1 = .ok (.iconst 0, 1) := dk_3 (dk_at dksX2_isShow_0 1 rfl rfl)
theorem dX2_isShow_2 : decode cX2_isShow 2 = .ok (.aload_n 0, 1) := dk_42 (dk_at dksX2_isShow_0 2 rfl rfl)
theorem dX2_isShow_3 : decode cX2_isShow 3 = .ok (.getfield 7, 3) := dk_180 0 7 (dk_at dksX2_isShow_0 3 rfl rfl)
theorem dX2_isShow_6 : decode cX2_isShow 6 = .ok (.bipush 9, 2) := dk_16 9 (dk_at dksX2_isShow_0 6 rfl rfl)
theorem dX2_isShow_8 : decode cX2_isShow 8 = .ok (.iaload, 1) := dk_46 (dk_at dksX2_isShow_0 8 rfl rfl)
theorem dX2_isShow_9 : decode cX2_isShow 9 = .ok (.iconst 1, 1) := dk_4 (dk_at dksX2_isShow_0 9 rfl rfl)
theorem dX2_isShow_10 : decode cX2_isShow 10 = .ok (.isub, 1) := dk_100 (dk_at dksX2_isShow_0 10 rfl rfl)
theorem dX2_isShow_11 : decode cX2_isShow 11 = .ok (.invokestatic 49, 3) := dk_184 0 49 (dk_at dksX2_isShow_0 11 rfl rfl)
theorem dX2_isShow_14 : decode cX2_isShow 14 = .ok (.ireturn, 1) := dk_172 (dk_at dksX2_isShow_0 14 rfl rfl)
abbrev cX2_canBook : ByteArray := prog_12_method_29_code
def yX2_canBook : MethodName := ⟨RX2, "canBook", "(II)Z"⟩
def dkwX2_canBook_1 : List UInt8 := [167, 0, 4, 3, 172]
abbrev dktX2_canBook_1 : List UInt8 := dkwX2_canBook_1 ++ []
def dkwX2_canBook_0 : List UInt8 := [42, 27, 6, 182, 0, 75, 154, 0, 19, 42, 27, 182, 0, 94, 28, 96, 16, 96, 163, 0, 7, 4]
abbrev dktX2_canBook_0 : List UInt8 := dkwX2_canBook_0 ++ dktX2_canBook_1
theorem dksX2_canBook_0 : cX2_canBook.data.toList.drop 0 = dktX2_canBook_0 := by decide +kernel
theorem dksX2_canBook_1 : cX2_canBook.data.toList.drop 22 = dktX2_canBook_1 := dk_seg dksX2_canBook_0 22 rfl rfl
theorem dX2_canBook_0 : decode cX2_canBook 0 = .ok (.aload_n 0, 1) := dk_42 (dk_at dksX2_canBook_0 0 rfl rfl)
theorem dX2_canBook_1 : decode cX2_canBook 1 = .ok (.iload_n 1, 1) := dk_27 (dk_at dksX2_canBook_0 1 rfl rfl)
theorem dX2_canBook_2 : decode cX2_canBook 2 = .ok (.iconst 3, 1) := dk_6 (dk_at dksX2_canBook_0 2 rfl rfl)
theorem dX2_canBook_3 : decode cX2_canBook 3 = .ok (.invokevirtual 75, 3) := dk_182 0 75 (dk_at dksX2_canBook_0 3 rfl rfl)
theorem dX2_canBook_6 : decode cX2_canBook 6 = .ok (.ifCond .ne 19, 3) := dk_154 0 19 (dk_at dksX2_canBook_0 6 rfl rfl)
theorem dX2_canBook_9 : decode cX2_canBook 9 = .ok (.aload_n 0, 1) := dk_42 (dk_at dksX2_canBook_0 9 rfl rfl)
theorem dX2_canBook_10 : decode cX2_canBook 10 = .ok (.iload_n 1, 1) := dk_27 (dk_at dksX2_canBook_0 10 rfl rfl)
theorem dX2_canBook_11 : decode cX2_canBook 11 = .ok (.invokevirtual 94, 3) := dk_182 0 94 (dk_at dksX2_canBook_0 11 rfl rfl)
theorem dX2_canBook_14 : decode cX2_canBook 14 = .ok (.iload_n 2, 1) := dk_28 (dk_at dksX2_canBook_0 14 rfl rfl)
theorem dX2_canBook_15 : decode cX2_canBook 15 = .ok (.iadd, 1) := dk_96 (dk_at dksX2_canBook_0 15 rfl rfl)
theorem dX2_canBook_16 : decode cX2_canBook 16 = .ok (.bipush 96, 2) := dk_16 96 (dk_at dksX2_canBook_0 16 rfl rfl)
theorem dX2_canBook_18 : decode cX2_canBook 18 = .ok (.if_icmp .gt 7, 3) := dk_163 0 7 (dk_at dksX2_canBook_0 18 rfl rfl)
theorem dX2_canBook_21 : decode cX2_canBook 21 = .ok (.iconst 1, 1) := dk_4 (dk_at dksX2_canBook_0 21 rfl rfl)
theorem dX2_canBook_22 : decode cX2_canBook 22 = .ok (.goto 4, 3) := dk_167 0 4 (dk_at dksX2_canBook_1 0 rfl rfl)
theorem dX2_canBook_25 : decode cX2_canBook 25 = .ok (.iconst 0, 1) := dk_3 (dk_at dksX2_canBook_1 3 rfl rfl)
theorem dX2_canBook_26 : decode cX2_canBook 26 = .ok (.ireturn, 1) := dk_172 (dk_at dksX2_canBook_1 4 rfl rfl)
abbrev cX2_takenOf : ByteArray := prog_12_method_26_code
def yX2_takenOf : MethodName := ⟨RX2, "takenOf", "(I)I"⟩
def dkwX2_takenOf_1 : List UInt8 := [167, 255, 238, 16, 96, 28, 100, 172]
abbrev dktX2_takenOf_1 : List UInt8 := dkwX2_takenOf_1 ++ []
def dkwX2_takenOf_0 : List UInt8 := [3, 61, 3, 62, 29, 16, 8, 162, 0, 18, 28, 42, 27, 29, 182, 0, 91, 96, 61, 132, 3, 1]
abbrev dktX2_takenOf_0 : List UInt8 := dkwX2_takenOf_0 ++ dktX2_takenOf_1
theorem dksX2_takenOf_0 : cX2_takenOf.data.toList.drop 0 = dktX2_takenOf_0 := by decide +kernel
theorem dksX2_takenOf_1 : cX2_takenOf.data.toList.drop 22 = dktX2_takenOf_1 := dk_seg dksX2_takenOf_0 22 rfl rfl
theorem dX2_takenOf_0 : decode cX2_takenOf 0 = .ok (.iconst 0, 1) := dk_3 (dk_at dksX2_takenOf_0 0 rfl rfl)
theorem dX2_takenOf_1 : decode cX2_takenOf 1 = .ok (.istore_n 2, 1) := dk_61 (dk_at dksX2_takenOf_0 1 rfl rfl)
theorem dX2_takenOf_2 : decode cX2_takenOf 2 = .ok (.iconst 0, 1) := dk_3 (dk_at dksX2_takenOf_0 2 rfl rfl)
theorem dX2_takenOf_3 : decode cX2_takenOf 3 = .ok (.istore_n 3, 1) := dk_62 (dk_at dksX2_takenOf_0 3 rfl rfl)
theorem dX2_takenOf_4 : decode cX2_takenOf 4 = .ok (.iload_n 3, 1) := dk_29 (dk_at dksX2_takenOf_0 4 rfl rfl)
theorem dX2_takenOf_5 : decode cX2_takenOf 5 = .ok (.bipush 8, 2) := dk_16 8 (dk_at dksX2_takenOf_0 5 rfl rfl)
theorem dX2_takenOf_7 : decode cX2_takenOf 7 = .ok (.if_icmp .ge 18, 3) := dk_162 0 18 (dk_at dksX2_takenOf_0 7 rfl rfl)
theorem dX2_takenOf_10 : decode cX2_takenOf 10 = .ok (.iload_n 2, 1) := dk_28 (dk_at dksX2_takenOf_0 10 rfl rfl)
theorem dX2_takenOf_11 : decode cX2_takenOf 11 = .ok (.aload_n 0, 1) := dk_42 (dk_at dksX2_takenOf_0 11 rfl rfl)
theorem dX2_takenOf_12 : decode cX2_takenOf 12 = .ok (.iload_n 1, 1) := dk_27 (dk_at dksX2_takenOf_0 12 rfl rfl)
theorem dX2_takenOf_13 : decode cX2_takenOf 13 = .ok (.iload_n 3, 1) := dk_29 (dk_at dksX2_takenOf_0 13 rfl rfl)
theorem dX2_takenOf_14 : decode cX2_takenOf 14 = .ok (.invokevirtual 91, 3) := dk_182 0 91 (dk_at dksX2_takenOf_0 14 rfl rfl)
theorem dX2_takenOf_17 : decode cX2_takenOf 17 = .ok (.iadd, 1) := dk_96 (dk_at dksX2_takenOf_0 17 rfl rfl)
theorem dX2_takenOf_18 : decode cX2_takenOf 18 = .ok (.istore_n 2, 1) := dk_61 (dk_at dksX2_takenOf_0 18 rfl rfl)
theorem dX2_takenOf_19 : decode cX2_takenOf 19 = .ok (.iinc 3 1, 3) := dk_132 3 1 (dk_at dksX2_takenOf_0 19 rfl rfl)
theorem dX2_takenOf_22 : decode cX2_takenOf 22 = .ok (.goto (-18), 3) := dk_167 255 238 (dk_at dksX2_takenOf_1 0 rfl rfl)
theorem dX2_takenOf_25 : decode cX2_takenOf 25 = .ok (.bipush 96, 2) := dk_16 96 (dk_at dksX2_takenOf_1 3 rfl rfl)
theorem dX2_takenOf_27 : decode cX2_takenOf 27 = .ok (.iload_n 2, 1) := dk_28 (dk_at dksX2_takenOf_1 5 rfl rfl)
theorem dX2_takenOf_28 : decode cX2_takenOf 28 = .ok (.isub, 1) := dk_100 (dk_at dksX2_takenOf_1 6 rfl rfl)
theorem dX2_takenOf_29 : decode cX2_takenOf 29 = .ok (.ireturn, 1) := dk_172 (dk_at dksX2_takenOf_1 7 rfl rfl)
abbrev cX2_freeIn : ByteArray := prog_12_method_25_code
def yX2_freeIn : MethodName := ⟨RX2, "freeIn", "(II)I"⟩
def dkwX2_freeIn_2 : List UInt8 := [132, 4, 1, 167, 255, 213, 29, 172]
abbrev dktX2_freeIn_2 : List UInt8 := dkwX2_freeIn_2 ++ []
def dkwX2_freeIn_1 : List UInt8 := [182, 0, 88, 27, 160, 0, 16, 42, 21, 4, 16, 8, 28, 96, 182, 0, 88, 167, 0, 4, 3, 100, 62]
abbrev dktX2_freeIn_1 : List UInt8 := dkwX2_freeIn_1 ++ dktX2_freeIn_2
def dkwX2_freeIn_0 : List UInt8 := [16, 12, 62, 3, 54, 4, 21, 4, 42, 180, 0, 7, 16, 10, 46, 162, 0, 37, 29, 42, 21, 4, 3]
abbrev dktX2_freeIn_0 : List UInt8 := dkwX2_freeIn_0 ++ dktX2_freeIn_1
theorem dksX2_freeIn_0 : cX2_freeIn.data.toList.drop 0 = dktX2_freeIn_0 := by decide +kernel
theorem dksX2_freeIn_1 : cX2_freeIn.data.toList.drop 23 = dktX2_freeIn_1 := dk_seg dksX2_freeIn_0 23 rfl rfl
theorem dksX2_freeIn_2 : cX2_freeIn.data.toList.drop 46 = dktX2_freeIn_2 := dk_seg dksX2_freeIn_1 23 rfl rfl
theorem dX2_freeIn_0 : decode cX2_freeIn 0 = .ok (.bipush 12, 2) := dk_16 12 (dk_at dksX2_freeIn_0 0 rfl rfl)
theorem dX2_freeIn_2 : decode cX2_freeIn 2 = .ok (.istore_n 3, 1) := dk_62 (dk_at dksX2_freeIn_0 2 rfl rfl)
theorem dX2_freeIn_3 : decode cX2_freeIn 3 = .ok (.iconst 0, 1) := dk_3 (dk_at dksX2_freeIn_0 3 rfl rfl)
theorem dX2_freeIn_4 : decode cX2_freeIn 4 = .ok (.istore 4, 2) := dk_54 4 (dk_at dksX2_freeIn_0 4 rfl rfl)
theorem dX2_freeIn_6 : decode cX2_freeIn 6 = .ok (.iload 4, 2) := dk_21 4 (dk_at dksX2_freeIn_0 6 rfl rfl)
theorem dX2_freeIn_8 : decode cX2_freeIn 8 = .ok (.aload_n 0, 1) := dk_42 (dk_at dksX2_freeIn_0 8 rfl rfl)
theorem dX2_freeIn_9 : decode cX2_freeIn 9 = .ok (.getfield 7, 3) := dk_180 0 7 (dk_at dksX2_freeIn_0 9 rfl rfl)
theorem dX2_freeIn_12 : decode cX2_freeIn 12 = .ok (.bipush 10, 2) := dk_16 10 (dk_at dksX2_freeIn_0 12 rfl rfl)
theorem dX2_freeIn_14 : decode cX2_freeIn 14 = .ok (.iaload, 1) := dk_46 (dk_at dksX2_freeIn_0 14 rfl rfl)
theorem dX2_freeIn_15 : decode cX2_freeIn 15 = .ok (.if_icmp .ge 37, 3) := dk_162 0 37 (dk_at dksX2_freeIn_0 15 rfl rfl)
theorem dX2_freeIn_18 : decode cX2_freeIn 18 = .ok (.iload_n 3, 1) := dk_29 (dk_at dksX2_freeIn_0 18 rfl rfl)
theorem dX2_freeIn_19 : decode cX2_freeIn 19 = .ok (.aload_n 0, 1) := dk_42 (dk_at dksX2_freeIn_0 19 rfl rfl)
theorem dX2_freeIn_20 : decode cX2_freeIn 20 = .ok (.iload 4, 2) := dk_21 4 (dk_at dksX2_freeIn_0 20 rfl rfl)
theorem dX2_freeIn_22 : decode cX2_freeIn 22 = .ok (.iconst 0, 1) := dk_3 (dk_at dksX2_freeIn_0 22 rfl rfl)
theorem dX2_freeIn_23 : decode cX2_freeIn 23 = .ok (.invokevirtual 88, 3) := dk_182 0 88 (dk_at dksX2_freeIn_1 0 rfl rfl)
theorem dX2_freeIn_26 : decode cX2_freeIn 26 = .ok (.iload_n 1, 1) := dk_27 (dk_at dksX2_freeIn_1 3 rfl rfl)
theorem dX2_freeIn_27 : decode cX2_freeIn 27 = .ok (.if_icmp .ne 16, 3) := dk_160 0 16 (dk_at dksX2_freeIn_1 4 rfl rfl)
theorem dX2_freeIn_30 : decode cX2_freeIn 30 = .ok (.aload_n 0, 1) := dk_42 (dk_at dksX2_freeIn_1 7 rfl rfl)
theorem dX2_freeIn_31 : decode cX2_freeIn 31 = .ok (.iload 4, 2) := dk_21 4 (dk_at dksX2_freeIn_1 8 rfl rfl)
theorem dX2_freeIn_33 : decode cX2_freeIn 33 = .ok (.bipush 8, 2) := dk_16 8 (dk_at dksX2_freeIn_1 10 rfl rfl)
theorem dX2_freeIn_35 : decode cX2_freeIn 35 = .ok (.iload_n 2, 1) := dk_28 (dk_at dksX2_freeIn_1 12 rfl rfl)
theorem dX2_freeIn_36 : decode cX2_freeIn 36 = .ok (.iadd, 1) := dk_96 (dk_at dksX2_freeIn_1 13 rfl rfl)
theorem dX2_freeIn_37 : decode cX2_freeIn 37 = .ok (.invokevirtual 88, 3) := dk_182 0 88 (dk_at dksX2_freeIn_1 14 rfl rfl)
theorem dX2_freeIn_40 : decode cX2_freeIn 40 = .ok (.goto 4, 3) := dk_167 0 4 (dk_at dksX2_freeIn_1 17 rfl rfl)
theorem dX2_freeIn_43 : decode cX2_freeIn 43 = .ok (.iconst 0, 1) := dk_3 (dk_at dksX2_freeIn_1 20 rfl rfl)
theorem dX2_freeIn_44 : decode cX2_freeIn 44 = .ok (.isub, 1) := dk_100 (dk_at dksX2_freeIn_1 21 rfl rfl)
theorem dX2_freeIn_45 : decode cX2_freeIn 45 = .ok (.istore_n 3, 1) := dk_62 (dk_at dksX2_freeIn_1 22 rfl rfl)
theorem dX2_freeIn_46 : decode cX2_freeIn 46 = .ok (.iinc 4 1, 3) := dk_132 4 1 (dk_at dksX2_freeIn_2 0 rfl rfl)
theorem dX2_freeIn_49 : decode cX2_freeIn 49 = .ok (.goto (-43), 3) := dk_167 255 213 (dk_at dksX2_freeIn_2 3 rfl rfl)
theorem dX2_freeIn_52 : decode cX2_freeIn 52 = .ok (.iload_n 3, 1) := dk_29 (dk_at dksX2_freeIn_2 6 rfl rfl)
theorem dX2_freeIn_53 : decode cX2_freeIn 53 = .ok (.ireturn, 1) := dk_172 (dk_at dksX2_freeIn_2 7 rfl rfl)
abbrev cX2_ofBooking : ByteArray := prog_12_method_24_code
def yX2_ofBooking : MethodName := ⟨RX2, "ofBooking", "(II)I"⟩
def dkwX2_ofBooking_0 : List UInt8 := [42, 180, 0, 7, 17, 2, 8, 16, 16, 27, 104, 96, 28, 96, 46, 172]
abbrev dktX2_ofBooking_0 : List UInt8 := dkwX2_ofBooking_0 ++ []
theorem dksX2_ofBooking_0 : cX2_ofBooking.data.toList.drop 0 = dktX2_ofBooking_0 := by decide +kernel
theorem dX2_ofBooking_0 : decode cX2_ofBooking 0 = .ok (.aload_n 0, 1) := dk_42 (dk_at dksX2_ofBooking_0 0 rfl rfl)
theorem dX2_ofBooking_1 : decode cX2_ofBooking 1 = .ok (.getfield 7, 3) := dk_180 0 7 (dk_at dksX2_ofBooking_0 1 rfl rfl)
theorem dX2_ofBooking_4 : decode cX2_ofBooking 4 = .ok (.sipush 520, 3) := dk_17 2 8 (dk_at dksX2_ofBooking_0 4 rfl rfl)
theorem dX2_ofBooking_7 : decode cX2_ofBooking 7 = .ok (.bipush 16, 2) := dk_16 16 (dk_at dksX2_ofBooking_0 7 rfl rfl)
theorem dX2_ofBooking_9 : decode cX2_ofBooking 9 = .ok (.iload_n 1, 1) := dk_27 (dk_at dksX2_ofBooking_0 9 rfl rfl)
theorem dX2_ofBooking_10 : decode cX2_ofBooking 10 = .ok (.imul, 1) := dk_104 (dk_at dksX2_ofBooking_0 10 rfl rfl)
theorem dX2_ofBooking_11 : decode cX2_ofBooking 11 = .ok (.iadd, 1) := dk_96 (dk_at dksX2_ofBooking_0 11 rfl rfl)
theorem dX2_ofBooking_12 : decode cX2_ofBooking 12 = .ok (.iload_n 2, 1) := dk_28 (dk_at dksX2_ofBooking_0 12 rfl rfl)
theorem dX2_ofBooking_13 : decode cX2_ofBooking 13 = .ok (.iadd, 1) := dk_96 (dk_at dksX2_ofBooking_0 13 rfl rfl)
theorem dX2_ofBooking_14 : decode cX2_ofBooking 14 = .ok (.iaload, 1) := dk_46 (dk_at dksX2_ofBooking_0 14 rfl rfl)
theorem dX2_ofBooking_15 : decode cX2_ofBooking 15 = .ok (.ireturn, 1) := dk_172 (dk_at dksX2_ofBooking_0 15 rfl rfl)
abbrev cX2_layFree : ByteArray := prog_12_method_27_code
def yX2_layFree : MethodName := ⟨RX2, "layFree", "(I)V"⟩
def dkwX2_layFree_1 : List UInt8 := [167, 255, 235, 177]
abbrev dktX2_layFree_1 : List UInt8 := dkwX2_layFree_1 ++ []
def dkwX2_layFree_0 : List UInt8 := [3, 61, 28, 16, 8, 162, 0, 21, 42, 180, 0, 29, 28, 42, 27, 28, 182, 0, 91, 79, 132, 2, 1]
abbrev dktX2_layFree_0 : List UInt8 := dkwX2_layFree_0 ++ dktX2_layFree_1
theorem dksX2_layFree_0 : cX2_layFree.data.toList.drop 0 = dktX2_layFree_0 := by decide +kernel
theorem dksX2_layFree_1 : cX2_layFree.data.toList.drop 23 = dktX2_layFree_1 := dk_seg dksX2_layFree_0 23 rfl rfl
theorem dX2_layFree_0 : decode cX2_layFree 0 = .ok (.iconst 0, 1) := dk_3 (dk_at dksX2_layFree_0 0 rfl rfl)
theorem dX2_layFree_1 : decode cX2_layFree 1 = .ok (.istore_n 2, 1) := dk_61 (dk_at dksX2_layFree_0 1 rfl rfl)
theorem dX2_layFree_2 : decode cX2_layFree 2 = .ok (.iload_n 2, 1) := dk_28 (dk_at dksX2_layFree_0 2 rfl rfl)
theorem dX2_layFree_3 : decode cX2_layFree 3 = .ok (.bipush 8, 2) := dk_16 8 (dk_at dksX2_layFree_0 3 rfl rfl)
theorem dX2_layFree_5 : decode cX2_layFree 5 = .ok (.if_icmp .ge 21, 3) := dk_162 0 21 (dk_at dksX2_layFree_0 5 rfl rfl)
theorem dX2_layFree_8 : decode cX2_layFree 8 = .ok (.aload_n 0, 1) := dk_42 (dk_at dksX2_layFree_0 8 rfl rfl)
theorem dX2_layFree_9 : decode cX2_layFree 9 = .ok (.getfield 29, 3) := dk_180 0 29 (dk_at dksX2_layFree_0 9 rfl rfl)
theorem dX2_layFree_12 : decode cX2_layFree 12 = .ok (.iload_n 2, 1) := dk_28 (dk_at dksX2_layFree_0 12 rfl rfl)
theorem dX2_layFree_13 : decode cX2_layFree 13 = .ok (.aload_n 0, 1) := dk_42 (dk_at dksX2_layFree_0 13 rfl rfl)
theorem dX2_layFree_14 : decode cX2_layFree 14 = .ok (.iload_n 1, 1) := dk_27 (dk_at dksX2_layFree_0 14 rfl rfl)
theorem dX2_layFree_15 : decode cX2_layFree 15 = .ok (.iload_n 2, 1) := dk_28 (dk_at dksX2_layFree_0 15 rfl rfl)
theorem dX2_layFree_16 : decode cX2_layFree 16 = .ok (.invokevirtual 91, 3) := dk_182 0 91 (dk_at dksX2_layFree_0 16 rfl rfl)
theorem dX2_layFree_19 : decode cX2_layFree 19 = .ok (.iastore, 1) := dk_79 (dk_at dksX2_layFree_0 19 rfl rfl)
theorem dX2_layFree_20 : decode cX2_layFree 20 = .ok (.iinc 2 1, 3) := dk_132 2 1 (dk_at dksX2_layFree_0 20 rfl rfl)
theorem dX2_layFree_23 : decode cX2_layFree 23 = .ok (.goto (-21), 3) := dk_167 255 235 (dk_at dksX2_layFree_1 0 rfl rfl)
theorem dX2_layFree_26 : decode cX2_layFree 26 = .ok (.return_, 1) := dk_177 (dk_at dksX2_layFree_1 3 rfl rfl)
abbrev cX2_nextRow : ByteArray := prog_12_method_28_code
def yX2_nextRow : MethodName := ⟨RX2, "nextRow", "(I)I"⟩
def dkwX2_nextRow_3 : List UInt8 := [21, 4, 167, 0, 4, 29, 62, 132, 4, 1, 167, 255, 185, 28, 155, 0, 7, 28, 167, 0, 4, 29, 172]
abbrev dktX2_nextRow_3 : List UInt8 := dkwX2_nextRow_3 ++ []
def dkwX2_nextRow_2 : List UInt8 := [21, 4, 167, 0, 4, 28, 61, 42, 180, 0, 29, 21, 4, 46, 42, 180, 0, 29, 29, 46, 164, 0, 8]
abbrev dktX2_nextRow_2 : List UInt8 := dkwX2_nextRow_2 ++ dktX2_nextRow_3
def dkwX2_nextRow_1 : List UInt8 := [161, 0, 28, 28, 155, 0, 19, 42, 180, 0, 29, 21, 4, 46, 42, 180, 0, 29, 28, 46, 162, 0, 8]
abbrev dktX2_nextRow_1 : List UInt8 := dkwX2_nextRow_1 ++ dktX2_nextRow_2
def dkwX2_nextRow_0 : List UInt8 := [16, 250, 61, 3, 62, 3, 54, 4, 21, 4, 16, 8, 162, 0, 70, 42, 180, 0, 29, 21, 4, 46, 27]
abbrev dktX2_nextRow_0 : List UInt8 := dkwX2_nextRow_0 ++ dktX2_nextRow_1
theorem dksX2_nextRow_0 : cX2_nextRow.data.toList.drop 0 = dktX2_nextRow_0 := by decide +kernel
theorem dksX2_nextRow_1 : cX2_nextRow.data.toList.drop 23 = dktX2_nextRow_1 := dk_seg dksX2_nextRow_0 23 rfl rfl
theorem dksX2_nextRow_2 : cX2_nextRow.data.toList.drop 46 = dktX2_nextRow_2 := dk_seg dksX2_nextRow_1 23 rfl rfl
theorem dksX2_nextRow_3 : cX2_nextRow.data.toList.drop 69 = dktX2_nextRow_3 := dk_seg dksX2_nextRow_2 23 rfl rfl
theorem dX2_nextRow_0 : decode cX2_nextRow 0 = .ok (.bipush (-6), 2) := dk_16 250 (dk_at dksX2_nextRow_0 0 rfl rfl)
theorem dX2_nextRow_2 : decode cX2_nextRow 2 = .ok (.istore_n 2, 1) := dk_61 (dk_at dksX2_nextRow_0 2 rfl rfl)
theorem dX2_nextRow_3 : decode cX2_nextRow 3 = .ok (.iconst 0, 1) := dk_3 (dk_at dksX2_nextRow_0 3 rfl rfl)
theorem dX2_nextRow_4 : decode cX2_nextRow 4 = .ok (.istore_n 3, 1) := dk_62 (dk_at dksX2_nextRow_0 4 rfl rfl)
theorem dX2_nextRow_5 : decode cX2_nextRow 5 = .ok (.iconst 0, 1) := dk_3 (dk_at dksX2_nextRow_0 5 rfl rfl)
theorem dX2_nextRow_6 : decode cX2_nextRow 6 = .ok (.istore 4, 2) := dk_54 4 (dk_at dksX2_nextRow_0 6 rfl rfl)
theorem dX2_nextRow_8 : decode cX2_nextRow 8 = .ok (.iload 4, 2) := dk_21 4 (dk_at dksX2_nextRow_0 8 rfl rfl)
theorem dX2_nextRow_10 : decode cX2_nextRow 10 = .ok (.bipush 8, 2) := dk_16 8 (dk_at dksX2_nextRow_0 10 rfl rfl)
theorem dX2_nextRow_12 : decode cX2_nextRow 12 = .ok (.if_icmp .ge 70, 3) := dk_162 0 70 (dk_at dksX2_nextRow_0 12 rfl rfl)
theorem dX2_nextRow_15 : decode cX2_nextRow 15 = .ok (.aload_n 0, 1) := dk_42 (dk_at dksX2_nextRow_0 15 rfl rfl)
theorem dX2_nextRow_16 : decode cX2_nextRow 16 = .ok (.getfield 29, 3) := dk_180 0 29 (dk_at dksX2_nextRow_0 16 rfl rfl)
theorem dX2_nextRow_19 : decode cX2_nextRow 19 = .ok (.iload 4, 2) := dk_21 4 (dk_at dksX2_nextRow_0 19 rfl rfl)
theorem dX2_nextRow_21 : decode cX2_nextRow 21 = .ok (.iaload, 1) := dk_46 (dk_at dksX2_nextRow_0 21 rfl rfl)
theorem dX2_nextRow_22 : decode cX2_nextRow 22 = .ok (.iload_n 1, 1) := dk_27 (dk_at dksX2_nextRow_0 22 rfl rfl)
theorem dX2_nextRow_23 : decode cX2_nextRow 23 = .ok (.if_icmp .lt 28, 3) := dk_161 0 28 (dk_at dksX2_nextRow_1 0 rfl rfl)
theorem dX2_nextRow_26 : decode cX2_nextRow 26 = .ok (.iload_n 2, 1) := dk_28 (dk_at dksX2_nextRow_1 3 rfl rfl)
theorem dX2_nextRow_27 : decode cX2_nextRow 27 = .ok (.ifCond .lt 19, 3) := dk_155 0 19 (dk_at dksX2_nextRow_1 4 rfl rfl)
theorem dX2_nextRow_30 : decode cX2_nextRow 30 = .ok (.aload_n 0, 1) := dk_42 (dk_at dksX2_nextRow_1 7 rfl rfl)
theorem dX2_nextRow_31 : decode cX2_nextRow 31 = .ok (.getfield 29, 3) := dk_180 0 29 (dk_at dksX2_nextRow_1 8 rfl rfl)
theorem dX2_nextRow_34 : decode cX2_nextRow 34 = .ok (.iload 4, 2) := dk_21 4 (dk_at dksX2_nextRow_1 11 rfl rfl)
theorem dX2_nextRow_36 : decode cX2_nextRow 36 = .ok (.iaload, 1) := dk_46 (dk_at dksX2_nextRow_1 13 rfl rfl)
theorem dX2_nextRow_37 : decode cX2_nextRow 37 = .ok (.aload_n 0, 1) := dk_42 (dk_at dksX2_nextRow_1 14 rfl rfl)
theorem dX2_nextRow_38 : decode cX2_nextRow 38 = .ok (.getfield 29, 3) := dk_180 0 29 (dk_at dksX2_nextRow_1 15 rfl rfl)
theorem dX2_nextRow_41 : decode cX2_nextRow 41 = .ok (.iload_n 2, 1) := dk_28 (dk_at dksX2_nextRow_1 18 rfl rfl)
theorem dX2_nextRow_42 : decode cX2_nextRow 42 = .ok (.iaload, 1) := dk_46 (dk_at dksX2_nextRow_1 19 rfl rfl)
theorem dX2_nextRow_43 : decode cX2_nextRow 43 = .ok (.if_icmp .ge 8, 3) := dk_162 0 8 (dk_at dksX2_nextRow_1 20 rfl rfl)
theorem dX2_nextRow_46 : decode cX2_nextRow 46 = .ok (.iload 4, 2) := dk_21 4 (dk_at dksX2_nextRow_2 0 rfl rfl)
theorem dX2_nextRow_48 : decode cX2_nextRow 48 = .ok (.goto 4, 3) := dk_167 0 4 (dk_at dksX2_nextRow_2 2 rfl rfl)
theorem dX2_nextRow_51 : decode cX2_nextRow 51 = .ok (.iload_n 2, 1) := dk_28 (dk_at dksX2_nextRow_2 5 rfl rfl)
theorem dX2_nextRow_52 : decode cX2_nextRow 52 = .ok (.istore_n 2, 1) := dk_61 (dk_at dksX2_nextRow_2 6 rfl rfl)
theorem dX2_nextRow_53 : decode cX2_nextRow 53 = .ok (.aload_n 0, 1) := dk_42 (dk_at dksX2_nextRow_2 7 rfl rfl)
theorem dX2_nextRow_54 : decode cX2_nextRow 54 = .ok (.getfield 29, 3) := dk_180 0 29 (dk_at dksX2_nextRow_2 8 rfl rfl)
theorem dX2_nextRow_57 : decode cX2_nextRow 57 = .ok (.iload 4, 2) := dk_21 4 (dk_at dksX2_nextRow_2 11 rfl rfl)
theorem dX2_nextRow_59 : decode cX2_nextRow 59 = .ok (.iaload, 1) := dk_46 (dk_at dksX2_nextRow_2 13 rfl rfl)
theorem dX2_nextRow_60 : decode cX2_nextRow 60 = .ok (.aload_n 0, 1) := dk_42 (dk_at dksX2_nextRow_2 14 rfl rfl)
theorem dX2_nextRow_61 : decode cX2_nextRow 61 = .ok (.getfield 29, 3) := dk_180 0 29 (dk_at dksX2_nextRow_2 15 rfl rfl)
theorem dX2_nextRow_64 : decode cX2_nextRow 64 = .ok (.iload_n 3, 1) := dk_29 (dk_at dksX2_nextRow_2 18 rfl rfl)
theorem dX2_nextRow_65 : decode cX2_nextRow 65 = .ok (.iaload, 1) := dk_46 (dk_at dksX2_nextRow_2 19 rfl rfl)
theorem dX2_nextRow_66 : decode cX2_nextRow 66 = .ok (.if_icmp .le 8, 3) := dk_164 0 8 (dk_at dksX2_nextRow_2 20 rfl rfl)
theorem dX2_nextRow_69 : decode cX2_nextRow 69 = .ok (.iload 4, 2) := dk_21 4 (dk_at dksX2_nextRow_3 0 rfl rfl)
theorem dX2_nextRow_71 : decode cX2_nextRow 71 = .ok (.goto 4, 3) := dk_167 0 4 (dk_at dksX2_nextRow_3 2 rfl rfl)
theorem dX2_nextRow_74 : decode cX2_nextRow 74 = .ok (.iload_n 3, 1) := dk_29 (dk_at dksX2_nextRow_3 5 rfl rfl)
theorem dX2_nextRow_75 : decode cX2_nextRow 75 = .ok (.istore_n 3, 1) := dk_62 (dk_at dksX2_nextRow_3 6 rfl rfl)
theorem dX2_nextRow_76 : decode cX2_nextRow 76 = .ok (.iinc 4 1, 3) := dk_132 4 1 (dk_at dksX2_nextRow_3 7 rfl rfl)
theorem dX2_nextRow_79 : decode cX2_nextRow 79 = .ok (.goto (-71), 3) := dk_167 255 185 (dk_at dksX2_nextRow_3 10 rfl rfl)
theorem dX2_nextRow_82 : decode cX2_nextRow 82 = .ok (.iload_n 2, 1) := dk_28 (dk_at dksX2_nextRow_3 13 rfl rfl)
theorem dX2_nextRow_83 : decode cX2_nextRow 83 = .ok (.ifCond .lt 7, 3) := dk_155 0 7 (dk_at dksX2_nextRow_3 14 rfl rfl)
theorem dX2_nextRow_86 : decode cX2_nextRow 86 = .ok (.iload_n 2, 1) := dk_28 (dk_at dksX2_nextRow_3 17 rfl rfl)
theorem dX2_nextRow_87 : decode cX2_nextRow 87 = .ok (.goto 4, 3) := dk_167 0 4 (dk_at dksX2_nextRow_3 18 rfl rfl)
theorem dX2_nextRow_90 : decode cX2_nextRow 90 = .ok (.iload_n 3, 1) := dk_29 (dk_at dksX2_nextRow_3 21 rfl rfl)
theorem dX2_nextRow_91 : decode cX2_nextRow 91 = .ok (.ireturn, 1) := dk_172 (dk_at dksX2_nextRow_3 22 rfl rfl)
abbrev cX2_giveBack : ByteArray := prog_12_method_33_code
def yX2_giveBack : MethodName := ⟨RX2, "giveBack", "(I)I"⟩
def dkwX2_giveBack_4 : List UInt8 := [27, 6, 21, 4, 182, 0, 117, 21, 4, 172]
abbrev dktX2_giveBack_4 : List UInt8 := dkwX2_giveBack_4 ++ []
def dkwX2_giveBack_3 : List UInt8 := [29, 42, 180, 0, 7, 5, 46, 104, 16, 100, 108, 167, 0, 4, 3, 54, 4, 42, 27, 7, 182, 0, 113, 42]
abbrev dktX2_giveBack_3 : List UInt8 := dkwX2_giveBack_3 ++ dktX2_giveBack_4
def dkwX2_giveBack_2 : List UInt8 := [27, 8, 182, 0, 88, 62, 28, 42, 180, 0, 7, 4, 46, 161, 0, 7, 29, 167, 0, 22, 28, 158, 0, 17]
abbrev dktX2_giveBack_2 : List UInt8 := dkwX2_giveBack_2 ++ dktX2_giveBack_3
def dkwX2_giveBack_1 : List UInt8 := [182, 0, 53, 42, 42, 27, 3, 182, 0, 88, 4, 182, 0, 75, 42, 180, 0, 7, 16, 6, 46, 100, 61, 42]
abbrev dktX2_giveBack_1 : List UInt8 := dkwX2_giveBack_1 ++ dktX2_giveBack_2
def dkwX2_giveBack_0 : List UInt8 := [42, 27, 182, 0, 110, 154, 0, 5, 2, 172, 42, 27, 7, 182, 0, 88, 153, 0, 6, 16, 251, 172, 42]
abbrev dktX2_giveBack_0 : List UInt8 := dkwX2_giveBack_0 ++ dktX2_giveBack_1
theorem dksX2_giveBack_0 : cX2_giveBack.data.toList.drop 0 = dktX2_giveBack_0 := by decide +kernel
theorem dksX2_giveBack_1 : cX2_giveBack.data.toList.drop 23 = dktX2_giveBack_1 := dk_seg dksX2_giveBack_0 23 rfl rfl
theorem dksX2_giveBack_2 : cX2_giveBack.data.toList.drop 47 = dktX2_giveBack_2 := dk_seg dksX2_giveBack_1 24 rfl rfl
theorem dksX2_giveBack_3 : cX2_giveBack.data.toList.drop 71 = dktX2_giveBack_3 := dk_seg dksX2_giveBack_2 24 rfl rfl
theorem dksX2_giveBack_4 : cX2_giveBack.data.toList.drop 95 = dktX2_giveBack_4 := dk_seg dksX2_giveBack_3 24 rfl rfl
theorem dX2_giveBack_0 : decode cX2_giveBack 0 = .ok (.aload_n 0, 1) := dk_42 (dk_at dksX2_giveBack_0 0 rfl rfl)
theorem dX2_giveBack_1 : decode cX2_giveBack 1 = .ok (.iload_n 1, 1) := dk_27 (dk_at dksX2_giveBack_0 1 rfl rfl)
theorem dX2_giveBack_2 : decode cX2_giveBack 2 = .ok (.invokevirtual 110, 3) := dk_182 0 110 (dk_at dksX2_giveBack_0 2 rfl rfl)
theorem dX2_giveBack_5 : decode cX2_giveBack 5 = .ok (.ifCond .ne 5, 3) := dk_154 0 5 (dk_at dksX2_giveBack_0 5 rfl rfl)
theorem dX2_giveBack_8 : decode cX2_giveBack 8 = .ok (.iconst (-1), 1) := dk_2 (dk_at dksX2_giveBack_0 8 rfl rfl)
theorem dX2_giveBack_9 : decode cX2_giveBack 9 = .ok (.ireturn, 1) := dk_172 (dk_at dksX2_giveBack_0 9 rfl rfl)
theorem dX2_giveBack_10 : decode cX2_giveBack 10 = .ok (.aload_n 0, 1) := dk_42 (dk_at dksX2_giveBack_0 10 rfl rfl)
theorem dX2_giveBack_11 : decode cX2_giveBack 11 = .ok (.iload_n 1, 1) := dk_27 (dk_at dksX2_giveBack_0 11 rfl rfl)
theorem dX2_giveBack_12 : decode cX2_giveBack 12 = .ok (.iconst 4, 1) := dk_7 (dk_at dksX2_giveBack_0 12 rfl rfl)
theorem dX2_giveBack_13 : decode cX2_giveBack 13 = .ok (.invokevirtual 88, 3) := dk_182 0 88 (dk_at dksX2_giveBack_0 13 rfl rfl)
theorem dX2_giveBack_16 : decode cX2_giveBack 16 = .ok (.ifCond .eq 6, 3) := dk_153 0 6 (dk_at dksX2_giveBack_0 16 rfl rfl)
theorem dX2_giveBack_19 : decode cX2_giveBack 19 = .ok (.bipush (-5), 2) := dk_16 251 (dk_at dksX2_giveBack_0 19 rfl rfl)
theorem dX2_giveBack_21 : decode cX2_giveBack 21 = .ok (.ireturn, 1) := dk_172 (dk_at dksX2_giveBack_0 21 rfl rfl)
theorem dX2_giveBack_22 : decode cX2_giveBack 22 = .ok (.aload_n 0, 1) := dk_42 (dk_at dksX2_giveBack_0 22 rfl rfl)
theorem dX2_giveBack_23 : decode cX2_giveBack 23 = .ok (.invokevirtual 53, 3) := dk_182 0 53 (dk_at dksX2_giveBack_1 0 rfl rfl)
theorem dX2_giveBack_26 : decode cX2_giveBack 26 = .ok (.aload_n 0, 1) := dk_42 (dk_at dksX2_giveBack_1 3 rfl rfl)
theorem dX2_giveBack_27 : decode cX2_giveBack 27 = .ok (.aload_n 0, 1) := dk_42 (dk_at dksX2_giveBack_1 4 rfl rfl)
theorem dX2_giveBack_28 : decode cX2_giveBack 28 = .ok (.iload_n 1, 1) := dk_27 (dk_at dksX2_giveBack_1 5 rfl rfl)
theorem dX2_giveBack_29 : decode cX2_giveBack 29 = .ok (.iconst 0, 1) := dk_3 (dk_at dksX2_giveBack_1 6 rfl rfl)
theorem dX2_giveBack_30 : decode cX2_giveBack 30 = .ok (.invokevirtual 88, 3) := dk_182 0 88 (dk_at dksX2_giveBack_1 7 rfl rfl)
theorem dX2_giveBack_33 : decode cX2_giveBack 33 = .ok (.iconst 1, 1) := dk_4 (dk_at dksX2_giveBack_1 10 rfl rfl)
theorem dX2_giveBack_34 : decode cX2_giveBack 34 = .ok (.invokevirtual 75, 3) := dk_182 0 75 (dk_at dksX2_giveBack_1 11 rfl rfl)
theorem dX2_giveBack_37 : decode cX2_giveBack 37 = .ok (.aload_n 0, 1) := dk_42 (dk_at dksX2_giveBack_1 14 rfl rfl)
theorem dX2_giveBack_38 : decode cX2_giveBack 38 = .ok (.getfield 7, 3) := dk_180 0 7 (dk_at dksX2_giveBack_1 15 rfl rfl)
theorem dX2_giveBack_41 : decode cX2_giveBack 41 = .ok (.bipush 6, 2) := dk_16 6 (dk_at dksX2_giveBack_1 18 rfl rfl)
theorem dX2_giveBack_43 : decode cX2_giveBack 43 = .ok (.iaload, 1) := dk_46 (dk_at dksX2_giveBack_1 20 rfl rfl)
theorem dX2_giveBack_44 : decode cX2_giveBack 44 = .ok (.isub, 1) := dk_100 (dk_at dksX2_giveBack_1 21 rfl rfl)
theorem dX2_giveBack_45 : decode cX2_giveBack 45 = .ok (.istore_n 2, 1) := dk_61 (dk_at dksX2_giveBack_1 22 rfl rfl)
theorem dX2_giveBack_46 : decode cX2_giveBack 46 = .ok (.aload_n 0, 1) := dk_42 (dk_at dksX2_giveBack_1 23 rfl rfl)
theorem dX2_giveBack_47 : decode cX2_giveBack 47 = .ok (.iload_n 1, 1) := dk_27 (dk_at dksX2_giveBack_2 0 rfl rfl)
theorem dX2_giveBack_48 : decode cX2_giveBack 48 = .ok (.iconst 5, 1) := dk_8 (dk_at dksX2_giveBack_2 1 rfl rfl)
theorem dX2_giveBack_49 : decode cX2_giveBack 49 = .ok (.invokevirtual 88, 3) := dk_182 0 88 (dk_at dksX2_giveBack_2 2 rfl rfl)
theorem dX2_giveBack_52 : decode cX2_giveBack 52 = .ok (.istore_n 3, 1) := dk_62 (dk_at dksX2_giveBack_2 5 rfl rfl)
theorem dX2_giveBack_53 : decode cX2_giveBack 53 = .ok (.iload_n 2, 1) := dk_28 (dk_at dksX2_giveBack_2 6 rfl rfl)
theorem dX2_giveBack_54 : decode cX2_giveBack 54 = .ok (.aload_n 0, 1) := dk_42 (dk_at dksX2_giveBack_2 7 rfl rfl)
theorem dX2_giveBack_55 : decode cX2_giveBack 55 = .ok (.getfield 7, 3) := dk_180 0 7 (dk_at dksX2_giveBack_2 8 rfl rfl)
theorem dX2_giveBack_58 : decode cX2_giveBack 58 = .ok (.iconst 1, 1) := dk_4 (dk_at dksX2_giveBack_2 11 rfl rfl)
theorem dX2_giveBack_59 : decode cX2_giveBack 59 = .ok (.iaload, 1) := dk_46 (dk_at dksX2_giveBack_2 12 rfl rfl)
theorem dX2_giveBack_60 : decode cX2_giveBack 60 = .ok (.if_icmp .lt 7, 3) := dk_161 0 7 (dk_at dksX2_giveBack_2 13 rfl rfl)
theorem dX2_giveBack_63 : decode cX2_giveBack 63 = .ok (.iload_n 3, 1) := dk_29 (dk_at dksX2_giveBack_2 16 rfl rfl)
theorem dX2_giveBack_64 : decode cX2_giveBack 64 = .ok (.goto 22, 3) := dk_167 0 22 (dk_at dksX2_giveBack_2 17 rfl rfl)
theorem dX2_giveBack_67 : decode cX2_giveBack 67 = .ok (.iload_n 2, 1) := dk_28 (dk_at dksX2_giveBack_2 20 rfl rfl)
theorem dX2_giveBack_68 : decode cX2_giveBack 68 = .ok (.ifCond .le 17, 3) := dk_158 0 17 (dk_at dksX2_giveBack_2 21 rfl rfl)
theorem dX2_giveBack_71 : decode cX2_giveBack 71 = .ok (.iload_n 3, 1) := dk_29 (dk_at dksX2_giveBack_3 0 rfl rfl)
theorem dX2_giveBack_72 : decode cX2_giveBack 72 = .ok (.aload_n 0, 1) := dk_42 (dk_at dksX2_giveBack_3 1 rfl rfl)
theorem dX2_giveBack_73 : decode cX2_giveBack 73 = .ok (.getfield 7, 3) := dk_180 0 7 (dk_at dksX2_giveBack_3 2 rfl rfl)
theorem dX2_giveBack_76 : decode cX2_giveBack 76 = .ok (.iconst 2, 1) := dk_5 (dk_at dksX2_giveBack_3 5 rfl rfl)
theorem dX2_giveBack_77 : decode cX2_giveBack 77 = .ok (.iaload, 1) := dk_46 (dk_at dksX2_giveBack_3 6 rfl rfl)
theorem dX2_giveBack_78 : decode cX2_giveBack 78 = .ok (.imul, 1) := dk_104 (dk_at dksX2_giveBack_3 7 rfl rfl)
theorem dX2_giveBack_79 : decode cX2_giveBack 79 = .ok (.bipush 100, 2) := dk_16 100 (dk_at dksX2_giveBack_3 8 rfl rfl)
theorem dX2_giveBack_81 : decode cX2_giveBack 81 = .ok (.idiv, 1) := dk_108 (dk_at dksX2_giveBack_3 10 rfl rfl)
theorem dX2_giveBack_82 : decode cX2_giveBack 82 = .ok (.goto 4, 3) := dk_167 0 4 (dk_at dksX2_giveBack_3 11 rfl rfl)
theorem dX2_giveBack_85 : decode cX2_giveBack 85 = .ok (.iconst 0, 1) := dk_3 (dk_at dksX2_giveBack_3 14 rfl rfl)
theorem dX2_giveBack_86 : decode cX2_giveBack 86 = .ok (.istore 4, 2) := dk_54 4 (dk_at dksX2_giveBack_3 15 rfl rfl)
theorem dX2_giveBack_88 : decode cX2_giveBack 88 = .ok (.aload_n 0, 1) := dk_42 (dk_at dksX2_giveBack_3 17 rfl rfl)
theorem dX2_giveBack_89 : decode cX2_giveBack 89 = .ok (.iload_n 1, 1) := dk_27 (dk_at dksX2_giveBack_3 18 rfl rfl)
theorem dX2_giveBack_90 : decode cX2_giveBack 90 = .ok (.iconst 4, 1) := dk_7 (dk_at dksX2_giveBack_3 19 rfl rfl)
theorem dX2_giveBack_91 : decode cX2_giveBack 91 = .ok (.invokevirtual 113, 3) := dk_182 0 113 (dk_at dksX2_giveBack_3 20 rfl rfl)
theorem dX2_giveBack_94 : decode cX2_giveBack 94 = .ok (.aload_n 0, 1) := dk_42 (dk_at dksX2_giveBack_3 23 rfl rfl)
theorem dX2_giveBack_95 : decode cX2_giveBack 95 = .ok (.iload_n 1, 1) := dk_27 (dk_at dksX2_giveBack_4 0 rfl rfl)
theorem dX2_giveBack_96 : decode cX2_giveBack 96 = .ok (.iconst 3, 1) := dk_6 (dk_at dksX2_giveBack_4 1 rfl rfl)
theorem dX2_giveBack_97 : decode cX2_giveBack 97 = .ok (.iload 4, 2) := dk_21 4 (dk_at dksX2_giveBack_4 2 rfl rfl)
theorem dX2_giveBack_99 : decode cX2_giveBack 99 = .ok (.invokevirtual 117, 3) := dk_182 0 117 (dk_at dksX2_giveBack_4 4 rfl rfl)
theorem dX2_giveBack_102 : decode cX2_giveBack 102 = .ok (.iload 4, 2) := dk_21 4 (dk_at dksX2_giveBack_4 7 rfl rfl)
theorem dX2_giveBack_104 : decode cX2_giveBack 104 = .ok (.ireturn, 1) := dk_172 (dk_at dksX2_giveBack_4 9 rfl rfl)
abbrev cX2_isBooking : ByteArray := prog_12_method_23_code
def yX2_isBooking : MethodName := ⟨RX2, "isBooking", "(I)Z"⟩
def dkwX2_isBooking_0 : List UInt8 := [27, 3, 42, 180, 0, 7, 16, 10, 46, 4, 100, 184, 0, 49, 172]
abbrev dktX2_isBooking_0 : List UInt8 := dkwX2_isBooking_0 ++ []
theorem dksX2_isBooking_0 : cX2_isBooking.data.toList.drop 0 = dktX2_isBooking_0 := by decide +kernel
theorem dX2_isBooking_0 : decode cX2_isBooking 0 = .ok (.iload_n 1, 1) := dk_27 (dk_at dksX2_isBooking_0 0 rfl rfl)
theorem dX2_isBooking_1 : decode cX2_isBooking 1 = .ok (.iconst 0, 1) := dk_3 (dk_at dksX2_isBooking_0 1 rfl rfl)
theorem dX2_isBooking_2 : decode cX2_isBooking 2 = .ok (.aload_n 0, 1) := dk_42 (dk_at dksX2_isBooking_0 2 rfl rfl)
theorem dX2_isBooking_3 : decode cX2_isBooking 3 = .ok (.getfield 7, 3) := dk_180 0 7 (dk_at dksX2_isBooking_0 3 rfl rfl)
theorem dX2_isBooking_6 : decode cX2_isBooking 6 = .ok (.bipush 10, 2) := dk_16 10 (dk_at dksX2_isBooking_0 6 rfl rfl)
theorem dX2_isBooking_8 : decode cX2_isBooking 8 = .ok (.iaload, 1) := dk_46 (dk_at dksX2_isBooking_0 8 rfl rfl)
theorem dX2_isBooking_9 : decode cX2_isBooking 9 = .ok (.iconst 1, 1) := dk_4 (dk_at dksX2_isBooking_0 9 rfl rfl)
theorem dX2_isBooking_10 : decode cX2_isBooking 10 = .ok (.isub, 1) := dk_100 (dk_at dksX2_isBooking_0 10 rfl rfl)
theorem dX2_isBooking_11 : decode cX2_isBooking 11 = .ok (.invokestatic 49, 3) := dk_184 0 49 (dk_at dksX2_isBooking_0 11 rfl rfl)
theorem dX2_isBooking_14 : decode cX2_isBooking 14 = .ok (.ireturn, 1) := dk_172 (dk_at dksX2_isBooking_0 14 rfl rfl)
abbrev cX2_tally : ByteArray := prog_12_method_30_code
def yX2_tally : MethodName := ⟨RX2, "tally", "(II)V"⟩
def dkwX2_tally_5 : List UInt8 := [96, 92, 46, 42, 27, 4, 182, 0, 88, 96, 79, 132, 4, 1, 167, 255, 134, 177]
abbrev dktX2_tally_5 : List UInt8 := dkwX2_tally_5 ++ []
def dkwX2_tally_4 : List UInt8 := [182, 0, 75, 42, 180, 0, 7, 21, 5, 6, 96, 46, 163, 0, 23, 42, 180, 0, 7, 21, 5, 8, 96, 28]
abbrev dktX2_tally_4 : List UInt8 := dkwX2_tally_4 ++ dktX2_tally_5
def dkwX2_tally_3 : List UInt8 := [42, 29, 3, 182, 0, 75, 160, 0, 7, 4, 167, 0, 4, 3, 54, 6, 21, 6, 153, 0, 41, 42, 29, 4]
abbrev dktX2_tally_3 : List UInt8 := dkwX2_tally_3 ++ dktX2_tally_4
def dkwX2_tally_2 : List UInt8 := [180, 0, 7, 21, 5, 46, 42, 27, 5, 182, 0, 88, 160, 0, 25, 42, 180, 0, 7, 21, 5, 4, 96, 46]
abbrev dktX2_tally_2 : List UInt8 := dkwX2_tally_2 ++ dktX2_tally_3
def dkwX2_tally_1 : List UInt8 := [17, 7, 68, 16, 10, 21, 4, 104, 96, 54, 5, 42, 180, 0, 7, 21, 5, 7, 96, 46, 154, 0, 41, 42]
abbrev dktX2_tally_1 : List UInt8 := dkwX2_tally_1 ++ dktX2_tally_2
def dkwX2_tally_0 : List UInt8 := [42, 27, 3, 182, 0, 88, 62, 3, 54, 4, 21, 4, 42, 180, 0, 7, 16, 12, 46, 162, 0, 116]
abbrev dktX2_tally_0 : List UInt8 := dkwX2_tally_0 ++ dktX2_tally_1
theorem dksX2_tally_0 : cX2_tally.data.toList.drop 0 = dktX2_tally_0 := by decide +kernel
theorem dksX2_tally_1 : cX2_tally.data.toList.drop 22 = dktX2_tally_1 := dk_seg dksX2_tally_0 22 rfl rfl
theorem dksX2_tally_2 : cX2_tally.data.toList.drop 46 = dktX2_tally_2 := dk_seg dksX2_tally_1 24 rfl rfl
theorem dksX2_tally_3 : cX2_tally.data.toList.drop 70 = dktX2_tally_3 := dk_seg dksX2_tally_2 24 rfl rfl
theorem dksX2_tally_4 : cX2_tally.data.toList.drop 94 = dktX2_tally_4 := dk_seg dksX2_tally_3 24 rfl rfl
theorem dksX2_tally_5 : cX2_tally.data.toList.drop 118 = dktX2_tally_5 := dk_seg dksX2_tally_4 24 rfl rfl
theorem dX2_tally_0 : decode cX2_tally 0 = .ok (.aload_n 0, 1) := dk_42 (dk_at dksX2_tally_0 0 rfl rfl)
theorem dX2_tally_1 : decode cX2_tally 1 = .ok (.iload_n 1, 1) := dk_27 (dk_at dksX2_tally_0 1 rfl rfl)
theorem dX2_tally_2 : decode cX2_tally 2 = .ok (.iconst 0, 1) := dk_3 (dk_at dksX2_tally_0 2 rfl rfl)
theorem dX2_tally_3 : decode cX2_tally 3 = .ok (.invokevirtual 88, 3) := dk_182 0 88 (dk_at dksX2_tally_0 3 rfl rfl)
theorem dX2_tally_6 : decode cX2_tally 6 = .ok (.istore_n 3, 1) := dk_62 (dk_at dksX2_tally_0 6 rfl rfl)
theorem dX2_tally_7 : decode cX2_tally 7 = .ok (.iconst 0, 1) := dk_3 (dk_at dksX2_tally_0 7 rfl rfl)
theorem dX2_tally_8 : decode cX2_tally 8 = .ok (.istore 4, 2) := dk_54 4 (dk_at dksX2_tally_0 8 rfl rfl)
theorem dX2_tally_10 : decode cX2_tally 10 = .ok (.iload 4, 2) := dk_21 4 (dk_at dksX2_tally_0 10 rfl rfl)
theorem dX2_tally_12 : decode cX2_tally 12 = .ok (.aload_n 0, 1) := dk_42 (dk_at dksX2_tally_0 12 rfl rfl)
theorem dX2_tally_13 : decode cX2_tally 13 = .ok (.getfield 7, 3) := dk_180 0 7 (dk_at dksX2_tally_0 13 rfl rfl)
theorem dX2_tally_16 : decode cX2_tally 16 = .ok (.bipush 12, 2) := dk_16 12 (dk_at dksX2_tally_0 16 rfl rfl)
theorem dX2_tally_18 : decode cX2_tally 18 = .ok (.iaload, 1) := dk_46 (dk_at dksX2_tally_0 18 rfl rfl)
theorem dX2_tally_19 : decode cX2_tally 19 = .ok (.if_icmp .ge 116, 3) := dk_162 0 116 (dk_at dksX2_tally_0 19 rfl rfl)
theorem dX2_tally_22 : decode cX2_tally 22 = .ok (.sipush 1860, 3) := dk_17 7 68 (dk_at dksX2_tally_1 0 rfl rfl)
theorem dX2_tally_25 : decode cX2_tally 25 = .ok (.bipush 10, 2) := dk_16 10 (dk_at dksX2_tally_1 3 rfl rfl)
theorem dX2_tally_27 : decode cX2_tally 27 = .ok (.iload 4, 2) := dk_21 4 (dk_at dksX2_tally_1 5 rfl rfl)
theorem dX2_tally_29 : decode cX2_tally 29 = .ok (.imul, 1) := dk_104 (dk_at dksX2_tally_1 7 rfl rfl)
theorem dX2_tally_30 : decode cX2_tally 30 = .ok (.iadd, 1) := dk_96 (dk_at dksX2_tally_1 8 rfl rfl)
theorem dX2_tally_31 : decode cX2_tally 31 = .ok (.istore 5, 2) := dk_54 5 (dk_at dksX2_tally_1 9 rfl rfl)
theorem dX2_tally_33 : decode cX2_tally 33 = .ok (.aload_n 0, 1) := dk_42 (dk_at dksX2_tally_1 11 rfl rfl)
theorem dX2_tally_34 : decode cX2_tally 34 = .ok (.getfield 7, 3) := dk_180 0 7 (dk_at dksX2_tally_1 12 rfl rfl)
theorem dX2_tally_37 : decode cX2_tally 37 = .ok (.iload 5, 2) := dk_21 5 (dk_at dksX2_tally_1 15 rfl rfl)
theorem dX2_tally_39 : decode cX2_tally 39 = .ok (.iconst 4, 1) := dk_7 (dk_at dksX2_tally_1 17 rfl rfl)
theorem dX2_tally_40 : decode cX2_tally 40 = .ok (.iadd, 1) := dk_96 (dk_at dksX2_tally_1 18 rfl rfl)
theorem dX2_tally_41 : decode cX2_tally 41 = .ok (.iaload, 1) := dk_46 (dk_at dksX2_tally_1 19 rfl rfl)
theorem dX2_tally_42 : decode cX2_tally 42 = .ok (.ifCond .ne 41, 3) := dk_154 0 41 (dk_at dksX2_tally_1 20 rfl rfl)
theorem dX2_tally_45 : decode cX2_tally 45 = .ok (.aload_n 0, 1) := dk_42 (dk_at dksX2_tally_1 23 rfl rfl)
theorem dX2_tally_46 : decode cX2_tally 46 = .ok (.getfield 7, 3) := dk_180 0 7 (dk_at dksX2_tally_2 0 rfl rfl)
theorem dX2_tally_49 : decode cX2_tally 49 = .ok (.iload 5, 2) := dk_21 5 (dk_at dksX2_tally_2 3 rfl rfl)
theorem dX2_tally_51 : decode cX2_tally 51 = .ok (.iaload, 1) := dk_46 (dk_at dksX2_tally_2 5 rfl rfl)
theorem dX2_tally_52 : decode cX2_tally 52 = .ok (.aload_n 0, 1) := dk_42 (dk_at dksX2_tally_2 6 rfl rfl)
theorem dX2_tally_53 : decode cX2_tally 53 = .ok (.iload_n 1, 1) := dk_27 (dk_at dksX2_tally_2 7 rfl rfl)
theorem dX2_tally_54 : decode cX2_tally 54 = .ok (.iconst 2, 1) := dk_5 (dk_at dksX2_tally_2 8 rfl rfl)
theorem dX2_tally_55 : decode cX2_tally 55 = .ok (.invokevirtual 88, 3) := dk_182 0 88 (dk_at dksX2_tally_2 9 rfl rfl)
theorem dX2_tally_58 : decode cX2_tally 58 = .ok (.if_icmp .ne 25, 3) := dk_160 0 25 (dk_at dksX2_tally_2 12 rfl rfl)
theorem dX2_tally_61 : decode cX2_tally 61 = .ok (.aload_n 0, 1) := dk_42 (dk_at dksX2_tally_2 15 rfl rfl)
theorem dX2_tally_62 : decode cX2_tally 62 = .ok (.getfield 7, 3) := dk_180 0 7 (dk_at dksX2_tally_2 16 rfl rfl)
theorem dX2_tally_65 : decode cX2_tally 65 = .ok (.iload 5, 2) := dk_21 5 (dk_at dksX2_tally_2 19 rfl rfl)
theorem dX2_tally_67 : decode cX2_tally 67 = .ok (.iconst 1, 1) := dk_4 (dk_at dksX2_tally_2 21 rfl rfl)
theorem dX2_tally_68 : decode cX2_tally 68 = .ok (.iadd, 1) := dk_96 (dk_at dksX2_tally_2 22 rfl rfl)
theorem dX2_tally_69 : decode cX2_tally 69 = .ok (.iaload, 1) := dk_46 (dk_at dksX2_tally_2 23 rfl rfl)
theorem dX2_tally_70 : decode cX2_tally 70 = .ok (.aload_n 0, 1) := dk_42 (dk_at dksX2_tally_3 0 rfl rfl)
theorem dX2_tally_71 : decode cX2_tally 71 = .ok (.iload_n 3, 1) := dk_29 (dk_at dksX2_tally_3 1 rfl rfl)
theorem dX2_tally_72 : decode cX2_tally 72 = .ok (.iconst 0, 1) := dk_3 (dk_at dksX2_tally_3 2 rfl rfl)
theorem dX2_tally_73 : decode cX2_tally 73 = .ok (.invokevirtual 75, 3) := dk_182 0 75 (dk_at dksX2_tally_3 3 rfl rfl)
theorem dX2_tally_76 : decode cX2_tally 76 = .ok (.if_icmp .ne 7, 3) := dk_160 0 7 (dk_at dksX2_tally_3 6 rfl rfl)
theorem dX2_tally_79 : decode cX2_tally 79 = .ok (.iconst 1, 1) := dk_4 (dk_at dksX2_tally_3 9 rfl rfl)
theorem dX2_tally_80 : decode cX2_tally 80 = .ok (.goto 4, 3) := dk_167 0 4 (dk_at dksX2_tally_3 10 rfl rfl)
theorem dX2_tally_83 : decode cX2_tally 83 = .ok (.iconst 0, 1) := dk_3 (dk_at dksX2_tally_3 13 rfl rfl)
theorem dX2_tally_84 : decode cX2_tally 84 = .ok (.istore 6, 2) := dk_54 6 (dk_at dksX2_tally_3 14 rfl rfl)
theorem dX2_tally_86 : decode cX2_tally 86 = .ok (.iload 6, 2) := dk_21 6 (dk_at dksX2_tally_3 16 rfl rfl)
theorem dX2_tally_88 : decode cX2_tally 88 = .ok (.ifCond .eq 41, 3) := dk_153 0 41 (dk_at dksX2_tally_3 18 rfl rfl)
theorem dX2_tally_91 : decode cX2_tally 91 = .ok (.aload_n 0, 1) := dk_42 (dk_at dksX2_tally_3 21 rfl rfl)
theorem dX2_tally_92 : decode cX2_tally 92 = .ok (.iload_n 3, 1) := dk_29 (dk_at dksX2_tally_3 22 rfl rfl)
theorem dX2_tally_93 : decode cX2_tally 93 = .ok (.iconst 1, 1) := dk_4 (dk_at dksX2_tally_3 23 rfl rfl)
theorem dX2_tally_94 : decode cX2_tally 94 = .ok (.invokevirtual 75, 3) := dk_182 0 75 (dk_at dksX2_tally_4 0 rfl rfl)
theorem dX2_tally_97 : decode cX2_tally 97 = .ok (.aload_n 0, 1) := dk_42 (dk_at dksX2_tally_4 3 rfl rfl)
theorem dX2_tally_98 : decode cX2_tally 98 = .ok (.getfield 7, 3) := dk_180 0 7 (dk_at dksX2_tally_4 4 rfl rfl)
theorem dX2_tally_101 : decode cX2_tally 101 = .ok (.iload 5, 2) := dk_21 5 (dk_at dksX2_tally_4 7 rfl rfl)
theorem dX2_tally_103 : decode cX2_tally 103 = .ok (.iconst 3, 1) := dk_6 (dk_at dksX2_tally_4 9 rfl rfl)
theorem dX2_tally_104 : decode cX2_tally 104 = .ok (.iadd, 1) := dk_96 (dk_at dksX2_tally_4 10 rfl rfl)
theorem dX2_tally_105 : decode cX2_tally 105 = .ok (.iaload, 1) := dk_46 (dk_at dksX2_tally_4 11 rfl rfl)
theorem dX2_tally_106 : decode cX2_tally 106 = .ok (.if_icmp .gt 23, 3) := dk_163 0 23 (dk_at dksX2_tally_4 12 rfl rfl)
theorem dX2_tally_109 : decode cX2_tally 109 = .ok (.aload_n 0, 1) := dk_42 (dk_at dksX2_tally_4 15 rfl rfl)
theorem dX2_tally_110 : decode cX2_tally 110 = .ok (.getfield 7, 3) := dk_180 0 7 (dk_at dksX2_tally_4 16 rfl rfl)
theorem dX2_tally_113 : decode cX2_tally 113 = .ok (.iload 5, 2) := dk_21 5 (dk_at dksX2_tally_4 19 rfl rfl)
theorem dX2_tally_115 : decode cX2_tally 115 = .ok (.iconst 5, 1) := dk_8 (dk_at dksX2_tally_4 21 rfl rfl)
theorem dX2_tally_116 : decode cX2_tally 116 = .ok (.iadd, 1) := dk_96 (dk_at dksX2_tally_4 22 rfl rfl)
theorem dX2_tally_117 : decode cX2_tally 117 = .ok (.iload_n 2, 1) := dk_28 (dk_at dksX2_tally_4 23 rfl rfl)
theorem dX2_tally_118 : decode cX2_tally 118 = .ok (.iadd, 1) := dk_96 (dk_at dksX2_tally_5 0 rfl rfl)
theorem dX2_tally_119 : decode cX2_tally 119 = .ok (.dup2, 1) := dk_92 (dk_at dksX2_tally_5 1 rfl rfl)
theorem dX2_tally_120 : decode cX2_tally 120 = .ok (.iaload, 1) := dk_46 (dk_at dksX2_tally_5 2 rfl rfl)
theorem dX2_tally_121 : decode cX2_tally 121 = .ok (.aload_n 0, 1) := dk_42 (dk_at dksX2_tally_5 3 rfl rfl)
theorem dX2_tally_122 : decode cX2_tally 122 = .ok (.iload_n 1, 1) := dk_27 (dk_at dksX2_tally_5 4 rfl rfl)
theorem dX2_tally_123 : decode cX2_tally 123 = .ok (.iconst 1, 1) := dk_4 (dk_at dksX2_tally_5 5 rfl rfl)
theorem dX2_tally_124 : decode cX2_tally 124 = .ok (.invokevirtual 88, 3) := dk_182 0 88 (dk_at dksX2_tally_5 6 rfl rfl)
theorem dX2_tally_127 : decode cX2_tally 127 = .ok (.iadd, 1) := dk_96 (dk_at dksX2_tally_5 9 rfl rfl)
theorem dX2_tally_128 : decode cX2_tally 128 = .ok (.iastore, 1) := dk_79 (dk_at dksX2_tally_5 10 rfl rfl)
theorem dX2_tally_129 : decode cX2_tally 129 = .ok (.iinc 4 1, 3) := dk_132 4 1 (dk_at dksX2_tally_5 11 rfl rfl)
theorem dX2_tally_132 : decode cX2_tally 132 = .ok (.goto (-122), 3) := dk_167 255 134 (dk_at dksX2_tally_5 14 rfl rfl)
theorem dX2_tally_135 : decode cX2_tally 135 = .ok (.return_, 1) := dk_177 (dk_at dksX2_tally_5 17 rfl rfl)
abbrev cX2_vacate : ByteArray := prog_12_method_31_code
def yX2_vacate : MethodName := ⟨RX2, "vacate", "(III)V"⟩
def dkwX2_vacate_2 : List UInt8 := [16, 8, 96, 21, 5, 96, 3, 79, 132, 5, 1, 167, 255, 232, 177]
abbrev dktX2_vacate_2 : List UInt8 := dkwX2_vacate_2 ++ []
def dkwX2_vacate_1 : List UInt8 := [21, 4, 16, 6, 96, 29, 79, 3, 54, 5, 21, 5, 16, 8, 162, 0, 23, 42, 180, 0, 7, 21, 4]
abbrev dktX2_vacate_1 : List UInt8 := dkwX2_vacate_1 ++ dktX2_vacate_2
def dkwX2_vacate_0 : List UInt8 := [17, 2, 8, 16, 16, 27, 104, 96, 54, 4, 42, 180, 0, 7, 21, 4, 7, 96, 28, 79, 42, 180, 0, 7]
abbrev dktX2_vacate_0 : List UInt8 := dkwX2_vacate_0 ++ dktX2_vacate_1
theorem dksX2_vacate_0 : cX2_vacate.data.toList.drop 0 = dktX2_vacate_0 := by decide +kernel
theorem dksX2_vacate_1 : cX2_vacate.data.toList.drop 24 = dktX2_vacate_1 := dk_seg dksX2_vacate_0 24 rfl rfl
theorem dksX2_vacate_2 : cX2_vacate.data.toList.drop 47 = dktX2_vacate_2 := dk_seg dksX2_vacate_1 23 rfl rfl
theorem dX2_vacate_0 : decode cX2_vacate 0 = .ok (.sipush 520, 3) := dk_17 2 8 (dk_at dksX2_vacate_0 0 rfl rfl)
theorem dX2_vacate_3 : decode cX2_vacate 3 = .ok (.bipush 16, 2) := dk_16 16 (dk_at dksX2_vacate_0 3 rfl rfl)
theorem dX2_vacate_5 : decode cX2_vacate 5 = .ok (.iload_n 1, 1) := dk_27 (dk_at dksX2_vacate_0 5 rfl rfl)
theorem dX2_vacate_6 : decode cX2_vacate 6 = .ok (.imul, 1) := dk_104 (dk_at dksX2_vacate_0 6 rfl rfl)
theorem dX2_vacate_7 : decode cX2_vacate 7 = .ok (.iadd, 1) := dk_96 (dk_at dksX2_vacate_0 7 rfl rfl)
theorem dX2_vacate_8 : decode cX2_vacate 8 = .ok (.istore 4, 2) := dk_54 4 (dk_at dksX2_vacate_0 8 rfl rfl)
theorem dX2_vacate_10 : decode cX2_vacate 10 = .ok (.aload_n 0, 1) := dk_42 (dk_at dksX2_vacate_0 10 rfl rfl)
theorem dX2_vacate_11 : decode cX2_vacate 11 = .ok (.getfield 7, 3) := dk_180 0 7 (dk_at dksX2_vacate_0 11 rfl rfl)
theorem dX2_vacate_14 : decode cX2_vacate 14 = .ok (.iload 4, 2) := dk_21 4 (dk_at dksX2_vacate_0 14 rfl rfl)
theorem dX2_vacate_16 : decode cX2_vacate 16 = .ok (.iconst 4, 1) := dk_7 (dk_at dksX2_vacate_0 16 rfl rfl)
theorem dX2_vacate_17 : decode cX2_vacate 17 = .ok (.iadd, 1) := dk_96 (dk_at dksX2_vacate_0 17 rfl rfl)
theorem dX2_vacate_18 : decode cX2_vacate 18 = .ok (.iload_n 2, 1) := dk_28 (dk_at dksX2_vacate_0 18 rfl rfl)
theorem dX2_vacate_19 : decode cX2_vacate 19 = .ok (.iastore, 1) := dk_79 (dk_at dksX2_vacate_0 19 rfl rfl)
theorem dX2_vacate_20 : decode cX2_vacate 20 = .ok (.aload_n 0, 1) := dk_42 (dk_at dksX2_vacate_0 20 rfl rfl)
theorem dX2_vacate_21 : decode cX2_vacate 21 = .ok (.getfield 7, 3) := dk_180 0 7 (dk_at dksX2_vacate_0 21 rfl rfl)
theorem dX2_vacate_24 : decode cX2_vacate 24 = .ok (.iload 4, 2) := dk_21 4 (dk_at dksX2_vacate_1 0 rfl rfl)
theorem dX2_vacate_26 : decode cX2_vacate 26 = .ok (.bipush 6, 2) := dk_16 6 (dk_at dksX2_vacate_1 2 rfl rfl)
theorem dX2_vacate_28 : decode cX2_vacate 28 = .ok (.iadd, 1) := dk_96 (dk_at dksX2_vacate_1 4 rfl rfl)
theorem dX2_vacate_29 : decode cX2_vacate 29 = .ok (.iload_n 3, 1) := dk_29 (dk_at dksX2_vacate_1 5 rfl rfl)
theorem dX2_vacate_30 : decode cX2_vacate 30 = .ok (.iastore, 1) := dk_79 (dk_at dksX2_vacate_1 6 rfl rfl)
theorem dX2_vacate_31 : decode cX2_vacate 31 = .ok (.iconst 0, 1) := dk_3 (dk_at dksX2_vacate_1 7 rfl rfl)
theorem dX2_vacate_32 : decode cX2_vacate 32 = .ok (.istore 5, 2) := dk_54 5 (dk_at dksX2_vacate_1 8 rfl rfl)
theorem dX2_vacate_34 : decode cX2_vacate 34 = .ok (.iload 5, 2) := dk_21 5 (dk_at dksX2_vacate_1 10 rfl rfl)
theorem dX2_vacate_36 : decode cX2_vacate 36 = .ok (.bipush 8, 2) := dk_16 8 (dk_at dksX2_vacate_1 12 rfl rfl)
theorem dX2_vacate_38 : decode cX2_vacate 38 = .ok (.if_icmp .ge 23, 3) := dk_162 0 23 (dk_at dksX2_vacate_1 14 rfl rfl)
theorem dX2_vacate_41 : decode cX2_vacate 41 = .ok (.aload_n 0, 1) := dk_42 (dk_at dksX2_vacate_1 17 rfl rfl)
theorem dX2_vacate_42 : decode cX2_vacate 42 = .ok (.getfield 7, 3) := dk_180 0 7 (dk_at dksX2_vacate_1 18 rfl rfl)
theorem dX2_vacate_45 : decode cX2_vacate 45 = .ok (.iload 4, 2) := dk_21 4 (dk_at dksX2_vacate_1 21 rfl rfl)
theorem dX2_vacate_47 : decode cX2_vacate 47 = .ok (.bipush 8, 2) := dk_16 8 (dk_at dksX2_vacate_2 0 rfl rfl)
theorem dX2_vacate_49 : decode cX2_vacate 49 = .ok (.iadd, 1) := dk_96 (dk_at dksX2_vacate_2 2 rfl rfl)
theorem dX2_vacate_50 : decode cX2_vacate 50 = .ok (.iload 5, 2) := dk_21 5 (dk_at dksX2_vacate_2 3 rfl rfl)
theorem dX2_vacate_52 : decode cX2_vacate 52 = .ok (.iadd, 1) := dk_96 (dk_at dksX2_vacate_2 5 rfl rfl)
theorem dX2_vacate_53 : decode cX2_vacate 53 = .ok (.iconst 0, 1) := dk_3 (dk_at dksX2_vacate_2 6 rfl rfl)
theorem dX2_vacate_54 : decode cX2_vacate 54 = .ok (.iastore, 1) := dk_79 (dk_at dksX2_vacate_2 7 rfl rfl)
theorem dX2_vacate_55 : decode cX2_vacate 55 = .ok (.iinc 5 1, 3) := dk_132 5 1 (dk_at dksX2_vacate_2 8 rfl rfl)
theorem dX2_vacate_58 : decode cX2_vacate 58 = .ok (.goto (-24), 3) := dk_167 255 232 (dk_at dksX2_vacate_2 11 rfl rfl)
theorem dX2_vacate_61 : decode cX2_vacate 61 = .ok (.return_, 1) := dk_177 (dk_at dksX2_vacate_2 14 rfl rfl)
abbrev cX2_event : ByteArray := prog_12_method_40_code
def yX2_event : MethodName := ⟨RX2, "event", "(III)I"⟩
def dkwX2_event_1 : List UInt8 := [29, 182, 0, 137, 42, 180, 0, 32, 3, 46, 42, 180, 0, 32, 4, 46, 96, 172]
abbrev dktX2_event_1 : List UInt8 := dkwX2_event_1 ++ []
def dkwX2_event_0 : List UInt8 := [42, 27, 28, 29, 182, 0, 133, 54, 4, 21, 4, 156, 0, 6, 21, 4, 172, 42, 182, 0, 53, 42, 27, 28]
abbrev dktX2_event_0 : List UInt8 := dkwX2_event_0 ++ dktX2_event_1
theorem dksX2_event_0 : cX2_event.data.toList.drop 0 = dktX2_event_0 := by decide +kernel
theorem dksX2_event_1 : cX2_event.data.toList.drop 24 = dktX2_event_1 := dk_seg dksX2_event_0 24 rfl rfl
theorem dX2_event_0 : decode cX2_event 0 = .ok (.aload_n 0, 1) := dk_42 (dk_at dksX2_event_0 0 rfl rfl)
theorem dX2_event_1 : decode cX2_event 1 = .ok (.iload_n 1, 1) := dk_27 (dk_at dksX2_event_0 1 rfl rfl)
theorem dX2_event_2 : decode cX2_event 2 = .ok (.iload_n 2, 1) := dk_28 (dk_at dksX2_event_0 2 rfl rfl)
theorem dX2_event_3 : decode cX2_event 3 = .ok (.iload_n 3, 1) := dk_29 (dk_at dksX2_event_0 3 rfl rfl)
theorem dX2_event_4 : decode cX2_event 4 = .ok (.invokevirtual 133, 3) := dk_182 0 133 (dk_at dksX2_event_0 4 rfl rfl)
theorem dX2_event_7 : decode cX2_event 7 = .ok (.istore 4, 2) := dk_54 4 (dk_at dksX2_event_0 7 rfl rfl)
theorem dX2_event_9 : decode cX2_event 9 = .ok (.iload 4, 2) := dk_21 4 (dk_at dksX2_event_0 9 rfl rfl)
theorem dX2_event_11 : decode cX2_event 11 = .ok (.ifCond .ge 6, 3) := dk_156 0 6 (dk_at dksX2_event_0 11 rfl rfl)
theorem dX2_event_14 : decode cX2_event 14 = .ok (.iload 4, 2) := dk_21 4 (dk_at dksX2_event_0 14 rfl rfl)
theorem dX2_event_16 : decode cX2_event 16 = .ok (.ireturn, 1) := dk_172 (dk_at dksX2_event_0 16 rfl rfl)
theorem dX2_event_17 : decode cX2_event 17 = .ok (.aload_n 0, 1) := dk_42 (dk_at dksX2_event_0 17 rfl rfl)
theorem dX2_event_18 : decode cX2_event 18 = .ok (.invokevirtual 53, 3) := dk_182 0 53 (dk_at dksX2_event_0 18 rfl rfl)
theorem dX2_event_21 : decode cX2_event 21 = .ok (.aload_n 0, 1) := dk_42 (dk_at dksX2_event_0 21 rfl rfl)
theorem dX2_event_22 : decode cX2_event 22 = .ok (.iload_n 1, 1) := dk_27 (dk_at dksX2_event_0 22 rfl rfl)
theorem dX2_event_23 : decode cX2_event 23 = .ok (.iload_n 2, 1) := dk_28 (dk_at dksX2_event_0 23 rfl rfl)
theorem dX2_event_24 : decode cX2_event 24 = .ok (.iload_n 3, 1) := dk_29 (dk_at dksX2_event_1 0 rfl rfl)
theorem dX2_event_25 : decode cX2_event 25 = .ok (.invokevirtual 137, 3) := dk_182 0 137 (dk_at dksX2_event_1 1 rfl rfl)
theorem dX2_event_28 : decode cX2_event 28 = .ok (.aload_n 0, 1) := dk_42 (dk_at dksX2_event_1 4 rfl rfl)
theorem dX2_event_29 : decode cX2_event 29 = .ok (.getfield 32, 3) := dk_180 0 32 (dk_at dksX2_event_1 5 rfl rfl)
theorem dX2_event_32 : decode cX2_event 32 = .ok (.iconst 0, 1) := dk_3 (dk_at dksX2_event_1 8 rfl rfl)
theorem dX2_event_33 : decode cX2_event 33 = .ok (.iaload, 1) := dk_46 (dk_at dksX2_event_1 9 rfl rfl)
theorem dX2_event_34 : decode cX2_event 34 = .ok (.aload_n 0, 1) := dk_42 (dk_at dksX2_event_1 10 rfl rfl)
theorem dX2_event_35 : decode cX2_event 35 = .ok (.getfield 32, 3) := dk_180 0 32 (dk_at dksX2_event_1 11 rfl rfl)
theorem dX2_event_38 : decode cX2_event 38 = .ok (.iconst 1, 1) := dk_4 (dk_at dksX2_event_1 14 rfl rfl)
theorem dX2_event_39 : decode cX2_event 39 = .ok (.iaload, 1) := dk_46 (dk_at dksX2_event_1 15 rfl rfl)
theorem dX2_event_40 : decode cX2_event 40 = .ok (.iadd, 1) := dk_96 (dk_at dksX2_event_1 16 rfl rfl)
theorem dX2_event_41 : decode cX2_event 41 = .ok (.ireturn, 1) := dk_172 (dk_at dksX2_event_1 17 rfl rfl)
abbrev cX2_barOfEvent : ByteArray := prog_12_method_34_code
def yX2_barOfEvent : MethodName := ⟨RX2, "barOfEvent", "(III)I"⟩
def dkwX2_barOfEvent_4 : List UInt8 := [167, 255, 232, 3, 172]
abbrev dktX2_barOfEvent_4 : List UInt8 := dkwX2_barOfEvent_4 ++ []
def dkwX2_barOfEvent_3 : List UInt8 := [21, 4, 28, 29, 96, 162, 0, 22, 42, 27, 21, 4, 182, 0, 78, 155, 0, 6, 16, 251, 172, 132, 4, 1]
abbrev dktX2_barOfEvent_3 : List UInt8 := dkwX2_barOfEvent_3 ++ dktX2_barOfEvent_4
def dkwX2_barOfEvent_2 : List UInt8 := [164, 0, 6, 16, 254, 172, 42, 180, 0, 7, 16, 11, 46, 16, 20, 160, 0, 6, 16, 252, 172, 28, 54, 4]
abbrev dktX2_barOfEvent_2 : List UInt8 := dkwX2_barOfEvent_2 ++ dktX2_barOfEvent_3
def dkwX2_barOfEvent_1 : List UInt8 := [28, 3, 8, 184, 0, 49, 153, 0, 21, 29, 4, 16, 6, 184, 0, 49, 153, 0, 11, 28, 29, 96, 16, 6]
abbrev dktX2_barOfEvent_1 : List UInt8 := dkwX2_barOfEvent_1 ++ dktX2_barOfEvent_2
def dkwX2_barOfEvent_0 : List UInt8 := [27, 42, 180, 0, 7, 16, 6, 46, 42, 180, 0, 7, 16, 6, 46, 16, 60, 96, 184, 0, 49, 153, 0, 30]
abbrev dktX2_barOfEvent_0 : List UInt8 := dkwX2_barOfEvent_0 ++ dktX2_barOfEvent_1
theorem dksX2_barOfEvent_0 : cX2_barOfEvent.data.toList.drop 0 = dktX2_barOfEvent_0 := by decide +kernel
theorem dksX2_barOfEvent_1 : cX2_barOfEvent.data.toList.drop 24 = dktX2_barOfEvent_1 := dk_seg dksX2_barOfEvent_0 24 rfl rfl
theorem dksX2_barOfEvent_2 : cX2_barOfEvent.data.toList.drop 48 = dktX2_barOfEvent_2 := dk_seg dksX2_barOfEvent_1 24 rfl rfl
theorem dksX2_barOfEvent_3 : cX2_barOfEvent.data.toList.drop 72 = dktX2_barOfEvent_3 := dk_seg dksX2_barOfEvent_2 24 rfl rfl
theorem dksX2_barOfEvent_4 : cX2_barOfEvent.data.toList.drop 96 = dktX2_barOfEvent_4 := dk_seg dksX2_barOfEvent_3 24 rfl rfl
theorem dX2_barOfEvent_0 : decode cX2_barOfEvent 0 = .ok (.iload_n 1, 1) := dk_27 (dk_at dksX2_barOfEvent_0 0 rfl rfl)
theorem dX2_barOfEvent_1 : decode cX2_barOfEvent 1 = .ok (.aload_n 0, 1) := dk_42 (dk_at dksX2_barOfEvent_0 1 rfl rfl)
theorem dX2_barOfEvent_2 : decode cX2_barOfEvent 2 = .ok (.getfield 7, 3) := dk_180 0 7 (dk_at dksX2_barOfEvent_0 2 rfl rfl)
theorem dX2_barOfEvent_5 : decode cX2_barOfEvent 5 = .ok (.bipush 6, 2) := dk_16 6 (dk_at dksX2_barOfEvent_0 5 rfl rfl)
theorem dX2_barOfEvent_7 : decode cX2_barOfEvent 7 = .ok (.iaload, 1) := dk_46 (dk_at dksX2_barOfEvent_0 7 rfl rfl)
theorem dX2_barOfEvent_8 : decode cX2_barOfEvent 8 = .ok (.aload_n 0, 1) := dk_42 (dk_at dksX2_barOfEvent_0 8 rfl rfl)
theorem dX2_barOfEvent_9 : decode cX2_barOfEvent 9 = .ok (.getfield 7, 3) := dk_180 0 7 (dk_at dksX2_barOfEvent_0 9 rfl rfl)
theorem dX2_barOfEvent_12 : decode cX2_barOfEvent 12 = .ok (.bipush 6, 2) := dk_16 6 (dk_at dksX2_barOfEvent_0 12 rfl rfl)
theorem dX2_barOfEvent_14 : decode cX2_barOfEvent 14 = .ok (.iaload, 1) := dk_46 (dk_at dksX2_barOfEvent_0 14 rfl rfl)
theorem dX2_barOfEvent_15 : decode cX2_barOfEvent 15 = .ok (.bipush 60, 2) := dk_16 60 (dk_at dksX2_barOfEvent_0 15 rfl rfl)
theorem dX2_barOfEvent_17 : decode cX2_barOfEvent 17 = .ok (.iadd, 1) := dk_96 (dk_at dksX2_barOfEvent_0 17 rfl rfl)
theorem dX2_barOfEvent_18 : decode cX2_barOfEvent 18 = .ok (.invokestatic 49, 3) := dk_184 0 49 (dk_at dksX2_barOfEvent_0 18 rfl rfl)
theorem dX2_barOfEvent_21 : decode cX2_barOfEvent 21 = .ok (.ifCond .eq 30, 3) := dk_153 0 30 (dk_at dksX2_barOfEvent_0 21 rfl rfl)
theorem dX2_barOfEvent_24 : decode cX2_barOfEvent 24 = .ok (.iload_n 2, 1) := dk_28 (dk_at dksX2_barOfEvent_1 0 rfl rfl)
theorem dX2_barOfEvent_25 : decode cX2_barOfEvent 25 = .ok (.iconst 0, 1) := dk_3 (dk_at dksX2_barOfEvent_1 1 rfl rfl)
theorem dX2_barOfEvent_26 : decode cX2_barOfEvent 26 = .ok (.iconst 5, 1) := dk_8 (dk_at dksX2_barOfEvent_1 2 rfl rfl)
theorem dX2_barOfEvent_27 : decode cX2_barOfEvent 27 = .ok (.invokestatic 49, 3) := dk_184 0 49 (dk_at dksX2_barOfEvent_1 3 rfl rfl)
theorem dX2_barOfEvent_30 : decode cX2_barOfEvent 30 = .ok (.ifCond .eq 21, 3) := dk_153 0 21 (dk_at dksX2_barOfEvent_1 6 rfl rfl)
theorem dX2_barOfEvent_33 : decode cX2_barOfEvent 33 = .ok (.iload_n 3, 1) := dk_29 (dk_at dksX2_barOfEvent_1 9 rfl rfl)
theorem dX2_barOfEvent_34 : decode cX2_barOfEvent 34 = .ok (.iconst 1, 1) := dk_4 (dk_at dksX2_barOfEvent_1 10 rfl rfl)
theorem dX2_barOfEvent_35 : decode cX2_barOfEvent 35 = .ok (.bipush 6, 2) := dk_16 6 (dk_at dksX2_barOfEvent_1 11 rfl rfl)
theorem dX2_barOfEvent_37 : decode cX2_barOfEvent 37 = .ok (.invokestatic 49, 3) := dk_184 0 49 (dk_at dksX2_barOfEvent_1 13 rfl rfl)
theorem dX2_barOfEvent_40 : decode cX2_barOfEvent 40 = .ok (.ifCond .eq 11, 3) := dk_153 0 11 (dk_at dksX2_barOfEvent_1 16 rfl rfl)
theorem dX2_barOfEvent_43 : decode cX2_barOfEvent 43 = .ok (.iload_n 2, 1) := dk_28 (dk_at dksX2_barOfEvent_1 19 rfl rfl)
theorem dX2_barOfEvent_44 : decode cX2_barOfEvent 44 = .ok (.iload_n 3, 1) := dk_29 (dk_at dksX2_barOfEvent_1 20 rfl rfl)
theorem dX2_barOfEvent_45 : decode cX2_barOfEvent 45 = .ok (.iadd, 1) := dk_96 (dk_at dksX2_barOfEvent_1 21 rfl rfl)
theorem dX2_barOfEvent_46 : decode cX2_barOfEvent 46 = .ok (.bipush 6, 2) := dk_16 6 (dk_at dksX2_barOfEvent_1 22 rfl rfl)
theorem dX2_barOfEvent_48 : decode cX2_barOfEvent 48 = .ok (.if_icmp .le 6, 3) := dk_164 0 6 (dk_at dksX2_barOfEvent_2 0 rfl rfl)
theorem dX2_barOfEvent_51 : decode cX2_barOfEvent 51 = .ok (.bipush (-2), 2) := dk_16 254 (dk_at dksX2_barOfEvent_2 3 rfl rfl)
theorem dX2_barOfEvent_53 : decode cX2_barOfEvent 53 = .ok (.ireturn, 1) := dk_172 (dk_at dksX2_barOfEvent_2 5 rfl rfl)
theorem dX2_barOfEvent_54 : decode cX2_barOfEvent 54 = .ok (.aload_n 0, 1) := dk_42 (dk_at dksX2_barOfEvent_2 6 rfl rfl)
theorem dX2_barOfEvent_55 : decode cX2_barOfEvent 55 = .ok (.getfield 7, 3) := dk_180 0 7 (dk_at dksX2_barOfEvent_2 7 rfl rfl)
theorem dX2_barOfEvent_58 : decode cX2_barOfEvent 58 = .ok (.bipush 11, 2) := dk_16 11 (dk_at dksX2_barOfEvent_2 10 rfl rfl)
theorem dX2_barOfEvent_60 : decode cX2_barOfEvent 60 = .ok (.iaload, 1) := dk_46 (dk_at dksX2_barOfEvent_2 12 rfl rfl)
theorem dX2_barOfEvent_61 : decode cX2_barOfEvent 61 = .ok (.bipush 20, 2) := dk_16 20 (dk_at dksX2_barOfEvent_2 13 rfl rfl)
theorem dX2_barOfEvent_63 : decode cX2_barOfEvent 63 = .ok (.if_icmp .ne 6, 3) := dk_160 0 6 (dk_at dksX2_barOfEvent_2 15 rfl rfl)
theorem dX2_barOfEvent_66 : decode cX2_barOfEvent 66 = .ok (.bipush (-4), 2) := dk_16 252 (dk_at dksX2_barOfEvent_2 18 rfl rfl)
theorem dX2_barOfEvent_68 : decode cX2_barOfEvent 68 = .ok (.ireturn, 1) := dk_172 (dk_at dksX2_barOfEvent_2 20 rfl rfl)
theorem dX2_barOfEvent_69 : decode cX2_barOfEvent 69 = .ok (.iload_n 2, 1) := dk_28 (dk_at dksX2_barOfEvent_2 21 rfl rfl)
theorem dX2_barOfEvent_70 : decode cX2_barOfEvent 70 = .ok (.istore 4, 2) := dk_54 4 (dk_at dksX2_barOfEvent_2 22 rfl rfl)
theorem dX2_barOfEvent_72 : decode cX2_barOfEvent 72 = .ok (.iload 4, 2) := dk_21 4 (dk_at dksX2_barOfEvent_3 0 rfl rfl)
theorem dX2_barOfEvent_74 : decode cX2_barOfEvent 74 = .ok (.iload_n 2, 1) := dk_28 (dk_at dksX2_barOfEvent_3 2 rfl rfl)
theorem dX2_barOfEvent_75 : decode cX2_barOfEvent 75 = .ok (.iload_n 3, 1) := dk_29 (dk_at dksX2_barOfEvent_3 3 rfl rfl)
theorem dX2_barOfEvent_76 : decode cX2_barOfEvent 76 = .ok (.iadd, 1) := dk_96 (dk_at dksX2_barOfEvent_3 4 rfl rfl)
theorem dX2_barOfEvent_77 : decode cX2_barOfEvent 77 = .ok (.if_icmp .ge 22, 3) := dk_162 0 22 (dk_at dksX2_barOfEvent_3 5 rfl rfl)
theorem dX2_barOfEvent_80 : decode cX2_barOfEvent 80 = .ok (.aload_n 0, 1) := dk_42 (dk_at dksX2_barOfEvent_3 8 rfl rfl)
theorem dX2_barOfEvent_81 : decode cX2_barOfEvent 81 = .ok (.iload_n 1, 1) := dk_27 (dk_at dksX2_barOfEvent_3 9 rfl rfl)
theorem dX2_barOfEvent_82 : decode cX2_barOfEvent 82 = .ok (.iload 4, 2) := dk_21 4 (dk_at dksX2_barOfEvent_3 10 rfl rfl)
theorem dX2_barOfEvent_84 : decode cX2_barOfEvent 84 = .ok (.invokevirtual 78, 3) := dk_182 0 78 (dk_at dksX2_barOfEvent_3 12 rfl rfl)
theorem dX2_barOfEvent_87 : decode cX2_barOfEvent 87 = .ok (.ifCond .lt 6, 3) := dk_155 0 6 (dk_at dksX2_barOfEvent_3 15 rfl rfl)
theorem dX2_barOfEvent_90 : decode cX2_barOfEvent 90 = .ok (.bipush (-5), 2) := dk_16 251 (dk_at dksX2_barOfEvent_3 18 rfl rfl)
theorem dX2_barOfEvent_92 : decode cX2_barOfEvent 92 = .ok (.ireturn, 1) := dk_172 (dk_at dksX2_barOfEvent_3 20 rfl rfl)
theorem dX2_barOfEvent_93 : decode cX2_barOfEvent 93 = .ok (.iinc 4 1, 3) := dk_132 4 1 (dk_at dksX2_barOfEvent_3 21 rfl rfl)
theorem dX2_barOfEvent_96 : decode cX2_barOfEvent 96 = .ok (.goto (-24), 3) := dk_167 255 232 (dk_at dksX2_barOfEvent_4 0 rfl rfl)
theorem dX2_barOfEvent_99 : decode cX2_barOfEvent 99 = .ok (.iconst 0, 1) := dk_3 (dk_at dksX2_barOfEvent_4 3 rfl rfl)
theorem dX2_barOfEvent_100 : decode cX2_barOfEvent 100 = .ok (.ireturn, 1) := dk_172 (dk_at dksX2_barOfEvent_4 4 rfl rfl)
abbrev cX2_tellEvent : ByteArray := prog_12_method_39_code
def yX2_tellEvent : MethodName := ⟨RX2, "tellEvent", "(III)V"⟩
def dkwX2_tellEvent_4 : List UInt8 := [182, 0, 81, 54, 6, 21, 6, 155, 0, 9, 42, 21, 6, 182, 0, 130, 132, 5, 1, 167, 255, 225, 177]
abbrev dktX2_tellEvent_4 : List UInt8 := dkwX2_tellEvent_4 ++ []
def dkwX2_tellEvent_3 : List UInt8 := [16, 11, 92, 46, 4, 96, 79, 28, 54, 5, 21, 5, 28, 29, 96, 162, 0, 29, 42, 27, 21, 5]
abbrev dktX2_tellEvent_3 : List UInt8 := dkwX2_tellEvent_3 ++ dktX2_tellEvent_4
def dkwX2_tellEvent_2 : List UInt8 := [180, 0, 7, 21, 4, 4, 96, 28, 79, 42, 180, 0, 7, 21, 4, 5, 96, 29, 79, 42, 180, 0, 7]
abbrev dktX2_tellEvent_2 : List UInt8 := dkwX2_tellEvent_2 ++ dktX2_tellEvent_3
def dkwX2_tellEvent_1 : List UInt8 := [17, 7, 8, 6, 42, 180, 0, 7, 16, 11, 46, 104, 96, 54, 4, 42, 180, 0, 7, 21, 4, 27, 79, 42]
abbrev dktX2_tellEvent_1 : List UInt8 := dkwX2_tellEvent_1 ++ dktX2_tellEvent_2
def dkwX2_tellEvent_0 : List UInt8 := [3, 54, 4, 21, 4, 7, 162, 0, 17, 42, 180, 0, 32, 21, 4, 3, 79, 132, 4, 1, 167, 255, 239]
abbrev dktX2_tellEvent_0 : List UInt8 := dkwX2_tellEvent_0 ++ dktX2_tellEvent_1
theorem dksX2_tellEvent_0 : cX2_tellEvent.data.toList.drop 0 = dktX2_tellEvent_0 := by decide +kernel
theorem dksX2_tellEvent_1 : cX2_tellEvent.data.toList.drop 23 = dktX2_tellEvent_1 := dk_seg dksX2_tellEvent_0 23 rfl rfl
theorem dksX2_tellEvent_2 : cX2_tellEvent.data.toList.drop 47 = dktX2_tellEvent_2 := dk_seg dksX2_tellEvent_1 24 rfl rfl
theorem dksX2_tellEvent_3 : cX2_tellEvent.data.toList.drop 70 = dktX2_tellEvent_3 := dk_seg dksX2_tellEvent_2 23 rfl rfl
theorem dksX2_tellEvent_4 : cX2_tellEvent.data.toList.drop 92 = dktX2_tellEvent_4 := dk_seg dksX2_tellEvent_3 22 rfl rfl
theorem dX2_tellEvent_0 : decode cX2_tellEvent 0 = .ok (.iconst 0, 1) := dk_3 (dk_at dksX2_tellEvent_0 0 rfl rfl)
theorem dX2_tellEvent_1 : decode cX2_tellEvent 1 = .ok (.istore 4, 2) := dk_54 4 (dk_at dksX2_tellEvent_0 1 rfl rfl)
theorem dX2_tellEvent_3 : decode cX2_tellEvent 3 = .ok (.iload 4, 2) := dk_21 4 (dk_at dksX2_tellEvent_0 3 rfl rfl)
theorem dX2_tellEvent_5 : decode cX2_tellEvent 5 = .ok (.iconst 4, 1) := dk_7 (dk_at dksX2_tellEvent_0 5 rfl rfl)
theorem dX2_tellEvent_6 : decode cX2_tellEvent 6 = .ok (.if_icmp .ge 17, 3) := dk_162 0 17 (dk_at dksX2_tellEvent_0 6 rfl rfl)
theorem dX2_tellEvent_9 : decode cX2_tellEvent 9 = .ok (.aload_n 0, 1) := dk_42 (dk_at dksX2_tellEvent_0 9 rfl rfl)
theorem dX2_tellEvent_10 : decode cX2_tellEvent 10 = .ok (.getfield 32, 3) := dk_180 0 32 (dk_at dksX2_tellEvent_0 10 rfl rfl)
theorem dX2_tellEvent_13 : decode cX2_tellEvent 13 = .ok (.iload 4, 2) := dk_21 4 (dk_at dksX2_tellEvent_0 13 rfl rfl)
theorem dX2_tellEvent_15 : decode cX2_tellEvent 15 = .ok (.iconst 0, 1) := dk_3 (dk_at dksX2_tellEvent_0 15 rfl rfl)
theorem dX2_tellEvent_16 : decode cX2_tellEvent 16 = .ok (.iastore, 1) := dk_79 (dk_at dksX2_tellEvent_0 16 rfl rfl)
theorem dX2_tellEvent_17 : decode cX2_tellEvent 17 = .ok (.iinc 4 1, 3) := dk_132 4 1 (dk_at dksX2_tellEvent_0 17 rfl rfl)
theorem dX2_tellEvent_20 : decode cX2_tellEvent 20 = .ok (.goto (-17), 3) := dk_167 255 239 (dk_at dksX2_tellEvent_0 20 rfl rfl)
theorem dX2_tellEvent_23 : decode cX2_tellEvent 23 = .ok (.sipush 1800, 3) := dk_17 7 8 (dk_at dksX2_tellEvent_1 0 rfl rfl)
theorem dX2_tellEvent_26 : decode cX2_tellEvent 26 = .ok (.iconst 3, 1) := dk_6 (dk_at dksX2_tellEvent_1 3 rfl rfl)
theorem dX2_tellEvent_27 : decode cX2_tellEvent 27 = .ok (.aload_n 0, 1) := dk_42 (dk_at dksX2_tellEvent_1 4 rfl rfl)
theorem dX2_tellEvent_28 : decode cX2_tellEvent 28 = .ok (.getfield 7, 3) := dk_180 0 7 (dk_at dksX2_tellEvent_1 5 rfl rfl)
theorem dX2_tellEvent_31 : decode cX2_tellEvent 31 = .ok (.bipush 11, 2) := dk_16 11 (dk_at dksX2_tellEvent_1 8 rfl rfl)
theorem dX2_tellEvent_33 : decode cX2_tellEvent 33 = .ok (.iaload, 1) := dk_46 (dk_at dksX2_tellEvent_1 10 rfl rfl)
theorem dX2_tellEvent_34 : decode cX2_tellEvent 34 = .ok (.imul, 1) := dk_104 (dk_at dksX2_tellEvent_1 11 rfl rfl)
theorem dX2_tellEvent_35 : decode cX2_tellEvent 35 = .ok (.iadd, 1) := dk_96 (dk_at dksX2_tellEvent_1 12 rfl rfl)
theorem dX2_tellEvent_36 : decode cX2_tellEvent 36 = .ok (.istore 4, 2) := dk_54 4 (dk_at dksX2_tellEvent_1 13 rfl rfl)
theorem dX2_tellEvent_38 : decode cX2_tellEvent 38 = .ok (.aload_n 0, 1) := dk_42 (dk_at dksX2_tellEvent_1 15 rfl rfl)
theorem dX2_tellEvent_39 : decode cX2_tellEvent 39 = .ok (.getfield 7, 3) := dk_180 0 7 (dk_at dksX2_tellEvent_1 16 rfl rfl)
theorem dX2_tellEvent_42 : decode cX2_tellEvent 42 = .ok (.iload 4, 2) := dk_21 4 (dk_at dksX2_tellEvent_1 19 rfl rfl)
theorem dX2_tellEvent_44 : decode cX2_tellEvent 44 = .ok (.iload_n 1, 1) := dk_27 (dk_at dksX2_tellEvent_1 21 rfl rfl)
theorem dX2_tellEvent_45 : decode cX2_tellEvent 45 = .ok (.iastore, 1) := dk_79 (dk_at dksX2_tellEvent_1 22 rfl rfl)
theorem dX2_tellEvent_46 : decode cX2_tellEvent 46 = .ok (.aload_n 0, 1) := dk_42 (dk_at dksX2_tellEvent_1 23 rfl rfl)
theorem dX2_tellEvent_47 : decode cX2_tellEvent 47 = .ok (.getfield 7, 3) := dk_180 0 7 (dk_at dksX2_tellEvent_2 0 rfl rfl)
theorem dX2_tellEvent_50 : decode cX2_tellEvent 50 = .ok (.iload 4, 2) := dk_21 4 (dk_at dksX2_tellEvent_2 3 rfl rfl)
theorem dX2_tellEvent_52 : decode cX2_tellEvent 52 = .ok (.iconst 1, 1) := dk_4 (dk_at dksX2_tellEvent_2 5 rfl rfl)
theorem dX2_tellEvent_53 : decode cX2_tellEvent 53 = .ok (.iadd, 1) := dk_96 (dk_at dksX2_tellEvent_2 6 rfl rfl)
theorem dX2_tellEvent_54 : decode cX2_tellEvent 54 = .ok (.iload_n 2, 1) := dk_28 (dk_at dksX2_tellEvent_2 7 rfl rfl)
theorem dX2_tellEvent_55 : decode cX2_tellEvent 55 = .ok (.iastore, 1) := dk_79 (dk_at dksX2_tellEvent_2 8 rfl rfl)
theorem dX2_tellEvent_56 : decode cX2_tellEvent 56 = .ok (.aload_n 0, 1) := dk_42 (dk_at dksX2_tellEvent_2 9 rfl rfl)
theorem dX2_tellEvent_57 : decode cX2_tellEvent 57 = .ok (.getfield 7, 3) := dk_180 0 7 (dk_at dksX2_tellEvent_2 10 rfl rfl)
theorem dX2_tellEvent_60 : decode cX2_tellEvent 60 = .ok (.iload 4, 2) := dk_21 4 (dk_at dksX2_tellEvent_2 13 rfl rfl)
theorem dX2_tellEvent_62 : decode cX2_tellEvent 62 = .ok (.iconst 2, 1) := dk_5 (dk_at dksX2_tellEvent_2 15 rfl rfl)
theorem dX2_tellEvent_63 : decode cX2_tellEvent 63 = .ok (.iadd, 1) := dk_96 (dk_at dksX2_tellEvent_2 16 rfl rfl)
theorem dX2_tellEvent_64 : decode cX2_tellEvent 64 = .ok (.iload_n 3, 1) := dk_29 (dk_at dksX2_tellEvent_2 17 rfl rfl)
theorem dX2_tellEvent_65 : decode cX2_tellEvent 65 = .ok (.iastore, 1) := dk_79 (dk_at dksX2_tellEvent_2 18 rfl rfl)
theorem dX2_tellEvent_66 : decode cX2_tellEvent 66 = .ok (.aload_n 0, 1) := dk_42 (dk_at dksX2_tellEvent_2 19 rfl rfl)
theorem dX2_tellEvent_67 : decode cX2_tellEvent 67 = .ok (.getfield 7, 3) := dk_180 0 7 (dk_at dksX2_tellEvent_2 20 rfl rfl)
theorem dX2_tellEvent_70 : decode cX2_tellEvent 70 = .ok (.bipush 11, 2) := dk_16 11 (dk_at dksX2_tellEvent_3 0 rfl rfl)
theorem dX2_tellEvent_72 : decode cX2_tellEvent 72 = .ok (.dup2, 1) := dk_92 (dk_at dksX2_tellEvent_3 2 rfl rfl)
theorem dX2_tellEvent_73 : decode cX2_tellEvent 73 = .ok (.iaload, 1) := dk_46 (dk_at dksX2_tellEvent_3 3 rfl rfl)
theorem dX2_tellEvent_74 : decode cX2_tellEvent 74 = .ok (.iconst 1, 1) := dk_4 (dk_at dksX2_tellEvent_3 4 rfl rfl)
theorem dX2_tellEvent_75 : decode cX2_tellEvent 75 = .ok (.iadd, 1) := dk_96 (dk_at dksX2_tellEvent_3 5 rfl rfl)
theorem dX2_tellEvent_76 : decode cX2_tellEvent 76 = .ok (.iastore, 1) := dk_79 (dk_at dksX2_tellEvent_3 6 rfl rfl)
theorem dX2_tellEvent_77 : decode cX2_tellEvent 77 = .ok (.iload_n 2, 1) := dk_28 (dk_at dksX2_tellEvent_3 7 rfl rfl)
theorem dX2_tellEvent_78 : decode cX2_tellEvent 78 = .ok (.istore 5, 2) := dk_54 5 (dk_at dksX2_tellEvent_3 8 rfl rfl)
theorem dX2_tellEvent_80 : decode cX2_tellEvent 80 = .ok (.iload 5, 2) := dk_21 5 (dk_at dksX2_tellEvent_3 10 rfl rfl)
theorem dX2_tellEvent_82 : decode cX2_tellEvent 82 = .ok (.iload_n 2, 1) := dk_28 (dk_at dksX2_tellEvent_3 12 rfl rfl)
theorem dX2_tellEvent_83 : decode cX2_tellEvent 83 = .ok (.iload_n 3, 1) := dk_29 (dk_at dksX2_tellEvent_3 13 rfl rfl)
theorem dX2_tellEvent_84 : decode cX2_tellEvent 84 = .ok (.iadd, 1) := dk_96 (dk_at dksX2_tellEvent_3 14 rfl rfl)
theorem dX2_tellEvent_85 : decode cX2_tellEvent 85 = .ok (.if_icmp .ge 29, 3) := dk_162 0 29 (dk_at dksX2_tellEvent_3 15 rfl rfl)
theorem dX2_tellEvent_88 : decode cX2_tellEvent 88 = .ok (.aload_n 0, 1) := dk_42 (dk_at dksX2_tellEvent_3 18 rfl rfl)
theorem dX2_tellEvent_89 : decode cX2_tellEvent 89 = .ok (.iload_n 1, 1) := dk_27 (dk_at dksX2_tellEvent_3 19 rfl rfl)
theorem dX2_tellEvent_90 : decode cX2_tellEvent 90 = .ok (.iload 5, 2) := dk_21 5 (dk_at dksX2_tellEvent_3 20 rfl rfl)
theorem dX2_tellEvent_92 : decode cX2_tellEvent 92 = .ok (.invokevirtual 81, 3) := dk_182 0 81 (dk_at dksX2_tellEvent_4 0 rfl rfl)
theorem dX2_tellEvent_95 : decode cX2_tellEvent 95 = .ok (.istore 6, 2) := dk_54 6 (dk_at dksX2_tellEvent_4 3 rfl rfl)
theorem dX2_tellEvent_97 : decode cX2_tellEvent 97 = .ok (.iload 6, 2) := dk_21 6 (dk_at dksX2_tellEvent_4 5 rfl rfl)
theorem dX2_tellEvent_99 : decode cX2_tellEvent 99 = .ok (.ifCond .lt 9, 3) := dk_155 0 9 (dk_at dksX2_tellEvent_4 7 rfl rfl)
theorem dX2_tellEvent_102 : decode cX2_tellEvent 102 = .ok (.aload_n 0, 1) := dk_42 (dk_at dksX2_tellEvent_4 10 rfl rfl)
theorem dX2_tellEvent_103 : decode cX2_tellEvent 103 = .ok (.iload 6, 2) := dk_21 6 (dk_at dksX2_tellEvent_4 11 rfl rfl)
theorem dX2_tellEvent_105 : decode cX2_tellEvent 105 = .ok (.invokevirtual 130, 3) := dk_182 0 130 (dk_at dksX2_tellEvent_4 13 rfl rfl)
theorem dX2_tellEvent_108 : decode cX2_tellEvent 108 = .ok (.iinc 5 1, 3) := dk_132 5 1 (dk_at dksX2_tellEvent_4 16 rfl rfl)
theorem dX2_tellEvent_111 : decode cX2_tellEvent 111 = .ok (.goto (-31), 3) := dk_167 255 225 (dk_at dksX2_tellEvent_4 19 rfl rfl)
theorem dX2_tellEvent_114 : decode cX2_tellEvent 114 = .ok (.return_, 1) := dk_177 (dk_at dksX2_tellEvent_4 22 rfl rfl)
abbrev cX2_displace : ByteArray := prog_12_method_37_code
def yX2_displace : MethodName := ⟨RX2, "displace", "(I)V"⟩
def dkwX2_displace_8 : List UInt8 := [21, 5, 16, 6, 96, 92, 46, 4, 96, 79, 167, 0, 13, 42, 180, 0, 7, 21, 5, 6, 96, 7, 79, 177]
abbrev dktX2_displace_8 : List UInt8 := dkwX2_displace_8 ++ []
def dkwX2_displace_7 : List UInt8 := [96, 29, 16, 6, 108, 79, 42, 180, 0, 7, 21, 5, 5, 96, 29, 16, 6, 112, 79, 42, 180, 0, 7]
abbrev dktX2_displace_7 : List UInt8 := dkwX2_displace_7 ++ dktX2_displace_8
def dkwX2_displace_6 : List UInt8 := [167, 255, 183, 16, 100, 16, 7, 27, 104, 96, 54, 5, 21, 4, 153, 0, 46, 42, 180, 0, 7, 21, 5, 4]
abbrev dktX2_displace_6 : List UInt8 := dkwX2_displace_6 ++ dktX2_displace_7
def dkwX2_displace_5 : List UInt8 := [21, 5, 5, 182, 0, 124, 167, 0, 14, 42, 21, 5, 28, 29, 16, 6, 108, 182, 0, 127, 132, 5, 1]
abbrev dktX2_displace_5 : List UInt8 := dkwX2_displace_5 ++ dktX2_displace_6
def dkwX2_displace_4 : List UInt8 := [182, 0, 88, 154, 0, 40, 21, 4, 153, 0, 14, 42, 21, 5, 6, 182, 0, 88, 4, 160, 0, 13, 42]
abbrev dktX2_displace_4 : List UInt8 := dkwX2_displace_4 ++ dktX2_displace_5
def dkwX2_displace_3 : List UInt8 := [180, 0, 7, 16, 10, 46, 162, 0, 67, 42, 21, 5, 3, 182, 0, 88, 27, 160, 0, 50, 42, 21, 5, 7]
abbrev dktX2_displace_3 : List UInt8 := dkwX2_displace_3 ++ dktX2_displace_4
def dkwX2_displace_2 : List UInt8 := [180, 0, 32, 21, 4, 153, 0, 7, 3, 167, 0, 4, 4, 92, 46, 4, 96, 79, 3, 54, 5, 21, 5, 42]
abbrev dktX2_displace_2 : List UInt8 := dkwX2_displace_2 ++ dktX2_displace_3
def dkwX2_displace_1 : List UInt8 := [62, 29, 16, 6, 108, 28, 42, 180, 0, 7, 3, 46, 96, 163, 0, 7, 4, 167, 0, 4, 3, 54, 4, 42]
abbrev dktX2_displace_1 : List UInt8 := dkwX2_displace_1 ++ dktX2_displace_2
def dkwX2_displace_0 : List UInt8 := [42, 27, 4, 182, 0, 75, 61, 42, 16, 6, 28, 104, 42, 27, 5, 182, 0, 75, 96, 4, 96, 182, 0, 121]
abbrev dktX2_displace_0 : List UInt8 := dkwX2_displace_0 ++ dktX2_displace_1
theorem dksX2_displace_0 : cX2_displace.data.toList.drop 0 = dktX2_displace_0 := by decide +kernel
theorem dksX2_displace_1 : cX2_displace.data.toList.drop 24 = dktX2_displace_1 := dk_seg dksX2_displace_0 24 rfl rfl
theorem dksX2_displace_2 : cX2_displace.data.toList.drop 48 = dktX2_displace_2 := dk_seg dksX2_displace_1 24 rfl rfl
theorem dksX2_displace_3 : cX2_displace.data.toList.drop 72 = dktX2_displace_3 := dk_seg dksX2_displace_2 24 rfl rfl
theorem dksX2_displace_4 : cX2_displace.data.toList.drop 96 = dktX2_displace_4 := dk_seg dksX2_displace_3 24 rfl rfl
theorem dksX2_displace_5 : cX2_displace.data.toList.drop 119 = dktX2_displace_5 := dk_seg dksX2_displace_4 23 rfl rfl
theorem dksX2_displace_6 : cX2_displace.data.toList.drop 142 = dktX2_displace_6 := dk_seg dksX2_displace_5 23 rfl rfl
theorem dksX2_displace_7 : cX2_displace.data.toList.drop 166 = dktX2_displace_7 := dk_seg dksX2_displace_6 24 rfl rfl
theorem dksX2_displace_8 : cX2_displace.data.toList.drop 189 = dktX2_displace_8 := dk_seg dksX2_displace_7 23 rfl rfl
theorem dX2_displace_0 : decode cX2_displace 0 = .ok (.aload_n 0, 1) := dk_42 (dk_at dksX2_displace_0 0 rfl rfl)
theorem dX2_displace_1 : decode cX2_displace 1 = .ok (.iload_n 1, 1) := dk_27 (dk_at dksX2_displace_0 1 rfl rfl)
theorem dX2_displace_2 : decode cX2_displace 2 = .ok (.iconst 1, 1) := dk_4 (dk_at dksX2_displace_0 2 rfl rfl)
theorem dX2_displace_3 : decode cX2_displace 3 = .ok (.invokevirtual 75, 3) := dk_182 0 75 (dk_at dksX2_displace_0 3 rfl rfl)
theorem dX2_displace_6 : decode cX2_displace 6 = .ok (.istore_n 2, 1) := dk_61 (dk_at dksX2_displace_0 6 rfl rfl)
theorem dX2_displace_7 : decode cX2_displace 7 = .ok (.aload_n 0, 1) := dk_42 (dk_at dksX2_displace_0 7 rfl rfl)
theorem dX2_displace_8 : decode cX2_displace 8 = .ok (.bipush 6, 2) := dk_16 6 (dk_at dksX2_displace_0 8 rfl rfl)
theorem dX2_displace_10 : decode cX2_displace 10 = .ok (.iload_n 2, 1) := dk_28 (dk_at dksX2_displace_0 10 rfl rfl)
theorem dX2_displace_11 : decode cX2_displace 11 = .ok (.imul, 1) := dk_104 (dk_at dksX2_displace_0 11 rfl rfl)
theorem dX2_displace_12 : decode cX2_displace 12 = .ok (.aload_n 0, 1) := dk_42 (dk_at dksX2_displace_0 12 rfl rfl)
theorem dX2_displace_13 : decode cX2_displace 13 = .ok (.iload_n 1, 1) := dk_27 (dk_at dksX2_displace_0 13 rfl rfl)
theorem dX2_displace_14 : decode cX2_displace 14 = .ok (.iconst 2, 1) := dk_5 (dk_at dksX2_displace_0 14 rfl rfl)
theorem dX2_displace_15 : decode cX2_displace 15 = .ok (.invokevirtual 75, 3) := dk_182 0 75 (dk_at dksX2_displace_0 15 rfl rfl)
theorem dX2_displace_18 : decode cX2_displace 18 = .ok (.iadd, 1) := dk_96 (dk_at dksX2_displace_0 18 rfl rfl)
theorem dX2_displace_19 : decode cX2_displace 19 = .ok (.iconst 1, 1) := dk_4 (dk_at dksX2_displace_0 19 rfl rfl)
theorem dX2_displace_20 : decode cX2_displace 20 = .ok (.iadd, 1) := dk_96 (dk_at dksX2_displace_0 20 rfl rfl)
theorem dX2_displace_21 : decode cX2_displace 21 = .ok (.invokevirtual 121, 3) := dk_182 0 121 (dk_at dksX2_displace_0 21 rfl rfl)
theorem dX2_displace_24 : decode cX2_displace 24 = .ok (.istore_n 3, 1) := dk_62 (dk_at dksX2_displace_1 0 rfl rfl)
theorem dX2_displace_25 : decode cX2_displace 25 = .ok (.iload_n 3, 1) := dk_29 (dk_at dksX2_displace_1 1 rfl rfl)
theorem dX2_displace_26 : decode cX2_displace 26 = .ok (.bipush 6, 2) := dk_16 6 (dk_at dksX2_displace_1 2 rfl rfl)
theorem dX2_displace_28 : decode cX2_displace 28 = .ok (.idiv, 1) := dk_108 (dk_at dksX2_displace_1 4 rfl rfl)
theorem dX2_displace_29 : decode cX2_displace 29 = .ok (.iload_n 2, 1) := dk_28 (dk_at dksX2_displace_1 5 rfl rfl)
theorem dX2_displace_30 : decode cX2_displace 30 = .ok (.aload_n 0, 1) := dk_42 (dk_at dksX2_displace_1 6 rfl rfl)
theorem dX2_displace_31 : decode cX2_displace 31 = .ok (.getfield 7, 3) := dk_180 0 7 (dk_at dksX2_displace_1 7 rfl rfl)
theorem dX2_displace_34 : decode cX2_displace 34 = .ok (.iconst 0, 1) := dk_3 (dk_at dksX2_displace_1 10 rfl rfl)
theorem dX2_displace_35 : decode cX2_displace 35 = .ok (.iaload, 1) := dk_46 (dk_at dksX2_displace_1 11 rfl rfl)
theorem dX2_displace_36 : decode cX2_displace 36 = .ok (.iadd, 1) := dk_96 (dk_at dksX2_displace_1 12 rfl rfl)
theorem dX2_displace_37 : decode cX2_displace 37 = .ok (.if_icmp .gt 7, 3) := dk_163 0 7 (dk_at dksX2_displace_1 13 rfl rfl)
theorem dX2_displace_40 : decode cX2_displace 40 = .ok (.iconst 1, 1) := dk_4 (dk_at dksX2_displace_1 16 rfl rfl)
theorem dX2_displace_41 : decode cX2_displace 41 = .ok (.goto 4, 3) := dk_167 0 4 (dk_at dksX2_displace_1 17 rfl rfl)
theorem dX2_displace_44 : decode cX2_displace 44 = .ok (.iconst 0, 1) := dk_3 (dk_at dksX2_displace_1 20 rfl rfl)
theorem dX2_displace_45 : decode cX2_displace 45 = .ok (.istore 4, 2) := dk_54 4 (dk_at dksX2_displace_1 21 rfl rfl)
theorem dX2_displace_47 : decode cX2_displace 47 = .ok (.aload_n 0, 1) := dk_42 (dk_at dksX2_displace_1 23 rfl rfl)
theorem dX2_displace_48 : decode cX2_displace 48 = .ok (.getfield 32, 3) := dk_180 0 32 (dk_at dksX2_displace_2 0 rfl rfl)
theorem dX2_displace_51 : decode cX2_displace 51 = .ok (.iload 4, 2) := dk_21 4 (dk_at dksX2_displace_2 3 rfl rfl)
theorem dX2_displace_53 : decode cX2_displace 53 = .ok (.ifCond .eq 7, 3) := dk_153 0 7 (dk_at dksX2_displace_2 5 rfl rfl)
theorem dX2_displace_56 : decode cX2_displace 56 = .ok (.iconst 0, 1) := dk_3 (dk_at dksX2_displace_2 8 rfl rfl)
theorem dX2_displace_57 : decode cX2_displace 57 = .ok (.goto 4, 3) := dk_167 0 4 (dk_at dksX2_displace_2 9 rfl rfl)
theorem dX2_displace_60 : decode cX2_displace 60 = .ok (.iconst 1, 1) := dk_4 (dk_at dksX2_displace_2 12 rfl rfl)
theorem dX2_displace_61 : decode cX2_displace 61 = .ok (.dup2, 1) := dk_92 (dk_at dksX2_displace_2 13 rfl rfl)
theorem dX2_displace_62 : decode cX2_displace 62 = .ok (.iaload, 1) := dk_46 (dk_at dksX2_displace_2 14 rfl rfl)
theorem dX2_displace_63 : decode cX2_displace 63 = .ok (.iconst 1, 1) := dk_4 (dk_at dksX2_displace_2 15 rfl rfl)
theorem dX2_displace_64 : decode cX2_displace 64 = .ok (.iadd, 1) := dk_96 (dk_at dksX2_displace_2 16 rfl rfl)
theorem dX2_displace_65 : decode cX2_displace 65 = .ok (.iastore, 1) := dk_79 (dk_at dksX2_displace_2 17 rfl rfl)
theorem dX2_displace_66 : decode cX2_displace 66 = .ok (.iconst 0, 1) := dk_3 (dk_at dksX2_displace_2 18 rfl rfl)
theorem dX2_displace_67 : decode cX2_displace 67 = .ok (.istore 5, 2) := dk_54 5 (dk_at dksX2_displace_2 19 rfl rfl)
theorem dX2_displace_69 : decode cX2_displace 69 = .ok (.iload 5, 2) := dk_21 5 (dk_at dksX2_displace_2 21 rfl rfl)
theorem dX2_displace_71 : decode cX2_displace 71 = .ok (.aload_n 0, 1) := dk_42 (dk_at dksX2_displace_2 23 rfl rfl)
theorem dX2_displace_72 : decode cX2_displace 72 = .ok (.getfield 7, 3) := dk_180 0 7 (dk_at dksX2_displace_3 0 rfl rfl)
theorem dX2_displace_75 : decode cX2_displace 75 = .ok (.bipush 10, 2) := dk_16 10 (dk_at dksX2_displace_3 3 rfl rfl)
theorem dX2_displace_77 : decode cX2_displace 77 = .ok (.iaload, 1) := dk_46 (dk_at dksX2_displace_3 5 rfl rfl)
theorem dX2_displace_78 : decode cX2_displace 78 = .ok (.if_icmp .ge 67, 3) := dk_162 0 67 (dk_at dksX2_displace_3 6 rfl rfl)
theorem dX2_displace_81 : decode cX2_displace 81 = .ok (.aload_n 0, 1) := dk_42 (dk_at dksX2_displace_3 9 rfl rfl)
theorem dX2_displace_82 : decode cX2_displace 82 = .ok (.iload 5, 2) := dk_21 5 (dk_at dksX2_displace_3 10 rfl rfl)
theorem dX2_displace_84 : decode cX2_displace 84 = .ok (.iconst 0, 1) := dk_3 (dk_at dksX2_displace_3 12 rfl rfl)
theorem dX2_displace_85 : decode cX2_displace 85 = .ok (.invokevirtual 88, 3) := dk_182 0 88 (dk_at dksX2_displace_3 13 rfl rfl)
theorem dX2_displace_88 : decode cX2_displace 88 = .ok (.iload_n 1, 1) := dk_27 (dk_at dksX2_displace_3 16 rfl rfl)
theorem dX2_displace_89 : decode cX2_displace 89 = .ok (.if_icmp .ne 50, 3) := dk_160 0 50 (dk_at dksX2_displace_3 17 rfl rfl)
theorem dX2_displace_92 : decode cX2_displace 92 = .ok (.aload_n 0, 1) := dk_42 (dk_at dksX2_displace_3 20 rfl rfl)
theorem dX2_displace_93 : decode cX2_displace 93 = .ok (.iload 5, 2) := dk_21 5 (dk_at dksX2_displace_3 21 rfl rfl)
theorem dX2_displace_95 : decode cX2_displace 95 = .ok (.iconst 4, 1) := dk_7 (dk_at dksX2_displace_3 23 rfl rfl)
theorem dX2_displace_96 : decode cX2_displace 96 = .ok (.invokevirtual 88, 3) := dk_182 0 88 (dk_at dksX2_displace_4 0 rfl rfl)
theorem dX2_displace_99 : decode cX2_displace 99 = .ok (.ifCond .ne 40, 3) := dk_154 0 40 (dk_at dksX2_displace_4 3 rfl rfl)
theorem dX2_displace_102 : decode cX2_displace 102 = .ok (.iload 4, 2) := dk_21 4 (dk_at dksX2_displace_4 6 rfl rfl)
theorem dX2_displace_104 : decode cX2_displace 104 = .ok (.ifCond .eq 14, 3) := dk_153 0 14 (dk_at dksX2_displace_4 8 rfl rfl)
theorem dX2_displace_107 : decode cX2_displace 107 = .ok (.aload_n 0, 1) := dk_42 (dk_at dksX2_displace_4 11 rfl rfl)
theorem dX2_displace_108 : decode cX2_displace 108 = .ok (.iload 5, 2) := dk_21 5 (dk_at dksX2_displace_4 12 rfl rfl)
theorem dX2_displace_110 : decode cX2_displace 110 = .ok (.iconst 3, 1) := dk_6 (dk_at dksX2_displace_4 14 rfl rfl)
theorem dX2_displace_111 : decode cX2_displace 111 = .ok (.invokevirtual 88, 3) := dk_182 0 88 (dk_at dksX2_displace_4 15 rfl rfl)
theorem dX2_displace_114 : decode cX2_displace 114 = .ok (.iconst 1, 1) := dk_4 (dk_at dksX2_displace_4 18 rfl rfl)
theorem dX2_displace_115 : decode cX2_displace 115 = .ok (.if_icmp .ne 13, 3) := dk_160 0 13 (dk_at dksX2_displace_4 19 rfl rfl)
theorem dX2_displace_118 : decode cX2_displace 118 = .ok (.aload_n 0, 1) := dk_42 (dk_at dksX2_displace_4 22 rfl rfl)
theorem dX2_displace_119 : decode cX2_displace 119 = .ok (.iload 5, 2) := dk_21 5 (dk_at dksX2_displace_5 0 rfl rfl)
theorem dX2_displace_121 : decode cX2_displace 121 = .ok (.iconst 2, 1) := dk_5 (dk_at dksX2_displace_5 2 rfl rfl)
theorem dX2_displace_122 : decode cX2_displace 122 = .ok (.invokevirtual 124, 3) := dk_182 0 124 (dk_at dksX2_displace_5 3 rfl rfl)
theorem dX2_displace_125 : decode cX2_displace 125 = .ok (.goto 14, 3) := dk_167 0 14 (dk_at dksX2_displace_5 6 rfl rfl)
theorem dX2_displace_128 : decode cX2_displace 128 = .ok (.aload_n 0, 1) := dk_42 (dk_at dksX2_displace_5 9 rfl rfl)
theorem dX2_displace_129 : decode cX2_displace 129 = .ok (.iload 5, 2) := dk_21 5 (dk_at dksX2_displace_5 10 rfl rfl)
theorem dX2_displace_131 : decode cX2_displace 131 = .ok (.iload_n 2, 1) := dk_28 (dk_at dksX2_displace_5 12 rfl rfl)
theorem dX2_displace_132 : decode cX2_displace 132 = .ok (.iload_n 3, 1) := dk_29 (dk_at dksX2_displace_5 13 rfl rfl)
theorem dX2_displace_133 : decode cX2_displace 133 = .ok (.bipush 6, 2) := dk_16 6 (dk_at dksX2_displace_5 14 rfl rfl)
theorem dX2_displace_135 : decode cX2_displace 135 = .ok (.idiv, 1) := dk_108 (dk_at dksX2_displace_5 16 rfl rfl)
theorem dX2_displace_136 : decode cX2_displace 136 = .ok (.invokevirtual 127, 3) := dk_182 0 127 (dk_at dksX2_displace_5 17 rfl rfl)
theorem dX2_displace_139 : decode cX2_displace 139 = .ok (.iinc 5 1, 3) := dk_132 5 1 (dk_at dksX2_displace_5 20 rfl rfl)
theorem dX2_displace_142 : decode cX2_displace 142 = .ok (.goto (-73), 3) := dk_167 255 183 (dk_at dksX2_displace_6 0 rfl rfl)
theorem dX2_displace_145 : decode cX2_displace 145 = .ok (.bipush 100, 2) := dk_16 100 (dk_at dksX2_displace_6 3 rfl rfl)
theorem dX2_displace_147 : decode cX2_displace 147 = .ok (.bipush 7, 2) := dk_16 7 (dk_at dksX2_displace_6 5 rfl rfl)
theorem dX2_displace_149 : decode cX2_displace 149 = .ok (.iload_n 1, 1) := dk_27 (dk_at dksX2_displace_6 7 rfl rfl)
theorem dX2_displace_150 : decode cX2_displace 150 = .ok (.imul, 1) := dk_104 (dk_at dksX2_displace_6 8 rfl rfl)
theorem dX2_displace_151 : decode cX2_displace 151 = .ok (.iadd, 1) := dk_96 (dk_at dksX2_displace_6 9 rfl rfl)
theorem dX2_displace_152 : decode cX2_displace 152 = .ok (.istore 5, 2) := dk_54 5 (dk_at dksX2_displace_6 10 rfl rfl)
theorem dX2_displace_154 : decode cX2_displace 154 = .ok (.iload 4, 2) := dk_21 4 (dk_at dksX2_displace_6 12 rfl rfl)
theorem dX2_displace_156 : decode cX2_displace 156 = .ok (.ifCond .eq 46, 3) := dk_153 0 46 (dk_at dksX2_displace_6 14 rfl rfl)
theorem dX2_displace_159 : decode cX2_displace 159 = .ok (.aload_n 0, 1) := dk_42 (dk_at dksX2_displace_6 17 rfl rfl)
theorem dX2_displace_160 : decode cX2_displace 160 = .ok (.getfield 7, 3) := dk_180 0 7 (dk_at dksX2_displace_6 18 rfl rfl)
theorem dX2_displace_163 : decode cX2_displace 163 = .ok (.iload 5, 2) := dk_21 5 (dk_at dksX2_displace_6 21 rfl rfl)
theorem dX2_displace_165 : decode cX2_displace 165 = .ok (.iconst 1, 1) := dk_4 (dk_at dksX2_displace_6 23 rfl rfl)
theorem dX2_displace_166 : decode cX2_displace 166 = .ok (.iadd, 1) := dk_96 (dk_at dksX2_displace_7 0 rfl rfl)
theorem dX2_displace_167 : decode cX2_displace 167 = .ok (.iload_n 3, 1) := dk_29 (dk_at dksX2_displace_7 1 rfl rfl)
theorem dX2_displace_168 : decode cX2_displace 168 = .ok (.bipush 6, 2) := dk_16 6 (dk_at dksX2_displace_7 2 rfl rfl)
theorem dX2_displace_170 : decode cX2_displace 170 = .ok (.idiv, 1) := dk_108 (dk_at dksX2_displace_7 4 rfl rfl)
theorem dX2_displace_171 : decode cX2_displace 171 = .ok (.iastore, 1) := dk_79 (dk_at dksX2_displace_7 5 rfl rfl)
theorem dX2_displace_172 : decode cX2_displace 172 = .ok (.aload_n 0, 1) := dk_42 (dk_at dksX2_displace_7 6 rfl rfl)
theorem dX2_displace_173 : decode cX2_displace 173 = .ok (.getfield 7, 3) := dk_180 0 7 (dk_at dksX2_displace_7 7 rfl rfl)
theorem dX2_displace_176 : decode cX2_displace 176 = .ok (.iload 5, 2) := dk_21 5 (dk_at dksX2_displace_7 10 rfl rfl)
theorem dX2_displace_178 : decode cX2_displace 178 = .ok (.iconst 2, 1) := dk_5 (dk_at dksX2_displace_7 12 rfl rfl)
theorem dX2_displace_179 : decode cX2_displace 179 = .ok (.iadd, 1) := dk_96 (dk_at dksX2_displace_7 13 rfl rfl)
theorem dX2_displace_180 : decode cX2_displace 180 = .ok (.iload_n 3, 1) := dk_29 (dk_at dksX2_displace_7 14 rfl rfl)
theorem dX2_displace_181 : decode cX2_displace 181 = .ok (.bipush 6, 2) := dk_16 6 (dk_at dksX2_displace_7 15 rfl rfl)
theorem dX2_displace_183 : decode cX2_displace 183 = .ok (.irem, 1) := dk_112 (dk_at dksX2_displace_7 17 rfl rfl)
theorem dX2_displace_184 : decode cX2_displace 184 = .ok (.iastore, 1) := dk_79 (dk_at dksX2_displace_7 18 rfl rfl)
theorem dX2_displace_185 : decode cX2_displace 185 = .ok (.aload_n 0, 1) := dk_42 (dk_at dksX2_displace_7 19 rfl rfl)
theorem dX2_displace_186 : decode cX2_displace 186 = .ok (.getfield 7, 3) := dk_180 0 7 (dk_at dksX2_displace_7 20 rfl rfl)
theorem dX2_displace_189 : decode cX2_displace 189 = .ok (.iload 5, 2) := dk_21 5 (dk_at dksX2_displace_8 0 rfl rfl)
theorem dX2_displace_191 : decode cX2_displace 191 = .ok (.bipush 6, 2) := dk_16 6 (dk_at dksX2_displace_8 2 rfl rfl)
theorem dX2_displace_193 : decode cX2_displace 193 = .ok (.iadd, 1) := dk_96 (dk_at dksX2_displace_8 4 rfl rfl)
theorem dX2_displace_194 : decode cX2_displace 194 = .ok (.dup2, 1) := dk_92 (dk_at dksX2_displace_8 5 rfl rfl)
theorem dX2_displace_195 : decode cX2_displace 195 = .ok (.iaload, 1) := dk_46 (dk_at dksX2_displace_8 6 rfl rfl)
theorem dX2_displace_196 : decode cX2_displace 196 = .ok (.iconst 1, 1) := dk_4 (dk_at dksX2_displace_8 7 rfl rfl)
theorem dX2_displace_197 : decode cX2_displace 197 = .ok (.iadd, 1) := dk_96 (dk_at dksX2_displace_8 8 rfl rfl)
theorem dX2_displace_198 : decode cX2_displace 198 = .ok (.iastore, 1) := dk_79 (dk_at dksX2_displace_8 9 rfl rfl)
theorem dX2_displace_199 : decode cX2_displace 199 = .ok (.goto 13, 3) := dk_167 0 13 (dk_at dksX2_displace_8 10 rfl rfl)
theorem dX2_displace_202 : decode cX2_displace 202 = .ok (.aload_n 0, 1) := dk_42 (dk_at dksX2_displace_8 13 rfl rfl)
theorem dX2_displace_203 : decode cX2_displace 203 = .ok (.getfield 7, 3) := dk_180 0 7 (dk_at dksX2_displace_8 14 rfl rfl)
theorem dX2_displace_206 : decode cX2_displace 206 = .ok (.iload 5, 2) := dk_21 5 (dk_at dksX2_displace_8 17 rfl rfl)
theorem dX2_displace_208 : decode cX2_displace 208 = .ok (.iconst 3, 1) := dk_6 (dk_at dksX2_displace_8 19 rfl rfl)
theorem dX2_displace_209 : decode cX2_displace 209 = .ok (.iadd, 1) := dk_96 (dk_at dksX2_displace_8 20 rfl rfl)
theorem dX2_displace_210 : decode cX2_displace 210 = .ok (.iconst 4, 1) := dk_7 (dk_at dksX2_displace_8 21 rfl rfl)
theorem dX2_displace_211 : decode cX2_displace 211 = .ok (.iastore, 1) := dk_79 (dk_at dksX2_displace_8 22 rfl rfl)
theorem dX2_displace_212 : decode cX2_displace 212 = .ok (.return_, 1) := dk_177 (dk_at dksX2_displace_8 23 rfl rfl)
abbrev cX2_firstFree : ByteArray := prog_12_method_36_code
def yX2_firstFree : MethodName := ⟨RX2, "firstFree", "(I)I"⟩
def dkwX2_firstFree_1 : List UInt8 := [172]
abbrev dktX2_firstFree_1 : List UInt8 := dkwX2_firstFree_1 ++ []
def dkwX2_firstFree_0 : List UInt8 := [27, 61, 42, 28, 16, 6, 108, 28, 16, 6, 112, 182, 0, 84, 154, 0, 9, 132, 2, 1, 167, 255, 238, 28]
abbrev dktX2_firstFree_0 : List UInt8 := dkwX2_firstFree_0 ++ dktX2_firstFree_1
theorem dksX2_firstFree_0 : cX2_firstFree.data.toList.drop 0 = dktX2_firstFree_0 := by decide +kernel
theorem dksX2_firstFree_1 : cX2_firstFree.data.toList.drop 24 = dktX2_firstFree_1 := dk_seg dksX2_firstFree_0 24 rfl rfl
theorem dX2_firstFree_0 : decode cX2_firstFree 0 = .ok (.iload_n 1, 1) := dk_27 (dk_at dksX2_firstFree_0 0 rfl rfl)
theorem dX2_firstFree_1 : decode cX2_firstFree 1 = .ok (.istore_n 2, 1) := dk_61 (dk_at dksX2_firstFree_0 1 rfl rfl)
theorem dX2_firstFree_2 : decode cX2_firstFree 2 = .ok (.aload_n 0, 1) := dk_42 (dk_at dksX2_firstFree_0 2 rfl rfl)
theorem dX2_firstFree_3 : decode cX2_firstFree 3 = .ok (.iload_n 2, 1) := dk_28 (dk_at dksX2_firstFree_0 3 rfl rfl)
theorem dX2_firstFree_4 : decode cX2_firstFree 4 = .ok (.bipush 6, 2) := dk_16 6 (dk_at dksX2_firstFree_0 4 rfl rfl)
theorem dX2_firstFree_6 : decode cX2_firstFree 6 = .ok (.idiv, 1) := dk_108 (dk_at dksX2_firstFree_0 6 rfl rfl)
theorem dX2_firstFree_7 : decode cX2_firstFree 7 = .ok (.iload_n 2, 1) := dk_28 (dk_at dksX2_firstFree_0 7 rfl rfl)
theorem dX2_firstFree_8 : decode cX2_firstFree 8 = .ok (.bipush 6, 2) := dk_16 6 (dk_at dksX2_firstFree_0 8 rfl rfl)
theorem dX2_firstFree_10 : decode cX2_firstFree 10 = .ok (.irem, 1) := dk_112 (dk_at dksX2_firstFree_0 10 rfl rfl)
theorem dX2_firstFree_11 : decode cX2_firstFree 11 = .ok (.invokevirtual 84, 3) := dk_182 0 84 (dk_at dksX2_firstFree_0 11 rfl rfl)
theorem dX2_firstFree_14 : decode cX2_firstFree 14 = .ok (.ifCond .ne 9, 3) := dk_154 0 9 (dk_at dksX2_firstFree_0 14 rfl rfl)
theorem dX2_firstFree_17 : decode cX2_firstFree 17 = .ok (.iinc 2 1, 3) := dk_132 2 1 (dk_at dksX2_firstFree_0 17 rfl rfl)
theorem dX2_firstFree_20 : decode cX2_firstFree 20 = .ok (.goto (-18), 3) := dk_167 255 238 (dk_at dksX2_firstFree_0 20 rfl rfl)
theorem dX2_firstFree_23 : decode cX2_firstFree 23 = .ok (.iload_n 2, 1) := dk_28 (dk_at dksX2_firstFree_0 23 rfl rfl)
theorem dX2_firstFree_24 : decode cX2_firstFree 24 = .ok (.ireturn, 1) := dk_172 (dk_at dksX2_firstFree_1 0 rfl rfl)
abbrev cX2_lose : ByteArray := prog_12_method_35_code
def yX2_lose : MethodName := ⟨RX2, "lose", "(II)V"⟩
def dkwX2_lose_2 : List UInt8 := [177]
abbrev dktX2_lose_2 : List UInt8 := dkwX2_lose_2 ++ []
def dkwX2_lose_1 : List UInt8 := [8, 182, 0, 88, 96, 79, 42, 27, 28, 182, 0, 113, 42, 27, 7, 42, 27, 8, 182, 0, 88, 182, 0, 117]
abbrev dktX2_lose_1 : List UInt8 := dkwX2_lose_1 ++ dktX2_lose_2
def dkwX2_lose_0 : List UInt8 := [42, 180, 0, 32, 5, 92, 46, 42, 27, 4, 182, 0, 88, 96, 79, 42, 180, 0, 32, 6, 92, 46, 42, 27]
abbrev dktX2_lose_0 : List UInt8 := dkwX2_lose_0 ++ dktX2_lose_1
theorem dksX2_lose_0 : cX2_lose.data.toList.drop 0 = dktX2_lose_0 := by decide +kernel
theorem dksX2_lose_1 : cX2_lose.data.toList.drop 24 = dktX2_lose_1 := dk_seg dksX2_lose_0 24 rfl rfl
theorem dksX2_lose_2 : cX2_lose.data.toList.drop 48 = dktX2_lose_2 := dk_seg dksX2_lose_1 24 rfl rfl
theorem dX2_lose_0 : decode cX2_lose 0 = .ok (.aload_n 0, 1) := dk_42 (dk_at dksX2_lose_0 0 rfl rfl)
theorem dX2_lose_1 : decode cX2_lose 1 = .ok (.getfield 32, 3) := dk_180 0 32 (dk_at dksX2_lose_0 1 rfl rfl)
theorem dX2_lose_4 : decode cX2_lose 4 = .ok (.iconst 2, 1) := dk_5 (dk_at dksX2_lose_0 4 rfl rfl)
theorem dX2_lose_5 : decode cX2_lose 5 = .ok (.dup2, 1) := dk_92 (dk_at dksX2_lose_0 5 rfl rfl)
theorem dX2_lose_6 : decode cX2_lose 6 = .ok (.iaload, 1) := dk_46 (dk_at dksX2_lose_0 6 rfl rfl)
theorem dX2_lose_7 : decode cX2_lose 7 = .ok (.aload_n 0, 1) := dk_42 (dk_at dksX2_lose_0 7 rfl rfl)
theorem dX2_lose_8 : decode cX2_lose 8 = .ok (.iload_n 1, 1) := dk_27 (dk_at dksX2_lose_0 8 rfl rfl)
theorem dX2_lose_9 : decode cX2_lose 9 = .ok (.iconst 1, 1) := dk_4 (dk_at dksX2_lose_0 9 rfl rfl)
theorem dX2_lose_10 : decode cX2_lose 10 = .ok (.invokevirtual 88, 3) := dk_182 0 88 (dk_at dksX2_lose_0 10 rfl rfl)
theorem dX2_lose_13 : decode cX2_lose 13 = .ok (.iadd, 1) := dk_96 (dk_at dksX2_lose_0 13 rfl rfl)
theorem dX2_lose_14 : decode cX2_lose 14 = .ok (.iastore, 1) := dk_79 (dk_at dksX2_lose_0 14 rfl rfl)
theorem dX2_lose_15 : decode cX2_lose 15 = .ok (.aload_n 0, 1) := dk_42 (dk_at dksX2_lose_0 15 rfl rfl)
theorem dX2_lose_16 : decode cX2_lose 16 = .ok (.getfield 32, 3) := dk_180 0 32 (dk_at dksX2_lose_0 16 rfl rfl)
theorem dX2_lose_19 : decode cX2_lose 19 = .ok (.iconst 3, 1) := dk_6 (dk_at dksX2_lose_0 19 rfl rfl)
theorem dX2_lose_20 : decode cX2_lose 20 = .ok (.dup2, 1) := dk_92 (dk_at dksX2_lose_0 20 rfl rfl)
theorem dX2_lose_21 : decode cX2_lose 21 = .ok (.iaload, 1) := dk_46 (dk_at dksX2_lose_0 21 rfl rfl)
theorem dX2_lose_22 : decode cX2_lose 22 = .ok (.aload_n 0, 1) := dk_42 (dk_at dksX2_lose_0 22 rfl rfl)
theorem dX2_lose_23 : decode cX2_lose 23 = .ok (.iload_n 1, 1) := dk_27 (dk_at dksX2_lose_0 23 rfl rfl)
theorem dX2_lose_24 : decode cX2_lose 24 = .ok (.iconst 5, 1) := dk_8 (dk_at dksX2_lose_1 0 rfl rfl)
theorem dX2_lose_25 : decode cX2_lose 25 = .ok (.invokevirtual 88, 3) := dk_182 0 88 (dk_at dksX2_lose_1 1 rfl rfl)
theorem dX2_lose_28 : decode cX2_lose 28 = .ok (.iadd, 1) := dk_96 (dk_at dksX2_lose_1 4 rfl rfl)
theorem dX2_lose_29 : decode cX2_lose 29 = .ok (.iastore, 1) := dk_79 (dk_at dksX2_lose_1 5 rfl rfl)
theorem dX2_lose_30 : decode cX2_lose 30 = .ok (.aload_n 0, 1) := dk_42 (dk_at dksX2_lose_1 6 rfl rfl)
theorem dX2_lose_31 : decode cX2_lose 31 = .ok (.iload_n 1, 1) := dk_27 (dk_at dksX2_lose_1 7 rfl rfl)
theorem dX2_lose_32 : decode cX2_lose 32 = .ok (.iload_n 2, 1) := dk_28 (dk_at dksX2_lose_1 8 rfl rfl)
theorem dX2_lose_33 : decode cX2_lose 33 = .ok (.invokevirtual 113, 3) := dk_182 0 113 (dk_at dksX2_lose_1 9 rfl rfl)
theorem dX2_lose_36 : decode cX2_lose 36 = .ok (.aload_n 0, 1) := dk_42 (dk_at dksX2_lose_1 12 rfl rfl)
theorem dX2_lose_37 : decode cX2_lose 37 = .ok (.iload_n 1, 1) := dk_27 (dk_at dksX2_lose_1 13 rfl rfl)
theorem dX2_lose_38 : decode cX2_lose 38 = .ok (.iconst 4, 1) := dk_7 (dk_at dksX2_lose_1 14 rfl rfl)
theorem dX2_lose_39 : decode cX2_lose 39 = .ok (.aload_n 0, 1) := dk_42 (dk_at dksX2_lose_1 15 rfl rfl)
theorem dX2_lose_40 : decode cX2_lose 40 = .ok (.iload_n 1, 1) := dk_27 (dk_at dksX2_lose_1 16 rfl rfl)
theorem dX2_lose_41 : decode cX2_lose 41 = .ok (.iconst 5, 1) := dk_8 (dk_at dksX2_lose_1 17 rfl rfl)
theorem dX2_lose_42 : decode cX2_lose 42 = .ok (.invokevirtual 88, 3) := dk_182 0 88 (dk_at dksX2_lose_1 18 rfl rfl)
theorem dX2_lose_45 : decode cX2_lose 45 = .ok (.invokevirtual 117, 3) := dk_182 0 117 (dk_at dksX2_lose_1 21 rfl rfl)
theorem dX2_lose_48 : decode cX2_lose 48 = .ok (.return_, 1) := dk_177 (dk_at dksX2_lose_2 0 rfl rfl)
abbrev cX2_tallyMoved : ByteArray := prog_12_method_38_code
def yX2_tallyMoved : MethodName := ⟨RX2, "tallyMoved", "(III)V"⟩
def dkwX2_tallyMoved_6 : List UInt8 := [177]
abbrev dktX2_tallyMoved_6 : List UInt8 := dkwX2_tallyMoved_6 ++ []
def dkwX2_tallyMoved_5 : List UInt8 := [180, 0, 7, 21, 5, 16, 7, 96, 92, 46, 42, 27, 4, 182, 0, 88, 96, 79, 132, 4, 1, 167, 255, 122]
abbrev dktX2_tallyMoved_5 : List UInt8 := dkwX2_tallyMoved_5 ++ dktX2_tallyMoved_6
def dkwX2_tallyMoved_4 : List UInt8 := [21, 5, 6, 96, 46, 163, 0, 35, 29, 42, 180, 0, 7, 21, 5, 6, 96, 46, 164, 0, 22, 42]
abbrev dktX2_tallyMoved_4 : List UInt8 := dkwX2_tallyMoved_4 ++ dktX2_tallyMoved_5
def dkwX2_tallyMoved_3 : List UInt8 := [182, 0, 75, 160, 0, 7, 4, 167, 0, 4, 3, 54, 6, 21, 6, 153, 0, 48, 28, 42, 180, 0, 7]
abbrev dktX2_tallyMoved_3 : List UInt8 := dkwX2_tallyMoved_3 ++ dktX2_tallyMoved_4
def dkwX2_tallyMoved_2 : List UInt8 := [182, 0, 88, 160, 0, 30, 42, 180, 0, 7, 21, 5, 4, 96, 46, 42, 42, 27, 3, 182, 0, 88, 3]
abbrev dktX2_tallyMoved_2 : List UInt8 := dkwX2_tallyMoved_2 ++ dktX2_tallyMoved_3
def dkwX2_tallyMoved_1 : List UInt8 := [54, 5, 42, 180, 0, 7, 21, 5, 7, 96, 46, 154, 0, 46, 42, 180, 0, 7, 21, 5, 46, 42, 27, 5]
abbrev dktX2_tallyMoved_1 : List UInt8 := dkwX2_tallyMoved_1 ++ dktX2_tallyMoved_2
def dkwX2_tallyMoved_0 : List UInt8 := [3, 54, 4, 21, 4, 42, 180, 0, 7, 16, 12, 46, 162, 0, 128, 17, 7, 68, 16, 10, 21, 4, 104, 96]
abbrev dktX2_tallyMoved_0 : List UInt8 := dkwX2_tallyMoved_0 ++ dktX2_tallyMoved_1
theorem dksX2_tallyMoved_0 : cX2_tallyMoved.data.toList.drop 0 = dktX2_tallyMoved_0 := by decide +kernel
theorem dksX2_tallyMoved_1 : cX2_tallyMoved.data.toList.drop 24 = dktX2_tallyMoved_1 := dk_seg dksX2_tallyMoved_0 24 rfl rfl
theorem dksX2_tallyMoved_2 : cX2_tallyMoved.data.toList.drop 48 = dktX2_tallyMoved_2 := dk_seg dksX2_tallyMoved_1 24 rfl rfl
theorem dksX2_tallyMoved_3 : cX2_tallyMoved.data.toList.drop 71 = dktX2_tallyMoved_3 := dk_seg dksX2_tallyMoved_2 23 rfl rfl
theorem dksX2_tallyMoved_4 : cX2_tallyMoved.data.toList.drop 94 = dktX2_tallyMoved_4 := dk_seg dksX2_tallyMoved_3 23 rfl rfl
theorem dksX2_tallyMoved_5 : cX2_tallyMoved.data.toList.drop 116 = dktX2_tallyMoved_5 := dk_seg dksX2_tallyMoved_4 22 rfl rfl
theorem dksX2_tallyMoved_6 : cX2_tallyMoved.data.toList.drop 140 = dktX2_tallyMoved_6 := dk_seg dksX2_tallyMoved_5 24 rfl rfl
theorem dX2_tallyMoved_0 : decode cX2_tallyMoved 0 = .ok (.iconst 0, 1) := dk_3 (dk_at dksX2_tallyMoved_0 0 rfl rfl)
theorem dX2_tallyMoved_1 : decode cX2_tallyMoved 1 = .ok (.istore 4, 2) := dk_54 4 (dk_at dksX2_tallyMoved_0 1 rfl rfl)
theorem dX2_tallyMoved_3 : decode cX2_tallyMoved 3 = .ok (.iload 4, 2) := dk_21 4 (dk_at dksX2_tallyMoved_0 3 rfl rfl)
theorem dX2_tallyMoved_5 : decode cX2_tallyMoved 5 = .ok (.aload_n 0, 1) := dk_42 (dk_at dksX2_tallyMoved_0 5 rfl rfl)
theorem dX2_tallyMoved_6 : decode cX2_tallyMoved 6 = .ok (.getfield 7, 3) := dk_180 0 7 (dk_at dksX2_tallyMoved_0 6 rfl rfl)
theorem dX2_tallyMoved_9 : decode cX2_tallyMoved 9 = .ok (.bipush 12, 2) := dk_16 12 (dk_at dksX2_tallyMoved_0 9 rfl rfl)
theorem dX2_tallyMoved_11 : decode cX2_tallyMoved 11 = .ok (.iaload, 1) := dk_46 (dk_at dksX2_tallyMoved_0 11 rfl rfl)
theorem dX2_tallyMoved_12 : decode cX2_tallyMoved 12 = .ok (.if_icmp .ge 128, 3) := dk_162 0 128 (dk_at dksX2_tallyMoved_0 12 rfl rfl)
theorem dX2_tallyMoved_15 : decode cX2_tallyMoved 15 = .ok (.sipush 1860, 3) := dk_17 7 68 (dk_at dksX2_tallyMoved_0 15 rfl rfl)
theorem dX2_tallyMoved_18 : decode cX2_tallyMoved 18 = .ok (.bipush 10, 2) := dk_16 10 (dk_at dksX2_tallyMoved_0 18 rfl rfl)
theorem dX2_tallyMoved_20 : decode cX2_tallyMoved 20 = .ok (.iload 4, 2) := dk_21 4 (dk_at dksX2_tallyMoved_0 20 rfl rfl)
theorem dX2_tallyMoved_22 : decode cX2_tallyMoved 22 = .ok (.imul, 1) := dk_104 (dk_at dksX2_tallyMoved_0 22 rfl rfl)
theorem dX2_tallyMoved_23 : decode cX2_tallyMoved 23 = .ok (.iadd, 1) := dk_96 (dk_at dksX2_tallyMoved_0 23 rfl rfl)
theorem dX2_tallyMoved_24 : decode cX2_tallyMoved 24 = .ok (.istore 5, 2) := dk_54 5 (dk_at dksX2_tallyMoved_1 0 rfl rfl)
theorem dX2_tallyMoved_26 : decode cX2_tallyMoved 26 = .ok (.aload_n 0, 1) := dk_42 (dk_at dksX2_tallyMoved_1 2 rfl rfl)
theorem dX2_tallyMoved_27 : decode cX2_tallyMoved 27 = .ok (.getfield 7, 3) := dk_180 0 7 (dk_at dksX2_tallyMoved_1 3 rfl rfl)
theorem dX2_tallyMoved_30 : decode cX2_tallyMoved 30 = .ok (.iload 5, 2) := dk_21 5 (dk_at dksX2_tallyMoved_1 6 rfl rfl)
theorem dX2_tallyMoved_32 : decode cX2_tallyMoved 32 = .ok (.iconst 4, 1) := dk_7 (dk_at dksX2_tallyMoved_1 8 rfl rfl)
theorem dX2_tallyMoved_33 : decode cX2_tallyMoved 33 = .ok (.iadd, 1) := dk_96 (dk_at dksX2_tallyMoved_1 9 rfl rfl)
theorem dX2_tallyMoved_34 : decode cX2_tallyMoved 34 = .ok (.iaload, 1) := dk_46 (dk_at dksX2_tallyMoved_1 10 rfl rfl)
theorem dX2_tallyMoved_35 : decode cX2_tallyMoved 35 = .ok (.ifCond .ne 46, 3) := dk_154 0 46 (dk_at dksX2_tallyMoved_1 11 rfl rfl)
theorem dX2_tallyMoved_38 : decode cX2_tallyMoved 38 = .ok (.aload_n 0, 1) := dk_42 (dk_at dksX2_tallyMoved_1 14 rfl rfl)
theorem dX2_tallyMoved_39 : decode cX2_tallyMoved 39 = .ok (.getfield 7, 3) := dk_180 0 7 (dk_at dksX2_tallyMoved_1 15 rfl rfl)
theorem dX2_tallyMoved_42 : decode cX2_tallyMoved 42 = .ok (.iload 5, 2) := dk_21 5 (dk_at dksX2_tallyMoved_1 18 rfl rfl)
theorem dX2_tallyMoved_44 : decode cX2_tallyMoved 44 = .ok (.iaload, 1) := dk_46 (dk_at dksX2_tallyMoved_1 20 rfl rfl)
theorem dX2_tallyMoved_45 : decode cX2_tallyMoved 45 = .ok (.aload_n 0, 1) := dk_42 (dk_at dksX2_tallyMoved_1 21 rfl rfl)
theorem dX2_tallyMoved_46 : decode cX2_tallyMoved 46 = .ok (.iload_n 1, 1) := dk_27 (dk_at dksX2_tallyMoved_1 22 rfl rfl)
theorem dX2_tallyMoved_47 : decode cX2_tallyMoved 47 = .ok (.iconst 2, 1) := dk_5 (dk_at dksX2_tallyMoved_1 23 rfl rfl)
theorem dX2_tallyMoved_48 : decode cX2_tallyMoved 48 = .ok (.invokevirtual 88, 3) := dk_182 0 88 (dk_at dksX2_tallyMoved_2 0 rfl rfl)
theorem dX2_tallyMoved_51 : decode cX2_tallyMoved 51 = .ok (.if_icmp .ne 30, 3) := dk_160 0 30 (dk_at dksX2_tallyMoved_2 3 rfl rfl)
theorem dX2_tallyMoved_54 : decode cX2_tallyMoved 54 = .ok (.aload_n 0, 1) := dk_42 (dk_at dksX2_tallyMoved_2 6 rfl rfl)
theorem dX2_tallyMoved_55 : decode cX2_tallyMoved 55 = .ok (.getfield 7, 3) := dk_180 0 7 (dk_at dksX2_tallyMoved_2 7 rfl rfl)
theorem dX2_tallyMoved_58 : decode cX2_tallyMoved 58 = .ok (.iload 5, 2) := dk_21 5 (dk_at dksX2_tallyMoved_2 10 rfl rfl)
theorem dX2_tallyMoved_60 : decode cX2_tallyMoved 60 = .ok (.iconst 1, 1) := dk_4 (dk_at dksX2_tallyMoved_2 12 rfl rfl)
theorem dX2_tallyMoved_61 : decode cX2_tallyMoved 61 = .ok (.iadd, 1) := dk_96 (dk_at dksX2_tallyMoved_2 13 rfl rfl)
theorem dX2_tallyMoved_62 : decode cX2_tallyMoved 62 = .ok (.iaload, 1) := dk_46 (dk_at dksX2_tallyMoved_2 14 rfl rfl)
theorem dX2_tallyMoved_63 : decode cX2_tallyMoved 63 = .ok (.aload_n 0, 1) := dk_42 (dk_at dksX2_tallyMoved_2 15 rfl rfl)
theorem dX2_tallyMoved_64 : decode cX2_tallyMoved 64 = .ok (.aload_n 0, 1) := dk_42 (dk_at dksX2_tallyMoved_2 16 rfl rfl)
theorem dX2_tallyMoved_65 : decode cX2_tallyMoved 65 = .ok (.iload_n 1, 1) := dk_27 (dk_at dksX2_tallyMoved_2 17 rfl rfl)
theorem dX2_tallyMoved_66 : decode cX2_tallyMoved 66 = .ok (.iconst 0, 1) := dk_3 (dk_at dksX2_tallyMoved_2 18 rfl rfl)
theorem dX2_tallyMoved_67 : decode cX2_tallyMoved 67 = .ok (.invokevirtual 88, 3) := dk_182 0 88 (dk_at dksX2_tallyMoved_2 19 rfl rfl)
theorem dX2_tallyMoved_70 : decode cX2_tallyMoved 70 = .ok (.iconst 0, 1) := dk_3 (dk_at dksX2_tallyMoved_2 22 rfl rfl)
theorem dX2_tallyMoved_71 : decode cX2_tallyMoved 71 = .ok (.invokevirtual 75, 3) := dk_182 0 75 (dk_at dksX2_tallyMoved_3 0 rfl rfl)
theorem dX2_tallyMoved_74 : decode cX2_tallyMoved 74 = .ok (.if_icmp .ne 7, 3) := dk_160 0 7 (dk_at dksX2_tallyMoved_3 3 rfl rfl)
theorem dX2_tallyMoved_77 : decode cX2_tallyMoved 77 = .ok (.iconst 1, 1) := dk_4 (dk_at dksX2_tallyMoved_3 6 rfl rfl)
theorem dX2_tallyMoved_78 : decode cX2_tallyMoved 78 = .ok (.goto 4, 3) := dk_167 0 4 (dk_at dksX2_tallyMoved_3 7 rfl rfl)
theorem dX2_tallyMoved_81 : decode cX2_tallyMoved 81 = .ok (.iconst 0, 1) := dk_3 (dk_at dksX2_tallyMoved_3 10 rfl rfl)
theorem dX2_tallyMoved_82 : decode cX2_tallyMoved 82 = .ok (.istore 6, 2) := dk_54 6 (dk_at dksX2_tallyMoved_3 11 rfl rfl)
theorem dX2_tallyMoved_84 : decode cX2_tallyMoved 84 = .ok (.iload 6, 2) := dk_21 6 (dk_at dksX2_tallyMoved_3 13 rfl rfl)
theorem dX2_tallyMoved_86 : decode cX2_tallyMoved 86 = .ok (.ifCond .eq 48, 3) := dk_153 0 48 (dk_at dksX2_tallyMoved_3 15 rfl rfl)
theorem dX2_tallyMoved_89 : decode cX2_tallyMoved 89 = .ok (.iload_n 2, 1) := dk_28 (dk_at dksX2_tallyMoved_3 18 rfl rfl)
theorem dX2_tallyMoved_90 : decode cX2_tallyMoved 90 = .ok (.aload_n 0, 1) := dk_42 (dk_at dksX2_tallyMoved_3 19 rfl rfl)
theorem dX2_tallyMoved_91 : decode cX2_tallyMoved 91 = .ok (.getfield 7, 3) := dk_180 0 7 (dk_at dksX2_tallyMoved_3 20 rfl rfl)
theorem dX2_tallyMoved_94 : decode cX2_tallyMoved 94 = .ok (.iload 5, 2) := dk_21 5 (dk_at dksX2_tallyMoved_4 0 rfl rfl)
theorem dX2_tallyMoved_96 : decode cX2_tallyMoved 96 = .ok (.iconst 3, 1) := dk_6 (dk_at dksX2_tallyMoved_4 2 rfl rfl)
theorem dX2_tallyMoved_97 : decode cX2_tallyMoved 97 = .ok (.iadd, 1) := dk_96 (dk_at dksX2_tallyMoved_4 3 rfl rfl)
theorem dX2_tallyMoved_98 : decode cX2_tallyMoved 98 = .ok (.iaload, 1) := dk_46 (dk_at dksX2_tallyMoved_4 4 rfl rfl)
theorem dX2_tallyMoved_99 : decode cX2_tallyMoved 99 = .ok (.if_icmp .gt 35, 3) := dk_163 0 35 (dk_at dksX2_tallyMoved_4 5 rfl rfl)
theorem dX2_tallyMoved_102 : decode cX2_tallyMoved 102 = .ok (.iload_n 3, 1) := dk_29 (dk_at dksX2_tallyMoved_4 8 rfl rfl)
theorem dX2_tallyMoved_103 : decode cX2_tallyMoved 103 = .ok (.aload_n 0, 1) := dk_42 (dk_at dksX2_tallyMoved_4 9 rfl rfl)
theorem dX2_tallyMoved_104 : decode cX2_tallyMoved 104 = .ok (.getfield 7, 3) := dk_180 0 7 (dk_at dksX2_tallyMoved_4 10 rfl rfl)
theorem dX2_tallyMoved_107 : decode cX2_tallyMoved 107 = .ok (.iload 5, 2) := dk_21 5 (dk_at dksX2_tallyMoved_4 13 rfl rfl)
theorem dX2_tallyMoved_109 : decode cX2_tallyMoved 109 = .ok (.iconst 3, 1) := dk_6 (dk_at dksX2_tallyMoved_4 15 rfl rfl)
theorem dX2_tallyMoved_110 : decode cX2_tallyMoved 110 = .ok (.iadd, 1) := dk_96 (dk_at dksX2_tallyMoved_4 16 rfl rfl)
theorem dX2_tallyMoved_111 : decode cX2_tallyMoved 111 = .ok (.iaload, 1) := dk_46 (dk_at dksX2_tallyMoved_4 17 rfl rfl)
theorem dX2_tallyMoved_112 : decode cX2_tallyMoved 112 = .ok (.if_icmp .le 22, 3) := dk_164 0 22 (dk_at dksX2_tallyMoved_4 18 rfl rfl)
theorem dX2_tallyMoved_115 : decode cX2_tallyMoved 115 = .ok (.aload_n 0, 1) := dk_42 (dk_at dksX2_tallyMoved_4 21 rfl rfl)
theorem dX2_tallyMoved_116 : decode cX2_tallyMoved 116 = .ok (.getfield 7, 3) := dk_180 0 7 (dk_at dksX2_tallyMoved_5 0 rfl rfl)
theorem dX2_tallyMoved_119 : decode cX2_tallyMoved 119 = .ok (.iload 5, 2) := dk_21 5 (dk_at dksX2_tallyMoved_5 3 rfl rfl)
theorem dX2_tallyMoved_121 : decode cX2_tallyMoved 121 = .ok (.bipush 7, 2) := dk_16 7 (dk_at dksX2_tallyMoved_5 5 rfl rfl)
theorem dX2_tallyMoved_123 : decode cX2_tallyMoved 123 = .ok (.iadd, 1) := dk_96 (dk_at dksX2_tallyMoved_5 7 rfl rfl)
theorem dX2_tallyMoved_124 : decode cX2_tallyMoved 124 = .ok (.dup2, 1) := dk_92 (dk_at dksX2_tallyMoved_5 8 rfl rfl)
theorem dX2_tallyMoved_125 : decode cX2_tallyMoved 125 = .ok (.iaload, 1) := dk_46 (dk_at dksX2_tallyMoved_5 9 rfl rfl)
theorem dX2_tallyMoved_126 : decode cX2_tallyMoved 126 = .ok (.aload_n 0, 1) := dk_42 (dk_at dksX2_tallyMoved_5 10 rfl rfl)
theorem dX2_tallyMoved_127 : decode cX2_tallyMoved 127 = .ok (.iload_n 1, 1) := dk_27 (dk_at dksX2_tallyMoved_5 11 rfl rfl)
theorem dX2_tallyMoved_128 : decode cX2_tallyMoved 128 = .ok (.iconst 1, 1) := dk_4 (dk_at dksX2_tallyMoved_5 12 rfl rfl)
theorem dX2_tallyMoved_129 : decode cX2_tallyMoved 129 = .ok (.invokevirtual 88, 3) := dk_182 0 88 (dk_at dksX2_tallyMoved_5 13 rfl rfl)
theorem dX2_tallyMoved_132 : decode cX2_tallyMoved 132 = .ok (.iadd, 1) := dk_96 (dk_at dksX2_tallyMoved_5 16 rfl rfl)
theorem dX2_tallyMoved_133 : decode cX2_tallyMoved 133 = .ok (.iastore, 1) := dk_79 (dk_at dksX2_tallyMoved_5 17 rfl rfl)
theorem dX2_tallyMoved_134 : decode cX2_tallyMoved 134 = .ok (.iinc 4 1, 3) := dk_132 4 1 (dk_at dksX2_tallyMoved_5 18 rfl rfl)
theorem dX2_tallyMoved_137 : decode cX2_tallyMoved 137 = .ok (.goto (-134), 3) := dk_167 255 122 (dk_at dksX2_tallyMoved_5 21 rfl rfl)
theorem dX2_tallyMoved_140 : decode cX2_tallyMoved 140 = .ok (.return_, 1) := dk_177 (dk_at dksX2_tallyMoved_6 0 rfl rfl)
abbrev cX2_promise : ByteArray := prog_12_method_42_code
def yX2_promise : MethodName := ⟨RX2, "promise", "(IIII)I"⟩
def dkwX2_promise_10 : List UInt8 := [46, 4, 96, 79, 42, 180, 0, 7, 16, 12, 46, 4, 100, 172]
abbrev dktX2_promise_10 : List UInt8 := dkwX2_promise_10 ++ []
def dkwX2_promise_9 : List UInt8 := [42, 180, 0, 7, 21, 5, 21, 6, 96, 3, 79, 132, 6, 1, 167, 255, 235, 42, 180, 0, 7, 16, 12, 92]
abbrev dktX2_promise_9 : List UInt8 := dkwX2_promise_9 ++ dktX2_promise_10
def dkwX2_promise_8 : List UInt8 := [96, 29, 79, 42, 180, 0, 7, 21, 5, 6, 96, 21, 4, 79, 7, 54, 6, 21, 6, 16, 10, 162, 0, 20]
abbrev dktX2_promise_8 : List UInt8 := dkwX2_promise_8 ++ dktX2_promise_9
def dkwX2_promise_7 : List UInt8 := [180, 0, 7, 21, 5, 27, 79, 42, 180, 0, 7, 21, 5, 4, 96, 28, 79, 42, 180, 0, 7, 21, 5, 5]
abbrev dktX2_promise_7 : List UInt8 := dkwX2_promise_7 ++ dktX2_promise_8
def dkwX2_promise_6 : List UInt8 := [167, 255, 191, 42, 182, 0, 53, 17, 7, 68, 16, 10, 42, 180, 0, 7, 16, 12, 46, 104, 96, 54, 5, 42]
abbrev dktX2_promise_6 : List UInt8 := dkwX2_promise_6 ++ dktX2_promise_7
def dkwX2_promise_5 : List UInt8 := [96, 46, 28, 160, 0, 18, 42, 180, 0, 7, 21, 6, 7, 96, 46, 154, 0, 6, 16, 251, 172, 132, 5, 1]
abbrev dktX2_promise_5 : List UInt8 := dkwX2_promise_5 ++ dktX2_promise_6
def dkwX2_promise_4 : List UInt8 := [21, 5, 104, 96, 54, 6, 42, 180, 0, 7, 21, 6, 46, 27, 160, 0, 31, 42, 180, 0, 7, 21, 6, 4]
abbrev dktX2_promise_4 : List UInt8 := dkwX2_promise_4 ++ dktX2_promise_5
def dkwX2_promise_3 : List UInt8 := [16, 252, 172, 3, 54, 5, 21, 5, 42, 180, 0, 7, 16, 12, 46, 162, 0, 59, 17, 7, 68, 16, 10]
abbrev dktX2_promise_3 : List UInt8 := dkwX2_promise_3 ++ dktX2_promise_4
def dkwX2_promise_2 : List UInt8 := [172, 42, 28, 182, 0, 56, 154, 0, 5, 2, 172, 42, 180, 0, 7, 16, 12, 46, 16, 12, 160, 0, 6]
abbrev dktX2_promise_2 : List UInt8 := dkwX2_promise_2 ++ dktX2_promise_3
def dkwX2_promise_1 : List UInt8 := [180, 0, 7, 16, 6, 46, 42, 180, 0, 7, 16, 6, 46, 16, 60, 96, 184, 0, 49, 154, 0, 6, 16, 254]
abbrev dktX2_promise_1 : List UInt8 := dkwX2_promise_1 ++ dktX2_promise_2
def dkwX2_promise_0 : List UInt8 := [27, 3, 8, 184, 0, 49, 153, 0, 39, 29, 4, 17, 0, 200, 184, 0, 49, 153, 0, 28, 21, 4, 42]
abbrev dktX2_promise_0 : List UInt8 := dkwX2_promise_0 ++ dktX2_promise_1
theorem dksX2_promise_0 : cX2_promise.data.toList.drop 0 = dktX2_promise_0 := by decide +kernel
theorem dksX2_promise_1 : cX2_promise.data.toList.drop 23 = dktX2_promise_1 := dk_seg dksX2_promise_0 23 rfl rfl
theorem dksX2_promise_2 : cX2_promise.data.toList.drop 47 = dktX2_promise_2 := dk_seg dksX2_promise_1 24 rfl rfl
theorem dksX2_promise_3 : cX2_promise.data.toList.drop 70 = dktX2_promise_3 := dk_seg dksX2_promise_2 23 rfl rfl
theorem dksX2_promise_4 : cX2_promise.data.toList.drop 93 = dktX2_promise_4 := dk_seg dksX2_promise_3 23 rfl rfl
theorem dksX2_promise_5 : cX2_promise.data.toList.drop 117 = dktX2_promise_5 := dk_seg dksX2_promise_4 24 rfl rfl
theorem dksX2_promise_6 : cX2_promise.data.toList.drop 141 = dktX2_promise_6 := dk_seg dksX2_promise_5 24 rfl rfl
theorem dksX2_promise_7 : cX2_promise.data.toList.drop 165 = dktX2_promise_7 := dk_seg dksX2_promise_6 24 rfl rfl
theorem dksX2_promise_8 : cX2_promise.data.toList.drop 189 = dktX2_promise_8 := dk_seg dksX2_promise_7 24 rfl rfl
theorem dksX2_promise_9 : cX2_promise.data.toList.drop 213 = dktX2_promise_9 := dk_seg dksX2_promise_8 24 rfl rfl
theorem dksX2_promise_10 : cX2_promise.data.toList.drop 237 = dktX2_promise_10 := dk_seg dksX2_promise_9 24 rfl rfl
theorem dX2_promise_0 : decode cX2_promise 0 = .ok (.iload_n 1, 1) := dk_27 (dk_at dksX2_promise_0 0 rfl rfl)
theorem dX2_promise_1 : decode cX2_promise 1 = .ok (.iconst 0, 1) := dk_3 (dk_at dksX2_promise_0 1 rfl rfl)
theorem dX2_promise_2 : decode cX2_promise 2 = .ok (.iconst 5, 1) := dk_8 (dk_at dksX2_promise_0 2 rfl rfl)
theorem dX2_promise_3 : decode cX2_promise 3 = .ok (.invokestatic 49, 3) := dk_184 0 49 (dk_at dksX2_promise_0 3 rfl rfl)
theorem dX2_promise_6 : decode cX2_promise 6 = .ok (.ifCond .eq 39, 3) := dk_153 0 39 (dk_at dksX2_promise_0 6 rfl rfl)
theorem dX2_promise_9 : decode cX2_promise 9 = .ok (.iload_n 3, 1) := dk_29 (dk_at dksX2_promise_0 9 rfl rfl)
theorem dX2_promise_10 : decode cX2_promise 10 = .ok (.iconst 1, 1) := dk_4 (dk_at dksX2_promise_0 10 rfl rfl)
theorem dX2_promise_11 : decode cX2_promise 11 = .ok (.sipush 200, 3) := dk_17 0 200 (dk_at dksX2_promise_0 11 rfl rfl)
theorem dX2_promise_14 : decode cX2_promise 14 = .ok (.invokestatic 49, 3) := dk_184 0 49 (dk_at dksX2_promise_0 14 rfl rfl)
theorem dX2_promise_17 : decode cX2_promise 17 = .ok (.ifCond .eq 28, 3) := dk_153 0 28 (dk_at dksX2_promise_0 17 rfl rfl)
theorem dX2_promise_20 : decode cX2_promise 20 = .ok (.iload 4, 2) := dk_21 4 (dk_at dksX2_promise_0 20 rfl rfl)
theorem dX2_promise_22 : decode cX2_promise 22 = .ok (.aload_n 0, 1) := dk_42 (dk_at dksX2_promise_0 22 rfl rfl)
theorem dX2_promise_23 : decode cX2_promise 23 = .ok (.getfield 7, 3) := dk_180 0 7 (dk_at dksX2_promise_1 0 rfl rfl)
theorem dX2_promise_26 : decode cX2_promise 26 = .ok (.bipush 6, 2) := dk_16 6 (dk_at dksX2_promise_1 3 rfl rfl)
theorem dX2_promise_28 : decode cX2_promise 28 = .ok (.iaload, 1) := dk_46 (dk_at dksX2_promise_1 5 rfl rfl)
theorem dX2_promise_29 : decode cX2_promise 29 = .ok (.aload_n 0, 1) := dk_42 (dk_at dksX2_promise_1 6 rfl rfl)
theorem dX2_promise_30 : decode cX2_promise 30 = .ok (.getfield 7, 3) := dk_180 0 7 (dk_at dksX2_promise_1 7 rfl rfl)
theorem dX2_promise_33 : decode cX2_promise 33 = .ok (.bipush 6, 2) := dk_16 6 (dk_at dksX2_promise_1 10 rfl rfl)
theorem dX2_promise_35 : decode cX2_promise 35 = .ok (.iaload, 1) := dk_46 (dk_at dksX2_promise_1 12 rfl rfl)
theorem dX2_promise_36 : decode cX2_promise 36 = .ok (.bipush 60, 2) := dk_16 60 (dk_at dksX2_promise_1 13 rfl rfl)
theorem dX2_promise_38 : decode cX2_promise 38 = .ok (.iadd, 1) := dk_96 (dk_at dksX2_promise_1 15 rfl rfl)
theorem dX2_promise_39 : decode cX2_promise 39 = .ok (.invokestatic 49, 3) := dk_184 0 49 (dk_at dksX2_promise_1 16 rfl rfl)
theorem dX2_promise_42 : decode cX2_promise 42 = .ok (.ifCond .ne 6, 3) := dk_154 0 6 (dk_at dksX2_promise_1 19 rfl rfl)
theorem dX2_promise_45 : decode cX2_promise 45 = .ok (.bipush (-2), 2) := dk_16 254 (dk_at dksX2_promise_1 22 rfl rfl)
theorem dX2_promise_47 : decode cX2_promise 47 = .ok (.ireturn, 1) := dk_172 (dk_at dksX2_promise_2 0 rfl rfl)
theorem dX2_promise_48 : decode cX2_promise 48 = .ok (.aload_n 0, 1) := dk_42 (dk_at dksX2_promise_2 1 rfl rfl)
theorem dX2_promise_49 : decode cX2_promise 49 = .ok (.iload_n 2, 1) := dk_28 (dk_at dksX2_promise_2 2 rfl rfl)
theorem dX2_promise_50 : decode cX2_promise 50 = .ok (.invokevirtual 56, 3) := dk_182 0 56 (dk_at dksX2_promise_2 3 rfl rfl)
theorem dX2_promise_53 : decode cX2_promise 53 = .ok (.ifCond .ne 5, 3) := dk_154 0 5 (dk_at dksX2_promise_2 6 rfl rfl)
theorem dX2_promise_56 : decode cX2_promise 56 = .ok (.iconst (-1), 1) := dk_2 (dk_at dksX2_promise_2 9 rfl rfl)
theorem dX2_promise_57 : decode cX2_promise 57 = .ok (.ireturn, 1) := dk_172 (dk_at dksX2_promise_2 10 rfl rfl)
theorem dX2_promise_58 : decode cX2_promise 58 = .ok (.aload_n 0, 1) := dk_42 (dk_at dksX2_promise_2 11 rfl rfl)
theorem dX2_promise_59 : decode cX2_promise 59 = .ok (.getfield 7, 3) := dk_180 0 7 (dk_at dksX2_promise_2 12 rfl rfl)
theorem dX2_promise_62 : decode cX2_promise 62 = .ok (.bipush 12, 2) := dk_16 12 (dk_at dksX2_promise_2 15 rfl rfl)
theorem dX2_promise_64 : decode cX2_promise 64 = .ok (.iaload, 1) := dk_46 (dk_at dksX2_promise_2 17 rfl rfl)
theorem dX2_promise_65 : decode cX2_promise 65 = .ok (.bipush 12, 2) := dk_16 12 (dk_at dksX2_promise_2 18 rfl rfl)
theorem dX2_promise_67 : decode cX2_promise 67 = .ok (.if_icmp .ne 6, 3) := dk_160 0 6 (dk_at dksX2_promise_2 20 rfl rfl)
theorem dX2_promise_70 : decode cX2_promise 70 = .ok (.bipush (-4), 2) := dk_16 252 (dk_at dksX2_promise_3 0 rfl rfl)
theorem dX2_promise_72 : decode cX2_promise 72 = .ok (.ireturn, 1) := dk_172 (dk_at dksX2_promise_3 2 rfl rfl)
theorem dX2_promise_73 : decode cX2_promise 73 = .ok (.iconst 0, 1) := dk_3 (dk_at dksX2_promise_3 3 rfl rfl)
theorem dX2_promise_74 : decode cX2_promise 74 = .ok (.istore 5, 2) := dk_54 5 (dk_at dksX2_promise_3 4 rfl rfl)
theorem dX2_promise_76 : decode cX2_promise 76 = .ok (.iload 5, 2) := dk_21 5 (dk_at dksX2_promise_3 6 rfl rfl)
theorem dX2_promise_78 : decode cX2_promise 78 = .ok (.aload_n 0, 1) := dk_42 (dk_at dksX2_promise_3 8 rfl rfl)
theorem dX2_promise_79 : decode cX2_promise 79 = .ok (.getfield 7, 3) := dk_180 0 7 (dk_at dksX2_promise_3 9 rfl rfl)
theorem dX2_promise_82 : decode cX2_promise 82 = .ok (.bipush 12, 2) := dk_16 12 (dk_at dksX2_promise_3 12 rfl rfl)
theorem dX2_promise_84 : decode cX2_promise 84 = .ok (.iaload, 1) := dk_46 (dk_at dksX2_promise_3 14 rfl rfl)
theorem dX2_promise_85 : decode cX2_promise 85 = .ok (.if_icmp .ge 59, 3) := dk_162 0 59 (dk_at dksX2_promise_3 15 rfl rfl)
theorem dX2_promise_88 : decode cX2_promise 88 = .ok (.sipush 1860, 3) := dk_17 7 68 (dk_at dksX2_promise_3 18 rfl rfl)
theorem dX2_promise_91 : decode cX2_promise 91 = .ok (.bipush 10, 2) := dk_16 10 (dk_at dksX2_promise_3 21 rfl rfl)
theorem dX2_promise_93 : decode cX2_promise 93 = .ok (.iload 5, 2) := dk_21 5 (dk_at dksX2_promise_4 0 rfl rfl)
theorem dX2_promise_95 : decode cX2_promise 95 = .ok (.imul, 1) := dk_104 (dk_at dksX2_promise_4 2 rfl rfl)
theorem dX2_promise_96 : decode cX2_promise 96 = .ok (.iadd, 1) := dk_96 (dk_at dksX2_promise_4 3 rfl rfl)
theorem dX2_promise_97 : decode cX2_promise 97 = .ok (.istore 6, 2) := dk_54 6 (dk_at dksX2_promise_4 4 rfl rfl)
theorem dX2_promise_99 : decode cX2_promise 99 = .ok (.aload_n 0, 1) := dk_42 (dk_at dksX2_promise_4 6 rfl rfl)
theorem dX2_promise_100 : decode cX2_promise 100 = .ok (.getfield 7, 3) := dk_180 0 7 (dk_at dksX2_promise_4 7 rfl rfl)
theorem dX2_promise_103 : decode cX2_promise 103 = .ok (.iload 6, 2) := dk_21 6 (dk_at dksX2_promise_4 10 rfl rfl)
theorem dX2_promise_105 : decode cX2_promise 105 = .ok (.iaload, 1) := dk_46 (dk_at dksX2_promise_4 12 rfl rfl)
theorem dX2_promise_106 : decode cX2_promise 106 = .ok (.iload_n 1, 1) := dk_27 (dk_at dksX2_promise_4 13 rfl rfl)
theorem dX2_promise_107 : decode cX2_promise 107 = .ok (.if_icmp .ne 31, 3) := dk_160 0 31 (dk_at dksX2_promise_4 14 rfl rfl)
theorem dX2_promise_110 : decode cX2_promise 110 = .ok (.aload_n 0, 1) := dk_42 (dk_at dksX2_promise_4 17 rfl rfl)
theorem dX2_promise_111 : decode cX2_promise 111 = .ok (.getfield 7, 3) := dk_180 0 7 (dk_at dksX2_promise_4 18 rfl rfl)
theorem dX2_promise_114 : decode cX2_promise 114 = .ok (.iload 6, 2) := dk_21 6 (dk_at dksX2_promise_4 21 rfl rfl)
theorem dX2_promise_116 : decode cX2_promise 116 = .ok (.iconst 1, 1) := dk_4 (dk_at dksX2_promise_4 23 rfl rfl)
theorem dX2_promise_117 : decode cX2_promise 117 = .ok (.iadd, 1) := dk_96 (dk_at dksX2_promise_5 0 rfl rfl)
theorem dX2_promise_118 : decode cX2_promise 118 = .ok (.iaload, 1) := dk_46 (dk_at dksX2_promise_5 1 rfl rfl)
theorem dX2_promise_119 : decode cX2_promise 119 = .ok (.iload_n 2, 1) := dk_28 (dk_at dksX2_promise_5 2 rfl rfl)
theorem dX2_promise_120 : decode cX2_promise 120 = .ok (.if_icmp .ne 18, 3) := dk_160 0 18 (dk_at dksX2_promise_5 3 rfl rfl)
theorem dX2_promise_123 : decode cX2_promise 123 = .ok (.aload_n 0, 1) := dk_42 (dk_at dksX2_promise_5 6 rfl rfl)
theorem dX2_promise_124 : decode cX2_promise 124 = .ok (.getfield 7, 3) := dk_180 0 7 (dk_at dksX2_promise_5 7 rfl rfl)
theorem dX2_promise_127 : decode cX2_promise 127 = .ok (.iload 6, 2) := dk_21 6 (dk_at dksX2_promise_5 10 rfl rfl)
theorem dX2_promise_129 : decode cX2_promise 129 = .ok (.iconst 4, 1) := dk_7 (dk_at dksX2_promise_5 12 rfl rfl)
theorem dX2_promise_130 : decode cX2_promise 130 = .ok (.iadd, 1) := dk_96 (dk_at dksX2_promise_5 13 rfl rfl)
theorem dX2_promise_131 : decode cX2_promise 131 = .ok (.iaload, 1) := dk_46 (dk_at dksX2_promise_5 14 rfl rfl)
theorem dX2_promise_132 : decode cX2_promise 132 = .ok (.ifCond .ne 6, 3) := dk_154 0 6 (dk_at dksX2_promise_5 15 rfl rfl)
theorem dX2_promise_135 : decode cX2_promise 135 = .ok (.bipush (-5), 2) := dk_16 251 (dk_at dksX2_promise_5 18 rfl rfl)
theorem dX2_promise_137 : decode cX2_promise 137 = .ok (.ireturn, 1) := dk_172 (dk_at dksX2_promise_5 20 rfl rfl)
theorem dX2_promise_138 : decode cX2_promise 138 = .ok (.iinc 5 1, 3) := dk_132 5 1 (dk_at dksX2_promise_5 21 rfl rfl)
theorem dX2_promise_141 : decode cX2_promise 141 = .ok (.goto (-65), 3) := dk_167 255 191 (dk_at dksX2_promise_6 0 rfl rfl)
theorem dX2_promise_144 : decode cX2_promise 144 = .ok (.aload_n 0, 1) := dk_42 (dk_at dksX2_promise_6 3 rfl rfl)
theorem dX2_promise_145 : decode cX2_promise 145 = .ok (.invokevirtual 53, 3) := dk_182 0 53 (dk_at dksX2_promise_6 4 rfl rfl)
theorem dX2_promise_148 : decode cX2_promise 148 = .ok (.sipush 1860, 3) := dk_17 7 68 (dk_at dksX2_promise_6 7 rfl rfl)
theorem dX2_promise_151 : decode cX2_promise 151 = .ok (.bipush 10, 2) := dk_16 10 (dk_at dksX2_promise_6 10 rfl rfl)
theorem dX2_promise_153 : decode cX2_promise 153 = .ok (.aload_n 0, 1) := dk_42 (dk_at dksX2_promise_6 12 rfl rfl)
theorem dX2_promise_154 : decode cX2_promise 154 = .ok (.getfield 7, 3) := dk_180 0 7 (dk_at dksX2_promise_6 13 rfl rfl)
theorem dX2_promise_157 : decode cX2_promise 157 = .ok (.bipush 12, 2) := dk_16 12 (dk_at dksX2_promise_6 16 rfl rfl)
theorem dX2_promise_159 : decode cX2_promise 159 = .ok (.iaload, 1) := dk_46 (dk_at dksX2_promise_6 18 rfl rfl)
theorem dX2_promise_160 : decode cX2_promise 160 = .ok (.imul, 1) := dk_104 (dk_at dksX2_promise_6 19 rfl rfl)
theorem dX2_promise_161 : decode cX2_promise 161 = .ok (.iadd, 1) := dk_96 (dk_at dksX2_promise_6 20 rfl rfl)
theorem dX2_promise_162 : decode cX2_promise 162 = .ok (.istore 5, 2) := dk_54 5 (dk_at dksX2_promise_6 21 rfl rfl)
theorem dX2_promise_164 : decode cX2_promise 164 = .ok (.aload_n 0, 1) := dk_42 (dk_at dksX2_promise_6 23 rfl rfl)
theorem dX2_promise_165 : decode cX2_promise 165 = .ok (.getfield 7, 3) := dk_180 0 7 (dk_at dksX2_promise_7 0 rfl rfl)
theorem dX2_promise_168 : decode cX2_promise 168 = .ok (.iload 5, 2) := dk_21 5 (dk_at dksX2_promise_7 3 rfl rfl)
theorem dX2_promise_170 : decode cX2_promise 170 = .ok (.iload_n 1, 1) := dk_27 (dk_at dksX2_promise_7 5 rfl rfl)
theorem dX2_promise_171 : decode cX2_promise 171 = .ok (.iastore, 1) := dk_79 (dk_at dksX2_promise_7 6 rfl rfl)
theorem dX2_promise_172 : decode cX2_promise 172 = .ok (.aload_n 0, 1) := dk_42 (dk_at dksX2_promise_7 7 rfl rfl)
theorem dX2_promise_173 : decode cX2_promise 173 = .ok (.getfield 7, 3) := dk_180 0 7 (dk_at dksX2_promise_7 8 rfl rfl)
theorem dX2_promise_176 : decode cX2_promise 176 = .ok (.iload 5, 2) := dk_21 5 (dk_at dksX2_promise_7 11 rfl rfl)
theorem dX2_promise_178 : decode cX2_promise 178 = .ok (.iconst 1, 1) := dk_4 (dk_at dksX2_promise_7 13 rfl rfl)
theorem dX2_promise_179 : decode cX2_promise 179 = .ok (.iadd, 1) := dk_96 (dk_at dksX2_promise_7 14 rfl rfl)
theorem dX2_promise_180 : decode cX2_promise 180 = .ok (.iload_n 2, 1) := dk_28 (dk_at dksX2_promise_7 15 rfl rfl)
theorem dX2_promise_181 : decode cX2_promise 181 = .ok (.iastore, 1) := dk_79 (dk_at dksX2_promise_7 16 rfl rfl)
theorem dX2_promise_182 : decode cX2_promise 182 = .ok (.aload_n 0, 1) := dk_42 (dk_at dksX2_promise_7 17 rfl rfl)
theorem dX2_promise_183 : decode cX2_promise 183 = .ok (.getfield 7, 3) := dk_180 0 7 (dk_at dksX2_promise_7 18 rfl rfl)
theorem dX2_promise_186 : decode cX2_promise 186 = .ok (.iload 5, 2) := dk_21 5 (dk_at dksX2_promise_7 21 rfl rfl)
theorem dX2_promise_188 : decode cX2_promise 188 = .ok (.iconst 2, 1) := dk_5 (dk_at dksX2_promise_7 23 rfl rfl)
theorem dX2_promise_189 : decode cX2_promise 189 = .ok (.iadd, 1) := dk_96 (dk_at dksX2_promise_8 0 rfl rfl)
theorem dX2_promise_190 : decode cX2_promise 190 = .ok (.iload_n 3, 1) := dk_29 (dk_at dksX2_promise_8 1 rfl rfl)
theorem dX2_promise_191 : decode cX2_promise 191 = .ok (.iastore, 1) := dk_79 (dk_at dksX2_promise_8 2 rfl rfl)
theorem dX2_promise_192 : decode cX2_promise 192 = .ok (.aload_n 0, 1) := dk_42 (dk_at dksX2_promise_8 3 rfl rfl)
theorem dX2_promise_193 : decode cX2_promise 193 = .ok (.getfield 7, 3) := dk_180 0 7 (dk_at dksX2_promise_8 4 rfl rfl)
theorem dX2_promise_196 : decode cX2_promise 196 = .ok (.iload 5, 2) := dk_21 5 (dk_at dksX2_promise_8 7 rfl rfl)
theorem dX2_promise_198 : decode cX2_promise 198 = .ok (.iconst 3, 1) := dk_6 (dk_at dksX2_promise_8 9 rfl rfl)
theorem dX2_promise_199 : decode cX2_promise 199 = .ok (.iadd, 1) := dk_96 (dk_at dksX2_promise_8 10 rfl rfl)
theorem dX2_promise_200 : decode cX2_promise 200 = .ok (.iload 4, 2) := dk_21 4 (dk_at dksX2_promise_8 11 rfl rfl)
theorem dX2_promise_202 : decode cX2_promise 202 = .ok (.iastore, 1) := dk_79 (dk_at dksX2_promise_8 13 rfl rfl)
theorem dX2_promise_203 : decode cX2_promise 203 = .ok (.iconst 4, 1) := dk_7 (dk_at dksX2_promise_8 14 rfl rfl)
theorem dX2_promise_204 : decode cX2_promise 204 = .ok (.istore 6, 2) := dk_54 6 (dk_at dksX2_promise_8 15 rfl rfl)
theorem dX2_promise_206 : decode cX2_promise 206 = .ok (.iload 6, 2) := dk_21 6 (dk_at dksX2_promise_8 17 rfl rfl)
theorem dX2_promise_208 : decode cX2_promise 208 = .ok (.bipush 10, 2) := dk_16 10 (dk_at dksX2_promise_8 19 rfl rfl)
theorem dX2_promise_210 : decode cX2_promise 210 = .ok (.if_icmp .ge 20, 3) := dk_162 0 20 (dk_at dksX2_promise_8 21 rfl rfl)
theorem dX2_promise_213 : decode cX2_promise 213 = .ok (.aload_n 0, 1) := dk_42 (dk_at dksX2_promise_9 0 rfl rfl)
theorem dX2_promise_214 : decode cX2_promise 214 = .ok (.getfield 7, 3) := dk_180 0 7 (dk_at dksX2_promise_9 1 rfl rfl)
theorem dX2_promise_217 : decode cX2_promise 217 = .ok (.iload 5, 2) := dk_21 5 (dk_at dksX2_promise_9 4 rfl rfl)
theorem dX2_promise_219 : decode cX2_promise 219 = .ok (.iload 6, 2) := dk_21 6 (dk_at dksX2_promise_9 6 rfl rfl)
theorem dX2_promise_221 : decode cX2_promise 221 = .ok (.iadd, 1) := dk_96 (dk_at dksX2_promise_9 8 rfl rfl)
theorem dX2_promise_222 : decode cX2_promise 222 = .ok (.iconst 0, 1) := dk_3 (dk_at dksX2_promise_9 9 rfl rfl)
theorem dX2_promise_223 : decode cX2_promise 223 = .ok (.iastore, 1) := dk_79 (dk_at dksX2_promise_9 10 rfl rfl)
theorem dX2_promise_224 : decode cX2_promise 224 = .ok (.iinc 6 1, 3) := dk_132 6 1 (dk_at dksX2_promise_9 11 rfl rfl)
theorem dX2_promise_227 : decode cX2_promise 227 = .ok (.goto (-21), 3) := dk_167 255 235 (dk_at dksX2_promise_9 14 rfl rfl)
theorem dX2_promise_230 : decode cX2_promise 230 = .ok (.aload_n 0, 1) := dk_42 (dk_at dksX2_promise_9 17 rfl rfl)
theorem dX2_promise_231 : decode cX2_promise 231 = .ok (.getfield 7, 3) := dk_180 0 7 (dk_at dksX2_promise_9 18 rfl rfl)
theorem dX2_promise_234 : decode cX2_promise 234 = .ok (.bipush 12, 2) := dk_16 12 (dk_at dksX2_promise_9 21 rfl rfl)
theorem dX2_promise_236 : decode cX2_promise 236 = .ok (.dup2, 1) := dk_92 (dk_at dksX2_promise_9 23 rfl rfl)
theorem dX2_promise_237 : decode cX2_promise 237 = .ok (.iaload, 1) := dk_46 (dk_at dksX2_promise_10 0 rfl rfl)
theorem dX2_promise_238 : decode cX2_promise 238 = .ok (.iconst 1, 1) := dk_4 (dk_at dksX2_promise_10 1 rfl rfl)
theorem dX2_promise_239 : decode cX2_promise 239 = .ok (.iadd, 1) := dk_96 (dk_at dksX2_promise_10 2 rfl rfl)
theorem dX2_promise_240 : decode cX2_promise 240 = .ok (.iastore, 1) := dk_79 (dk_at dksX2_promise_10 3 rfl rfl)
theorem dX2_promise_241 : decode cX2_promise 241 = .ok (.aload_n 0, 1) := dk_42 (dk_at dksX2_promise_10 4 rfl rfl)
theorem dX2_promise_242 : decode cX2_promise 242 = .ok (.getfield 7, 3) := dk_180 0 7 (dk_at dksX2_promise_10 5 rfl rfl)
theorem dX2_promise_245 : decode cX2_promise 245 = .ok (.bipush 12, 2) := dk_16 12 (dk_at dksX2_promise_10 8 rfl rfl)
theorem dX2_promise_247 : decode cX2_promise 247 = .ok (.iaload, 1) := dk_46 (dk_at dksX2_promise_10 10 rfl rfl)
theorem dX2_promise_248 : decode cX2_promise 248 = .ok (.iconst 1, 1) := dk_4 (dk_at dksX2_promise_10 11 rfl rfl)
theorem dX2_promise_249 : decode cX2_promise 249 = .ok (.isub, 1) := dk_100 (dk_at dksX2_promise_10 12 rfl rfl)
theorem dX2_promise_250 : decode cX2_promise 250 = .ok (.ireturn, 1) := dk_172 (dk_at dksX2_promise_10 13 rfl rfl)
abbrev cX2_pass : ByteArray := prog_12_method_48_code
def yX2_pass : MethodName := ⟨RX2, "pass", "(I)I"⟩
def dkwX2_pass_2 : List UInt8 := [162, 0, 13, 42, 182, 0, 155, 132, 3, 1, 167, 255, 244, 42, 4, 182, 0, 152, 28, 100, 172]
abbrev dktX2_pass_2 : List UInt8 := dkwX2_pass_2 ++ []
def dkwX2_pass_1 : List UInt8 := [17, 3, 132, 164, 0, 6, 16, 251, 172, 42, 182, 0, 53, 42, 4, 182, 0, 152, 61, 3, 62, 29, 27]
abbrev dktX2_pass_1 : List UInt8 := dkwX2_pass_1 ++ dktX2_pass_2
def dkwX2_pass_0 : List UInt8 := [27, 4, 16, 30, 184, 0, 49, 154, 0, 6, 16, 254, 172, 42, 180, 0, 7, 16, 6, 46, 27, 96]
abbrev dktX2_pass_0 : List UInt8 := dkwX2_pass_0 ++ dktX2_pass_1
theorem dksX2_pass_0 : cX2_pass.data.toList.drop 0 = dktX2_pass_0 := by decide +kernel
theorem dksX2_pass_1 : cX2_pass.data.toList.drop 22 = dktX2_pass_1 := dk_seg dksX2_pass_0 22 rfl rfl
theorem dksX2_pass_2 : cX2_pass.data.toList.drop 45 = dktX2_pass_2 := dk_seg dksX2_pass_1 23 rfl rfl
theorem dX2_pass_0 : decode cX2_pass 0 = .ok (.iload_n 1, 1) := dk_27 (dk_at dksX2_pass_0 0 rfl rfl)
theorem dX2_pass_1 : decode cX2_pass 1 = .ok (.iconst 1, 1) := dk_4 (dk_at dksX2_pass_0 1 rfl rfl)
theorem dX2_pass_2 : decode cX2_pass 2 = .ok (.bipush 30, 2) := dk_16 30 (dk_at dksX2_pass_0 2 rfl rfl)
theorem dX2_pass_4 : decode cX2_pass 4 = .ok (.invokestatic 49, 3) := dk_184 0 49 (dk_at dksX2_pass_0 4 rfl rfl)
theorem dX2_pass_7 : decode cX2_pass 7 = .ok (.ifCond .ne 6, 3) := dk_154 0 6 (dk_at dksX2_pass_0 7 rfl rfl)
theorem dX2_pass_10 : decode cX2_pass 10 = .ok (.bipush (-2), 2) := dk_16 254 (dk_at dksX2_pass_0 10 rfl rfl)
theorem dX2_pass_12 : decode cX2_pass 12 = .ok (.ireturn, 1) := dk_172 (dk_at dksX2_pass_0 12 rfl rfl)
theorem dX2_pass_13 : decode cX2_pass 13 = .ok (.aload_n 0, 1) := dk_42 (dk_at dksX2_pass_0 13 rfl rfl)
theorem dX2_pass_14 : decode cX2_pass 14 = .ok (.getfield 7, 3) := dk_180 0 7 (dk_at dksX2_pass_0 14 rfl rfl)
theorem dX2_pass_17 : decode cX2_pass 17 = .ok (.bipush 6, 2) := dk_16 6 (dk_at dksX2_pass_0 17 rfl rfl)
theorem dX2_pass_19 : decode cX2_pass 19 = .ok (.iaload, 1) := dk_46 (dk_at dksX2_pass_0 19 rfl rfl)
theorem dX2_pass_20 : decode cX2_pass 20 = .ok (.iload_n 1, 1) := dk_27 (dk_at dksX2_pass_0 20 rfl rfl)
theorem dX2_pass_21 : decode cX2_pass 21 = .ok (.iadd, 1) := dk_96 (dk_at dksX2_pass_0 21 rfl rfl)
theorem dX2_pass_22 : decode cX2_pass 22 = .ok (.sipush 900, 3) := dk_17 3 132 (dk_at dksX2_pass_1 0 rfl rfl)
theorem dX2_pass_25 : decode cX2_pass 25 = .ok (.if_icmp .le 6, 3) := dk_164 0 6 (dk_at dksX2_pass_1 3 rfl rfl)
theorem dX2_pass_28 : decode cX2_pass 28 = .ok (.bipush (-5), 2) := dk_16 251 (dk_at dksX2_pass_1 6 rfl rfl)
theorem dX2_pass_30 : decode cX2_pass 30 = .ok (.ireturn, 1) := dk_172 (dk_at dksX2_pass_1 8 rfl rfl)
theorem dX2_pass_31 : decode cX2_pass 31 = .ok (.aload_n 0, 1) := dk_42 (dk_at dksX2_pass_1 9 rfl rfl)
theorem dX2_pass_32 : decode cX2_pass 32 = .ok (.invokevirtual 53, 3) := dk_182 0 53 (dk_at dksX2_pass_1 10 rfl rfl)
theorem dX2_pass_35 : decode cX2_pass 35 = .ok (.aload_n 0, 1) := dk_42 (dk_at dksX2_pass_1 13 rfl rfl)
theorem dX2_pass_36 : decode cX2_pass 36 = .ok (.iconst 1, 1) := dk_4 (dk_at dksX2_pass_1 14 rfl rfl)
theorem dX2_pass_37 : decode cX2_pass 37 = .ok (.invokevirtual 152, 3) := dk_182 0 152 (dk_at dksX2_pass_1 15 rfl rfl)
theorem dX2_pass_40 : decode cX2_pass 40 = .ok (.istore_n 2, 1) := dk_61 (dk_at dksX2_pass_1 18 rfl rfl)
theorem dX2_pass_41 : decode cX2_pass 41 = .ok (.iconst 0, 1) := dk_3 (dk_at dksX2_pass_1 19 rfl rfl)
theorem dX2_pass_42 : decode cX2_pass 42 = .ok (.istore_n 3, 1) := dk_62 (dk_at dksX2_pass_1 20 rfl rfl)
theorem dX2_pass_43 : decode cX2_pass 43 = .ok (.iload_n 3, 1) := dk_29 (dk_at dksX2_pass_1 21 rfl rfl)
theorem dX2_pass_44 : decode cX2_pass 44 = .ok (.iload_n 1, 1) := dk_27 (dk_at dksX2_pass_1 22 rfl rfl)
theorem dX2_pass_45 : decode cX2_pass 45 = .ok (.if_icmp .ge 13, 3) := dk_162 0 13 (dk_at dksX2_pass_2 0 rfl rfl)
theorem dX2_pass_48 : decode cX2_pass 48 = .ok (.aload_n 0, 1) := dk_42 (dk_at dksX2_pass_2 3 rfl rfl)
theorem dX2_pass_49 : decode cX2_pass 49 = .ok (.invokevirtual 155, 3) := dk_182 0 155 (dk_at dksX2_pass_2 4 rfl rfl)
theorem dX2_pass_52 : decode cX2_pass 52 = .ok (.iinc 3 1, 3) := dk_132 3 1 (dk_at dksX2_pass_2 7 rfl rfl)
theorem dX2_pass_55 : decode cX2_pass 55 = .ok (.goto (-12), 3) := dk_167 255 244 (dk_at dksX2_pass_2 10 rfl rfl)
theorem dX2_pass_58 : decode cX2_pass 58 = .ok (.aload_n 0, 1) := dk_42 (dk_at dksX2_pass_2 13 rfl rfl)
theorem dX2_pass_59 : decode cX2_pass 59 = .ok (.iconst 1, 1) := dk_4 (dk_at dksX2_pass_2 14 rfl rfl)
theorem dX2_pass_60 : decode cX2_pass 60 = .ok (.invokevirtual 152, 3) := dk_182 0 152 (dk_at dksX2_pass_2 15 rfl rfl)
theorem dX2_pass_63 : decode cX2_pass 63 = .ok (.iload_n 2, 1) := dk_28 (dk_at dksX2_pass_2 18 rfl rfl)
theorem dX2_pass_64 : decode cX2_pass 64 = .ok (.isub, 1) := dk_100 (dk_at dksX2_pass_2 19 rfl rfl)
theorem dX2_pass_65 : decode cX2_pass 65 = .ok (.ireturn, 1) := dk_172 (dk_at dksX2_pass_2 20 rfl rfl)
abbrev cX2_showsIn : ByteArray := prog_12_method_47_code
def yX2_showsIn : MethodName := ⟨RX2, "showsIn", "(I)I"⟩
def dkwX2_showsIn_1 : List UInt8 := [160, 0, 7, 4, 167, 0, 4, 3, 96, 61, 132, 3, 1, 167, 255, 224, 28, 172]
abbrev dktX2_showsIn_1 : List UInt8 := dkwX2_showsIn_1 ++ []
def dkwX2_showsIn_0 : List UInt8 := [3, 61, 3, 62, 29, 42, 180, 0, 7, 16, 9, 46, 162, 0, 27, 28, 42, 29, 6, 182, 0, 75, 27]
abbrev dktX2_showsIn_0 : List UInt8 := dkwX2_showsIn_0 ++ dktX2_showsIn_1
theorem dksX2_showsIn_0 : cX2_showsIn.data.toList.drop 0 = dktX2_showsIn_0 := by decide +kernel
theorem dksX2_showsIn_1 : cX2_showsIn.data.toList.drop 23 = dktX2_showsIn_1 := dk_seg dksX2_showsIn_0 23 rfl rfl
theorem dX2_showsIn_0 : decode cX2_showsIn 0 = .ok (.iconst 0, 1) := dk_3 (dk_at dksX2_showsIn_0 0 rfl rfl)
theorem dX2_showsIn_1 : decode cX2_showsIn 1 = .ok (.istore_n 2, 1) := dk_61 (dk_at dksX2_showsIn_0 1 rfl rfl)
theorem dX2_showsIn_2 : decode cX2_showsIn 2 = .ok (.iconst 0, 1) := dk_3 (dk_at dksX2_showsIn_0 2 rfl rfl)
theorem dX2_showsIn_3 : decode cX2_showsIn 3 = .ok (.istore_n 3, 1) := dk_62 (dk_at dksX2_showsIn_0 3 rfl rfl)
theorem dX2_showsIn_4 : decode cX2_showsIn 4 = .ok (.iload_n 3, 1) := dk_29 (dk_at dksX2_showsIn_0 4 rfl rfl)
theorem dX2_showsIn_5 : decode cX2_showsIn 5 = .ok (.aload_n 0, 1) := dk_42 (dk_at dksX2_showsIn_0 5 rfl rfl)
theorem dX2_showsIn_6 : decode cX2_showsIn 6 = .ok (.getfield 7, 3) := dk_180 0 7 (dk_at dksX2_showsIn_0 6 rfl rfl)
theorem dX2_showsIn_9 : decode cX2_showsIn 9 = .ok (.bipush 9, 2) := dk_16 9 (dk_at dksX2_showsIn_0 9 rfl rfl)
theorem dX2_showsIn_11 : decode cX2_showsIn 11 = .ok (.iaload, 1) := dk_46 (dk_at dksX2_showsIn_0 11 rfl rfl)
theorem dX2_showsIn_12 : decode cX2_showsIn 12 = .ok (.if_icmp .ge 27, 3) := dk_162 0 27 (dk_at dksX2_showsIn_0 12 rfl rfl)
theorem dX2_showsIn_15 : decode cX2_showsIn 15 = .ok (.iload_n 2, 1) := dk_28 (dk_at dksX2_showsIn_0 15 rfl rfl)
theorem dX2_showsIn_16 : decode cX2_showsIn 16 = .ok (.aload_n 0, 1) := dk_42 (dk_at dksX2_showsIn_0 16 rfl rfl)
theorem dX2_showsIn_17 : decode cX2_showsIn 17 = .ok (.iload_n 3, 1) := dk_29 (dk_at dksX2_showsIn_0 17 rfl rfl)
theorem dX2_showsIn_18 : decode cX2_showsIn 18 = .ok (.iconst 3, 1) := dk_6 (dk_at dksX2_showsIn_0 18 rfl rfl)
theorem dX2_showsIn_19 : decode cX2_showsIn 19 = .ok (.invokevirtual 75, 3) := dk_182 0 75 (dk_at dksX2_showsIn_0 19 rfl rfl)
theorem dX2_showsIn_22 : decode cX2_showsIn 22 = .ok (.iload_n 1, 1) := dk_27 (dk_at dksX2_showsIn_0 22 rfl rfl)
theorem dX2_showsIn_23 : decode cX2_showsIn 23 = .ok (.if_icmp .ne 7, 3) := dk_160 0 7 (dk_at dksX2_showsIn_1 0 rfl rfl)
theorem dX2_showsIn_26 : decode cX2_showsIn 26 = .ok (.iconst 1, 1) := dk_4 (dk_at dksX2_showsIn_1 3 rfl rfl)
theorem dX2_showsIn_27 : decode cX2_showsIn 27 = .ok (.goto 4, 3) := dk_167 0 4 (dk_at dksX2_showsIn_1 4 rfl rfl)
theorem dX2_showsIn_30 : decode cX2_showsIn 30 = .ok (.iconst 0, 1) := dk_3 (dk_at dksX2_showsIn_1 7 rfl rfl)
theorem dX2_showsIn_31 : decode cX2_showsIn 31 = .ok (.iadd, 1) := dk_96 (dk_at dksX2_showsIn_1 8 rfl rfl)
theorem dX2_showsIn_32 : decode cX2_showsIn 32 = .ok (.istore_n 2, 1) := dk_61 (dk_at dksX2_showsIn_1 9 rfl rfl)
theorem dX2_showsIn_33 : decode cX2_showsIn 33 = .ok (.iinc 3 1, 3) := dk_132 3 1 (dk_at dksX2_showsIn_1 10 rfl rfl)
theorem dX2_showsIn_36 : decode cX2_showsIn 36 = .ok (.goto (-32), 3) := dk_167 255 224 (dk_at dksX2_showsIn_1 13 rfl rfl)
theorem dX2_showsIn_39 : decode cX2_showsIn 39 = .ok (.iload_n 2, 1) := dk_28 (dk_at dksX2_showsIn_1 16 rfl rfl)
theorem dX2_showsIn_40 : decode cX2_showsIn 40 = .ok (.ireturn, 1) := dk_172 (dk_at dksX2_showsIn_1 17 rfl rfl)
abbrev cX2_passDay : ByteArray := prog_12_method_46_code
def yX2_passDay : MethodName := ⟨RX2, "passDay", "()V"⟩
def dkwX2_passDay_5 : List UInt8 := [79, 132, 1, 1, 167, 255, 172, 42, 180, 0, 7, 16, 6, 92, 46, 4, 96, 79, 177]
abbrev dktX2_passDay_5 : List UInt8 := dkwX2_passDay_5 ++ []
def dkwX2_passDay_4 : List UInt8 := [42, 180, 0, 7, 28, 8, 96, 46, 42, 180, 0, 7, 28, 5, 96, 46, 161, 0, 7, 4, 167, 0, 4, 5]
abbrev dktX2_passDay_4 : List UInt8 := dkwX2_passDay_4 ++ dktX2_passDay_5
def dkwX2_passDay_3 : List UInt8 := [180, 0, 7, 28, 6, 96, 46, 42, 180, 0, 7, 16, 6, 46, 160, 0, 35, 42, 180, 0, 7, 28, 7, 96]
abbrev dktX2_passDay_3 : List UInt8 := dkwX2_passDay_3 ++ dktX2_passDay_4
def dkwX2_passDay_2 : List UInt8 := [162, 0, 79, 17, 7, 68, 16, 10, 27, 104, 96, 61, 42, 180, 0, 7, 28, 7, 96, 46, 154, 0, 53, 42]
abbrev dktX2_passDay_2 : List UInt8 := dkwX2_passDay_2 ++ dktX2_passDay_3
def dkwX2_passDay_1 : List UInt8 := [155, 0, 8, 42, 28, 182, 0, 149, 132, 1, 1, 167, 255, 225, 3, 60, 27, 42, 180, 0, 7, 16, 12, 46]
abbrev dktX2_passDay_1 : List UInt8 := dkwX2_passDay_1 ++ dktX2_passDay_2
def dkwX2_passDay_0 : List UInt8 := [3, 60, 27, 16, 6, 162, 0, 31, 42, 42, 180, 0, 7, 16, 6, 46, 27, 182, 0, 81, 61, 28]
abbrev dktX2_passDay_0 : List UInt8 := dkwX2_passDay_0 ++ dktX2_passDay_1
theorem dksX2_passDay_0 : cX2_passDay.data.toList.drop 0 = dktX2_passDay_0 := by decide +kernel
theorem dksX2_passDay_1 : cX2_passDay.data.toList.drop 22 = dktX2_passDay_1 := dk_seg dksX2_passDay_0 22 rfl rfl
theorem dksX2_passDay_2 : cX2_passDay.data.toList.drop 46 = dktX2_passDay_2 := dk_seg dksX2_passDay_1 24 rfl rfl
theorem dksX2_passDay_3 : cX2_passDay.data.toList.drop 70 = dktX2_passDay_3 := dk_seg dksX2_passDay_2 24 rfl rfl
theorem dksX2_passDay_4 : cX2_passDay.data.toList.drop 94 = dktX2_passDay_4 := dk_seg dksX2_passDay_3 24 rfl rfl
theorem dksX2_passDay_5 : cX2_passDay.data.toList.drop 118 = dktX2_passDay_5 := dk_seg dksX2_passDay_4 24 rfl rfl
theorem dX2_passDay_0 : decode cX2_passDay 0 = .ok (.iconst 0, 1) := dk_3 (dk_at dksX2_passDay_0 0 rfl rfl)
theorem dX2_passDay_1 : decode cX2_passDay 1 = .ok (.istore_n 1, 1) := dk_60 (dk_at dksX2_passDay_0 1 rfl rfl)
theorem dX2_passDay_2 : decode cX2_passDay 2 = .ok (.iload_n 1, 1) := dk_27 (dk_at dksX2_passDay_0 2 rfl rfl)
theorem dX2_passDay_3 : decode cX2_passDay 3 = .ok (.bipush 6, 2) := dk_16 6 (dk_at dksX2_passDay_0 3 rfl rfl)
theorem dX2_passDay_5 : decode cX2_passDay 5 = .ok (.if_icmp .ge 31, 3) := dk_162 0 31 (dk_at dksX2_passDay_0 5 rfl rfl)
theorem dX2_passDay_8 : decode cX2_passDay 8 = .ok (.aload_n 0, 1) := dk_42 (dk_at dksX2_passDay_0 8 rfl rfl)
theorem dX2_passDay_9 : decode cX2_passDay 9 = .ok (.aload_n 0, 1) := dk_42 (dk_at dksX2_passDay_0 9 rfl rfl)
theorem dX2_passDay_10 : decode cX2_passDay 10 = .ok (.getfield 7, 3) := dk_180 0 7 (dk_at dksX2_passDay_0 10 rfl rfl)
theorem dX2_passDay_13 : decode cX2_passDay 13 = .ok (.bipush 6, 2) := dk_16 6 (dk_at dksX2_passDay_0 13 rfl rfl)
theorem dX2_passDay_15 : decode cX2_passDay 15 = .ok (.iaload, 1) := dk_46 (dk_at dksX2_passDay_0 15 rfl rfl)
theorem dX2_passDay_16 : decode cX2_passDay 16 = .ok (.iload_n 1, 1) := dk_27 (dk_at dksX2_passDay_0 16 rfl rfl)
theorem dX2_passDay_17 : decode cX2_passDay 17 = .ok (.invokevirtual 81, 3) := dk_182 0 81 (dk_at dksX2_passDay_0 17 rfl rfl)
theorem dX2_passDay_20 : decode cX2_passDay 20 = .ok (.istore_n 2, 1) := dk_61 (dk_at dksX2_passDay_0 20 rfl rfl)
theorem dX2_passDay_21 : decode cX2_passDay 21 = .ok (.iload_n 2, 1) := dk_28 (dk_at dksX2_passDay_0 21 rfl rfl)
theorem dX2_passDay_22 : decode cX2_passDay 22 = .ok (.ifCond .lt 8, 3) := dk_155 0 8 (dk_at dksX2_passDay_1 0 rfl rfl)
theorem dX2_passDay_25 : decode cX2_passDay 25 = .ok (.aload_n 0, 1) := dk_42 (dk_at dksX2_passDay_1 3 rfl rfl)
theorem dX2_passDay_26 : decode cX2_passDay 26 = .ok (.iload_n 2, 1) := dk_28 (dk_at dksX2_passDay_1 4 rfl rfl)
theorem dX2_passDay_27 : decode cX2_passDay 27 = .ok (.invokevirtual 149, 3) := dk_182 0 149 (dk_at dksX2_passDay_1 5 rfl rfl)
theorem dX2_passDay_30 : decode cX2_passDay 30 = .ok (.iinc 1 1, 3) := dk_132 1 1 (dk_at dksX2_passDay_1 8 rfl rfl)
theorem dX2_passDay_33 : decode cX2_passDay 33 = .ok (.goto (-31), 3) := dk_167 255 225 (dk_at dksX2_passDay_1 11 rfl rfl)
theorem dX2_passDay_36 : decode cX2_passDay 36 = .ok (.iconst 0, 1) := dk_3 (dk_at dksX2_passDay_1 14 rfl rfl)
theorem dX2_passDay_37 : decode cX2_passDay 37 = .ok (.istore_n 1, 1) := dk_60 (dk_at dksX2_passDay_1 15 rfl rfl)
theorem dX2_passDay_38 : decode cX2_passDay 38 = .ok (.iload_n 1, 1) := dk_27 (dk_at dksX2_passDay_1 16 rfl rfl)
theorem dX2_passDay_39 : decode cX2_passDay 39 = .ok (.aload_n 0, 1) := dk_42 (dk_at dksX2_passDay_1 17 rfl rfl)
theorem dX2_passDay_40 : decode cX2_passDay 40 = .ok (.getfield 7, 3) := dk_180 0 7 (dk_at dksX2_passDay_1 18 rfl rfl)
theorem dX2_passDay_43 : decode cX2_passDay 43 = .ok (.bipush 12, 2) := dk_16 12 (dk_at dksX2_passDay_1 21 rfl rfl)
theorem dX2_passDay_45 : decode cX2_passDay 45 = .ok (.iaload, 1) := dk_46 (dk_at dksX2_passDay_1 23 rfl rfl)
theorem dX2_passDay_46 : decode cX2_passDay 46 = .ok (.if_icmp .ge 79, 3) := dk_162 0 79 (dk_at dksX2_passDay_2 0 rfl rfl)
theorem dX2_passDay_49 : decode cX2_passDay 49 = .ok (.sipush 1860, 3) := dk_17 7 68 (dk_at dksX2_passDay_2 3 rfl rfl)
theorem dX2_passDay_52 : decode cX2_passDay 52 = .ok (.bipush 10, 2) := dk_16 10 (dk_at dksX2_passDay_2 6 rfl rfl)
theorem dX2_passDay_54 : decode cX2_passDay 54 = .ok (.iload_n 1, 1) := dk_27 (dk_at dksX2_passDay_2 8 rfl rfl)
theorem dX2_passDay_55 : decode cX2_passDay 55 = .ok (.imul, 1) := dk_104 (dk_at dksX2_passDay_2 9 rfl rfl)
theorem dX2_passDay_56 : decode cX2_passDay 56 = .ok (.iadd, 1) := dk_96 (dk_at dksX2_passDay_2 10 rfl rfl)
theorem dX2_passDay_57 : decode cX2_passDay 57 = .ok (.istore_n 2, 1) := dk_61 (dk_at dksX2_passDay_2 11 rfl rfl)
theorem dX2_passDay_58 : decode cX2_passDay 58 = .ok (.aload_n 0, 1) := dk_42 (dk_at dksX2_passDay_2 12 rfl rfl)
theorem dX2_passDay_59 : decode cX2_passDay 59 = .ok (.getfield 7, 3) := dk_180 0 7 (dk_at dksX2_passDay_2 13 rfl rfl)
theorem dX2_passDay_62 : decode cX2_passDay 62 = .ok (.iload_n 2, 1) := dk_28 (dk_at dksX2_passDay_2 16 rfl rfl)
theorem dX2_passDay_63 : decode cX2_passDay 63 = .ok (.iconst 4, 1) := dk_7 (dk_at dksX2_passDay_2 17 rfl rfl)
theorem dX2_passDay_64 : decode cX2_passDay 64 = .ok (.iadd, 1) := dk_96 (dk_at dksX2_passDay_2 18 rfl rfl)
theorem dX2_passDay_65 : decode cX2_passDay 65 = .ok (.iaload, 1) := dk_46 (dk_at dksX2_passDay_2 19 rfl rfl)
theorem dX2_passDay_66 : decode cX2_passDay 66 = .ok (.ifCond .ne 53, 3) := dk_154 0 53 (dk_at dksX2_passDay_2 20 rfl rfl)
theorem dX2_passDay_69 : decode cX2_passDay 69 = .ok (.aload_n 0, 1) := dk_42 (dk_at dksX2_passDay_2 23 rfl rfl)
theorem dX2_passDay_70 : decode cX2_passDay 70 = .ok (.getfield 7, 3) := dk_180 0 7 (dk_at dksX2_passDay_3 0 rfl rfl)
theorem dX2_passDay_73 : decode cX2_passDay 73 = .ok (.iload_n 2, 1) := dk_28 (dk_at dksX2_passDay_3 3 rfl rfl)
theorem dX2_passDay_74 : decode cX2_passDay 74 = .ok (.iconst 3, 1) := dk_6 (dk_at dksX2_passDay_3 4 rfl rfl)
theorem dX2_passDay_75 : decode cX2_passDay 75 = .ok (.iadd, 1) := dk_96 (dk_at dksX2_passDay_3 5 rfl rfl)
theorem dX2_passDay_76 : decode cX2_passDay 76 = .ok (.iaload, 1) := dk_46 (dk_at dksX2_passDay_3 6 rfl rfl)
theorem dX2_passDay_77 : decode cX2_passDay 77 = .ok (.aload_n 0, 1) := dk_42 (dk_at dksX2_passDay_3 7 rfl rfl)
theorem dX2_passDay_78 : decode cX2_passDay 78 = .ok (.getfield 7, 3) := dk_180 0 7 (dk_at dksX2_passDay_3 8 rfl rfl)
theorem dX2_passDay_81 : decode cX2_passDay 81 = .ok (.bipush 6, 2) := dk_16 6 (dk_at dksX2_passDay_3 11 rfl rfl)
theorem dX2_passDay_83 : decode cX2_passDay 83 = .ok (.iaload, 1) := dk_46 (dk_at dksX2_passDay_3 13 rfl rfl)
theorem dX2_passDay_84 : decode cX2_passDay 84 = .ok (.if_icmp .ne 35, 3) := dk_160 0 35 (dk_at dksX2_passDay_3 14 rfl rfl)
theorem dX2_passDay_87 : decode cX2_passDay 87 = .ok (.aload_n 0, 1) := dk_42 (dk_at dksX2_passDay_3 17 rfl rfl)
theorem dX2_passDay_88 : decode cX2_passDay 88 = .ok (.getfield 7, 3) := dk_180 0 7 (dk_at dksX2_passDay_3 18 rfl rfl)
theorem dX2_passDay_91 : decode cX2_passDay 91 = .ok (.iload_n 2, 1) := dk_28 (dk_at dksX2_passDay_3 21 rfl rfl)
theorem dX2_passDay_92 : decode cX2_passDay 92 = .ok (.iconst 4, 1) := dk_7 (dk_at dksX2_passDay_3 22 rfl rfl)
theorem dX2_passDay_93 : decode cX2_passDay 93 = .ok (.iadd, 1) := dk_96 (dk_at dksX2_passDay_3 23 rfl rfl)
theorem dX2_passDay_94 : decode cX2_passDay 94 = .ok (.aload_n 0, 1) := dk_42 (dk_at dksX2_passDay_4 0 rfl rfl)
theorem dX2_passDay_95 : decode cX2_passDay 95 = .ok (.getfield 7, 3) := dk_180 0 7 (dk_at dksX2_passDay_4 1 rfl rfl)
theorem dX2_passDay_98 : decode cX2_passDay 98 = .ok (.iload_n 2, 1) := dk_28 (dk_at dksX2_passDay_4 4 rfl rfl)
theorem dX2_passDay_99 : decode cX2_passDay 99 = .ok (.iconst 5, 1) := dk_8 (dk_at dksX2_passDay_4 5 rfl rfl)
theorem dX2_passDay_100 : decode cX2_passDay 100 = .ok (.iadd, 1) := dk_96 (dk_at dksX2_passDay_4 6 rfl rfl)
theorem dX2_passDay_101 : decode cX2_passDay 101 = .ok (.iaload, 1) := dk_46 (dk_at dksX2_passDay_4 7 rfl rfl)
theorem dX2_passDay_102 : decode cX2_passDay 102 = .ok (.aload_n 0, 1) := dk_42 (dk_at dksX2_passDay_4 8 rfl rfl)
theorem dX2_passDay_103 : decode cX2_passDay 103 = .ok (.getfield 7, 3) := dk_180 0 7 (dk_at dksX2_passDay_4 9 rfl rfl)
theorem dX2_passDay_106 : decode cX2_passDay 106 = .ok (.iload_n 2, 1) := dk_28 (dk_at dksX2_passDay_4 12 rfl rfl)
theorem dX2_passDay_107 : decode cX2_passDay 107 = .ok (.iconst 2, 1) := dk_5 (dk_at dksX2_passDay_4 13 rfl rfl)
theorem dX2_passDay_108 : decode cX2_passDay 108 = .ok (.iadd, 1) := dk_96 (dk_at dksX2_passDay_4 14 rfl rfl)
theorem dX2_passDay_109 : decode cX2_passDay 109 = .ok (.iaload, 1) := dk_46 (dk_at dksX2_passDay_4 15 rfl rfl)
theorem dX2_passDay_110 : decode cX2_passDay 110 = .ok (.if_icmp .lt 7, 3) := dk_161 0 7 (dk_at dksX2_passDay_4 16 rfl rfl)
theorem dX2_passDay_113 : decode cX2_passDay 113 = .ok (.iconst 1, 1) := dk_4 (dk_at dksX2_passDay_4 19 rfl rfl)
theorem dX2_passDay_114 : decode cX2_passDay 114 = .ok (.goto 4, 3) := dk_167 0 4 (dk_at dksX2_passDay_4 20 rfl rfl)
theorem dX2_passDay_117 : decode cX2_passDay 117 = .ok (.iconst 2, 1) := dk_5 (dk_at dksX2_passDay_4 23 rfl rfl)
theorem dX2_passDay_118 : decode cX2_passDay 118 = .ok (.iastore, 1) := dk_79 (dk_at dksX2_passDay_5 0 rfl rfl)
theorem dX2_passDay_119 : decode cX2_passDay 119 = .ok (.iinc 1 1, 3) := dk_132 1 1 (dk_at dksX2_passDay_5 1 rfl rfl)
theorem dX2_passDay_122 : decode cX2_passDay 122 = .ok (.goto (-84), 3) := dk_167 255 172 (dk_at dksX2_passDay_5 4 rfl rfl)
theorem dX2_passDay_125 : decode cX2_passDay 125 = .ok (.aload_n 0, 1) := dk_42 (dk_at dksX2_passDay_5 7 rfl rfl)
theorem dX2_passDay_126 : decode cX2_passDay 126 = .ok (.getfield 7, 3) := dk_180 0 7 (dk_at dksX2_passDay_5 8 rfl rfl)
theorem dX2_passDay_129 : decode cX2_passDay 129 = .ok (.bipush 6, 2) := dk_16 6 (dk_at dksX2_passDay_5 11 rfl rfl)
theorem dX2_passDay_131 : decode cX2_passDay 131 = .ok (.dup2, 1) := dk_92 (dk_at dksX2_passDay_5 13 rfl rfl)
theorem dX2_passDay_132 : decode cX2_passDay 132 = .ok (.iaload, 1) := dk_46 (dk_at dksX2_passDay_5 14 rfl rfl)
theorem dX2_passDay_133 : decode cX2_passDay 133 = .ok (.iconst 1, 1) := dk_4 (dk_at dksX2_passDay_5 15 rfl rfl)
theorem dX2_passDay_134 : decode cX2_passDay 134 = .ok (.iadd, 1) := dk_96 (dk_at dksX2_passDay_5 16 rfl rfl)
theorem dX2_passDay_135 : decode cX2_passDay 135 = .ok (.iastore, 1) := dk_79 (dk_at dksX2_passDay_5 17 rfl rfl)
theorem dX2_passDay_136 : decode cX2_passDay 136 = .ok (.return_, 1) := dk_177 (dk_at dksX2_passDay_5 18 rfl rfl)
abbrev cX2_hold : ByteArray := prog_12_method_45_code
def yX2_hold : MethodName := ⟨RX2, "hold", "(I)V"⟩
def dkwX2_hold_10 : List UInt8 := [180, 0, 7, 21, 5, 5, 96, 46, 79, 177]
abbrev dktX2_hold_10 : List UInt8 := dkwX2_hold_10 ++ []
def dkwX2_hold_9 : List UInt8 := [180, 0, 7, 21, 5, 4, 96, 46, 42, 180, 0, 7, 21, 5, 46, 160, 0, 7, 5, 167, 0, 12, 42]
abbrev dktX2_hold_9 : List UInt8 := dkwX2_hold_9 ++ dktX2_hold_10
def dkwX2_hold_8 : List UInt8 := [21, 7, 153, 0, 7, 5, 167, 0, 4, 4, 182, 0, 146, 42, 180, 0, 7, 21, 5, 5, 96, 42]
abbrev dktX2_hold_8 : List UInt8 := dkwX2_hold_8 ++ dktX2_hold_9
def dkwX2_hold_7 : List UInt8 := [79, 42, 180, 0, 7, 28, 7, 96, 21, 4, 79, 42, 180, 0, 7, 28, 8, 96, 21, 8, 79, 42, 27]
abbrev dktX2_hold_7 : List UInt8 := dkwX2_hold_7 ++ dktX2_hold_8
def dkwX2_hold_6 : List UInt8 := [6, 96, 92, 46, 4, 96, 79, 42, 180, 0, 7, 28, 6, 96, 21, 7, 153, 0, 7, 5, 167, 0, 4, 4]
abbrev dktX2_hold_6 : List UInt8 := dkwX2_hold_6 ++ dktX2_hold_7
def dkwX2_hold_5 : List UInt8 := [29, 46, 54, 8, 42, 180, 0, 7, 21, 5, 4, 96, 92, 46, 21, 8, 96, 79, 42, 180, 0, 7, 21, 5]
abbrev dktX2_hold_5 : List UInt8 := dkwX2_hold_5 ++ dktX2_hold_6
def dkwX2_hold_4 : List UInt8 := [164, 0, 7, 4, 167, 0, 4, 3, 54, 7, 21, 7, 153, 0, 8, 21, 6, 167, 0, 9, 42, 180, 0, 7]
abbrev dktX2_hold_4 : List UInt8 := dkwX2_hold_4 ++ dktX2_hold_5
def dkwX2_hold_3 : List UInt8 := [21, 5, 46, 42, 180, 0, 7, 21, 5, 4, 96, 46, 100, 54, 6, 42, 180, 0, 7, 29, 46, 21, 6]
abbrev dktX2_hold_3 : List UInt8 := dkwX2_hold_3 ++ dktX2_hold_4
def dkwX2_hold_2 : List UInt8 := [7, 182, 0, 146, 177, 42, 182, 0, 64, 54, 4, 16, 50, 7, 21, 4, 104, 96, 54, 5, 42, 180, 0, 7]
abbrev dktX2_hold_2 : List UInt8 := dkwX2_hold_2 ++ dktX2_hold_3
def dkwX2_hold_1 : List UInt8 := [180, 0, 7, 29, 4, 96, 46, 182, 0, 143, 154, 0, 19, 42, 180, 0, 7, 28, 6, 96, 6, 79, 42, 27]
abbrev dktX2_hold_1 : List UInt8 := dkwX2_hold_1 ++ dktX2_hold_2
def dkwX2_hold_0 : List UInt8 := [16, 100, 16, 7, 27, 104, 96, 61, 16, 20, 6, 42, 180, 0, 7, 28, 46, 104, 96, 62, 42, 42]
abbrev dktX2_hold_0 : List UInt8 := dkwX2_hold_0 ++ dktX2_hold_1
theorem dksX2_hold_0 : cX2_hold.data.toList.drop 0 = dktX2_hold_0 := by decide +kernel
theorem dksX2_hold_1 : cX2_hold.data.toList.drop 22 = dktX2_hold_1 := dk_seg dksX2_hold_0 22 rfl rfl
theorem dksX2_hold_2 : cX2_hold.data.toList.drop 46 = dktX2_hold_2 := dk_seg dksX2_hold_1 24 rfl rfl
theorem dksX2_hold_3 : cX2_hold.data.toList.drop 70 = dktX2_hold_3 := dk_seg dksX2_hold_2 24 rfl rfl
theorem dksX2_hold_4 : cX2_hold.data.toList.drop 93 = dktX2_hold_4 := dk_seg dksX2_hold_3 23 rfl rfl
theorem dksX2_hold_5 : cX2_hold.data.toList.drop 117 = dktX2_hold_5 := dk_seg dksX2_hold_4 24 rfl rfl
theorem dksX2_hold_6 : cX2_hold.data.toList.drop 141 = dktX2_hold_6 := dk_seg dksX2_hold_5 24 rfl rfl
theorem dksX2_hold_7 : cX2_hold.data.toList.drop 165 = dktX2_hold_7 := dk_seg dksX2_hold_6 24 rfl rfl
theorem dksX2_hold_8 : cX2_hold.data.toList.drop 188 = dktX2_hold_8 := dk_seg dksX2_hold_7 23 rfl rfl
theorem dksX2_hold_9 : cX2_hold.data.toList.drop 210 = dktX2_hold_9 := dk_seg dksX2_hold_8 22 rfl rfl
theorem dksX2_hold_10 : cX2_hold.data.toList.drop 233 = dktX2_hold_10 := dk_seg dksX2_hold_9 23 rfl rfl
theorem dX2_hold_0 : decode cX2_hold 0 = .ok (.bipush 100, 2) := dk_16 100 (dk_at dksX2_hold_0 0 rfl rfl)
theorem dX2_hold_2 : decode cX2_hold 2 = .ok (.bipush 7, 2) := dk_16 7 (dk_at dksX2_hold_0 2 rfl rfl)
theorem dX2_hold_4 : decode cX2_hold 4 = .ok (.iload_n 1, 1) := dk_27 (dk_at dksX2_hold_0 4 rfl rfl)
theorem dX2_hold_5 : decode cX2_hold 5 = .ok (.imul, 1) := dk_104 (dk_at dksX2_hold_0 5 rfl rfl)
theorem dX2_hold_6 : decode cX2_hold 6 = .ok (.iadd, 1) := dk_96 (dk_at dksX2_hold_0 6 rfl rfl)
theorem dX2_hold_7 : decode cX2_hold 7 = .ok (.istore_n 2, 1) := dk_61 (dk_at dksX2_hold_0 7 rfl rfl)
theorem dX2_hold_8 : decode cX2_hold 8 = .ok (.bipush 20, 2) := dk_16 20 (dk_at dksX2_hold_0 8 rfl rfl)
theorem dX2_hold_10 : decode cX2_hold 10 = .ok (.iconst 3, 1) := dk_6 (dk_at dksX2_hold_0 10 rfl rfl)
theorem dX2_hold_11 : decode cX2_hold 11 = .ok (.aload_n 0, 1) := dk_42 (dk_at dksX2_hold_0 11 rfl rfl)
theorem dX2_hold_12 : decode cX2_hold 12 = .ok (.getfield 7, 3) := dk_180 0 7 (dk_at dksX2_hold_0 12 rfl rfl)
theorem dX2_hold_15 : decode cX2_hold 15 = .ok (.iload_n 2, 1) := dk_28 (dk_at dksX2_hold_0 15 rfl rfl)
theorem dX2_hold_16 : decode cX2_hold 16 = .ok (.iaload, 1) := dk_46 (dk_at dksX2_hold_0 16 rfl rfl)
theorem dX2_hold_17 : decode cX2_hold 17 = .ok (.imul, 1) := dk_104 (dk_at dksX2_hold_0 17 rfl rfl)
theorem dX2_hold_18 : decode cX2_hold 18 = .ok (.iadd, 1) := dk_96 (dk_at dksX2_hold_0 18 rfl rfl)
theorem dX2_hold_19 : decode cX2_hold 19 = .ok (.istore_n 3, 1) := dk_62 (dk_at dksX2_hold_0 19 rfl rfl)
theorem dX2_hold_20 : decode cX2_hold 20 = .ok (.aload_n 0, 1) := dk_42 (dk_at dksX2_hold_0 20 rfl rfl)
theorem dX2_hold_21 : decode cX2_hold 21 = .ok (.aload_n 0, 1) := dk_42 (dk_at dksX2_hold_0 21 rfl rfl)
theorem dX2_hold_22 : decode cX2_hold 22 = .ok (.getfield 7, 3) := dk_180 0 7 (dk_at dksX2_hold_1 0 rfl rfl)
theorem dX2_hold_25 : decode cX2_hold 25 = .ok (.iload_n 3, 1) := dk_29 (dk_at dksX2_hold_1 3 rfl rfl)
theorem dX2_hold_26 : decode cX2_hold 26 = .ok (.iconst 1, 1) := dk_4 (dk_at dksX2_hold_1 4 rfl rfl)
theorem dX2_hold_27 : decode cX2_hold 27 = .ok (.iadd, 1) := dk_96 (dk_at dksX2_hold_1 5 rfl rfl)
theorem dX2_hold_28 : decode cX2_hold 28 = .ok (.iaload, 1) := dk_46 (dk_at dksX2_hold_1 6 rfl rfl)
theorem dX2_hold_29 : decode cX2_hold 29 = .ok (.invokevirtual 143, 3) := dk_182 0 143 (dk_at dksX2_hold_1 7 rfl rfl)
theorem dX2_hold_32 : decode cX2_hold 32 = .ok (.ifCond .ne 19, 3) := dk_154 0 19 (dk_at dksX2_hold_1 10 rfl rfl)
theorem dX2_hold_35 : decode cX2_hold 35 = .ok (.aload_n 0, 1) := dk_42 (dk_at dksX2_hold_1 13 rfl rfl)
theorem dX2_hold_36 : decode cX2_hold 36 = .ok (.getfield 7, 3) := dk_180 0 7 (dk_at dksX2_hold_1 14 rfl rfl)
theorem dX2_hold_39 : decode cX2_hold 39 = .ok (.iload_n 2, 1) := dk_28 (dk_at dksX2_hold_1 17 rfl rfl)
theorem dX2_hold_40 : decode cX2_hold 40 = .ok (.iconst 3, 1) := dk_6 (dk_at dksX2_hold_1 18 rfl rfl)
theorem dX2_hold_41 : decode cX2_hold 41 = .ok (.iadd, 1) := dk_96 (dk_at dksX2_hold_1 19 rfl rfl)
theorem dX2_hold_42 : decode cX2_hold 42 = .ok (.iconst 3, 1) := dk_6 (dk_at dksX2_hold_1 20 rfl rfl)
theorem dX2_hold_43 : decode cX2_hold 43 = .ok (.iastore, 1) := dk_79 (dk_at dksX2_hold_1 21 rfl rfl)
theorem dX2_hold_44 : decode cX2_hold 44 = .ok (.aload_n 0, 1) := dk_42 (dk_at dksX2_hold_1 22 rfl rfl)
theorem dX2_hold_45 : decode cX2_hold 45 = .ok (.iload_n 1, 1) := dk_27 (dk_at dksX2_hold_1 23 rfl rfl)
theorem dX2_hold_46 : decode cX2_hold 46 = .ok (.iconst 4, 1) := dk_7 (dk_at dksX2_hold_2 0 rfl rfl)
theorem dX2_hold_47 : decode cX2_hold 47 = .ok (.invokevirtual 146, 3) := dk_182 0 146 (dk_at dksX2_hold_2 1 rfl rfl)
theorem dX2_hold_50 : decode cX2_hold 50 = .ok (.return_, 1) := dk_177 (dk_at dksX2_hold_2 4 rfl rfl)
theorem dX2_hold_51 : decode cX2_hold 51 = .ok (.aload_n 0, 1) := dk_42 (dk_at dksX2_hold_2 5 rfl rfl)
theorem dX2_hold_52 : decode cX2_hold 52 = .ok (.invokevirtual 64, 3) := dk_182 0 64 (dk_at dksX2_hold_2 6 rfl rfl)
theorem dX2_hold_55 : decode cX2_hold 55 = .ok (.istore 4, 2) := dk_54 4 (dk_at dksX2_hold_2 9 rfl rfl)
theorem dX2_hold_57 : decode cX2_hold 57 = .ok (.bipush 50, 2) := dk_16 50 (dk_at dksX2_hold_2 11 rfl rfl)
theorem dX2_hold_59 : decode cX2_hold 59 = .ok (.iconst 4, 1) := dk_7 (dk_at dksX2_hold_2 13 rfl rfl)
theorem dX2_hold_60 : decode cX2_hold 60 = .ok (.iload 4, 2) := dk_21 4 (dk_at dksX2_hold_2 14 rfl rfl)
theorem dX2_hold_62 : decode cX2_hold 62 = .ok (.imul, 1) := dk_104 (dk_at dksX2_hold_2 16 rfl rfl)
theorem dX2_hold_63 : decode cX2_hold 63 = .ok (.iadd, 1) := dk_96 (dk_at dksX2_hold_2 17 rfl rfl)
theorem dX2_hold_64 : decode cX2_hold 64 = .ok (.istore 5, 2) := dk_54 5 (dk_at dksX2_hold_2 18 rfl rfl)
theorem dX2_hold_66 : decode cX2_hold 66 = .ok (.aload_n 0, 1) := dk_42 (dk_at dksX2_hold_2 20 rfl rfl)
theorem dX2_hold_67 : decode cX2_hold 67 = .ok (.getfield 7, 3) := dk_180 0 7 (dk_at dksX2_hold_2 21 rfl rfl)
theorem dX2_hold_70 : decode cX2_hold 70 = .ok (.iload 5, 2) := dk_21 5 (dk_at dksX2_hold_3 0 rfl rfl)
theorem dX2_hold_72 : decode cX2_hold 72 = .ok (.iaload, 1) := dk_46 (dk_at dksX2_hold_3 2 rfl rfl)
theorem dX2_hold_73 : decode cX2_hold 73 = .ok (.aload_n 0, 1) := dk_42 (dk_at dksX2_hold_3 3 rfl rfl)
theorem dX2_hold_74 : decode cX2_hold 74 = .ok (.getfield 7, 3) := dk_180 0 7 (dk_at dksX2_hold_3 4 rfl rfl)
theorem dX2_hold_77 : decode cX2_hold 77 = .ok (.iload 5, 2) := dk_21 5 (dk_at dksX2_hold_3 7 rfl rfl)
theorem dX2_hold_79 : decode cX2_hold 79 = .ok (.iconst 1, 1) := dk_4 (dk_at dksX2_hold_3 9 rfl rfl)
theorem dX2_hold_80 : decode cX2_hold 80 = .ok (.iadd, 1) := dk_96 (dk_at dksX2_hold_3 10 rfl rfl)
theorem dX2_hold_81 : decode cX2_hold 81 = .ok (.iaload, 1) := dk_46 (dk_at dksX2_hold_3 11 rfl rfl)
theorem dX2_hold_82 : decode cX2_hold 82 = .ok (.isub, 1) := dk_100 (dk_at dksX2_hold_3 12 rfl rfl)
theorem dX2_hold_83 : decode cX2_hold 83 = .ok (.istore 6, 2) := dk_54 6 (dk_at dksX2_hold_3 13 rfl rfl)
theorem dX2_hold_85 : decode cX2_hold 85 = .ok (.aload_n 0, 1) := dk_42 (dk_at dksX2_hold_3 15 rfl rfl)
theorem dX2_hold_86 : decode cX2_hold 86 = .ok (.getfield 7, 3) := dk_180 0 7 (dk_at dksX2_hold_3 16 rfl rfl)
theorem dX2_hold_89 : decode cX2_hold 89 = .ok (.iload_n 3, 1) := dk_29 (dk_at dksX2_hold_3 19 rfl rfl)
theorem dX2_hold_90 : decode cX2_hold 90 = .ok (.iaload, 1) := dk_46 (dk_at dksX2_hold_3 20 rfl rfl)
theorem dX2_hold_91 : decode cX2_hold 91 = .ok (.iload 6, 2) := dk_21 6 (dk_at dksX2_hold_3 21 rfl rfl)
theorem dX2_hold_93 : decode cX2_hold 93 = .ok (.if_icmp .le 7, 3) := dk_164 0 7 (dk_at dksX2_hold_4 0 rfl rfl)
theorem dX2_hold_96 : decode cX2_hold 96 = .ok (.iconst 1, 1) := dk_4 (dk_at dksX2_hold_4 3 rfl rfl)
theorem dX2_hold_97 : decode cX2_hold 97 = .ok (.goto 4, 3) := dk_167 0 4 (dk_at dksX2_hold_4 4 rfl rfl)
theorem dX2_hold_100 : decode cX2_hold 100 = .ok (.iconst 0, 1) := dk_3 (dk_at dksX2_hold_4 7 rfl rfl)
theorem dX2_hold_101 : decode cX2_hold 101 = .ok (.istore 7, 2) := dk_54 7 (dk_at dksX2_hold_4 8 rfl rfl)
theorem dX2_hold_103 : decode cX2_hold 103 = .ok (.iload 7, 2) := dk_21 7 (dk_at dksX2_hold_4 10 rfl rfl)
theorem dX2_hold_105 : decode cX2_hold 105 = .ok (.ifCond .eq 8, 3) := dk_153 0 8 (dk_at dksX2_hold_4 12 rfl rfl)
theorem dX2_hold_108 : decode cX2_hold 108 = .ok (.iload 6, 2) := dk_21 6 (dk_at dksX2_hold_4 15 rfl rfl)
theorem dX2_hold_110 : decode cX2_hold 110 = .ok (.goto 9, 3) := dk_167 0 9 (dk_at dksX2_hold_4 17 rfl rfl)
theorem dX2_hold_113 : decode cX2_hold 113 = .ok (.aload_n 0, 1) := dk_42 (dk_at dksX2_hold_4 20 rfl rfl)
theorem dX2_hold_114 : decode cX2_hold 114 = .ok (.getfield 7, 3) := dk_180 0 7 (dk_at dksX2_hold_4 21 rfl rfl)
theorem dX2_hold_117 : decode cX2_hold 117 = .ok (.iload_n 3, 1) := dk_29 (dk_at dksX2_hold_5 0 rfl rfl)
theorem dX2_hold_118 : decode cX2_hold 118 = .ok (.iaload, 1) := dk_46 (dk_at dksX2_hold_5 1 rfl rfl)
theorem dX2_hold_119 : decode cX2_hold 119 = .ok (.istore 8, 2) := dk_54 8 (dk_at dksX2_hold_5 2 rfl rfl)
theorem dX2_hold_121 : decode cX2_hold 121 = .ok (.aload_n 0, 1) := dk_42 (dk_at dksX2_hold_5 4 rfl rfl)
theorem dX2_hold_122 : decode cX2_hold 122 = .ok (.getfield 7, 3) := dk_180 0 7 (dk_at dksX2_hold_5 5 rfl rfl)
theorem dX2_hold_125 : decode cX2_hold 125 = .ok (.iload 5, 2) := dk_21 5 (dk_at dksX2_hold_5 8 rfl rfl)
theorem dX2_hold_127 : decode cX2_hold 127 = .ok (.iconst 1, 1) := dk_4 (dk_at dksX2_hold_5 10 rfl rfl)
theorem dX2_hold_128 : decode cX2_hold 128 = .ok (.iadd, 1) := dk_96 (dk_at dksX2_hold_5 11 rfl rfl)
theorem dX2_hold_129 : decode cX2_hold 129 = .ok (.dup2, 1) := dk_92 (dk_at dksX2_hold_5 12 rfl rfl)
theorem dX2_hold_130 : decode cX2_hold 130 = .ok (.iaload, 1) := dk_46 (dk_at dksX2_hold_5 13 rfl rfl)
theorem dX2_hold_131 : decode cX2_hold 131 = .ok (.iload 8, 2) := dk_21 8 (dk_at dksX2_hold_5 14 rfl rfl)
theorem dX2_hold_133 : decode cX2_hold 133 = .ok (.iadd, 1) := dk_96 (dk_at dksX2_hold_5 16 rfl rfl)
theorem dX2_hold_134 : decode cX2_hold 134 = .ok (.iastore, 1) := dk_79 (dk_at dksX2_hold_5 17 rfl rfl)
theorem dX2_hold_135 : decode cX2_hold 135 = .ok (.aload_n 0, 1) := dk_42 (dk_at dksX2_hold_5 18 rfl rfl)
theorem dX2_hold_136 : decode cX2_hold 136 = .ok (.getfield 7, 3) := dk_180 0 7 (dk_at dksX2_hold_5 19 rfl rfl)
theorem dX2_hold_139 : decode cX2_hold 139 = .ok (.iload 5, 2) := dk_21 5 (dk_at dksX2_hold_5 22 rfl rfl)
theorem dX2_hold_141 : decode cX2_hold 141 = .ok (.iconst 3, 1) := dk_6 (dk_at dksX2_hold_6 0 rfl rfl)
theorem dX2_hold_142 : decode cX2_hold 142 = .ok (.iadd, 1) := dk_96 (dk_at dksX2_hold_6 1 rfl rfl)
theorem dX2_hold_143 : decode cX2_hold 143 = .ok (.dup2, 1) := dk_92 (dk_at dksX2_hold_6 2 rfl rfl)
theorem dX2_hold_144 : decode cX2_hold 144 = .ok (.iaload, 1) := dk_46 (dk_at dksX2_hold_6 3 rfl rfl)
theorem dX2_hold_145 : decode cX2_hold 145 = .ok (.iconst 1, 1) := dk_4 (dk_at dksX2_hold_6 4 rfl rfl)
theorem dX2_hold_146 : decode cX2_hold 146 = .ok (.iadd, 1) := dk_96 (dk_at dksX2_hold_6 5 rfl rfl)
theorem dX2_hold_147 : decode cX2_hold 147 = .ok (.iastore, 1) := dk_79 (dk_at dksX2_hold_6 6 rfl rfl)
theorem dX2_hold_148 : decode cX2_hold 148 = .ok (.aload_n 0, 1) := dk_42 (dk_at dksX2_hold_6 7 rfl rfl)
theorem dX2_hold_149 : decode cX2_hold 149 = .ok (.getfield 7, 3) := dk_180 0 7 (dk_at dksX2_hold_6 8 rfl rfl)
theorem dX2_hold_152 : decode cX2_hold 152 = .ok (.iload_n 2, 1) := dk_28 (dk_at dksX2_hold_6 11 rfl rfl)
theorem dX2_hold_153 : decode cX2_hold 153 = .ok (.iconst 3, 1) := dk_6 (dk_at dksX2_hold_6 12 rfl rfl)
theorem dX2_hold_154 : decode cX2_hold 154 = .ok (.iadd, 1) := dk_96 (dk_at dksX2_hold_6 13 rfl rfl)
theorem dX2_hold_155 : decode cX2_hold 155 = .ok (.iload 7, 2) := dk_21 7 (dk_at dksX2_hold_6 14 rfl rfl)
theorem dX2_hold_157 : decode cX2_hold 157 = .ok (.ifCond .eq 7, 3) := dk_153 0 7 (dk_at dksX2_hold_6 16 rfl rfl)
theorem dX2_hold_160 : decode cX2_hold 160 = .ok (.iconst 2, 1) := dk_5 (dk_at dksX2_hold_6 19 rfl rfl)
theorem dX2_hold_161 : decode cX2_hold 161 = .ok (.goto 4, 3) := dk_167 0 4 (dk_at dksX2_hold_6 20 rfl rfl)
theorem dX2_hold_164 : decode cX2_hold 164 = .ok (.iconst 1, 1) := dk_4 (dk_at dksX2_hold_6 23 rfl rfl)
theorem dX2_hold_165 : decode cX2_hold 165 = .ok (.iastore, 1) := dk_79 (dk_at dksX2_hold_7 0 rfl rfl)
theorem dX2_hold_166 : decode cX2_hold 166 = .ok (.aload_n 0, 1) := dk_42 (dk_at dksX2_hold_7 1 rfl rfl)
theorem dX2_hold_167 : decode cX2_hold 167 = .ok (.getfield 7, 3) := dk_180 0 7 (dk_at dksX2_hold_7 2 rfl rfl)
theorem dX2_hold_170 : decode cX2_hold 170 = .ok (.iload_n 2, 1) := dk_28 (dk_at dksX2_hold_7 5 rfl rfl)
theorem dX2_hold_171 : decode cX2_hold 171 = .ok (.iconst 4, 1) := dk_7 (dk_at dksX2_hold_7 6 rfl rfl)
theorem dX2_hold_172 : decode cX2_hold 172 = .ok (.iadd, 1) := dk_96 (dk_at dksX2_hold_7 7 rfl rfl)
theorem dX2_hold_173 : decode cX2_hold 173 = .ok (.iload 4, 2) := dk_21 4 (dk_at dksX2_hold_7 8 rfl rfl)
theorem dX2_hold_175 : decode cX2_hold 175 = .ok (.iastore, 1) := dk_79 (dk_at dksX2_hold_7 10 rfl rfl)
theorem dX2_hold_176 : decode cX2_hold 176 = .ok (.aload_n 0, 1) := dk_42 (dk_at dksX2_hold_7 11 rfl rfl)
theorem dX2_hold_177 : decode cX2_hold 177 = .ok (.getfield 7, 3) := dk_180 0 7 (dk_at dksX2_hold_7 12 rfl rfl)
theorem dX2_hold_180 : decode cX2_hold 180 = .ok (.iload_n 2, 1) := dk_28 (dk_at dksX2_hold_7 15 rfl rfl)
theorem dX2_hold_181 : decode cX2_hold 181 = .ok (.iconst 5, 1) := dk_8 (dk_at dksX2_hold_7 16 rfl rfl)
theorem dX2_hold_182 : decode cX2_hold 182 = .ok (.iadd, 1) := dk_96 (dk_at dksX2_hold_7 17 rfl rfl)
theorem dX2_hold_183 : decode cX2_hold 183 = .ok (.iload 8, 2) := dk_21 8 (dk_at dksX2_hold_7 18 rfl rfl)
theorem dX2_hold_185 : decode cX2_hold 185 = .ok (.iastore, 1) := dk_79 (dk_at dksX2_hold_7 20 rfl rfl)
theorem dX2_hold_186 : decode cX2_hold 186 = .ok (.aload_n 0, 1) := dk_42 (dk_at dksX2_hold_7 21 rfl rfl)
theorem dX2_hold_187 : decode cX2_hold 187 = .ok (.iload_n 1, 1) := dk_27 (dk_at dksX2_hold_7 22 rfl rfl)
theorem dX2_hold_188 : decode cX2_hold 188 = .ok (.iload 7, 2) := dk_21 7 (dk_at dksX2_hold_8 0 rfl rfl)
theorem dX2_hold_190 : decode cX2_hold 190 = .ok (.ifCond .eq 7, 3) := dk_153 0 7 (dk_at dksX2_hold_8 2 rfl rfl)
theorem dX2_hold_193 : decode cX2_hold 193 = .ok (.iconst 2, 1) := dk_5 (dk_at dksX2_hold_8 5 rfl rfl)
theorem dX2_hold_194 : decode cX2_hold 194 = .ok (.goto 4, 3) := dk_167 0 4 (dk_at dksX2_hold_8 6 rfl rfl)
theorem dX2_hold_197 : decode cX2_hold 197 = .ok (.iconst 1, 1) := dk_4 (dk_at dksX2_hold_8 9 rfl rfl)
theorem dX2_hold_198 : decode cX2_hold 198 = .ok (.invokevirtual 146, 3) := dk_182 0 146 (dk_at dksX2_hold_8 10 rfl rfl)
theorem dX2_hold_201 : decode cX2_hold 201 = .ok (.aload_n 0, 1) := dk_42 (dk_at dksX2_hold_8 13 rfl rfl)
theorem dX2_hold_202 : decode cX2_hold 202 = .ok (.getfield 7, 3) := dk_180 0 7 (dk_at dksX2_hold_8 14 rfl rfl)
theorem dX2_hold_205 : decode cX2_hold 205 = .ok (.iload 5, 2) := dk_21 5 (dk_at dksX2_hold_8 17 rfl rfl)
theorem dX2_hold_207 : decode cX2_hold 207 = .ok (.iconst 2, 1) := dk_5 (dk_at dksX2_hold_8 19 rfl rfl)
theorem dX2_hold_208 : decode cX2_hold 208 = .ok (.iadd, 1) := dk_96 (dk_at dksX2_hold_8 20 rfl rfl)
theorem dX2_hold_209 : decode cX2_hold 209 = .ok (.aload_n 0, 1) := dk_42 (dk_at dksX2_hold_8 21 rfl rfl)
theorem dX2_hold_210 : decode cX2_hold 210 = .ok (.getfield 7, 3) := dk_180 0 7 (dk_at dksX2_hold_9 0 rfl rfl)
theorem dX2_hold_213 : decode cX2_hold 213 = .ok (.iload 5, 2) := dk_21 5 (dk_at dksX2_hold_9 3 rfl rfl)
theorem dX2_hold_215 : decode cX2_hold 215 = .ok (.iconst 1, 1) := dk_4 (dk_at dksX2_hold_9 5 rfl rfl)
theorem dX2_hold_216 : decode cX2_hold 216 = .ok (.iadd, 1) := dk_96 (dk_at dksX2_hold_9 6 rfl rfl)
theorem dX2_hold_217 : decode cX2_hold 217 = .ok (.iaload, 1) := dk_46 (dk_at dksX2_hold_9 7 rfl rfl)
theorem dX2_hold_218 : decode cX2_hold 218 = .ok (.aload_n 0, 1) := dk_42 (dk_at dksX2_hold_9 8 rfl rfl)
theorem dX2_hold_219 : decode cX2_hold 219 = .ok (.getfield 7, 3) := dk_180 0 7 (dk_at dksX2_hold_9 9 rfl rfl)
theorem dX2_hold_222 : decode cX2_hold 222 = .ok (.iload 5, 2) := dk_21 5 (dk_at dksX2_hold_9 12 rfl rfl)
theorem dX2_hold_224 : decode cX2_hold 224 = .ok (.iaload, 1) := dk_46 (dk_at dksX2_hold_9 14 rfl rfl)
theorem dX2_hold_225 : decode cX2_hold 225 = .ok (.if_icmp .ne 7, 3) := dk_160 0 7 (dk_at dksX2_hold_9 15 rfl rfl)
theorem dX2_hold_228 : decode cX2_hold 228 = .ok (.iconst 2, 1) := dk_5 (dk_at dksX2_hold_9 18 rfl rfl)
theorem dX2_hold_229 : decode cX2_hold 229 = .ok (.goto 12, 3) := dk_167 0 12 (dk_at dksX2_hold_9 19 rfl rfl)
theorem dX2_hold_232 : decode cX2_hold 232 = .ok (.aload_n 0, 1) := dk_42 (dk_at dksX2_hold_9 22 rfl rfl)
theorem dX2_hold_233 : decode cX2_hold 233 = .ok (.getfield 7, 3) := dk_180 0 7 (dk_at dksX2_hold_10 0 rfl rfl)
theorem dX2_hold_236 : decode cX2_hold 236 = .ok (.iload 5, 2) := dk_21 5 (dk_at dksX2_hold_10 3 rfl rfl)
theorem dX2_hold_238 : decode cX2_hold 238 = .ok (.iconst 2, 1) := dk_5 (dk_at dksX2_hold_10 5 rfl rfl)
theorem dX2_hold_239 : decode cX2_hold 239 = .ok (.iadd, 1) := dk_96 (dk_at dksX2_hold_10 6 rfl rfl)
theorem dX2_hold_240 : decode cX2_hold 240 = .ok (.iaload, 1) := dk_46 (dk_at dksX2_hold_10 7 rfl rfl)
theorem dX2_hold_241 : decode cX2_hold 241 = .ok (.iastore, 1) := dk_79 (dk_at dksX2_hold_10 8 rfl rfl)
theorem dX2_hold_242 : decode cX2_hold 242 = .ok (.return_, 1) := dk_177 (dk_at dksX2_hold_10 9 rfl rfl)
abbrev cX2_hasLight : ByteArray := prog_12_method_43_code
def yX2_hasLight : MethodName := ⟨RX2, "hasLight", "(I)Z"⟩
def dkwX2_hasLight_5 : List UInt8 := [156, 0, 5, 3, 172, 42, 29, 182, 0, 71, 87, 4, 172]
abbrev dktX2_hasLight_5 : List UInt8 := dkwX2_hasLight_5 ++ []
def dkwX2_hasLight_4 : List UInt8 := [21, 4, 167, 0, 4, 29, 62, 132, 4, 1, 167, 255, 177, 42, 180, 0, 7, 8, 46, 153, 0, 7, 29]
abbrev dktX2_hasLight_4 : List UInt8 := dkwX2_hasLight_4 ++ dktX2_hasLight_5
def dkwX2_hasLight_3 : List UInt8 := [21, 5, 153, 0, 26, 29, 155, 0, 17, 42, 21, 4, 182, 0, 140, 42, 29, 182, 0, 140, 164, 0, 8]
abbrev dktX2_hasLight_3 : List UInt8 := dkwX2_hasLight_3 ++ dktX2_hasLight_4
def dkwX2_hasLight_2 : List UInt8 := [96, 5, 96, 46, 154, 0, 17, 42, 21, 4, 182, 0, 140, 27, 161, 0, 7, 4, 167, 0, 4, 3, 54, 5]
abbrev dktX2_hasLight_2 : List UInt8 := dkwX2_hasLight_2 ++ dktX2_hasLight_3
def dkwX2_hasLight_1 : List UInt8 := [54, 4, 21, 4, 42, 180, 0, 7, 16, 8, 46, 162, 0, 73, 42, 180, 0, 7, 16, 50, 7, 21, 4, 104]
abbrev dktX2_hasLight_1 : List UInt8 := dkwX2_hasLight_1 ++ dktX2_hasLight_2
def dkwX2_hasLight_0 : List UInt8 := [42, 182, 0, 64, 61, 28, 155, 0, 14, 42, 28, 182, 0, 140, 27, 161, 0, 5, 4, 172, 16, 250, 62, 3]
abbrev dktX2_hasLight_0 : List UInt8 := dkwX2_hasLight_0 ++ dktX2_hasLight_1
theorem dksX2_hasLight_0 : cX2_hasLight.data.toList.drop 0 = dktX2_hasLight_0 := by decide +kernel
theorem dksX2_hasLight_1 : cX2_hasLight.data.toList.drop 24 = dktX2_hasLight_1 := dk_seg dksX2_hasLight_0 24 rfl rfl
theorem dksX2_hasLight_2 : cX2_hasLight.data.toList.drop 48 = dktX2_hasLight_2 := dk_seg dksX2_hasLight_1 24 rfl rfl
theorem dksX2_hasLight_3 : cX2_hasLight.data.toList.drop 72 = dktX2_hasLight_3 := dk_seg dksX2_hasLight_2 24 rfl rfl
theorem dksX2_hasLight_4 : cX2_hasLight.data.toList.drop 95 = dktX2_hasLight_4 := dk_seg dksX2_hasLight_3 23 rfl rfl
theorem dksX2_hasLight_5 : cX2_hasLight.data.toList.drop 118 = dktX2_hasLight_5 := dk_seg dksX2_hasLight_4 23 rfl rfl
theorem dX2_hasLight_0 : decode cX2_hasLight 0 = .ok (.aload_n 0, 1) := dk_42 (dk_at dksX2_hasLight_0 0 rfl rfl)
theorem dX2_hasLight_1 : decode cX2_hasLight 1 = .ok (.invokevirtual 64, 3) := dk_182 0 64 (dk_at dksX2_hasLight_0 1 rfl rfl)
theorem dX2_hasLight_4 : decode cX2_hasLight 4 = .ok (.istore_n 2, 1) := dk_61 (dk_at dksX2_hasLight_0 4 rfl rfl)
theorem dX2_hasLight_5 : decode cX2_hasLight 5 = .ok (.iload_n 2, 1) := dk_28 (dk_at dksX2_hasLight_0 5 rfl rfl)
theorem dX2_hasLight_6 : decode cX2_hasLight 6 = .ok (.ifCond .lt 14, 3) := dk_155 0 14 (dk_at dksX2_hasLight_0 6 rfl rfl)
theorem dX2_hasLight_9 : decode cX2_hasLight 9 = .ok (.aload_n 0, 1) := dk_42 (dk_at dksX2_hasLight_0 9 rfl rfl)
theorem dX2_hasLight_10 : decode cX2_hasLight 10 = .ok (.iload_n 2, 1) := dk_28 (dk_at dksX2_hasLight_0 10 rfl rfl)
theorem dX2_hasLight_11 : decode cX2_hasLight 11 = .ok (.invokevirtual 140, 3) := dk_182 0 140 (dk_at dksX2_hasLight_0 11 rfl rfl)
theorem dX2_hasLight_14 : decode cX2_hasLight 14 = .ok (.iload_n 1, 1) := dk_27 (dk_at dksX2_hasLight_0 14 rfl rfl)
theorem dX2_hasLight_15 : decode cX2_hasLight 15 = .ok (.if_icmp .lt 5, 3) := dk_161 0 5 (dk_at dksX2_hasLight_0 15 rfl rfl)
theorem dX2_hasLight_18 : decode cX2_hasLight 18 = .ok (.iconst 1, 1) := dk_4 (dk_at dksX2_hasLight_0 18 rfl rfl)
theorem dX2_hasLight_19 : decode cX2_hasLight 19 = .ok (.ireturn, 1) := dk_172 (dk_at dksX2_hasLight_0 19 rfl rfl)
theorem dX2_hasLight_20 : decode cX2_hasLight 20 = .ok (.bipush (-6), 2) := dk_16 250 (dk_at dksX2_hasLight_0 20 rfl rfl)
theorem dX2_hasLight_22 : decode cX2_hasLight 22 = .ok (.istore_n 3, 1) := dk_62 (dk_at dksX2_hasLight_0 22 rfl rfl)
theorem dX2_hasLight_23 : decode cX2_hasLight 23 = .ok (.iconst 0, 1) := dk_3 (dk_at dksX2_hasLight_0 23 rfl rfl)
theorem dX2_hasLight_24 : decode cX2_hasLight 24 = .ok (.istore 4, 2) := dk_54 4 (dk_at dksX2_hasLight_1 0 rfl rfl)
theorem dX2_hasLight_26 : decode cX2_hasLight 26 = .ok (.iload 4, 2) := dk_21 4 (dk_at dksX2_hasLight_1 2 rfl rfl)
theorem dX2_hasLight_28 : decode cX2_hasLight 28 = .ok (.aload_n 0, 1) := dk_42 (dk_at dksX2_hasLight_1 4 rfl rfl)
theorem dX2_hasLight_29 : decode cX2_hasLight 29 = .ok (.getfield 7, 3) := dk_180 0 7 (dk_at dksX2_hasLight_1 5 rfl rfl)
theorem dX2_hasLight_32 : decode cX2_hasLight 32 = .ok (.bipush 8, 2) := dk_16 8 (dk_at dksX2_hasLight_1 8 rfl rfl)
theorem dX2_hasLight_34 : decode cX2_hasLight 34 = .ok (.iaload, 1) := dk_46 (dk_at dksX2_hasLight_1 10 rfl rfl)
theorem dX2_hasLight_35 : decode cX2_hasLight 35 = .ok (.if_icmp .ge 73, 3) := dk_162 0 73 (dk_at dksX2_hasLight_1 11 rfl rfl)
theorem dX2_hasLight_38 : decode cX2_hasLight 38 = .ok (.aload_n 0, 1) := dk_42 (dk_at dksX2_hasLight_1 14 rfl rfl)
theorem dX2_hasLight_39 : decode cX2_hasLight 39 = .ok (.getfield 7, 3) := dk_180 0 7 (dk_at dksX2_hasLight_1 15 rfl rfl)
theorem dX2_hasLight_42 : decode cX2_hasLight 42 = .ok (.bipush 50, 2) := dk_16 50 (dk_at dksX2_hasLight_1 18 rfl rfl)
theorem dX2_hasLight_44 : decode cX2_hasLight 44 = .ok (.iconst 4, 1) := dk_7 (dk_at dksX2_hasLight_1 20 rfl rfl)
theorem dX2_hasLight_45 : decode cX2_hasLight 45 = .ok (.iload 4, 2) := dk_21 4 (dk_at dksX2_hasLight_1 21 rfl rfl)
theorem dX2_hasLight_47 : decode cX2_hasLight 47 = .ok (.imul, 1) := dk_104 (dk_at dksX2_hasLight_1 23 rfl rfl)
theorem dX2_hasLight_48 : decode cX2_hasLight 48 = .ok (.iadd, 1) := dk_96 (dk_at dksX2_hasLight_2 0 rfl rfl)
theorem dX2_hasLight_49 : decode cX2_hasLight 49 = .ok (.iconst 2, 1) := dk_5 (dk_at dksX2_hasLight_2 1 rfl rfl)
theorem dX2_hasLight_50 : decode cX2_hasLight 50 = .ok (.iadd, 1) := dk_96 (dk_at dksX2_hasLight_2 2 rfl rfl)
theorem dX2_hasLight_51 : decode cX2_hasLight 51 = .ok (.iaload, 1) := dk_46 (dk_at dksX2_hasLight_2 3 rfl rfl)
theorem dX2_hasLight_52 : decode cX2_hasLight 52 = .ok (.ifCond .ne 17, 3) := dk_154 0 17 (dk_at dksX2_hasLight_2 4 rfl rfl)
theorem dX2_hasLight_55 : decode cX2_hasLight 55 = .ok (.aload_n 0, 1) := dk_42 (dk_at dksX2_hasLight_2 7 rfl rfl)
theorem dX2_hasLight_56 : decode cX2_hasLight 56 = .ok (.iload 4, 2) := dk_21 4 (dk_at dksX2_hasLight_2 8 rfl rfl)
theorem dX2_hasLight_58 : decode cX2_hasLight 58 = .ok (.invokevirtual 140, 3) := dk_182 0 140 (dk_at dksX2_hasLight_2 10 rfl rfl)
theorem dX2_hasLight_61 : decode cX2_hasLight 61 = .ok (.iload_n 1, 1) := dk_27 (dk_at dksX2_hasLight_2 13 rfl rfl)
theorem dX2_hasLight_62 : decode cX2_hasLight 62 = .ok (.if_icmp .lt 7, 3) := dk_161 0 7 (dk_at dksX2_hasLight_2 14 rfl rfl)
theorem dX2_hasLight_65 : decode cX2_hasLight 65 = .ok (.iconst 1, 1) := dk_4 (dk_at dksX2_hasLight_2 17 rfl rfl)
theorem dX2_hasLight_66 : decode cX2_hasLight 66 = .ok (.goto 4, 3) := dk_167 0 4 (dk_at dksX2_hasLight_2 18 rfl rfl)
theorem dX2_hasLight_69 : decode cX2_hasLight 69 = .ok (.iconst 0, 1) := dk_3 (dk_at dksX2_hasLight_2 21 rfl rfl)
theorem dX2_hasLight_70 : decode cX2_hasLight 70 = .ok (.istore 5, 2) := dk_54 5 (dk_at dksX2_hasLight_2 22 rfl rfl)
theorem dX2_hasLight_72 : decode cX2_hasLight 72 = .ok (.iload 5, 2) := dk_21 5 (dk_at dksX2_hasLight_3 0 rfl rfl)
theorem dX2_hasLight_74 : decode cX2_hasLight 74 = .ok (.ifCond .eq 26, 3) := dk_153 0 26 (dk_at dksX2_hasLight_3 2 rfl rfl)
theorem dX2_hasLight_77 : decode cX2_hasLight 77 = .ok (.iload_n 3, 1) := dk_29 (dk_at dksX2_hasLight_3 5 rfl rfl)
theorem dX2_hasLight_78 : decode cX2_hasLight 78 = .ok (.ifCond .lt 17, 3) := dk_155 0 17 (dk_at dksX2_hasLight_3 6 rfl rfl)
theorem dX2_hasLight_81 : decode cX2_hasLight 81 = .ok (.aload_n 0, 1) := dk_42 (dk_at dksX2_hasLight_3 9 rfl rfl)
theorem dX2_hasLight_82 : decode cX2_hasLight 82 = .ok (.iload 4, 2) := dk_21 4 (dk_at dksX2_hasLight_3 10 rfl rfl)
theorem dX2_hasLight_84 : decode cX2_hasLight 84 = .ok (.invokevirtual 140, 3) := dk_182 0 140 (dk_at dksX2_hasLight_3 12 rfl rfl)
theorem dX2_hasLight_87 : decode cX2_hasLight 87 = .ok (.aload_n 0, 1) := dk_42 (dk_at dksX2_hasLight_3 15 rfl rfl)
theorem dX2_hasLight_88 : decode cX2_hasLight 88 = .ok (.iload_n 3, 1) := dk_29 (dk_at dksX2_hasLight_3 16 rfl rfl)
theorem dX2_hasLight_89 : decode cX2_hasLight 89 = .ok (.invokevirtual 140, 3) := dk_182 0 140 (dk_at dksX2_hasLight_3 17 rfl rfl)
theorem dX2_hasLight_92 : decode cX2_hasLight 92 = .ok (.if_icmp .le 8, 3) := dk_164 0 8 (dk_at dksX2_hasLight_3 20 rfl rfl)
theorem dX2_hasLight_95 : decode cX2_hasLight 95 = .ok (.iload 4, 2) := dk_21 4 (dk_at dksX2_hasLight_4 0 rfl rfl)
theorem dX2_hasLight_97 : decode cX2_hasLight 97 = .ok (.goto 4, 3) := dk_167 0 4 (dk_at dksX2_hasLight_4 2 rfl rfl)
theorem dX2_hasLight_100 : decode cX2_hasLight 100 = .ok (.iload_n 3, 1) := dk_29 (dk_at dksX2_hasLight_4 5 rfl rfl)
theorem dX2_hasLight_101 : decode cX2_hasLight 101 = .ok (.istore_n 3, 1) := dk_62 (dk_at dksX2_hasLight_4 6 rfl rfl)
theorem dX2_hasLight_102 : decode cX2_hasLight 102 = .ok (.iinc 4 1, 3) := dk_132 4 1 (dk_at dksX2_hasLight_4 7 rfl rfl)
theorem dX2_hasLight_105 : decode cX2_hasLight 105 = .ok (.goto (-79), 3) := dk_167 255 177 (dk_at dksX2_hasLight_4 10 rfl rfl)
theorem dX2_hasLight_108 : decode cX2_hasLight 108 = .ok (.aload_n 0, 1) := dk_42 (dk_at dksX2_hasLight_4 13 rfl rfl)
theorem dX2_hasLight_109 : decode cX2_hasLight 109 = .ok (.getfield 7, 3) := dk_180 0 7 (dk_at dksX2_hasLight_4 14 rfl rfl)
theorem dX2_hasLight_112 : decode cX2_hasLight 112 = .ok (.iconst 5, 1) := dk_8 (dk_at dksX2_hasLight_4 17 rfl rfl)
theorem dX2_hasLight_113 : decode cX2_hasLight 113 = .ok (.iaload, 1) := dk_46 (dk_at dksX2_hasLight_4 18 rfl rfl)
theorem dX2_hasLight_114 : decode cX2_hasLight 114 = .ok (.ifCond .eq 7, 3) := dk_153 0 7 (dk_at dksX2_hasLight_4 19 rfl rfl)
theorem dX2_hasLight_117 : decode cX2_hasLight 117 = .ok (.iload_n 3, 1) := dk_29 (dk_at dksX2_hasLight_4 22 rfl rfl)
theorem dX2_hasLight_118 : decode cX2_hasLight 118 = .ok (.ifCond .ge 5, 3) := dk_156 0 5 (dk_at dksX2_hasLight_5 0 rfl rfl)
theorem dX2_hasLight_121 : decode cX2_hasLight 121 = .ok (.iconst 0, 1) := dk_3 (dk_at dksX2_hasLight_5 3 rfl rfl)
theorem dX2_hasLight_122 : decode cX2_hasLight 122 = .ok (.ireturn, 1) := dk_172 (dk_at dksX2_hasLight_5 4 rfl rfl)
theorem dX2_hasLight_123 : decode cX2_hasLight 123 = .ok (.aload_n 0, 1) := dk_42 (dk_at dksX2_hasLight_5 5 rfl rfl)
theorem dX2_hasLight_124 : decode cX2_hasLight 124 = .ok (.iload_n 3, 1) := dk_29 (dk_at dksX2_hasLight_5 6 rfl rfl)
theorem dX2_hasLight_125 : decode cX2_hasLight 125 = .ok (.invokevirtual 71, 3) := dk_182 0 71 (dk_at dksX2_hasLight_5 7 rfl rfl)
theorem dX2_hasLight_128 : decode cX2_hasLight 128 = .ok (.pop, 1) := dk_87 (dk_at dksX2_hasLight_5 10 rfl rfl)
theorem dX2_hasLight_129 : decode cX2_hasLight 129 = .ok (.iconst 1, 1) := dk_4 (dk_at dksX2_hasLight_5 11 rfl rfl)
theorem dX2_hasLight_130 : decode cX2_hasLight 130 = .ok (.ireturn, 1) := dk_172 (dk_at dksX2_hasLight_5 12 rfl rfl)
abbrev cX2_brightOf : ByteArray := prog_12_method_14_code
def yX2_brightOf : MethodName := ⟨RX2, "brightOf", "(I)I"⟩
def dkwX2_brightOf_1 : List UInt8 := [184, 0, 60, 172]
abbrev dktX2_brightOf_1 : List UInt8 := dkwX2_brightOf_1 ++ []
def dkwX2_brightOf_0 : List UInt8 := [42, 180, 0, 7, 16, 50, 7, 27, 104, 96, 4, 96, 46, 42, 180, 0, 7, 16, 50, 7, 27, 104, 96, 46]
abbrev dktX2_brightOf_0 : List UInt8 := dkwX2_brightOf_0 ++ dktX2_brightOf_1
theorem dksX2_brightOf_0 : cX2_brightOf.data.toList.drop 0 = dktX2_brightOf_0 := by decide +kernel
theorem dksX2_brightOf_1 : cX2_brightOf.data.toList.drop 24 = dktX2_brightOf_1 := dk_seg dksX2_brightOf_0 24 rfl rfl
theorem dX2_brightOf_0 : decode cX2_brightOf 0 = .ok (.aload_n 0, 1) := dk_42 (dk_at dksX2_brightOf_0 0 rfl rfl)
theorem dX2_brightOf_1 : decode cX2_brightOf 1 = .ok (.getfield 7, 3) := dk_180 0 7 (dk_at dksX2_brightOf_0 1 rfl rfl)
theorem dX2_brightOf_4 : decode cX2_brightOf 4 = .ok (.bipush 50, 2) := dk_16 50 (dk_at dksX2_brightOf_0 4 rfl rfl)
theorem dX2_brightOf_6 : decode cX2_brightOf 6 = .ok (.iconst 4, 1) := dk_7 (dk_at dksX2_brightOf_0 6 rfl rfl)
theorem dX2_brightOf_7 : decode cX2_brightOf 7 = .ok (.iload_n 1, 1) := dk_27 (dk_at dksX2_brightOf_0 7 rfl rfl)
theorem dX2_brightOf_8 : decode cX2_brightOf 8 = .ok (.imul, 1) := dk_104 (dk_at dksX2_brightOf_0 8 rfl rfl)
theorem dX2_brightOf_9 : decode cX2_brightOf 9 = .ok (.iadd, 1) := dk_96 (dk_at dksX2_brightOf_0 9 rfl rfl)
theorem dX2_brightOf_10 : decode cX2_brightOf 10 = .ok (.iconst 1, 1) := dk_4 (dk_at dksX2_brightOf_0 10 rfl rfl)
theorem dX2_brightOf_11 : decode cX2_brightOf 11 = .ok (.iadd, 1) := dk_96 (dk_at dksX2_brightOf_0 11 rfl rfl)
theorem dX2_brightOf_12 : decode cX2_brightOf 12 = .ok (.iaload, 1) := dk_46 (dk_at dksX2_brightOf_0 12 rfl rfl)
theorem dX2_brightOf_13 : decode cX2_brightOf 13 = .ok (.aload_n 0, 1) := dk_42 (dk_at dksX2_brightOf_0 13 rfl rfl)
theorem dX2_brightOf_14 : decode cX2_brightOf 14 = .ok (.getfield 7, 3) := dk_180 0 7 (dk_at dksX2_brightOf_0 14 rfl rfl)
theorem dX2_brightOf_17 : decode cX2_brightOf 17 = .ok (.bipush 50, 2) := dk_16 50 (dk_at dksX2_brightOf_0 17 rfl rfl)
theorem dX2_brightOf_19 : decode cX2_brightOf 19 = .ok (.iconst 4, 1) := dk_7 (dk_at dksX2_brightOf_0 19 rfl rfl)
theorem dX2_brightOf_20 : decode cX2_brightOf 20 = .ok (.iload_n 1, 1) := dk_27 (dk_at dksX2_brightOf_0 20 rfl rfl)
theorem dX2_brightOf_21 : decode cX2_brightOf 21 = .ok (.imul, 1) := dk_104 (dk_at dksX2_brightOf_0 21 rfl rfl)
theorem dX2_brightOf_22 : decode cX2_brightOf 22 = .ok (.iadd, 1) := dk_96 (dk_at dksX2_brightOf_0 22 rfl rfl)
theorem dX2_brightOf_23 : decode cX2_brightOf 23 = .ok (.iaload, 1) := dk_46 (dk_at dksX2_brightOf_0 23 rfl rfl)
theorem dX2_brightOf_24 : decode cX2_brightOf 24 = .ok (.invokestatic 60, 3) := dk_184 0 60 (dk_at dksX2_brightOf_1 0 rfl rfl)
theorem dX2_brightOf_27 : decode cX2_brightOf 27 = .ok (.ireturn, 1) := dk_172 (dk_at dksX2_brightOf_1 3 rfl rfl)
abbrev cX2_bright : ByteArray := prog_12_method_13_code
def yX2_bright : MethodName := ⟨RX2, "bright", "(II)I"⟩
def dkwX2_bright_0 : List UInt8 := [26, 27, 161, 0, 7, 3, 167, 0, 12, 16, 100, 16, 60, 26, 104, 27, 108, 100, 172]
abbrev dktX2_bright_0 : List UInt8 := dkwX2_bright_0 ++ []
theorem dksX2_bright_0 : cX2_bright.data.toList.drop 0 = dktX2_bright_0 := by decide +kernel
theorem dX2_bright_0 : decode cX2_bright 0 = .ok (.iload_n 0, 1) := dk_26 (dk_at dksX2_bright_0 0 rfl rfl)
theorem dX2_bright_1 : decode cX2_bright 1 = .ok (.iload_n 1, 1) := dk_27 (dk_at dksX2_bright_0 1 rfl rfl)
theorem dX2_bright_2 : decode cX2_bright 2 = .ok (.if_icmp .lt 7, 3) := dk_161 0 7 (dk_at dksX2_bright_0 2 rfl rfl)
theorem dX2_bright_5 : decode cX2_bright 5 = .ok (.iconst 0, 1) := dk_3 (dk_at dksX2_bright_0 5 rfl rfl)
theorem dX2_bright_6 : decode cX2_bright 6 = .ok (.goto 12, 3) := dk_167 0 12 (dk_at dksX2_bright_0 6 rfl rfl)
theorem dX2_bright_9 : decode cX2_bright 9 = .ok (.bipush 100, 2) := dk_16 100 (dk_at dksX2_bright_0 9 rfl rfl)
theorem dX2_bright_11 : decode cX2_bright 11 = .ok (.bipush 60, 2) := dk_16 60 (dk_at dksX2_bright_0 11 rfl rfl)
theorem dX2_bright_13 : decode cX2_bright 13 = .ok (.iload_n 0, 1) := dk_26 (dk_at dksX2_bright_0 13 rfl rfl)
theorem dX2_bright_14 : decode cX2_bright 14 = .ok (.imul, 1) := dk_104 (dk_at dksX2_bright_0 14 rfl rfl)
theorem dX2_bright_15 : decode cX2_bright 15 = .ok (.iload_n 1, 1) := dk_27 (dk_at dksX2_bright_0 15 rfl rfl)
theorem dX2_bright_16 : decode cX2_bright 16 = .ok (.idiv, 1) := dk_108 (dk_at dksX2_bright_0 16 rfl rfl)
theorem dX2_bright_17 : decode cX2_bright 17 = .ok (.isub, 1) := dk_100 (dk_at dksX2_bright_0 17 rfl rfl)
theorem dX2_bright_18 : decode cX2_bright 18 = .ok (.ireturn, 1) := dk_172 (dk_at dksX2_bright_0 18 rfl rfl)
abbrev cX2_close : ByteArray := prog_12_method_44_code
def yX2_close : MethodName := ⟨RX2, "close", "(II)V"⟩
def dkwX2_close_5 : List UInt8 := [132, 3, 1, 167, 255, 137, 177]
abbrev dktX2_close_5 : List UInt8 := dkwX2_close_5 ++ []
def dkwX2_close_4 : List UInt8 := [160, 0, 7, 3, 167, 0, 19, 42, 29, 8, 182, 0, 88, 42, 180, 0, 7, 6, 46, 104, 16, 100, 108, 79]
abbrev dktX2_close_4 : List UInt8 := dkwX2_close_4 ++ dktX2_close_5
def dkwX2_close_3 : List UInt8 := [96, 7, 96, 28, 79, 42, 180, 0, 7, 17, 2, 8, 16, 16, 29, 104, 96, 16, 6, 96, 28, 4]
abbrev dktX2_close_3 : List UInt8 := dkwX2_close_3 ++ dktX2_close_4
def dkwX2_close_2 : List UInt8 := [28, 4, 160, 0, 7, 3, 167, 0, 4, 6, 182, 0, 113, 42, 180, 0, 7, 17, 2, 8, 16, 16, 29, 104]
abbrev dktX2_close_2 : List UInt8 := dkwX2_close_2 ++ dktX2_close_3
def dkwX2_close_1 : List UInt8 := [29, 7, 182, 0, 88, 154, 0, 89, 28, 7, 160, 0, 12, 42, 29, 4, 182, 0, 124, 167, 0, 75, 42, 29]
abbrev dktX2_close_1 : List UInt8 := dkwX2_close_1 ++ dktX2_close_2
def dkwX2_close_0 : List UInt8 := [3, 62, 29, 42, 180, 0, 7, 16, 10, 46, 162, 0, 114, 42, 29, 3, 182, 0, 88, 27, 160, 0, 98, 42]
abbrev dktX2_close_0 : List UInt8 := dkwX2_close_0 ++ dktX2_close_1
theorem dksX2_close_0 : cX2_close.data.toList.drop 0 = dktX2_close_0 := by decide +kernel
theorem dksX2_close_1 : cX2_close.data.toList.drop 24 = dktX2_close_1 := dk_seg dksX2_close_0 24 rfl rfl
theorem dksX2_close_2 : cX2_close.data.toList.drop 48 = dktX2_close_2 := dk_seg dksX2_close_1 24 rfl rfl
theorem dksX2_close_3 : cX2_close.data.toList.drop 72 = dktX2_close_3 := dk_seg dksX2_close_2 24 rfl rfl
theorem dksX2_close_4 : cX2_close.data.toList.drop 94 = dktX2_close_4 := dk_seg dksX2_close_3 22 rfl rfl
theorem dksX2_close_5 : cX2_close.data.toList.drop 118 = dktX2_close_5 := dk_seg dksX2_close_4 24 rfl rfl
theorem dX2_close_0 : decode cX2_close 0 = .ok (.iconst 0, 1) := dk_3 (dk_at dksX2_close_0 0 rfl rfl)
theorem dX2_close_1 : decode cX2_close 1 = .ok (.istore_n 3, 1) := dk_62 (dk_at dksX2_close_0 1 rfl rfl)
theorem dX2_close_2 : decode cX2_close 2 = .ok (.iload_n 3, 1) := dk_29 (dk_at dksX2_close_0 2 rfl rfl)
theorem dX2_close_3 : decode cX2_close 3 = .ok (.aload_n 0, 1) := dk_42 (dk_at dksX2_close_0 3 rfl rfl)
theorem dX2_close_4 : decode cX2_close 4 = .ok (.getfield 7, 3) := dk_180 0 7 (dk_at dksX2_close_0 4 rfl rfl)
theorem dX2_close_7 : decode cX2_close 7 = .ok (.bipush 10, 2) := dk_16 10 (dk_at dksX2_close_0 7 rfl rfl)
theorem dX2_close_9 : decode cX2_close 9 = .ok (.iaload, 1) := dk_46 (dk_at dksX2_close_0 9 rfl rfl)
theorem dX2_close_10 : decode cX2_close 10 = .ok (.if_icmp .ge 114, 3) := dk_162 0 114 (dk_at dksX2_close_0 10 rfl rfl)
theorem dX2_close_13 : decode cX2_close 13 = .ok (.aload_n 0, 1) := dk_42 (dk_at dksX2_close_0 13 rfl rfl)
theorem dX2_close_14 : decode cX2_close 14 = .ok (.iload_n 3, 1) := dk_29 (dk_at dksX2_close_0 14 rfl rfl)
theorem dX2_close_15 : decode cX2_close 15 = .ok (.iconst 0, 1) := dk_3 (dk_at dksX2_close_0 15 rfl rfl)
theorem dX2_close_16 : decode cX2_close 16 = .ok (.invokevirtual 88, 3) := dk_182 0 88 (dk_at dksX2_close_0 16 rfl rfl)
theorem dX2_close_19 : decode cX2_close 19 = .ok (.iload_n 1, 1) := dk_27 (dk_at dksX2_close_0 19 rfl rfl)
theorem dX2_close_20 : decode cX2_close 20 = .ok (.if_icmp .ne 98, 3) := dk_160 0 98 (dk_at dksX2_close_0 20 rfl rfl)
theorem dX2_close_23 : decode cX2_close 23 = .ok (.aload_n 0, 1) := dk_42 (dk_at dksX2_close_0 23 rfl rfl)
theorem dX2_close_24 : decode cX2_close 24 = .ok (.iload_n 3, 1) := dk_29 (dk_at dksX2_close_1 0 rfl rfl)
theorem dX2_close_25 : decode cX2_close 25 = .ok (.iconst 4, 1) := dk_7 (dk_at dksX2_close_1 1 rfl rfl)
theorem dX2_close_26 : decode cX2_close 26 = .ok (.invokevirtual 88, 3) := dk_182 0 88 (dk_at dksX2_close_1 2 rfl rfl)
theorem dX2_close_29 : decode cX2_close 29 = .ok (.ifCond .ne 89, 3) := dk_154 0 89 (dk_at dksX2_close_1 5 rfl rfl)
theorem dX2_close_32 : decode cX2_close 32 = .ok (.iload_n 2, 1) := dk_28 (dk_at dksX2_close_1 8 rfl rfl)
theorem dX2_close_33 : decode cX2_close 33 = .ok (.iconst 4, 1) := dk_7 (dk_at dksX2_close_1 9 rfl rfl)
theorem dX2_close_34 : decode cX2_close 34 = .ok (.if_icmp .ne 12, 3) := dk_160 0 12 (dk_at dksX2_close_1 10 rfl rfl)
theorem dX2_close_37 : decode cX2_close 37 = .ok (.aload_n 0, 1) := dk_42 (dk_at dksX2_close_1 13 rfl rfl)
theorem dX2_close_38 : decode cX2_close 38 = .ok (.iload_n 3, 1) := dk_29 (dk_at dksX2_close_1 14 rfl rfl)
theorem dX2_close_39 : decode cX2_close 39 = .ok (.iconst 1, 1) := dk_4 (dk_at dksX2_close_1 15 rfl rfl)
theorem dX2_close_40 : decode cX2_close 40 = .ok (.invokevirtual 124, 3) := dk_182 0 124 (dk_at dksX2_close_1 16 rfl rfl)
theorem dX2_close_43 : decode cX2_close 43 = .ok (.goto 75, 3) := dk_167 0 75 (dk_at dksX2_close_1 19 rfl rfl)
theorem dX2_close_46 : decode cX2_close 46 = .ok (.aload_n 0, 1) := dk_42 (dk_at dksX2_close_1 22 rfl rfl)
theorem dX2_close_47 : decode cX2_close 47 = .ok (.iload_n 3, 1) := dk_29 (dk_at dksX2_close_1 23 rfl rfl)
theorem dX2_close_48 : decode cX2_close 48 = .ok (.iload_n 2, 1) := dk_28 (dk_at dksX2_close_2 0 rfl rfl)
theorem dX2_close_49 : decode cX2_close 49 = .ok (.iconst 1, 1) := dk_4 (dk_at dksX2_close_2 1 rfl rfl)
theorem dX2_close_50 : decode cX2_close 50 = .ok (.if_icmp .ne 7, 3) := dk_160 0 7 (dk_at dksX2_close_2 2 rfl rfl)
theorem dX2_close_53 : decode cX2_close 53 = .ok (.iconst 0, 1) := dk_3 (dk_at dksX2_close_2 5 rfl rfl)
theorem dX2_close_54 : decode cX2_close 54 = .ok (.goto 4, 3) := dk_167 0 4 (dk_at dksX2_close_2 6 rfl rfl)
theorem dX2_close_57 : decode cX2_close 57 = .ok (.iconst 3, 1) := dk_6 (dk_at dksX2_close_2 9 rfl rfl)
theorem dX2_close_58 : decode cX2_close 58 = .ok (.invokevirtual 113, 3) := dk_182 0 113 (dk_at dksX2_close_2 10 rfl rfl)
theorem dX2_close_61 : decode cX2_close 61 = .ok (.aload_n 0, 1) := dk_42 (dk_at dksX2_close_2 13 rfl rfl)
theorem dX2_close_62 : decode cX2_close 62 = .ok (.getfield 7, 3) := dk_180 0 7 (dk_at dksX2_close_2 14 rfl rfl)
theorem dX2_close_65 : decode cX2_close 65 = .ok (.sipush 520, 3) := dk_17 2 8 (dk_at dksX2_close_2 17 rfl rfl)
theorem dX2_close_68 : decode cX2_close 68 = .ok (.bipush 16, 2) := dk_16 16 (dk_at dksX2_close_2 20 rfl rfl)
theorem dX2_close_70 : decode cX2_close 70 = .ok (.iload_n 3, 1) := dk_29 (dk_at dksX2_close_2 22 rfl rfl)
theorem dX2_close_71 : decode cX2_close 71 = .ok (.imul, 1) := dk_104 (dk_at dksX2_close_2 23 rfl rfl)
theorem dX2_close_72 : decode cX2_close 72 = .ok (.iadd, 1) := dk_96 (dk_at dksX2_close_3 0 rfl rfl)
theorem dX2_close_73 : decode cX2_close 73 = .ok (.iconst 4, 1) := dk_7 (dk_at dksX2_close_3 1 rfl rfl)
theorem dX2_close_74 : decode cX2_close 74 = .ok (.iadd, 1) := dk_96 (dk_at dksX2_close_3 2 rfl rfl)
theorem dX2_close_75 : decode cX2_close 75 = .ok (.iload_n 2, 1) := dk_28 (dk_at dksX2_close_3 3 rfl rfl)
theorem dX2_close_76 : decode cX2_close 76 = .ok (.iastore, 1) := dk_79 (dk_at dksX2_close_3 4 rfl rfl)
theorem dX2_close_77 : decode cX2_close 77 = .ok (.aload_n 0, 1) := dk_42 (dk_at dksX2_close_3 5 rfl rfl)
theorem dX2_close_78 : decode cX2_close 78 = .ok (.getfield 7, 3) := dk_180 0 7 (dk_at dksX2_close_3 6 rfl rfl)
theorem dX2_close_81 : decode cX2_close 81 = .ok (.sipush 520, 3) := dk_17 2 8 (dk_at dksX2_close_3 9 rfl rfl)
theorem dX2_close_84 : decode cX2_close 84 = .ok (.bipush 16, 2) := dk_16 16 (dk_at dksX2_close_3 12 rfl rfl)
theorem dX2_close_86 : decode cX2_close 86 = .ok (.iload_n 3, 1) := dk_29 (dk_at dksX2_close_3 14 rfl rfl)
theorem dX2_close_87 : decode cX2_close 87 = .ok (.imul, 1) := dk_104 (dk_at dksX2_close_3 15 rfl rfl)
theorem dX2_close_88 : decode cX2_close 88 = .ok (.iadd, 1) := dk_96 (dk_at dksX2_close_3 16 rfl rfl)
theorem dX2_close_89 : decode cX2_close 89 = .ok (.bipush 6, 2) := dk_16 6 (dk_at dksX2_close_3 17 rfl rfl)
theorem dX2_close_91 : decode cX2_close 91 = .ok (.iadd, 1) := dk_96 (dk_at dksX2_close_3 19 rfl rfl)
theorem dX2_close_92 : decode cX2_close 92 = .ok (.iload_n 2, 1) := dk_28 (dk_at dksX2_close_3 20 rfl rfl)
theorem dX2_close_93 : decode cX2_close 93 = .ok (.iconst 1, 1) := dk_4 (dk_at dksX2_close_3 21 rfl rfl)
theorem dX2_close_94 : decode cX2_close 94 = .ok (.if_icmp .ne 7, 3) := dk_160 0 7 (dk_at dksX2_close_4 0 rfl rfl)
theorem dX2_close_97 : decode cX2_close 97 = .ok (.iconst 0, 1) := dk_3 (dk_at dksX2_close_4 3 rfl rfl)
theorem dX2_close_98 : decode cX2_close 98 = .ok (.goto 19, 3) := dk_167 0 19 (dk_at dksX2_close_4 4 rfl rfl)
theorem dX2_close_101 : decode cX2_close 101 = .ok (.aload_n 0, 1) := dk_42 (dk_at dksX2_close_4 7 rfl rfl)
theorem dX2_close_102 : decode cX2_close 102 = .ok (.iload_n 3, 1) := dk_29 (dk_at dksX2_close_4 8 rfl rfl)
theorem dX2_close_103 : decode cX2_close 103 = .ok (.iconst 5, 1) := dk_8 (dk_at dksX2_close_4 9 rfl rfl)
theorem dX2_close_104 : decode cX2_close 104 = .ok (.invokevirtual 88, 3) := dk_182 0 88 (dk_at dksX2_close_4 10 rfl rfl)
theorem dX2_close_107 : decode cX2_close 107 = .ok (.aload_n 0, 1) := dk_42 (dk_at dksX2_close_4 13 rfl rfl)
theorem dX2_close_108 : decode cX2_close 108 = .ok (.getfield 7, 3) := dk_180 0 7 (dk_at dksX2_close_4 14 rfl rfl)
theorem dX2_close_111 : decode cX2_close 111 = .ok (.iconst 3, 1) := dk_6 (dk_at dksX2_close_4 17 rfl rfl)
theorem dX2_close_112 : decode cX2_close 112 = .ok (.iaload, 1) := dk_46 (dk_at dksX2_close_4 18 rfl rfl)
theorem dX2_close_113 : decode cX2_close 113 = .ok (.imul, 1) := dk_104 (dk_at dksX2_close_4 19 rfl rfl)
theorem dX2_close_114 : decode cX2_close 114 = .ok (.bipush 100, 2) := dk_16 100 (dk_at dksX2_close_4 20 rfl rfl)
theorem dX2_close_116 : decode cX2_close 116 = .ok (.idiv, 1) := dk_108 (dk_at dksX2_close_4 22 rfl rfl)
theorem dX2_close_117 : decode cX2_close 117 = .ok (.iastore, 1) := dk_79 (dk_at dksX2_close_4 23 rfl rfl)
theorem dX2_close_118 : decode cX2_close 118 = .ok (.iinc 3 1, 3) := dk_132 3 1 (dk_at dksX2_close_5 0 rfl rfl)
theorem dX2_close_121 : decode cX2_close 121 = .ok (.goto (-119), 3) := dk_167 255 137 (dk_at dksX2_close_5 3 rfl rfl)
theorem dX2_close_124 : decode cX2_close 124 = .ok (.return_, 1) := dk_177 (dk_at dksX2_close_5 6 rfl rfl)
abbrev cX2_ofKind : ByteArray := prog_12_method_49_code
def yX2_ofKind : MethodName := ⟨RX2, "ofKind", "(II)I"⟩
def dkwX2_ofKind_4 : List UInt8 := [167, 255, 209, 29, 172]
abbrev dktX2_ofKind_4 : List UInt8 := dkwX2_ofKind_4 ++ []
def dkwX2_ofKind_3 : List UInt8 := [21, 4, 6, 182, 0, 75, 28, 6, 100, 160, 0, 7, 4, 167, 0, 4, 3, 96, 62, 132, 4, 1]
abbrev dktX2_ofKind_3 : List UInt8 := dkwX2_ofKind_3 ++ dktX2_ofKind_4
def dkwX2_ofKind_2 : List UInt8 := [42, 180, 0, 7, 16, 9, 46, 162, 0, 41, 29, 42, 21, 4, 3, 182, 0, 75, 27, 160, 0, 20, 42]
abbrev dktX2_ofKind_2 : List UInt8 := dkwX2_ofKind_2 ++ dktX2_ofKind_3
def dkwX2_ofKind_1 : List UInt8 := [162, 0, 17, 42, 180, 0, 7, 16, 20, 6, 27, 104, 96, 28, 96, 46, 172, 3, 62, 3, 54, 4, 21, 4]
abbrev dktX2_ofKind_1 : List UInt8 := dkwX2_ofKind_1 ++ dktX2_ofKind_2
def dkwX2_ofKind_0 : List UInt8 := [42, 27, 182, 0, 56, 154, 0, 5, 2, 172, 28, 3, 7, 184, 0, 49, 154, 0, 6, 16, 254, 172, 28, 6]
abbrev dktX2_ofKind_0 : List UInt8 := dkwX2_ofKind_0 ++ dktX2_ofKind_1
theorem dksX2_ofKind_0 : cX2_ofKind.data.toList.drop 0 = dktX2_ofKind_0 := by decide +kernel
theorem dksX2_ofKind_1 : cX2_ofKind.data.toList.drop 24 = dktX2_ofKind_1 := dk_seg dksX2_ofKind_0 24 rfl rfl
theorem dksX2_ofKind_2 : cX2_ofKind.data.toList.drop 48 = dktX2_ofKind_2 := dk_seg dksX2_ofKind_1 24 rfl rfl
theorem dksX2_ofKind_3 : cX2_ofKind.data.toList.drop 71 = dktX2_ofKind_3 := dk_seg dksX2_ofKind_2 23 rfl rfl
theorem dksX2_ofKind_4 : cX2_ofKind.data.toList.drop 93 = dktX2_ofKind_4 := dk_seg dksX2_ofKind_3 22 rfl rfl
theorem dX2_ofKind_0 : decode cX2_ofKind 0 = .ok (.aload_n 0, 1) := dk_42 (dk_at dksX2_ofKind_0 0 rfl rfl)
theorem dX2_ofKind_1 : decode cX2_ofKind 1 = .ok (.iload_n 1, 1) := dk_27 (dk_at dksX2_ofKind_0 1 rfl rfl)
theorem dX2_ofKind_2 : decode cX2_ofKind 2 = .ok (.invokevirtual 56, 3) := dk_182 0 56 (dk_at dksX2_ofKind_0 2 rfl rfl)
theorem dX2_ofKind_5 : decode cX2_ofKind 5 = .ok (.ifCond .ne 5, 3) := dk_154 0 5 (dk_at dksX2_ofKind_0 5 rfl rfl)
theorem dX2_ofKind_8 : decode cX2_ofKind 8 = .ok (.iconst (-1), 1) := dk_2 (dk_at dksX2_ofKind_0 8 rfl rfl)
theorem dX2_ofKind_9 : decode cX2_ofKind 9 = .ok (.ireturn, 1) := dk_172 (dk_at dksX2_ofKind_0 9 rfl rfl)
theorem dX2_ofKind_10 : decode cX2_ofKind 10 = .ok (.iload_n 2, 1) := dk_28 (dk_at dksX2_ofKind_0 10 rfl rfl)
theorem dX2_ofKind_11 : decode cX2_ofKind 11 = .ok (.iconst 0, 1) := dk_3 (dk_at dksX2_ofKind_0 11 rfl rfl)
theorem dX2_ofKind_12 : decode cX2_ofKind 12 = .ok (.iconst 4, 1) := dk_7 (dk_at dksX2_ofKind_0 12 rfl rfl)
theorem dX2_ofKind_13 : decode cX2_ofKind 13 = .ok (.invokestatic 49, 3) := dk_184 0 49 (dk_at dksX2_ofKind_0 13 rfl rfl)
theorem dX2_ofKind_16 : decode cX2_ofKind 16 = .ok (.ifCond .ne 6, 3) := dk_154 0 6 (dk_at dksX2_ofKind_0 16 rfl rfl)
theorem dX2_ofKind_19 : decode cX2_ofKind 19 = .ok (.bipush (-2), 2) := dk_16 254 (dk_at dksX2_ofKind_0 19 rfl rfl)
theorem dX2_ofKind_21 : decode cX2_ofKind 21 = .ok (.ireturn, 1) := dk_172 (dk_at dksX2_ofKind_0 21 rfl rfl)
theorem dX2_ofKind_22 : decode cX2_ofKind 22 = .ok (.iload_n 2, 1) := dk_28 (dk_at dksX2_ofKind_0 22 rfl rfl)
theorem dX2_ofKind_23 : decode cX2_ofKind 23 = .ok (.iconst 3, 1) := dk_6 (dk_at dksX2_ofKind_0 23 rfl rfl)
theorem dX2_ofKind_24 : decode cX2_ofKind 24 = .ok (.if_icmp .ge 17, 3) := dk_162 0 17 (dk_at dksX2_ofKind_1 0 rfl rfl)
theorem dX2_ofKind_27 : decode cX2_ofKind 27 = .ok (.aload_n 0, 1) := dk_42 (dk_at dksX2_ofKind_1 3 rfl rfl)
theorem dX2_ofKind_28 : decode cX2_ofKind 28 = .ok (.getfield 7, 3) := dk_180 0 7 (dk_at dksX2_ofKind_1 4 rfl rfl)
theorem dX2_ofKind_31 : decode cX2_ofKind 31 = .ok (.bipush 20, 2) := dk_16 20 (dk_at dksX2_ofKind_1 7 rfl rfl)
theorem dX2_ofKind_33 : decode cX2_ofKind 33 = .ok (.iconst 3, 1) := dk_6 (dk_at dksX2_ofKind_1 9 rfl rfl)
theorem dX2_ofKind_34 : decode cX2_ofKind 34 = .ok (.iload_n 1, 1) := dk_27 (dk_at dksX2_ofKind_1 10 rfl rfl)
theorem dX2_ofKind_35 : decode cX2_ofKind 35 = .ok (.imul, 1) := dk_104 (dk_at dksX2_ofKind_1 11 rfl rfl)
theorem dX2_ofKind_36 : decode cX2_ofKind 36 = .ok (.iadd, 1) := dk_96 (dk_at dksX2_ofKind_1 12 rfl rfl)
theorem dX2_ofKind_37 : decode cX2_ofKind 37 = .ok (.iload_n 2, 1) := dk_28 (dk_at dksX2_ofKind_1 13 rfl rfl)
theorem dX2_ofKind_38 : decode cX2_ofKind 38 = .ok (.iadd, 1) := dk_96 (dk_at dksX2_ofKind_1 14 rfl rfl)
theorem dX2_ofKind_39 : decode cX2_ofKind 39 = .ok (.iaload, 1) := dk_46 (dk_at dksX2_ofKind_1 15 rfl rfl)
theorem dX2_ofKind_40 : decode cX2_ofKind 40 = .ok (.ireturn, 1) := dk_172 (dk_at dksX2_ofKind_1 16 rfl rfl)
theorem dX2_ofKind_41 : decode cX2_ofKind 41 = .ok (.iconst 0, 1) := dk_3 (dk_at dksX2_ofKind_1 17 rfl rfl)
theorem dX2_ofKind_42 : decode cX2_ofKind 42 = .ok (.istore_n 3, 1) := dk_62 (dk_at dksX2_ofKind_1 18 rfl rfl)
theorem dX2_ofKind_43 : decode cX2_ofKind 43 = .ok (.iconst 0, 1) := dk_3 (dk_at dksX2_ofKind_1 19 rfl rfl)
theorem dX2_ofKind_44 : decode cX2_ofKind 44 = .ok (.istore 4, 2) := dk_54 4 (dk_at dksX2_ofKind_1 20 rfl rfl)
theorem dX2_ofKind_46 : decode cX2_ofKind 46 = .ok (.iload 4, 2) := dk_21 4 (dk_at dksX2_ofKind_1 22 rfl rfl)
theorem dX2_ofKind_48 : decode cX2_ofKind 48 = .ok (.aload_n 0, 1) := dk_42 (dk_at dksX2_ofKind_2 0 rfl rfl)
theorem dX2_ofKind_49 : decode cX2_ofKind 49 = .ok (.getfield 7, 3) := dk_180 0 7 (dk_at dksX2_ofKind_2 1 rfl rfl)
theorem dX2_ofKind_52 : decode cX2_ofKind 52 = .ok (.bipush 9, 2) := dk_16 9 (dk_at dksX2_ofKind_2 4 rfl rfl)
theorem dX2_ofKind_54 : decode cX2_ofKind 54 = .ok (.iaload, 1) := dk_46 (dk_at dksX2_ofKind_2 6 rfl rfl)
theorem dX2_ofKind_55 : decode cX2_ofKind 55 = .ok (.if_icmp .ge 41, 3) := dk_162 0 41 (dk_at dksX2_ofKind_2 7 rfl rfl)
theorem dX2_ofKind_58 : decode cX2_ofKind 58 = .ok (.iload_n 3, 1) := dk_29 (dk_at dksX2_ofKind_2 10 rfl rfl)
theorem dX2_ofKind_59 : decode cX2_ofKind 59 = .ok (.aload_n 0, 1) := dk_42 (dk_at dksX2_ofKind_2 11 rfl rfl)
theorem dX2_ofKind_60 : decode cX2_ofKind 60 = .ok (.iload 4, 2) := dk_21 4 (dk_at dksX2_ofKind_2 12 rfl rfl)
theorem dX2_ofKind_62 : decode cX2_ofKind 62 = .ok (.iconst 0, 1) := dk_3 (dk_at dksX2_ofKind_2 14 rfl rfl)
theorem dX2_ofKind_63 : decode cX2_ofKind 63 = .ok (.invokevirtual 75, 3) := dk_182 0 75 (dk_at dksX2_ofKind_2 15 rfl rfl)
theorem dX2_ofKind_66 : decode cX2_ofKind 66 = .ok (.iload_n 1, 1) := dk_27 (dk_at dksX2_ofKind_2 18 rfl rfl)
theorem dX2_ofKind_67 : decode cX2_ofKind 67 = .ok (.if_icmp .ne 20, 3) := dk_160 0 20 (dk_at dksX2_ofKind_2 19 rfl rfl)
theorem dX2_ofKind_70 : decode cX2_ofKind 70 = .ok (.aload_n 0, 1) := dk_42 (dk_at dksX2_ofKind_2 22 rfl rfl)
theorem dX2_ofKind_71 : decode cX2_ofKind 71 = .ok (.iload 4, 2) := dk_21 4 (dk_at dksX2_ofKind_3 0 rfl rfl)
theorem dX2_ofKind_73 : decode cX2_ofKind 73 = .ok (.iconst 3, 1) := dk_6 (dk_at dksX2_ofKind_3 2 rfl rfl)
theorem dX2_ofKind_74 : decode cX2_ofKind 74 = .ok (.invokevirtual 75, 3) := dk_182 0 75 (dk_at dksX2_ofKind_3 3 rfl rfl)
theorem dX2_ofKind_77 : decode cX2_ofKind 77 = .ok (.iload_n 2, 1) := dk_28 (dk_at dksX2_ofKind_3 6 rfl rfl)
theorem dX2_ofKind_78 : decode cX2_ofKind 78 = .ok (.iconst 3, 1) := dk_6 (dk_at dksX2_ofKind_3 7 rfl rfl)
theorem dX2_ofKind_79 : decode cX2_ofKind 79 = .ok (.isub, 1) := dk_100 (dk_at dksX2_ofKind_3 8 rfl rfl)
theorem dX2_ofKind_80 : decode cX2_ofKind 80 = .ok (.if_icmp .ne 7, 3) := dk_160 0 7 (dk_at dksX2_ofKind_3 9 rfl rfl)
theorem dX2_ofKind_83 : decode cX2_ofKind 83 = .ok (.iconst 1, 1) := dk_4 (dk_at dksX2_ofKind_3 12 rfl rfl)
theorem dX2_ofKind_84 : decode cX2_ofKind 84 = .ok (.goto 4, 3) := dk_167 0 4 (dk_at dksX2_ofKind_3 13 rfl rfl)
theorem dX2_ofKind_87 : decode cX2_ofKind 87 = .ok (.iconst 0, 1) := dk_3 (dk_at dksX2_ofKind_3 16 rfl rfl)
theorem dX2_ofKind_88 : decode cX2_ofKind 88 = .ok (.iadd, 1) := dk_96 (dk_at dksX2_ofKind_3 17 rfl rfl)
theorem dX2_ofKind_89 : decode cX2_ofKind 89 = .ok (.istore_n 3, 1) := dk_62 (dk_at dksX2_ofKind_3 18 rfl rfl)
theorem dX2_ofKind_90 : decode cX2_ofKind 90 = .ok (.iinc 4 1, 3) := dk_132 4 1 (dk_at dksX2_ofKind_3 19 rfl rfl)
theorem dX2_ofKind_93 : decode cX2_ofKind 93 = .ok (.goto (-47), 3) := dk_167 255 209 (dk_at dksX2_ofKind_4 0 rfl rfl)
theorem dX2_ofKind_96 : decode cX2_ofKind 96 = .ok (.iload_n 3, 1) := dk_29 (dk_at dksX2_ofKind_4 3 rfl rfl)
theorem dX2_ofKind_97 : decode cX2_ofKind 97 = .ok (.ireturn, 1) := dk_172 (dk_at dksX2_ofKind_4 4 rfl rfl)
abbrev cX2_ofLamp : ByteArray := prog_12_method_50_code
def yX2_ofLamp : MethodName := ⟨RX2, "ofLamp", "(II)I"⟩
def dkwX2_ofLamp_3 : List UInt8 := [160, 0, 19, 42, 180, 0, 7, 16, 50, 7, 27, 104, 96, 6, 96, 46, 167, 0, 5, 16, 254, 172]
abbrev dktX2_ofLamp_3 : List UInt8 := dkwX2_ofLamp_3 ++ []
def dkwX2_ofLamp_2 : List UInt8 := [42, 180, 0, 7, 16, 50, 7, 27, 104, 96, 28, 96, 46, 172, 42, 27, 182, 0, 140, 172, 28, 7]
abbrev dktX2_ofLamp_2 : List UInt8 := dkwX2_ofLamp_2 ++ dktX2_ofLamp_3
def dkwX2_ofLamp_1 : List UInt8 := [170, 0, 0, 0, 49, 0, 0, 0, 0, 0, 0, 0, 3, 0, 0, 0, 29, 0, 0, 0, 29, 0, 0, 0, 29, 0, 0, 0, 43]
abbrev dktX2_ofLamp_1 : List UInt8 := dkwX2_ofLamp_1 ++ dktX2_ofLamp_2
def dkwX2_ofLamp_0 : List UInt8 := [42, 27, 182, 0, 68, 154, 0, 5, 2, 172, 28]
abbrev dktX2_ofLamp_0 : List UInt8 := dkwX2_ofLamp_0 ++ dktX2_ofLamp_1
theorem dksX2_ofLamp_0 : cX2_ofLamp.data.toList.drop 0 = dktX2_ofLamp_0 := by decide +kernel
theorem dksX2_ofLamp_1 : cX2_ofLamp.data.toList.drop 11 = dktX2_ofLamp_1 := dk_seg dksX2_ofLamp_0 11 rfl rfl
theorem dksX2_ofLamp_2 : cX2_ofLamp.data.toList.drop 40 = dktX2_ofLamp_2 := dk_seg dksX2_ofLamp_1 29 rfl rfl
theorem dksX2_ofLamp_3 : cX2_ofLamp.data.toList.drop 62 = dktX2_ofLamp_3 := dk_seg dksX2_ofLamp_2 22 rfl rfl
theorem dX2_ofLamp_0 : decode cX2_ofLamp 0 = .ok (.aload_n 0, 1) := dk_42 (dk_at dksX2_ofLamp_0 0 rfl rfl)
theorem dX2_ofLamp_1 : decode cX2_ofLamp 1 = .ok (.iload_n 1, 1) := dk_27 (dk_at dksX2_ofLamp_0 1 rfl rfl)
theorem dX2_ofLamp_2 : decode cX2_ofLamp 2 = .ok (.invokevirtual 68, 3) := dk_182 0 68 (dk_at dksX2_ofLamp_0 2 rfl rfl)
theorem dX2_ofLamp_5 : decode cX2_ofLamp 5 = .ok (.ifCond .ne 5, 3) := dk_154 0 5 (dk_at dksX2_ofLamp_0 5 rfl rfl)
theorem dX2_ofLamp_8 : decode cX2_ofLamp 8 = .ok (.iconst (-1), 1) := dk_2 (dk_at dksX2_ofLamp_0 8 rfl rfl)
theorem dX2_ofLamp_9 : decode cX2_ofLamp 9 = .ok (.ireturn, 1) := dk_172 (dk_at dksX2_ofLamp_0 9 rfl rfl)
theorem dX2_ofLamp_10 : decode cX2_ofLamp 10 = .ok (.iload_n 2, 1) := dk_28 (dk_at dksX2_ofLamp_0 10 rfl rfl)
theorem dX2_ofLamp_11 : decode cX2_ofLamp 11 = .ok (.tableswitch 49 0 3 #[29, 29, 29, 43], 29) := by decide +kernel
theorem dX2_ofLamp_40 : decode cX2_ofLamp 40 = .ok (.aload_n 0, 1) := dk_42 (dk_at dksX2_ofLamp_2 0 rfl rfl)
theorem dX2_ofLamp_41 : decode cX2_ofLamp 41 = .ok (.getfield 7, 3) := dk_180 0 7 (dk_at dksX2_ofLamp_2 1 rfl rfl)
theorem dX2_ofLamp_44 : decode cX2_ofLamp 44 = .ok (.bipush 50, 2) := dk_16 50 (dk_at dksX2_ofLamp_2 4 rfl rfl)
theorem dX2_ofLamp_46 : decode cX2_ofLamp 46 = .ok (.iconst 4, 1) := dk_7 (dk_at dksX2_ofLamp_2 6 rfl rfl)
theorem dX2_ofLamp_47 : decode cX2_ofLamp 47 = .ok (.iload_n 1, 1) := dk_27 (dk_at dksX2_ofLamp_2 7 rfl rfl)
theorem dX2_ofLamp_48 : decode cX2_ofLamp 48 = .ok (.imul, 1) := dk_104 (dk_at dksX2_ofLamp_2 8 rfl rfl)
theorem dX2_ofLamp_49 : decode cX2_ofLamp 49 = .ok (.iadd, 1) := dk_96 (dk_at dksX2_ofLamp_2 9 rfl rfl)
theorem dX2_ofLamp_50 : decode cX2_ofLamp 50 = .ok (.iload_n 2, 1) := dk_28 (dk_at dksX2_ofLamp_2 10 rfl rfl)
theorem dX2_ofLamp_51 : decode cX2_ofLamp 51 = .ok (.iadd, 1) := dk_96 (dk_at dksX2_ofLamp_2 11 rfl rfl)
theorem dX2_ofLamp_52 : decode cX2_ofLamp 52 = .ok (.iaload, 1) := dk_46 (dk_at dksX2_ofLamp_2 12 rfl rfl)
theorem dX2_ofLamp_53 : decode cX2_ofLamp 53 = .ok (.ireturn, 1) := dk_172 (dk_at dksX2_ofLamp_2 13 rfl rfl)
theorem dX2_ofLamp_54 : decode cX2_ofLamp 54 = .ok (.aload_n 0, 1) := dk_42 (dk_at dksX2_ofLamp_2 14 rfl rfl)
theorem dX2_ofLamp_55 : decode cX2_ofLamp 55 = .ok (.iload_n 1, 1) := dk_27 (dk_at dksX2_ofLamp_2 15 rfl rfl)
theorem dX2_ofLamp_56 : decode cX2_ofLamp 56 = .ok (.invokevirtual 140, 3) := dk_182 0 140 (dk_at dksX2_ofLamp_2 16 rfl rfl)
theorem dX2_ofLamp_59 : decode cX2_ofLamp 59 = .ok (.ireturn, 1) := dk_172 (dk_at dksX2_ofLamp_2 19 rfl rfl)
theorem dX2_ofLamp_60 : decode cX2_ofLamp 60 = .ok (.iload_n 2, 1) := dk_28 (dk_at dksX2_ofLamp_2 20 rfl rfl)
theorem dX2_ofLamp_61 : decode cX2_ofLamp 61 = .ok (.iconst 4, 1) := dk_7 (dk_at dksX2_ofLamp_2 21 rfl rfl)
theorem dX2_ofLamp_62 : decode cX2_ofLamp 62 = .ok (.if_icmp .ne 19, 3) := dk_160 0 19 (dk_at dksX2_ofLamp_3 0 rfl rfl)
theorem dX2_ofLamp_65 : decode cX2_ofLamp 65 = .ok (.aload_n 0, 1) := dk_42 (dk_at dksX2_ofLamp_3 3 rfl rfl)
theorem dX2_ofLamp_66 : decode cX2_ofLamp 66 = .ok (.getfield 7, 3) := dk_180 0 7 (dk_at dksX2_ofLamp_3 4 rfl rfl)
theorem dX2_ofLamp_69 : decode cX2_ofLamp 69 = .ok (.bipush 50, 2) := dk_16 50 (dk_at dksX2_ofLamp_3 7 rfl rfl)
theorem dX2_ofLamp_71 : decode cX2_ofLamp 71 = .ok (.iconst 4, 1) := dk_7 (dk_at dksX2_ofLamp_3 9 rfl rfl)
theorem dX2_ofLamp_72 : decode cX2_ofLamp 72 = .ok (.iload_n 1, 1) := dk_27 (dk_at dksX2_ofLamp_3 10 rfl rfl)
theorem dX2_ofLamp_73 : decode cX2_ofLamp 73 = .ok (.imul, 1) := dk_104 (dk_at dksX2_ofLamp_3 11 rfl rfl)
theorem dX2_ofLamp_74 : decode cX2_ofLamp 74 = .ok (.iadd, 1) := dk_96 (dk_at dksX2_ofLamp_3 12 rfl rfl)
theorem dX2_ofLamp_75 : decode cX2_ofLamp 75 = .ok (.iconst 3, 1) := dk_6 (dk_at dksX2_ofLamp_3 13 rfl rfl)
theorem dX2_ofLamp_76 : decode cX2_ofLamp 76 = .ok (.iadd, 1) := dk_96 (dk_at dksX2_ofLamp_3 14 rfl rfl)
theorem dX2_ofLamp_77 : decode cX2_ofLamp 77 = .ok (.iaload, 1) := dk_46 (dk_at dksX2_ofLamp_3 15 rfl rfl)
theorem dX2_ofLamp_78 : decode cX2_ofLamp 78 = .ok (.goto 5, 3) := dk_167 0 5 (dk_at dksX2_ofLamp_3 16 rfl rfl)
theorem dX2_ofLamp_81 : decode cX2_ofLamp 81 = .ok (.bipush (-2), 2) := dk_16 254 (dk_at dksX2_ofLamp_3 19 rfl rfl)
theorem dX2_ofLamp_83 : decode cX2_ofLamp 83 = .ok (.ireturn, 1) := dk_172 (dk_at dksX2_ofLamp_3 21 rfl rfl)
abbrev cX2_show : ByteArray := prog_12_method_52_code
def yX2_show : MethodName := ⟨RX2, "show", "(II)I"⟩
def dkwX2_show_3 : List UInt8 := [28, 5, 100, 182, 0, 158, 172]
abbrev dktX2_show_3 : List UInt8 := dkwX2_show_3 ++ []
def dkwX2_show_2 : List UInt8 := [182, 0, 94, 167, 0, 27, 28, 16, 9, 160, 0, 13, 42, 27, 16, 6, 182, 0, 75, 167, 0, 11, 42, 27]
abbrev dktX2_show_2 : List UInt8 := dkwX2_show_2 ++ dktX2_show_3
def dkwX2_show_1 : List UInt8 := [16, 6, 162, 0, 12, 42, 27, 28, 182, 0, 75, 167, 0, 41, 28, 16, 6, 160, 0, 11, 42, 27]
abbrev dktX2_show_1 : List UInt8 := dkwX2_show_1 ++ dktX2_show_2
def dkwX2_show_0 : List UInt8 := [42, 27, 182, 0, 97, 154, 0, 5, 2, 172, 28, 3, 16, 9, 184, 0, 49, 154, 0, 6, 16, 254, 172, 28]
abbrev dktX2_show_0 : List UInt8 := dkwX2_show_0 ++ dktX2_show_1
theorem dksX2_show_0 : cX2_show.data.toList.drop 0 = dktX2_show_0 := by decide +kernel
theorem dksX2_show_1 : cX2_show.data.toList.drop 24 = dktX2_show_1 := dk_seg dksX2_show_0 24 rfl rfl
theorem dksX2_show_2 : cX2_show.data.toList.drop 46 = dktX2_show_2 := dk_seg dksX2_show_1 22 rfl rfl
theorem dksX2_show_3 : cX2_show.data.toList.drop 70 = dktX2_show_3 := dk_seg dksX2_show_2 24 rfl rfl
theorem dX2_show_0 : decode cX2_show 0 = .ok (.aload_n 0, 1) := dk_42 (dk_at dksX2_show_0 0 rfl rfl)
theorem dX2_show_1 : decode cX2_show 1 = .ok (.iload_n 1, 1) := dk_27 (dk_at dksX2_show_0 1 rfl rfl)
theorem dX2_show_2 : decode cX2_show 2 = .ok (.invokevirtual 97, 3) := dk_182 0 97 (dk_at dksX2_show_0 2 rfl rfl)
theorem dX2_show_5 : decode cX2_show 5 = .ok (.ifCond .ne 5, 3) := dk_154 0 5 (dk_at dksX2_show_0 5 rfl rfl)
theorem dX2_show_8 : decode cX2_show 8 = .ok (.iconst (-1), 1) := dk_2 (dk_at dksX2_show_0 8 rfl rfl)
theorem dX2_show_9 : decode cX2_show 9 = .ok (.ireturn, 1) := dk_172 (dk_at dksX2_show_0 9 rfl rfl)
theorem dX2_show_10 : decode cX2_show 10 = .ok (.iload_n 2, 1) := dk_28 (dk_at dksX2_show_0 10 rfl rfl)
theorem dX2_show_11 : decode cX2_show 11 = .ok (.iconst 0, 1) := dk_3 (dk_at dksX2_show_0 11 rfl rfl)
theorem dX2_show_12 : decode cX2_show 12 = .ok (.bipush 9, 2) := dk_16 9 (dk_at dksX2_show_0 12 rfl rfl)
theorem dX2_show_14 : decode cX2_show 14 = .ok (.invokestatic 49, 3) := dk_184 0 49 (dk_at dksX2_show_0 14 rfl rfl)
theorem dX2_show_17 : decode cX2_show 17 = .ok (.ifCond .ne 6, 3) := dk_154 0 6 (dk_at dksX2_show_0 17 rfl rfl)
theorem dX2_show_20 : decode cX2_show 20 = .ok (.bipush (-2), 2) := dk_16 254 (dk_at dksX2_show_0 20 rfl rfl)
theorem dX2_show_22 : decode cX2_show 22 = .ok (.ireturn, 1) := dk_172 (dk_at dksX2_show_0 22 rfl rfl)
theorem dX2_show_23 : decode cX2_show 23 = .ok (.iload_n 2, 1) := dk_28 (dk_at dksX2_show_0 23 rfl rfl)
theorem dX2_show_24 : decode cX2_show 24 = .ok (.bipush 6, 2) := dk_16 6 (dk_at dksX2_show_1 0 rfl rfl)
theorem dX2_show_26 : decode cX2_show 26 = .ok (.if_icmp .ge 12, 3) := dk_162 0 12 (dk_at dksX2_show_1 2 rfl rfl)
theorem dX2_show_29 : decode cX2_show 29 = .ok (.aload_n 0, 1) := dk_42 (dk_at dksX2_show_1 5 rfl rfl)
theorem dX2_show_30 : decode cX2_show 30 = .ok (.iload_n 1, 1) := dk_27 (dk_at dksX2_show_1 6 rfl rfl)
theorem dX2_show_31 : decode cX2_show 31 = .ok (.iload_n 2, 1) := dk_28 (dk_at dksX2_show_1 7 rfl rfl)
theorem dX2_show_32 : decode cX2_show 32 = .ok (.invokevirtual 75, 3) := dk_182 0 75 (dk_at dksX2_show_1 8 rfl rfl)
theorem dX2_show_35 : decode cX2_show 35 = .ok (.goto 41, 3) := dk_167 0 41 (dk_at dksX2_show_1 11 rfl rfl)
theorem dX2_show_38 : decode cX2_show 38 = .ok (.iload_n 2, 1) := dk_28 (dk_at dksX2_show_1 14 rfl rfl)
theorem dX2_show_39 : decode cX2_show 39 = .ok (.bipush 6, 2) := dk_16 6 (dk_at dksX2_show_1 15 rfl rfl)
theorem dX2_show_41 : decode cX2_show 41 = .ok (.if_icmp .ne 11, 3) := dk_160 0 11 (dk_at dksX2_show_1 17 rfl rfl)
theorem dX2_show_44 : decode cX2_show 44 = .ok (.aload_n 0, 1) := dk_42 (dk_at dksX2_show_1 20 rfl rfl)
theorem dX2_show_45 : decode cX2_show 45 = .ok (.iload_n 1, 1) := dk_27 (dk_at dksX2_show_1 21 rfl rfl)
theorem dX2_show_46 : decode cX2_show 46 = .ok (.invokevirtual 94, 3) := dk_182 0 94 (dk_at dksX2_show_2 0 rfl rfl)
theorem dX2_show_49 : decode cX2_show 49 = .ok (.goto 27, 3) := dk_167 0 27 (dk_at dksX2_show_2 3 rfl rfl)
theorem dX2_show_52 : decode cX2_show 52 = .ok (.iload_n 2, 1) := dk_28 (dk_at dksX2_show_2 6 rfl rfl)
theorem dX2_show_53 : decode cX2_show 53 = .ok (.bipush 9, 2) := dk_16 9 (dk_at dksX2_show_2 7 rfl rfl)
theorem dX2_show_55 : decode cX2_show 55 = .ok (.if_icmp .ne 13, 3) := dk_160 0 13 (dk_at dksX2_show_2 9 rfl rfl)
theorem dX2_show_58 : decode cX2_show 58 = .ok (.aload_n 0, 1) := dk_42 (dk_at dksX2_show_2 12 rfl rfl)
theorem dX2_show_59 : decode cX2_show 59 = .ok (.iload_n 1, 1) := dk_27 (dk_at dksX2_show_2 13 rfl rfl)
theorem dX2_show_60 : decode cX2_show 60 = .ok (.bipush 6, 2) := dk_16 6 (dk_at dksX2_show_2 14 rfl rfl)
theorem dX2_show_62 : decode cX2_show 62 = .ok (.invokevirtual 75, 3) := dk_182 0 75 (dk_at dksX2_show_2 16 rfl rfl)
theorem dX2_show_65 : decode cX2_show 65 = .ok (.goto 11, 3) := dk_167 0 11 (dk_at dksX2_show_2 19 rfl rfl)
theorem dX2_show_68 : decode cX2_show 68 = .ok (.aload_n 0, 1) := dk_42 (dk_at dksX2_show_2 22 rfl rfl)
theorem dX2_show_69 : decode cX2_show 69 = .ok (.iload_n 1, 1) := dk_27 (dk_at dksX2_show_2 23 rfl rfl)
theorem dX2_show_70 : decode cX2_show 70 = .ok (.iload_n 2, 1) := dk_28 (dk_at dksX2_show_3 0 rfl rfl)
theorem dX2_show_71 : decode cX2_show 71 = .ok (.iconst 2, 1) := dk_5 (dk_at dksX2_show_3 1 rfl rfl)
theorem dX2_show_72 : decode cX2_show 72 = .ok (.isub, 1) := dk_100 (dk_at dksX2_show_3 2 rfl rfl)
theorem dX2_show_73 : decode cX2_show 73 = .ok (.invokevirtual 158, 3) := dk_182 0 158 (dk_at dksX2_show_3 3 rfl rfl)
theorem dX2_show_76 : decode cX2_show 76 = .ok (.ireturn, 1) := dk_172 (dk_at dksX2_show_3 6 rfl rfl)
abbrev cX2_sumOf : ByteArray := prog_12_method_51_code
def yX2_sumOf : MethodName := ⟨RX2, "sumOf", "(II)I"⟩
def dkwX2_sumOf_2 : List UInt8 := [167, 255, 216, 29, 172]
abbrev dktX2_sumOf_2 : List UInt8 := dkwX2_sumOf_2 ++ []
def dkwX2_sumOf_1 : List UInt8 := [182, 0, 88, 27, 160, 0, 13, 42, 21, 4, 28, 182, 0, 88, 167, 0, 4, 3, 96, 62, 132, 4, 1]
abbrev dktX2_sumOf_1 : List UInt8 := dkwX2_sumOf_1 ++ dktX2_sumOf_2
def dkwX2_sumOf_0 : List UInt8 := [3, 62, 3, 54, 4, 21, 4, 42, 180, 0, 7, 16, 10, 46, 162, 0, 34, 29, 42, 21, 4, 3]
abbrev dktX2_sumOf_0 : List UInt8 := dkwX2_sumOf_0 ++ dktX2_sumOf_1
theorem dksX2_sumOf_0 : cX2_sumOf.data.toList.drop 0 = dktX2_sumOf_0 := by decide +kernel
theorem dksX2_sumOf_1 : cX2_sumOf.data.toList.drop 22 = dktX2_sumOf_1 := dk_seg dksX2_sumOf_0 22 rfl rfl
theorem dksX2_sumOf_2 : cX2_sumOf.data.toList.drop 45 = dktX2_sumOf_2 := dk_seg dksX2_sumOf_1 23 rfl rfl
theorem dX2_sumOf_0 : decode cX2_sumOf 0 = .ok (.iconst 0, 1) := dk_3 (dk_at dksX2_sumOf_0 0 rfl rfl)
theorem dX2_sumOf_1 : decode cX2_sumOf 1 = .ok (.istore_n 3, 1) := dk_62 (dk_at dksX2_sumOf_0 1 rfl rfl)
theorem dX2_sumOf_2 : decode cX2_sumOf 2 = .ok (.iconst 0, 1) := dk_3 (dk_at dksX2_sumOf_0 2 rfl rfl)
theorem dX2_sumOf_3 : decode cX2_sumOf 3 = .ok (.istore 4, 2) := dk_54 4 (dk_at dksX2_sumOf_0 3 rfl rfl)
theorem dX2_sumOf_5 : decode cX2_sumOf 5 = .ok (.iload 4, 2) := dk_21 4 (dk_at dksX2_sumOf_0 5 rfl rfl)
theorem dX2_sumOf_7 : decode cX2_sumOf 7 = .ok (.aload_n 0, 1) := dk_42 (dk_at dksX2_sumOf_0 7 rfl rfl)
theorem dX2_sumOf_8 : decode cX2_sumOf 8 = .ok (.getfield 7, 3) := dk_180 0 7 (dk_at dksX2_sumOf_0 8 rfl rfl)
theorem dX2_sumOf_11 : decode cX2_sumOf 11 = .ok (.bipush 10, 2) := dk_16 10 (dk_at dksX2_sumOf_0 11 rfl rfl)
theorem dX2_sumOf_13 : decode cX2_sumOf 13 = .ok (.iaload, 1) := dk_46 (dk_at dksX2_sumOf_0 13 rfl rfl)
theorem dX2_sumOf_14 : decode cX2_sumOf 14 = .ok (.if_icmp .ge 34, 3) := dk_162 0 34 (dk_at dksX2_sumOf_0 14 rfl rfl)
theorem dX2_sumOf_17 : decode cX2_sumOf 17 = .ok (.iload_n 3, 1) := dk_29 (dk_at dksX2_sumOf_0 17 rfl rfl)
theorem dX2_sumOf_18 : decode cX2_sumOf 18 = .ok (.aload_n 0, 1) := dk_42 (dk_at dksX2_sumOf_0 18 rfl rfl)
theorem dX2_sumOf_19 : decode cX2_sumOf 19 = .ok (.iload 4, 2) := dk_21 4 (dk_at dksX2_sumOf_0 19 rfl rfl)
theorem dX2_sumOf_21 : decode cX2_sumOf 21 = .ok (.iconst 0, 1) := dk_3 (dk_at dksX2_sumOf_0 21 rfl rfl)
theorem dX2_sumOf_22 : decode cX2_sumOf 22 = .ok (.invokevirtual 88, 3) := dk_182 0 88 (dk_at dksX2_sumOf_1 0 rfl rfl)
theorem dX2_sumOf_25 : decode cX2_sumOf 25 = .ok (.iload_n 1, 1) := dk_27 (dk_at dksX2_sumOf_1 3 rfl rfl)
theorem dX2_sumOf_26 : decode cX2_sumOf 26 = .ok (.if_icmp .ne 13, 3) := dk_160 0 13 (dk_at dksX2_sumOf_1 4 rfl rfl)
theorem dX2_sumOf_29 : decode cX2_sumOf 29 = .ok (.aload_n 0, 1) := dk_42 (dk_at dksX2_sumOf_1 7 rfl rfl)
theorem dX2_sumOf_30 : decode cX2_sumOf 30 = .ok (.iload 4, 2) := dk_21 4 (dk_at dksX2_sumOf_1 8 rfl rfl)
theorem dX2_sumOf_32 : decode cX2_sumOf 32 = .ok (.iload_n 2, 1) := dk_28 (dk_at dksX2_sumOf_1 10 rfl rfl)
theorem dX2_sumOf_33 : decode cX2_sumOf 33 = .ok (.invokevirtual 88, 3) := dk_182 0 88 (dk_at dksX2_sumOf_1 11 rfl rfl)
theorem dX2_sumOf_36 : decode cX2_sumOf 36 = .ok (.goto 4, 3) := dk_167 0 4 (dk_at dksX2_sumOf_1 14 rfl rfl)
theorem dX2_sumOf_39 : decode cX2_sumOf 39 = .ok (.iconst 0, 1) := dk_3 (dk_at dksX2_sumOf_1 17 rfl rfl)
theorem dX2_sumOf_40 : decode cX2_sumOf 40 = .ok (.iadd, 1) := dk_96 (dk_at dksX2_sumOf_1 18 rfl rfl)
theorem dX2_sumOf_41 : decode cX2_sumOf 41 = .ok (.istore_n 3, 1) := dk_62 (dk_at dksX2_sumOf_1 19 rfl rfl)
theorem dX2_sumOf_42 : decode cX2_sumOf 42 = .ok (.iinc 4 1, 3) := dk_132 4 1 (dk_at dksX2_sumOf_1 20 rfl rfl)
theorem dX2_sumOf_45 : decode cX2_sumOf 45 = .ok (.goto (-40), 3) := dk_167 255 216 (dk_at dksX2_sumOf_2 0 rfl rfl)
theorem dX2_sumOf_48 : decode cX2_sumOf 48 = .ok (.iload_n 3, 1) := dk_29 (dk_at dksX2_sumOf_2 3 rfl rfl)
theorem dX2_sumOf_49 : decode cX2_sumOf 49 = .ok (.ireturn, 1) := dk_172 (dk_at dksX2_sumOf_2 4 rfl rfl)
abbrev cX2_free : ByteArray := prog_12_method_53_code
def yX2_free : MethodName := ⟨RX2, "free", "(II)I"⟩
def dkwX2_free_1 : List UInt8 := [182, 0, 91, 167, 0, 5, 16, 254, 172]
abbrev dktX2_free_1 : List UInt8 := dkwX2_free_1 ++ []
def dkwX2_free_0 : List UInt8 := [42, 27, 182, 0, 97, 154, 0, 5, 2, 172, 28, 3, 16, 7, 184, 0, 49, 153, 0, 12, 42, 27, 28]
abbrev dktX2_free_0 : List UInt8 := dkwX2_free_0 ++ dktX2_free_1
theorem dksX2_free_0 : cX2_free.data.toList.drop 0 = dktX2_free_0 := by decide +kernel
theorem dksX2_free_1 : cX2_free.data.toList.drop 23 = dktX2_free_1 := dk_seg dksX2_free_0 23 rfl rfl
theorem dX2_free_0 : decode cX2_free 0 = .ok (.aload_n 0, 1) := dk_42 (dk_at dksX2_free_0 0 rfl rfl)
theorem dX2_free_1 : decode cX2_free 1 = .ok (.iload_n 1, 1) := dk_27 (dk_at dksX2_free_0 1 rfl rfl)
theorem dX2_free_2 : decode cX2_free 2 = .ok (.invokevirtual 97, 3) := dk_182 0 97 (dk_at dksX2_free_0 2 rfl rfl)
theorem dX2_free_5 : decode cX2_free 5 = .ok (.ifCond .ne 5, 3) := dk_154 0 5 (dk_at dksX2_free_0 5 rfl rfl)
theorem dX2_free_8 : decode cX2_free 8 = .ok (.iconst (-1), 1) := dk_2 (dk_at dksX2_free_0 8 rfl rfl)
theorem dX2_free_9 : decode cX2_free 9 = .ok (.ireturn, 1) := dk_172 (dk_at dksX2_free_0 9 rfl rfl)
theorem dX2_free_10 : decode cX2_free 10 = .ok (.iload_n 2, 1) := dk_28 (dk_at dksX2_free_0 10 rfl rfl)
theorem dX2_free_11 : decode cX2_free 11 = .ok (.iconst 0, 1) := dk_3 (dk_at dksX2_free_0 11 rfl rfl)
theorem dX2_free_12 : decode cX2_free 12 = .ok (.bipush 7, 2) := dk_16 7 (dk_at dksX2_free_0 12 rfl rfl)
theorem dX2_free_14 : decode cX2_free 14 = .ok (.invokestatic 49, 3) := dk_184 0 49 (dk_at dksX2_free_0 14 rfl rfl)
theorem dX2_free_17 : decode cX2_free 17 = .ok (.ifCond .eq 12, 3) := dk_153 0 12 (dk_at dksX2_free_0 17 rfl rfl)
theorem dX2_free_20 : decode cX2_free 20 = .ok (.aload_n 0, 1) := dk_42 (dk_at dksX2_free_0 20 rfl rfl)
theorem dX2_free_21 : decode cX2_free 21 = .ok (.iload_n 1, 1) := dk_27 (dk_at dksX2_free_0 21 rfl rfl)
theorem dX2_free_22 : decode cX2_free 22 = .ok (.iload_n 2, 1) := dk_28 (dk_at dksX2_free_0 22 rfl rfl)
theorem dX2_free_23 : decode cX2_free 23 = .ok (.invokevirtual 91, 3) := dk_182 0 91 (dk_at dksX2_free_1 0 rfl rfl)
theorem dX2_free_26 : decode cX2_free 26 = .ok (.goto 5, 3) := dk_167 0 5 (dk_at dksX2_free_1 3 rfl rfl)
theorem dX2_free_29 : decode cX2_free 29 = .ok (.bipush (-2), 2) := dk_16 254 (dk_at dksX2_free_1 6 rfl rfl)
theorem dX2_free_31 : decode cX2_free 31 = .ok (.ireturn, 1) := dk_172 (dk_at dksX2_free_1 8 rfl rfl)
abbrev cX2_booking : ByteArray := prog_12_method_54_code
def yX2_booking : MethodName := ⟨RX2, "booking", "(II)I"⟩
def dkwX2_booking_2 : List UInt8 := [182, 0, 88, 167, 0, 5, 16, 254, 172]
abbrev dktX2_booking_2 : List UInt8 := dkwX2_booking_2 ++ []
def dkwX2_booking_1 : List UInt8 := [182, 0, 88, 167, 0, 27, 28, 16, 10, 16, 17, 184, 0, 49, 153, 0, 14, 42, 27, 28, 5, 100]
abbrev dktX2_booking_1 : List UInt8 := dkwX2_booking_1 ++ dktX2_booking_2
def dkwX2_booking_0 : List UInt8 := [42, 27, 182, 0, 110, 154, 0, 5, 2, 172, 28, 3, 16, 6, 184, 0, 49, 153, 0, 12, 42, 27, 28]
abbrev dktX2_booking_0 : List UInt8 := dkwX2_booking_0 ++ dktX2_booking_1
theorem dksX2_booking_0 : cX2_booking.data.toList.drop 0 = dktX2_booking_0 := by decide +kernel
theorem dksX2_booking_1 : cX2_booking.data.toList.drop 23 = dktX2_booking_1 := dk_seg dksX2_booking_0 23 rfl rfl
theorem dksX2_booking_2 : cX2_booking.data.toList.drop 45 = dktX2_booking_2 := dk_seg dksX2_booking_1 22 rfl rfl
theorem dX2_booking_0 : decode cX2_booking 0 = .ok (.aload_n 0, 1) := dk_42 (dk_at dksX2_booking_0 0 rfl rfl)
theorem dX2_booking_1 : decode cX2_booking 1 = .ok (.iload_n 1, 1) := dk_27 (dk_at dksX2_booking_0 1 rfl rfl)
theorem dX2_booking_2 : decode cX2_booking 2 = .ok (.invokevirtual 110, 3) := dk_182 0 110 (dk_at dksX2_booking_0 2 rfl rfl)
theorem dX2_booking_5 : decode cX2_booking 5 = .ok (.ifCond .ne 5, 3) := dk_154 0 5 (dk_at dksX2_booking_0 5 rfl rfl)
theorem dX2_booking_8 : decode cX2_booking 8 = .ok (.iconst (-1), 1) := dk_2 (dk_at dksX2_booking_0 8 rfl rfl)
theorem dX2_booking_9 : decode cX2_booking 9 = .ok (.ireturn, 1) := dk_172 (dk_at dksX2_booking_0 9 rfl rfl)
theorem dX2_booking_10 : decode cX2_booking 10 = .ok (.iload_n 2, 1) := dk_28 (dk_at dksX2_booking_0 10 rfl rfl)
theorem dX2_booking_11 : decode cX2_booking 11 = .ok (.iconst 0, 1) := dk_3 (dk_at dksX2_booking_0 11 rfl rfl)
theorem dX2_booking_12 : decode cX2_booking 12 = .ok (.bipush 6, 2) := dk_16 6 (dk_at dksX2_booking_0 12 rfl rfl)
theorem dX2_booking_14 : decode cX2_booking 14 = .ok (.invokestatic 49, 3) := dk_184 0 49 (dk_at dksX2_booking_0 14 rfl rfl)
theorem dX2_booking_17 : decode cX2_booking 17 = .ok (.ifCond .eq 12, 3) := dk_153 0 12 (dk_at dksX2_booking_0 17 rfl rfl)
theorem dX2_booking_20 : decode cX2_booking 20 = .ok (.aload_n 0, 1) := dk_42 (dk_at dksX2_booking_0 20 rfl rfl)
theorem dX2_booking_21 : decode cX2_booking 21 = .ok (.iload_n 1, 1) := dk_27 (dk_at dksX2_booking_0 21 rfl rfl)
theorem dX2_booking_22 : decode cX2_booking 22 = .ok (.iload_n 2, 1) := dk_28 (dk_at dksX2_booking_0 22 rfl rfl)
theorem dX2_booking_23 : decode cX2_booking 23 = .ok (.invokevirtual 88, 3) := dk_182 0 88 (dk_at dksX2_booking_1 0 rfl rfl)
theorem dX2_booking_26 : decode cX2_booking 26 = .ok (.goto 27, 3) := dk_167 0 27 (dk_at dksX2_booking_1 3 rfl rfl)
theorem dX2_booking_29 : decode cX2_booking 29 = .ok (.iload_n 2, 1) := dk_28 (dk_at dksX2_booking_1 6 rfl rfl)
theorem dX2_booking_30 : decode cX2_booking 30 = .ok (.bipush 10, 2) := dk_16 10 (dk_at dksX2_booking_1 7 rfl rfl)
theorem dX2_booking_32 : decode cX2_booking 32 = .ok (.bipush 17, 2) := dk_16 17 (dk_at dksX2_booking_1 9 rfl rfl)
theorem dX2_booking_34 : decode cX2_booking 34 = .ok (.invokestatic 49, 3) := dk_184 0 49 (dk_at dksX2_booking_1 11 rfl rfl)
theorem dX2_booking_37 : decode cX2_booking 37 = .ok (.ifCond .eq 14, 3) := dk_153 0 14 (dk_at dksX2_booking_1 14 rfl rfl)
theorem dX2_booking_40 : decode cX2_booking 40 = .ok (.aload_n 0, 1) := dk_42 (dk_at dksX2_booking_1 17 rfl rfl)
theorem dX2_booking_41 : decode cX2_booking 41 = .ok (.iload_n 1, 1) := dk_27 (dk_at dksX2_booking_1 18 rfl rfl)
theorem dX2_booking_42 : decode cX2_booking 42 = .ok (.iload_n 2, 1) := dk_28 (dk_at dksX2_booking_1 19 rfl rfl)
theorem dX2_booking_43 : decode cX2_booking 43 = .ok (.iconst 2, 1) := dk_5 (dk_at dksX2_booking_1 20 rfl rfl)
theorem dX2_booking_44 : decode cX2_booking 44 = .ok (.isub, 1) := dk_100 (dk_at dksX2_booking_1 21 rfl rfl)
theorem dX2_booking_45 : decode cX2_booking 45 = .ok (.invokevirtual 88, 3) := dk_182 0 88 (dk_at dksX2_booking_2 0 rfl rfl)
theorem dX2_booking_48 : decode cX2_booking 48 = .ok (.goto 5, 3) := dk_167 0 5 (dk_at dksX2_booking_2 3 rfl rfl)
theorem dX2_booking_51 : decode cX2_booking 51 = .ok (.bipush (-2), 2) := dk_16 254 (dk_at dksX2_booking_2 6 rfl rfl)
theorem dX2_booking_53 : decode cX2_booking 53 = .ok (.ireturn, 1) := dk_172 (dk_at dksX2_booking_2 8 rfl rfl)
abbrev cX2_ofPromise : ByteArray := prog_12_method_56_code
def yX2_ofPromise : MethodName := ⟨RX2, "ofPromise", "(II)I"⟩
def dkwX2_ofPromise_2 : List UInt8 := [182, 0, 164, 167, 0, 5, 16, 254, 172]
abbrev dktX2_ofPromise_2 : List UInt8 := dkwX2_ofPromise_2 ++ []
def dkwX2_ofPromise_1 : List UInt8 := [17, 7, 68, 16, 10, 27, 104, 96, 28, 96, 46, 167, 0, 19, 28, 16, 10, 160, 0, 11, 42, 27]
abbrev dktX2_ofPromise_1 : List UInt8 := dkwX2_ofPromise_1 ++ dktX2_ofPromise_2
def dkwX2_ofPromise_0 : List UInt8 := [42, 27, 182, 0, 161, 154, 0, 5, 2, 172, 28, 3, 16, 9, 184, 0, 49, 153, 0, 21, 42, 180, 0, 7]
abbrev dktX2_ofPromise_0 : List UInt8 := dkwX2_ofPromise_0 ++ dktX2_ofPromise_1
theorem dksX2_ofPromise_0 : cX2_ofPromise.data.toList.drop 0 = dktX2_ofPromise_0 := by decide +kernel
theorem dksX2_ofPromise_1 : cX2_ofPromise.data.toList.drop 24 = dktX2_ofPromise_1 := dk_seg dksX2_ofPromise_0 24 rfl rfl
theorem dksX2_ofPromise_2 : cX2_ofPromise.data.toList.drop 46 = dktX2_ofPromise_2 := dk_seg dksX2_ofPromise_1 22 rfl rfl
theorem dX2_ofPromise_0 : decode cX2_ofPromise 0 = .ok (.aload_n 0, 1) := dk_42 (dk_at dksX2_ofPromise_0 0 rfl rfl)
theorem dX2_ofPromise_1 : decode cX2_ofPromise 1 = .ok (.iload_n 1, 1) := dk_27 (dk_at dksX2_ofPromise_0 1 rfl rfl)
theorem dX2_ofPromise_2 : decode cX2_ofPromise 2 = .ok (.invokevirtual 161, 3) := dk_182 0 161 (dk_at dksX2_ofPromise_0 2 rfl rfl)
theorem dX2_ofPromise_5 : decode cX2_ofPromise 5 = .ok (.ifCond .ne 5, 3) := dk_154 0 5 (dk_at dksX2_ofPromise_0 5 rfl rfl)
theorem dX2_ofPromise_8 : decode cX2_ofPromise 8 = .ok (.iconst (-1), 1) := dk_2 (dk_at dksX2_ofPromise_0 8 rfl rfl)
theorem dX2_ofPromise_9 : decode cX2_ofPromise 9 = .ok (.ireturn, 1) := dk_172 (dk_at dksX2_ofPromise_0 9 rfl rfl)
theorem dX2_ofPromise_10 : decode cX2_ofPromise 10 = .ok (.iload_n 2, 1) := dk_28 (dk_at dksX2_ofPromise_0 10 rfl rfl)
theorem dX2_ofPromise_11 : decode cX2_ofPromise 11 = .ok (.iconst 0, 1) := dk_3 (dk_at dksX2_ofPromise_0 11 rfl rfl)
theorem dX2_ofPromise_12 : decode cX2_ofPromise 12 = .ok (.bipush 9, 2) := dk_16 9 (dk_at dksX2_ofPromise_0 12 rfl rfl)
theorem dX2_ofPromise_14 : decode cX2_ofPromise 14 = .ok (.invokestatic 49, 3) := dk_184 0 49 (dk_at dksX2_ofPromise_0 14 rfl rfl)
theorem dX2_ofPromise_17 : decode cX2_ofPromise 17 = .ok (.ifCond .eq 21, 3) := dk_153 0 21 (dk_at dksX2_ofPromise_0 17 rfl rfl)
theorem dX2_ofPromise_20 : decode cX2_ofPromise 20 = .ok (.aload_n 0, 1) := dk_42 (dk_at dksX2_ofPromise_0 20 rfl rfl)
theorem dX2_ofPromise_21 : decode cX2_ofPromise 21 = .ok (.getfield 7, 3) := dk_180 0 7 (dk_at dksX2_ofPromise_0 21 rfl rfl)
theorem dX2_ofPromise_24 : decode cX2_ofPromise 24 = .ok (.sipush 1860, 3) := dk_17 7 68 (dk_at dksX2_ofPromise_1 0 rfl rfl)
theorem dX2_ofPromise_27 : decode cX2_ofPromise 27 = .ok (.bipush 10, 2) := dk_16 10 (dk_at dksX2_ofPromise_1 3 rfl rfl)
theorem dX2_ofPromise_29 : decode cX2_ofPromise 29 = .ok (.iload_n 1, 1) := dk_27 (dk_at dksX2_ofPromise_1 5 rfl rfl)
theorem dX2_ofPromise_30 : decode cX2_ofPromise 30 = .ok (.imul, 1) := dk_104 (dk_at dksX2_ofPromise_1 6 rfl rfl)
theorem dX2_ofPromise_31 : decode cX2_ofPromise 31 = .ok (.iadd, 1) := dk_96 (dk_at dksX2_ofPromise_1 7 rfl rfl)
theorem dX2_ofPromise_32 : decode cX2_ofPromise 32 = .ok (.iload_n 2, 1) := dk_28 (dk_at dksX2_ofPromise_1 8 rfl rfl)
theorem dX2_ofPromise_33 : decode cX2_ofPromise 33 = .ok (.iadd, 1) := dk_96 (dk_at dksX2_ofPromise_1 9 rfl rfl)
theorem dX2_ofPromise_34 : decode cX2_ofPromise 34 = .ok (.iaload, 1) := dk_46 (dk_at dksX2_ofPromise_1 10 rfl rfl)
theorem dX2_ofPromise_35 : decode cX2_ofPromise 35 = .ok (.goto 19, 3) := dk_167 0 19 (dk_at dksX2_ofPromise_1 11 rfl rfl)
theorem dX2_ofPromise_38 : decode cX2_ofPromise 38 = .ok (.iload_n 2, 1) := dk_28 (dk_at dksX2_ofPromise_1 14 rfl rfl)
theorem dX2_ofPromise_39 : decode cX2_ofPromise 39 = .ok (.bipush 10, 2) := dk_16 10 (dk_at dksX2_ofPromise_1 15 rfl rfl)
theorem dX2_ofPromise_41 : decode cX2_ofPromise 41 = .ok (.if_icmp .ne 11, 3) := dk_160 0 11 (dk_at dksX2_ofPromise_1 17 rfl rfl)
theorem dX2_ofPromise_44 : decode cX2_ofPromise 44 = .ok (.aload_n 0, 1) := dk_42 (dk_at dksX2_ofPromise_1 20 rfl rfl)
theorem dX2_ofPromise_45 : decode cX2_ofPromise 45 = .ok (.iload_n 1, 1) := dk_27 (dk_at dksX2_ofPromise_1 21 rfl rfl)
theorem dX2_ofPromise_46 : decode cX2_ofPromise 46 = .ok (.invokevirtual 164, 3) := dk_182 0 164 (dk_at dksX2_ofPromise_2 0 rfl rfl)
theorem dX2_ofPromise_49 : decode cX2_ofPromise 49 = .ok (.goto 5, 3) := dk_167 0 5 (dk_at dksX2_ofPromise_2 3 rfl rfl)
theorem dX2_ofPromise_52 : decode cX2_ofPromise 52 = .ok (.bipush (-2), 2) := dk_16 254 (dk_at dksX2_ofPromise_2 6 rfl rfl)
theorem dX2_ofPromise_54 : decode cX2_ofPromise 54 = .ok (.ireturn, 1) := dk_172 (dk_at dksX2_ofPromise_2 8 rfl rfl)
abbrev cX2_isPromise : ByteArray := prog_12_method_41_code
def yX2_isPromise : MethodName := ⟨RX2, "isPromise", "(I)Z"⟩
def dkwX2_isPromise_0 : List UInt8 := [27, 3, 42, 180, 0, 7, 16, 12, 46, 4, 100, 184, 0, 49, 172]
abbrev dktX2_isPromise_0 : List UInt8 := dkwX2_isPromise_0 ++ []
theorem dksX2_isPromise_0 : cX2_isPromise.data.toList.drop 0 = dktX2_isPromise_0 := by decide +kernel
theorem dX2_isPromise_0 : decode cX2_isPromise 0 = .ok (.iload_n 1, 1) := dk_27 (dk_at dksX2_isPromise_0 0 rfl rfl)
theorem dX2_isPromise_1 : decode cX2_isPromise 1 = .ok (.iconst 0, 1) := dk_3 (dk_at dksX2_isPromise_0 1 rfl rfl)
theorem dX2_isPromise_2 : decode cX2_isPromise 2 = .ok (.aload_n 0, 1) := dk_42 (dk_at dksX2_isPromise_0 2 rfl rfl)
theorem dX2_isPromise_3 : decode cX2_isPromise 3 = .ok (.getfield 7, 3) := dk_180 0 7 (dk_at dksX2_isPromise_0 3 rfl rfl)
theorem dX2_isPromise_6 : decode cX2_isPromise 6 = .ok (.bipush 12, 2) := dk_16 12 (dk_at dksX2_isPromise_0 6 rfl rfl)
theorem dX2_isPromise_8 : decode cX2_isPromise 8 = .ok (.iaload, 1) := dk_46 (dk_at dksX2_isPromise_0 8 rfl rfl)
theorem dX2_isPromise_9 : decode cX2_isPromise 9 = .ok (.iconst 1, 1) := dk_4 (dk_at dksX2_isPromise_0 9 rfl rfl)
theorem dX2_isPromise_10 : decode cX2_isPromise 10 = .ok (.isub, 1) := dk_100 (dk_at dksX2_isPromise_0 10 rfl rfl)
theorem dX2_isPromise_11 : decode cX2_isPromise 11 = .ok (.invokestatic 49, 3) := dk_184 0 49 (dk_at dksX2_isPromise_0 11 rfl rfl)
theorem dX2_isPromise_14 : decode cX2_isPromise 14 = .ok (.ireturn, 1) := dk_172 (dk_at dksX2_isPromise_0 14 rfl rfl)
abbrev cX2_wouldBeSeen : ByteArray := prog_12_method_55_code
def yX2_wouldBeSeen : MethodName := ⟨RX2, "wouldBeSeen", "(I)I"⟩
def dkwX2_wouldBeSeen_6 : List UInt8 := [29, 172]
abbrev dktX2_wouldBeSeen_6 : List UInt8 := dkwX2_wouldBeSeen_6 ++ []
def dkwX2_wouldBeSeen_5 : List UInt8 := [21, 6, 153, 0, 13, 42, 21, 4, 4, 182, 0, 88, 167, 0, 4, 3, 96, 62, 132, 4, 1, 167, 255, 133]
abbrev dktX2_wouldBeSeen_5 : List UInt8 := dkwX2_wouldBeSeen_5 ++ dktX2_wouldBeSeen_6
def dkwX2_wouldBeSeen_4 : List UInt8 := [4, 182, 0, 75, 42, 180, 0, 7, 28, 6, 96, 46, 163, 0, 7, 4, 167, 0, 4, 3, 54, 6, 29]
abbrev dktX2_wouldBeSeen_4 : List UInt8 := dkwX2_wouldBeSeen_4 ++ dktX2_wouldBeSeen_5
def dkwX2_wouldBeSeen_3 : List UInt8 := [160, 0, 43, 42, 21, 5, 3, 182, 0, 75, 42, 180, 0, 7, 28, 4, 96, 46, 160, 0, 25, 42, 21, 5]
abbrev dktX2_wouldBeSeen_3 : List UInt8 := dkwX2_wouldBeSeen_3 ++ dktX2_wouldBeSeen_4
def dkwX2_wouldBeSeen_2 : List UInt8 := [21, 4, 7, 182, 0, 88, 154, 0, 59, 42, 21, 4, 5, 182, 0, 88, 42, 180, 0, 7, 28, 46]
abbrev dktX2_wouldBeSeen_2 : List UInt8 := dkwX2_wouldBeSeen_2 ++ dktX2_wouldBeSeen_3
def dkwX2_wouldBeSeen_1 : List UInt8 := [162, 0, 117, 42, 180, 0, 7, 28, 7, 96, 46, 154, 0, 106, 42, 21, 4, 3, 182, 0, 88, 54, 5, 42]
abbrev dktX2_wouldBeSeen_1 : List UInt8 := dkwX2_wouldBeSeen_1 ++ dktX2_wouldBeSeen_2
def dkwX2_wouldBeSeen_0 : List UInt8 := [17, 7, 68, 16, 10, 27, 104, 96, 61, 3, 62, 3, 54, 4, 21, 4, 42, 180, 0, 7, 16, 10, 46]
abbrev dktX2_wouldBeSeen_0 : List UInt8 := dkwX2_wouldBeSeen_0 ++ dktX2_wouldBeSeen_1
theorem dksX2_wouldBeSeen_0 : cX2_wouldBeSeen.data.toList.drop 0 = dktX2_wouldBeSeen_0 := by decide +kernel
theorem dksX2_wouldBeSeen_1 : cX2_wouldBeSeen.data.toList.drop 23 = dktX2_wouldBeSeen_1 := dk_seg dksX2_wouldBeSeen_0 23 rfl rfl
theorem dksX2_wouldBeSeen_2 : cX2_wouldBeSeen.data.toList.drop 47 = dktX2_wouldBeSeen_2 := dk_seg dksX2_wouldBeSeen_1 24 rfl rfl
theorem dksX2_wouldBeSeen_3 : cX2_wouldBeSeen.data.toList.drop 69 = dktX2_wouldBeSeen_3 := dk_seg dksX2_wouldBeSeen_2 22 rfl rfl
theorem dksX2_wouldBeSeen_4 : cX2_wouldBeSeen.data.toList.drop 93 = dktX2_wouldBeSeen_4 := dk_seg dksX2_wouldBeSeen_3 24 rfl rfl
theorem dksX2_wouldBeSeen_5 : cX2_wouldBeSeen.data.toList.drop 116 = dktX2_wouldBeSeen_5 := dk_seg dksX2_wouldBeSeen_4 23 rfl rfl
theorem dksX2_wouldBeSeen_6 : cX2_wouldBeSeen.data.toList.drop 140 = dktX2_wouldBeSeen_6 := dk_seg dksX2_wouldBeSeen_5 24 rfl rfl
theorem dX2_wouldBeSeen_0 : decode cX2_wouldBeSeen 0 = .ok (.sipush 1860, 3) := dk_17 7 68 (dk_at dksX2_wouldBeSeen_0 0 rfl rfl)
theorem dX2_wouldBeSeen_3 : decode cX2_wouldBeSeen 3 = .ok (.bipush 10, 2) := dk_16 10 (dk_at dksX2_wouldBeSeen_0 3 rfl rfl)
theorem dX2_wouldBeSeen_5 : decode cX2_wouldBeSeen 5 = .ok (.iload_n 1, 1) := dk_27 (dk_at dksX2_wouldBeSeen_0 5 rfl rfl)
theorem dX2_wouldBeSeen_6 : decode cX2_wouldBeSeen 6 = .ok (.imul, 1) := dk_104 (dk_at dksX2_wouldBeSeen_0 6 rfl rfl)
theorem dX2_wouldBeSeen_7 : decode cX2_wouldBeSeen 7 = .ok (.iadd, 1) := dk_96 (dk_at dksX2_wouldBeSeen_0 7 rfl rfl)
theorem dX2_wouldBeSeen_8 : decode cX2_wouldBeSeen 8 = .ok (.istore_n 2, 1) := dk_61 (dk_at dksX2_wouldBeSeen_0 8 rfl rfl)
theorem dX2_wouldBeSeen_9 : decode cX2_wouldBeSeen 9 = .ok (.iconst 0, 1) := dk_3 (dk_at dksX2_wouldBeSeen_0 9 rfl rfl)
theorem dX2_wouldBeSeen_10 : decode cX2_wouldBeSeen 10 = .ok (.istore_n 3, 1) := dk_62 (dk_at dksX2_wouldBeSeen_0 10 rfl rfl)
theorem dX2_wouldBeSeen_11 : decode cX2_wouldBeSeen 11 = .ok (.iconst 0, 1) := dk_3 (dk_at dksX2_wouldBeSeen_0 11 rfl rfl)
theorem dX2_wouldBeSeen_12 : decode cX2_wouldBeSeen 12 = .ok (.istore 4, 2) := dk_54 4 (dk_at dksX2_wouldBeSeen_0 12 rfl rfl)
theorem dX2_wouldBeSeen_14 : decode cX2_wouldBeSeen 14 = .ok (.iload 4, 2) := dk_21 4 (dk_at dksX2_wouldBeSeen_0 14 rfl rfl)
theorem dX2_wouldBeSeen_16 : decode cX2_wouldBeSeen 16 = .ok (.aload_n 0, 1) := dk_42 (dk_at dksX2_wouldBeSeen_0 16 rfl rfl)
theorem dX2_wouldBeSeen_17 : decode cX2_wouldBeSeen 17 = .ok (.getfield 7, 3) := dk_180 0 7 (dk_at dksX2_wouldBeSeen_0 17 rfl rfl)
theorem dX2_wouldBeSeen_20 : decode cX2_wouldBeSeen 20 = .ok (.bipush 10, 2) := dk_16 10 (dk_at dksX2_wouldBeSeen_0 20 rfl rfl)
theorem dX2_wouldBeSeen_22 : decode cX2_wouldBeSeen 22 = .ok (.iaload, 1) := dk_46 (dk_at dksX2_wouldBeSeen_0 22 rfl rfl)
theorem dX2_wouldBeSeen_23 : decode cX2_wouldBeSeen 23 = .ok (.if_icmp .ge 117, 3) := dk_162 0 117 (dk_at dksX2_wouldBeSeen_1 0 rfl rfl)
theorem dX2_wouldBeSeen_26 : decode cX2_wouldBeSeen 26 = .ok (.aload_n 0, 1) := dk_42 (dk_at dksX2_wouldBeSeen_1 3 rfl rfl)
theorem dX2_wouldBeSeen_27 : decode cX2_wouldBeSeen 27 = .ok (.getfield 7, 3) := dk_180 0 7 (dk_at dksX2_wouldBeSeen_1 4 rfl rfl)
theorem dX2_wouldBeSeen_30 : decode cX2_wouldBeSeen 30 = .ok (.iload_n 2, 1) := dk_28 (dk_at dksX2_wouldBeSeen_1 7 rfl rfl)
theorem dX2_wouldBeSeen_31 : decode cX2_wouldBeSeen 31 = .ok (.iconst 4, 1) := dk_7 (dk_at dksX2_wouldBeSeen_1 8 rfl rfl)
theorem dX2_wouldBeSeen_32 : decode cX2_wouldBeSeen 32 = .ok (.iadd, 1) := dk_96 (dk_at dksX2_wouldBeSeen_1 9 rfl rfl)
theorem dX2_wouldBeSeen_33 : decode cX2_wouldBeSeen 33 = .ok (.iaload, 1) := dk_46 (dk_at dksX2_wouldBeSeen_1 10 rfl rfl)
theorem dX2_wouldBeSeen_34 : decode cX2_wouldBeSeen 34 = .ok (.ifCond .ne 106, 3) := dk_154 0 106 (dk_at dksX2_wouldBeSeen_1 11 rfl rfl)
theorem dX2_wouldBeSeen_37 : decode cX2_wouldBeSeen 37 = .ok (.aload_n 0, 1) := dk_42 (dk_at dksX2_wouldBeSeen_1 14 rfl rfl)
theorem dX2_wouldBeSeen_38 : decode cX2_wouldBeSeen 38 = .ok (.iload 4, 2) := dk_21 4 (dk_at dksX2_wouldBeSeen_1 15 rfl rfl)
theorem dX2_wouldBeSeen_40 : decode cX2_wouldBeSeen 40 = .ok (.iconst 0, 1) := dk_3 (dk_at dksX2_wouldBeSeen_1 17 rfl rfl)
theorem dX2_wouldBeSeen_41 : decode cX2_wouldBeSeen 41 = .ok (.invokevirtual 88, 3) := dk_182 0 88 (dk_at dksX2_wouldBeSeen_1 18 rfl rfl)
theorem dX2_wouldBeSeen_44 : decode cX2_wouldBeSeen 44 = .ok (.istore 5, 2) := dk_54 5 (dk_at dksX2_wouldBeSeen_1 21 rfl rfl)
theorem dX2_wouldBeSeen_46 : decode cX2_wouldBeSeen 46 = .ok (.aload_n 0, 1) := dk_42 (dk_at dksX2_wouldBeSeen_1 23 rfl rfl)
theorem dX2_wouldBeSeen_47 : decode cX2_wouldBeSeen 47 = .ok (.iload 4, 2) := dk_21 4 (dk_at dksX2_wouldBeSeen_2 0 rfl rfl)
theorem dX2_wouldBeSeen_49 : decode cX2_wouldBeSeen 49 = .ok (.iconst 4, 1) := dk_7 (dk_at dksX2_wouldBeSeen_2 2 rfl rfl)
theorem dX2_wouldBeSeen_50 : decode cX2_wouldBeSeen 50 = .ok (.invokevirtual 88, 3) := dk_182 0 88 (dk_at dksX2_wouldBeSeen_2 3 rfl rfl)
theorem dX2_wouldBeSeen_53 : decode cX2_wouldBeSeen 53 = .ok (.ifCond .ne 59, 3) := dk_154 0 59 (dk_at dksX2_wouldBeSeen_2 6 rfl rfl)
theorem dX2_wouldBeSeen_56 : decode cX2_wouldBeSeen 56 = .ok (.aload_n 0, 1) := dk_42 (dk_at dksX2_wouldBeSeen_2 9 rfl rfl)
theorem dX2_wouldBeSeen_57 : decode cX2_wouldBeSeen 57 = .ok (.iload 4, 2) := dk_21 4 (dk_at dksX2_wouldBeSeen_2 10 rfl rfl)
theorem dX2_wouldBeSeen_59 : decode cX2_wouldBeSeen 59 = .ok (.iconst 2, 1) := dk_5 (dk_at dksX2_wouldBeSeen_2 12 rfl rfl)
theorem dX2_wouldBeSeen_60 : decode cX2_wouldBeSeen 60 = .ok (.invokevirtual 88, 3) := dk_182 0 88 (dk_at dksX2_wouldBeSeen_2 13 rfl rfl)
theorem dX2_wouldBeSeen_63 : decode cX2_wouldBeSeen 63 = .ok (.aload_n 0, 1) := dk_42 (dk_at dksX2_wouldBeSeen_2 16 rfl rfl)
theorem dX2_wouldBeSeen_64 : decode cX2_wouldBeSeen 64 = .ok (.getfield 7, 3) := dk_180 0 7 (dk_at dksX2_wouldBeSeen_2 17 rfl rfl)
theorem dX2_wouldBeSeen_67 : decode cX2_wouldBeSeen 67 = .ok (.iload_n 2, 1) := dk_28 (dk_at dksX2_wouldBeSeen_2 20 rfl rfl)
theorem dX2_wouldBeSeen_68 : decode cX2_wouldBeSeen 68 = .ok (.iaload, 1) := dk_46 (dk_at dksX2_wouldBeSeen_2 21 rfl rfl)
theorem dX2_wouldBeSeen_69 : decode cX2_wouldBeSeen 69 = .ok (.if_icmp .ne 43, 3) := dk_160 0 43 (dk_at dksX2_wouldBeSeen_3 0 rfl rfl)
theorem dX2_wouldBeSeen_72 : decode cX2_wouldBeSeen 72 = .ok (.aload_n 0, 1) := dk_42 (dk_at dksX2_wouldBeSeen_3 3 rfl rfl)
theorem dX2_wouldBeSeen_73 : decode cX2_wouldBeSeen 73 = .ok (.iload 5, 2) := dk_21 5 (dk_at dksX2_wouldBeSeen_3 4 rfl rfl)
theorem dX2_wouldBeSeen_75 : decode cX2_wouldBeSeen 75 = .ok (.iconst 0, 1) := dk_3 (dk_at dksX2_wouldBeSeen_3 6 rfl rfl)
theorem dX2_wouldBeSeen_76 : decode cX2_wouldBeSeen 76 = .ok (.invokevirtual 75, 3) := dk_182 0 75 (dk_at dksX2_wouldBeSeen_3 7 rfl rfl)
theorem dX2_wouldBeSeen_79 : decode cX2_wouldBeSeen 79 = .ok (.aload_n 0, 1) := dk_42 (dk_at dksX2_wouldBeSeen_3 10 rfl rfl)
theorem dX2_wouldBeSeen_80 : decode cX2_wouldBeSeen 80 = .ok (.getfield 7, 3) := dk_180 0 7 (dk_at dksX2_wouldBeSeen_3 11 rfl rfl)
theorem dX2_wouldBeSeen_83 : decode cX2_wouldBeSeen 83 = .ok (.iload_n 2, 1) := dk_28 (dk_at dksX2_wouldBeSeen_3 14 rfl rfl)
theorem dX2_wouldBeSeen_84 : decode cX2_wouldBeSeen 84 = .ok (.iconst 1, 1) := dk_4 (dk_at dksX2_wouldBeSeen_3 15 rfl rfl)
theorem dX2_wouldBeSeen_85 : decode cX2_wouldBeSeen 85 = .ok (.iadd, 1) := dk_96 (dk_at dksX2_wouldBeSeen_3 16 rfl rfl)
theorem dX2_wouldBeSeen_86 : decode cX2_wouldBeSeen 86 = .ok (.iaload, 1) := dk_46 (dk_at dksX2_wouldBeSeen_3 17 rfl rfl)
theorem dX2_wouldBeSeen_87 : decode cX2_wouldBeSeen 87 = .ok (.if_icmp .ne 25, 3) := dk_160 0 25 (dk_at dksX2_wouldBeSeen_3 18 rfl rfl)
theorem dX2_wouldBeSeen_90 : decode cX2_wouldBeSeen 90 = .ok (.aload_n 0, 1) := dk_42 (dk_at dksX2_wouldBeSeen_3 21 rfl rfl)
theorem dX2_wouldBeSeen_91 : decode cX2_wouldBeSeen 91 = .ok (.iload 5, 2) := dk_21 5 (dk_at dksX2_wouldBeSeen_3 22 rfl rfl)
theorem dX2_wouldBeSeen_93 : decode cX2_wouldBeSeen 93 = .ok (.iconst 1, 1) := dk_4 (dk_at dksX2_wouldBeSeen_4 0 rfl rfl)
theorem dX2_wouldBeSeen_94 : decode cX2_wouldBeSeen 94 = .ok (.invokevirtual 75, 3) := dk_182 0 75 (dk_at dksX2_wouldBeSeen_4 1 rfl rfl)
theorem dX2_wouldBeSeen_97 : decode cX2_wouldBeSeen 97 = .ok (.aload_n 0, 1) := dk_42 (dk_at dksX2_wouldBeSeen_4 4 rfl rfl)
theorem dX2_wouldBeSeen_98 : decode cX2_wouldBeSeen 98 = .ok (.getfield 7, 3) := dk_180 0 7 (dk_at dksX2_wouldBeSeen_4 5 rfl rfl)
theorem dX2_wouldBeSeen_101 : decode cX2_wouldBeSeen 101 = .ok (.iload_n 2, 1) := dk_28 (dk_at dksX2_wouldBeSeen_4 8 rfl rfl)
theorem dX2_wouldBeSeen_102 : decode cX2_wouldBeSeen 102 = .ok (.iconst 3, 1) := dk_6 (dk_at dksX2_wouldBeSeen_4 9 rfl rfl)
theorem dX2_wouldBeSeen_103 : decode cX2_wouldBeSeen 103 = .ok (.iadd, 1) := dk_96 (dk_at dksX2_wouldBeSeen_4 10 rfl rfl)
theorem dX2_wouldBeSeen_104 : decode cX2_wouldBeSeen 104 = .ok (.iaload, 1) := dk_46 (dk_at dksX2_wouldBeSeen_4 11 rfl rfl)
theorem dX2_wouldBeSeen_105 : decode cX2_wouldBeSeen 105 = .ok (.if_icmp .gt 7, 3) := dk_163 0 7 (dk_at dksX2_wouldBeSeen_4 12 rfl rfl)
theorem dX2_wouldBeSeen_108 : decode cX2_wouldBeSeen 108 = .ok (.iconst 1, 1) := dk_4 (dk_at dksX2_wouldBeSeen_4 15 rfl rfl)
theorem dX2_wouldBeSeen_109 : decode cX2_wouldBeSeen 109 = .ok (.goto 4, 3) := dk_167 0 4 (dk_at dksX2_wouldBeSeen_4 16 rfl rfl)
theorem dX2_wouldBeSeen_112 : decode cX2_wouldBeSeen 112 = .ok (.iconst 0, 1) := dk_3 (dk_at dksX2_wouldBeSeen_4 19 rfl rfl)
theorem dX2_wouldBeSeen_113 : decode cX2_wouldBeSeen 113 = .ok (.istore 6, 2) := dk_54 6 (dk_at dksX2_wouldBeSeen_4 20 rfl rfl)
theorem dX2_wouldBeSeen_115 : decode cX2_wouldBeSeen 115 = .ok (.iload_n 3, 1) := dk_29 (dk_at dksX2_wouldBeSeen_4 22 rfl rfl)
theorem dX2_wouldBeSeen_116 : decode cX2_wouldBeSeen 116 = .ok (.iload 6, 2) := dk_21 6 (dk_at dksX2_wouldBeSeen_5 0 rfl rfl)
theorem dX2_wouldBeSeen_118 : decode cX2_wouldBeSeen 118 = .ok (.ifCond .eq 13, 3) := dk_153 0 13 (dk_at dksX2_wouldBeSeen_5 2 rfl rfl)
theorem dX2_wouldBeSeen_121 : decode cX2_wouldBeSeen 121 = .ok (.aload_n 0, 1) := dk_42 (dk_at dksX2_wouldBeSeen_5 5 rfl rfl)
theorem dX2_wouldBeSeen_122 : decode cX2_wouldBeSeen 122 = .ok (.iload 4, 2) := dk_21 4 (dk_at dksX2_wouldBeSeen_5 6 rfl rfl)
theorem dX2_wouldBeSeen_124 : decode cX2_wouldBeSeen 124 = .ok (.iconst 1, 1) := dk_4 (dk_at dksX2_wouldBeSeen_5 8 rfl rfl)
theorem dX2_wouldBeSeen_125 : decode cX2_wouldBeSeen 125 = .ok (.invokevirtual 88, 3) := dk_182 0 88 (dk_at dksX2_wouldBeSeen_5 9 rfl rfl)
theorem dX2_wouldBeSeen_128 : decode cX2_wouldBeSeen 128 = .ok (.goto 4, 3) := dk_167 0 4 (dk_at dksX2_wouldBeSeen_5 12 rfl rfl)
theorem dX2_wouldBeSeen_131 : decode cX2_wouldBeSeen 131 = .ok (.iconst 0, 1) := dk_3 (dk_at dksX2_wouldBeSeen_5 15 rfl rfl)
theorem dX2_wouldBeSeen_132 : decode cX2_wouldBeSeen 132 = .ok (.iadd, 1) := dk_96 (dk_at dksX2_wouldBeSeen_5 16 rfl rfl)
theorem dX2_wouldBeSeen_133 : decode cX2_wouldBeSeen 133 = .ok (.istore_n 3, 1) := dk_62 (dk_at dksX2_wouldBeSeen_5 17 rfl rfl)
theorem dX2_wouldBeSeen_134 : decode cX2_wouldBeSeen 134 = .ok (.iinc 4 1, 3) := dk_132 4 1 (dk_at dksX2_wouldBeSeen_5 18 rfl rfl)
theorem dX2_wouldBeSeen_137 : decode cX2_wouldBeSeen 137 = .ok (.goto (-123), 3) := dk_167 255 133 (dk_at dksX2_wouldBeSeen_5 21 rfl rfl)
theorem dX2_wouldBeSeen_140 : decode cX2_wouldBeSeen 140 = .ok (.iload_n 3, 1) := dk_29 (dk_at dksX2_wouldBeSeen_6 0 rfl rfl)
theorem dX2_wouldBeSeen_141 : decode cX2_wouldBeSeen 141 = .ok (.ireturn, 1) := dk_172 (dk_at dksX2_wouldBeSeen_6 1 rfl rfl)
abbrev cX2_reason : ByteArray := prog_12_method_57_code
def yX2_reason : MethodName := ⟨RX2, "reason", "(I)I"⟩
def dkwX2_reason_5 : List UInt8 := [162, 0, 7, 4, 167, 0, 7, 21, 4, 7, 100, 172]
abbrev dktX2_reason_5 : List UInt8 := dkwX2_reason_5 ++ []
def dkwX2_reason_4 : List UInt8 := [167, 0, 5, 21, 4, 54, 4, 132, 5, 1, 167, 255, 198, 29, 42, 180, 0, 7, 28, 5, 96, 46]
abbrev dktX2_reason_4 : List UInt8 := dkwX2_reason_4 ++ dktX2_reason_5
def dkwX2_reason_3 : List UInt8 := [180, 0, 7, 28, 21, 5, 96, 46, 42, 180, 0, 7, 28, 21, 4, 96, 46, 164, 0, 8, 21, 5]
abbrev dktX2_reason_3 : List UInt8 := dkwX2_reason_3 ++ dktX2_reason_4
def dkwX2_reason_2 : List UInt8 := [162, 0, 57, 29, 42, 180, 0, 7, 28, 21, 5, 96, 46, 96, 62, 21, 5, 8, 164, 0, 29, 42]
abbrev dktX2_reason_2 : List UInt8 := dkwX2_reason_2 ++ dktX2_reason_3
def dkwX2_reason_1 : List UInt8 := [7, 96, 46, 5, 159, 0, 6, 16, 250, 172, 3, 62, 16, 6, 54, 4, 8, 54, 5, 21, 5, 16, 10]
abbrev dktX2_reason_1 : List UInt8 := dkwX2_reason_1 ++ dktX2_reason_2
def dkwX2_reason_0 : List UInt8 := [42, 27, 182, 0, 161, 154, 0, 5, 2, 172, 17, 7, 68, 16, 10, 27, 104, 96, 61, 42, 180, 0, 7, 28]
abbrev dktX2_reason_0 : List UInt8 := dkwX2_reason_0 ++ dktX2_reason_1
theorem dksX2_reason_0 : cX2_reason.data.toList.drop 0 = dktX2_reason_0 := by decide +kernel
theorem dksX2_reason_1 : cX2_reason.data.toList.drop 24 = dktX2_reason_1 := dk_seg dksX2_reason_0 24 rfl rfl
theorem dksX2_reason_2 : cX2_reason.data.toList.drop 47 = dktX2_reason_2 := dk_seg dksX2_reason_1 23 rfl rfl
theorem dksX2_reason_3 : cX2_reason.data.toList.drop 69 = dktX2_reason_3 := dk_seg dksX2_reason_2 22 rfl rfl
theorem dksX2_reason_4 : cX2_reason.data.toList.drop 91 = dktX2_reason_4 := dk_seg dksX2_reason_3 22 rfl rfl
theorem dksX2_reason_5 : cX2_reason.data.toList.drop 113 = dktX2_reason_5 := dk_seg dksX2_reason_4 22 rfl rfl
theorem dX2_reason_0 : decode cX2_reason 0 = .ok (.aload_n 0, 1) := dk_42 (dk_at dksX2_reason_0 0 rfl rfl)
theorem dX2_reason_1 : decode cX2_reason 1 = .ok (.iload_n 1, 1) := dk_27 (dk_at dksX2_reason_0 1 rfl rfl)
theorem dX2_reason_2 : decode cX2_reason 2 = .ok (.invokevirtual 161, 3) := dk_182 0 161 (dk_at dksX2_reason_0 2 rfl rfl)
theorem dX2_reason_5 : decode cX2_reason 5 = .ok (.ifCond .ne 5, 3) := dk_154 0 5 (dk_at dksX2_reason_0 5 rfl rfl)
theorem dX2_reason_8 : decode cX2_reason 8 = .ok (.iconst (-1), 1) := dk_2 (dk_at dksX2_reason_0 8 rfl rfl)
theorem dX2_reason_9 : decode cX2_reason 9 = .ok (.ireturn, 1) := dk_172 (dk_at dksX2_reason_0 9 rfl rfl)
theorem dX2_reason_10 : decode cX2_reason 10 = .ok (.sipush 1860, 3) := dk_17 7 68 (dk_at dksX2_reason_0 10 rfl rfl)
theorem dX2_reason_13 : decode cX2_reason 13 = .ok (.bipush 10, 2) := dk_16 10 (dk_at dksX2_reason_0 13 rfl rfl)
theorem dX2_reason_15 : decode cX2_reason 15 = .ok (.iload_n 1, 1) := dk_27 (dk_at dksX2_reason_0 15 rfl rfl)
theorem dX2_reason_16 : decode cX2_reason 16 = .ok (.imul, 1) := dk_104 (dk_at dksX2_reason_0 16 rfl rfl)
theorem dX2_reason_17 : decode cX2_reason 17 = .ok (.iadd, 1) := dk_96 (dk_at dksX2_reason_0 17 rfl rfl)
theorem dX2_reason_18 : decode cX2_reason 18 = .ok (.istore_n 2, 1) := dk_61 (dk_at dksX2_reason_0 18 rfl rfl)
theorem dX2_reason_19 : decode cX2_reason 19 = .ok (.aload_n 0, 1) := dk_42 (dk_at dksX2_reason_0 19 rfl rfl)
theorem dX2_reason_20 : decode cX2_reason 20 = .ok (.getfield 7, 3) := dk_180 0 7 (dk_at dksX2_reason_0 20 rfl rfl)
theorem dX2_reason_23 : decode cX2_reason 23 = .ok (.iload_n 2, 1) := dk_28 (dk_at dksX2_reason_0 23 rfl rfl)
theorem dX2_reason_24 : decode cX2_reason 24 = .ok (.iconst 4, 1) := dk_7 (dk_at dksX2_reason_1 0 rfl rfl)
theorem dX2_reason_25 : decode cX2_reason 25 = .ok (.iadd, 1) := dk_96 (dk_at dksX2_reason_1 1 rfl rfl)
theorem dX2_reason_26 : decode cX2_reason 26 = .ok (.iaload, 1) := dk_46 (dk_at dksX2_reason_1 2 rfl rfl)
theorem dX2_reason_27 : decode cX2_reason 27 = .ok (.iconst 2, 1) := dk_5 (dk_at dksX2_reason_1 3 rfl rfl)
theorem dX2_reason_28 : decode cX2_reason 28 = .ok (.if_icmp .eq 6, 3) := dk_159 0 6 (dk_at dksX2_reason_1 4 rfl rfl)
theorem dX2_reason_31 : decode cX2_reason 31 = .ok (.bipush (-6), 2) := dk_16 250 (dk_at dksX2_reason_1 7 rfl rfl)
theorem dX2_reason_33 : decode cX2_reason 33 = .ok (.ireturn, 1) := dk_172 (dk_at dksX2_reason_1 9 rfl rfl)
theorem dX2_reason_34 : decode cX2_reason 34 = .ok (.iconst 0, 1) := dk_3 (dk_at dksX2_reason_1 10 rfl rfl)
theorem dX2_reason_35 : decode cX2_reason 35 = .ok (.istore_n 3, 1) := dk_62 (dk_at dksX2_reason_1 11 rfl rfl)
theorem dX2_reason_36 : decode cX2_reason 36 = .ok (.bipush 6, 2) := dk_16 6 (dk_at dksX2_reason_1 12 rfl rfl)
theorem dX2_reason_38 : decode cX2_reason 38 = .ok (.istore 4, 2) := dk_54 4 (dk_at dksX2_reason_1 14 rfl rfl)
theorem dX2_reason_40 : decode cX2_reason 40 = .ok (.iconst 5, 1) := dk_8 (dk_at dksX2_reason_1 16 rfl rfl)
theorem dX2_reason_41 : decode cX2_reason 41 = .ok (.istore 5, 2) := dk_54 5 (dk_at dksX2_reason_1 17 rfl rfl)
theorem dX2_reason_43 : decode cX2_reason 43 = .ok (.iload 5, 2) := dk_21 5 (dk_at dksX2_reason_1 19 rfl rfl)
theorem dX2_reason_45 : decode cX2_reason 45 = .ok (.bipush 10, 2) := dk_16 10 (dk_at dksX2_reason_1 21 rfl rfl)
theorem dX2_reason_47 : decode cX2_reason 47 = .ok (.if_icmp .ge 57, 3) := dk_162 0 57 (dk_at dksX2_reason_2 0 rfl rfl)
theorem dX2_reason_50 : decode cX2_reason 50 = .ok (.iload_n 3, 1) := dk_29 (dk_at dksX2_reason_2 3 rfl rfl)
theorem dX2_reason_51 : decode cX2_reason 51 = .ok (.aload_n 0, 1) := dk_42 (dk_at dksX2_reason_2 4 rfl rfl)
theorem dX2_reason_52 : decode cX2_reason 52 = .ok (.getfield 7, 3) := dk_180 0 7 (dk_at dksX2_reason_2 5 rfl rfl)
theorem dX2_reason_55 : decode cX2_reason 55 = .ok (.iload_n 2, 1) := dk_28 (dk_at dksX2_reason_2 8 rfl rfl)
theorem dX2_reason_56 : decode cX2_reason 56 = .ok (.iload 5, 2) := dk_21 5 (dk_at dksX2_reason_2 9 rfl rfl)
theorem dX2_reason_58 : decode cX2_reason 58 = .ok (.iadd, 1) := dk_96 (dk_at dksX2_reason_2 11 rfl rfl)
theorem dX2_reason_59 : decode cX2_reason 59 = .ok (.iaload, 1) := dk_46 (dk_at dksX2_reason_2 12 rfl rfl)
theorem dX2_reason_60 : decode cX2_reason 60 = .ok (.iadd, 1) := dk_96 (dk_at dksX2_reason_2 13 rfl rfl)
theorem dX2_reason_61 : decode cX2_reason 61 = .ok (.istore_n 3, 1) := dk_62 (dk_at dksX2_reason_2 14 rfl rfl)
theorem dX2_reason_62 : decode cX2_reason 62 = .ok (.iload 5, 2) := dk_21 5 (dk_at dksX2_reason_2 15 rfl rfl)
theorem dX2_reason_64 : decode cX2_reason 64 = .ok (.iconst 5, 1) := dk_8 (dk_at dksX2_reason_2 17 rfl rfl)
theorem dX2_reason_65 : decode cX2_reason 65 = .ok (.if_icmp .le 29, 3) := dk_164 0 29 (dk_at dksX2_reason_2 18 rfl rfl)
theorem dX2_reason_68 : decode cX2_reason 68 = .ok (.aload_n 0, 1) := dk_42 (dk_at dksX2_reason_2 21 rfl rfl)
theorem dX2_reason_69 : decode cX2_reason 69 = .ok (.getfield 7, 3) := dk_180 0 7 (dk_at dksX2_reason_3 0 rfl rfl)
theorem dX2_reason_72 : decode cX2_reason 72 = .ok (.iload_n 2, 1) := dk_28 (dk_at dksX2_reason_3 3 rfl rfl)
theorem dX2_reason_73 : decode cX2_reason 73 = .ok (.iload 5, 2) := dk_21 5 (dk_at dksX2_reason_3 4 rfl rfl)
theorem dX2_reason_75 : decode cX2_reason 75 = .ok (.iadd, 1) := dk_96 (dk_at dksX2_reason_3 6 rfl rfl)
theorem dX2_reason_76 : decode cX2_reason 76 = .ok (.iaload, 1) := dk_46 (dk_at dksX2_reason_3 7 rfl rfl)
theorem dX2_reason_77 : decode cX2_reason 77 = .ok (.aload_n 0, 1) := dk_42 (dk_at dksX2_reason_3 8 rfl rfl)
theorem dX2_reason_78 : decode cX2_reason 78 = .ok (.getfield 7, 3) := dk_180 0 7 (dk_at dksX2_reason_3 9 rfl rfl)
theorem dX2_reason_81 : decode cX2_reason 81 = .ok (.iload_n 2, 1) := dk_28 (dk_at dksX2_reason_3 12 rfl rfl)
theorem dX2_reason_82 : decode cX2_reason 82 = .ok (.iload 4, 2) := dk_21 4 (dk_at dksX2_reason_3 13 rfl rfl)
theorem dX2_reason_84 : decode cX2_reason 84 = .ok (.iadd, 1) := dk_96 (dk_at dksX2_reason_3 15 rfl rfl)
theorem dX2_reason_85 : decode cX2_reason 85 = .ok (.iaload, 1) := dk_46 (dk_at dksX2_reason_3 16 rfl rfl)
theorem dX2_reason_86 : decode cX2_reason 86 = .ok (.if_icmp .le 8, 3) := dk_164 0 8 (dk_at dksX2_reason_3 17 rfl rfl)
theorem dX2_reason_89 : decode cX2_reason 89 = .ok (.iload 5, 2) := dk_21 5 (dk_at dksX2_reason_3 20 rfl rfl)
theorem dX2_reason_91 : decode cX2_reason 91 = .ok (.goto 5, 3) := dk_167 0 5 (dk_at dksX2_reason_4 0 rfl rfl)
theorem dX2_reason_94 : decode cX2_reason 94 = .ok (.iload 4, 2) := dk_21 4 (dk_at dksX2_reason_4 3 rfl rfl)
theorem dX2_reason_96 : decode cX2_reason 96 = .ok (.istore 4, 2) := dk_54 4 (dk_at dksX2_reason_4 5 rfl rfl)
theorem dX2_reason_98 : decode cX2_reason 98 = .ok (.iinc 5 1, 3) := dk_132 5 1 (dk_at dksX2_reason_4 7 rfl rfl)
theorem dX2_reason_101 : decode cX2_reason 101 = .ok (.goto (-58), 3) := dk_167 255 198 (dk_at dksX2_reason_4 10 rfl rfl)
theorem dX2_reason_104 : decode cX2_reason 104 = .ok (.iload_n 3, 1) := dk_29 (dk_at dksX2_reason_4 13 rfl rfl)
theorem dX2_reason_105 : decode cX2_reason 105 = .ok (.aload_n 0, 1) := dk_42 (dk_at dksX2_reason_4 14 rfl rfl)
theorem dX2_reason_106 : decode cX2_reason 106 = .ok (.getfield 7, 3) := dk_180 0 7 (dk_at dksX2_reason_4 15 rfl rfl)
theorem dX2_reason_109 : decode cX2_reason 109 = .ok (.iload_n 2, 1) := dk_28 (dk_at dksX2_reason_4 18 rfl rfl)
theorem dX2_reason_110 : decode cX2_reason 110 = .ok (.iconst 2, 1) := dk_5 (dk_at dksX2_reason_4 19 rfl rfl)
theorem dX2_reason_111 : decode cX2_reason 111 = .ok (.iadd, 1) := dk_96 (dk_at dksX2_reason_4 20 rfl rfl)
theorem dX2_reason_112 : decode cX2_reason 112 = .ok (.iaload, 1) := dk_46 (dk_at dksX2_reason_4 21 rfl rfl)
theorem dX2_reason_113 : decode cX2_reason 113 = .ok (.if_icmp .ge 7, 3) := dk_162 0 7 (dk_at dksX2_reason_5 0 rfl rfl)
theorem dX2_reason_116 : decode cX2_reason 116 = .ok (.iconst 1, 1) := dk_4 (dk_at dksX2_reason_5 3 rfl rfl)
theorem dX2_reason_117 : decode cX2_reason 117 = .ok (.goto 7, 3) := dk_167 0 7 (dk_at dksX2_reason_5 4 rfl rfl)
theorem dX2_reason_120 : decode cX2_reason 120 = .ok (.iload 4, 2) := dk_21 4 (dk_at dksX2_reason_5 7 rfl rfl)
theorem dX2_reason_122 : decode cX2_reason 122 = .ok (.iconst 4, 1) := dk_7 (dk_at dksX2_reason_5 9 rfl rfl)
theorem dX2_reason_123 : decode cX2_reason 123 = .ok (.isub, 1) := dk_100 (dk_at dksX2_reason_5 10 rfl rfl)
theorem dX2_reason_124 : decode cX2_reason 124 = .ok (.ireturn, 1) := dk_172 (dk_at dksX2_reason_5 11 rfl rfl)
abbrev cX2_at : ByteArray := prog_12_method_58_code
def yX2_at : MethodName := ⟨RX2, "at", "(II)I"⟩
def dkwX2_at_1 : List UInt8 := [27, 28, 182, 0, 78, 62, 29, 155, 0, 10, 16, 100, 29, 96, 167, 0, 9, 42, 27, 28, 182, 0, 81, 172]
abbrev dktX2_at_1 : List UInt8 := dkwX2_at_1 ++ []
def dkwX2_at_0 : List UInt8 := [27, 3, 17, 3, 231, 184, 0, 49, 153, 0, 12, 28, 3, 8, 184, 0, 49, 154, 0, 6, 16, 254, 172, 42]
abbrev dktX2_at_0 : List UInt8 := dkwX2_at_0 ++ dktX2_at_1
theorem dksX2_at_0 : cX2_at.data.toList.drop 0 = dktX2_at_0 := by decide +kernel
theorem dksX2_at_1 : cX2_at.data.toList.drop 24 = dktX2_at_1 := dk_seg dksX2_at_0 24 rfl rfl
theorem dX2_at_0 : decode cX2_at 0 = .ok (.iload_n 1, 1) := dk_27 (dk_at dksX2_at_0 0 rfl rfl)
theorem dX2_at_1 : decode cX2_at 1 = .ok (.iconst 0, 1) := dk_3 (dk_at dksX2_at_0 1 rfl rfl)
theorem dX2_at_2 : decode cX2_at 2 = .ok (.sipush 999, 3) := dk_17 3 231 (dk_at dksX2_at_0 2 rfl rfl)
theorem dX2_at_5 : decode cX2_at 5 = .ok (.invokestatic 49, 3) := dk_184 0 49 (dk_at dksX2_at_0 5 rfl rfl)
theorem dX2_at_8 : decode cX2_at 8 = .ok (.ifCond .eq 12, 3) := dk_153 0 12 (dk_at dksX2_at_0 8 rfl rfl)
theorem dX2_at_11 : decode cX2_at 11 = .ok (.iload_n 2, 1) := dk_28 (dk_at dksX2_at_0 11 rfl rfl)
theorem dX2_at_12 : decode cX2_at 12 = .ok (.iconst 0, 1) := dk_3 (dk_at dksX2_at_0 12 rfl rfl)
theorem dX2_at_13 : decode cX2_at 13 = .ok (.iconst 5, 1) := dk_8 (dk_at dksX2_at_0 13 rfl rfl)
theorem dX2_at_14 : decode cX2_at 14 = .ok (.invokestatic 49, 3) := dk_184 0 49 (dk_at dksX2_at_0 14 rfl rfl)
theorem dX2_at_17 : decode cX2_at 17 = .ok (.ifCond .ne 6, 3) := dk_154 0 6 (dk_at dksX2_at_0 17 rfl rfl)
theorem dX2_at_20 : decode cX2_at 20 = .ok (.bipush (-2), 2) := dk_16 254 (dk_at dksX2_at_0 20 rfl rfl)
theorem dX2_at_22 : decode cX2_at 22 = .ok (.ireturn, 1) := dk_172 (dk_at dksX2_at_0 22 rfl rfl)
theorem dX2_at_23 : decode cX2_at 23 = .ok (.aload_n 0, 1) := dk_42 (dk_at dksX2_at_0 23 rfl rfl)
theorem dX2_at_24 : decode cX2_at 24 = .ok (.iload_n 1, 1) := dk_27 (dk_at dksX2_at_1 0 rfl rfl)
theorem dX2_at_25 : decode cX2_at 25 = .ok (.iload_n 2, 1) := dk_28 (dk_at dksX2_at_1 1 rfl rfl)
theorem dX2_at_26 : decode cX2_at 26 = .ok (.invokevirtual 78, 3) := dk_182 0 78 (dk_at dksX2_at_1 2 rfl rfl)
theorem dX2_at_29 : decode cX2_at 29 = .ok (.istore_n 3, 1) := dk_62 (dk_at dksX2_at_1 5 rfl rfl)
theorem dX2_at_30 : decode cX2_at 30 = .ok (.iload_n 3, 1) := dk_29 (dk_at dksX2_at_1 6 rfl rfl)
theorem dX2_at_31 : decode cX2_at 31 = .ok (.ifCond .lt 10, 3) := dk_155 0 10 (dk_at dksX2_at_1 7 rfl rfl)
theorem dX2_at_34 : decode cX2_at 34 = .ok (.bipush 100, 2) := dk_16 100 (dk_at dksX2_at_1 10 rfl rfl)
theorem dX2_at_36 : decode cX2_at 36 = .ok (.iload_n 3, 1) := dk_29 (dk_at dksX2_at_1 12 rfl rfl)
theorem dX2_at_37 : decode cX2_at 37 = .ok (.iadd, 1) := dk_96 (dk_at dksX2_at_1 13 rfl rfl)
theorem dX2_at_38 : decode cX2_at 38 = .ok (.goto 9, 3) := dk_167 0 9 (dk_at dksX2_at_1 14 rfl rfl)
theorem dX2_at_41 : decode cX2_at 41 = .ok (.aload_n 0, 1) := dk_42 (dk_at dksX2_at_1 17 rfl rfl)
theorem dX2_at_42 : decode cX2_at 42 = .ok (.iload_n 1, 1) := dk_27 (dk_at dksX2_at_1 18 rfl rfl)
theorem dX2_at_43 : decode cX2_at 43 = .ok (.iload_n 2, 1) := dk_28 (dk_at dksX2_at_1 19 rfl rfl)
theorem dX2_at_44 : decode cX2_at 44 = .ok (.invokevirtual 81, 3) := dk_182 0 81 (dk_at dksX2_at_1 20 rfl rfl)
theorem dX2_at_47 : decode cX2_at 47 = .ok (.ireturn, 1) := dk_172 (dk_at dksX2_at_1 23 rfl rfl)
abbrev cX2_count : ByteArray := prog_12_method_59_code
def yX2_count : MethodName := ⟨RX2, "count", "(I)I"⟩
def dkwX2_count_8 : List UInt8 := [162, 0, 18, 28, 42, 29, 8, 182, 0, 75, 96, 61, 132, 3, 1, 167, 255, 233, 28, 172, 16, 254, 172]
abbrev dktX2_count_8 : List UInt8 := dkwX2_count_8 ++ []
def dkwX2_count_7 : List UInt8 := [96, 4, 96, 46, 96, 61, 132, 3, 1, 167, 255, 226, 28, 172, 3, 62, 29, 42, 180, 0, 7, 16, 9, 46]
abbrev dktX2_count_7 : List UInt8 := dkwX2_count_7 ++ dktX2_count_8
def dkwX2_count_6 : List UInt8 := [172, 3, 62, 29, 42, 180, 0, 7, 16, 8, 46, 162, 0, 25, 28, 42, 180, 0, 7, 16, 50, 7, 29, 104]
abbrev dktX2_count_6 : List UInt8 := dkwX2_count_6 ++ dktX2_count_7
def dkwX2_count_5 : List UInt8 := [180, 0, 7, 16, 12, 46, 172, 42, 180, 0, 7, 16, 11, 46, 172, 42, 180, 0, 167, 172, 42, 180, 0, 45]
abbrev dktX2_count_5 : List UInt8 := dkwX2_count_5 ++ dktX2_count_6
def dkwX2_count_4 : List UInt8 := [42, 182, 0, 64, 172, 42, 180, 0, 7, 16, 9, 46, 172, 42, 180, 0, 7, 16, 10, 46, 172, 42]
abbrev dktX2_count_4 : List UInt8 := dkwX2_count_4 ++ dktX2_count_5
def dkwX2_count_3 : List UInt8 := [42, 180, 0, 7, 16, 6, 46, 172, 42, 180, 0, 7, 16, 7, 46, 172, 42, 180, 0, 7, 16, 8, 46, 172]
abbrev dktX2_count_3 : List UInt8 := dkwX2_count_3 ++ dktX2_count_4
def dkwX2_count_2 : List UInt8 := [170, 0, 0, 0, 0, 220, 0, 0, 0, 0, 0, 0, 0, 16, 0, 0, 0, 82, 0, 0, 0, 90, 0, 0, 0, 98, 0, 0, 0, 106, 0, 0, 0, 111, 0, 0, 0, 220, 0, 0, 0, 220, 0, 0, 0, 220, 0, 0, 0, 220, 0, 0, 0, 220, 0, 0, 0, 119, 0, 0, 0, 127, 0, 0, 0, 135, 0, 0, 0, 143, 0, 0, 0, 148, 0, 0, 0, 153, 0, 0, 0, 190]
abbrev dktX2_count_2 : List UInt8 := dkwX2_count_2 ++ dktX2_count_3
def dkwX2_count_1 : List UInt8 := [184, 0, 49, 153, 0, 13, 42, 180, 0, 7, 27, 16, 17, 100, 46, 172, 3, 61, 27]
abbrev dktX2_count_1 : List UInt8 := dkwX2_count_1 ++ dktX2_count_2
def dkwX2_count_0 : List UInt8 := [27, 8, 16, 9, 184, 0, 49, 153, 0, 11, 42, 27, 8, 100, 182, 0, 152, 172, 27, 16, 17, 16, 22]
abbrev dktX2_count_0 : List UInt8 := dkwX2_count_0 ++ dktX2_count_1
theorem dksX2_count_0 : cX2_count.data.toList.drop 0 = dktX2_count_0 := by decide +kernel
theorem dksX2_count_1 : cX2_count.data.toList.drop 23 = dktX2_count_1 := dk_seg dksX2_count_0 23 rfl rfl
theorem dksX2_count_2 : cX2_count.data.toList.drop 42 = dktX2_count_2 := dk_seg dksX2_count_1 19 rfl rfl
theorem dksX2_count_3 : cX2_count.data.toList.drop 124 = dktX2_count_3 := dk_seg dksX2_count_2 82 rfl rfl
theorem dksX2_count_4 : cX2_count.data.toList.drop 148 = dktX2_count_4 := dk_seg dksX2_count_3 24 rfl rfl
theorem dksX2_count_5 : cX2_count.data.toList.drop 170 = dktX2_count_5 := dk_seg dksX2_count_4 22 rfl rfl
theorem dksX2_count_6 : cX2_count.data.toList.drop 194 = dktX2_count_6 := dk_seg dksX2_count_5 24 rfl rfl
theorem dksX2_count_7 : cX2_count.data.toList.drop 218 = dktX2_count_7 := dk_seg dksX2_count_6 24 rfl rfl
theorem dksX2_count_8 : cX2_count.data.toList.drop 242 = dktX2_count_8 := dk_seg dksX2_count_7 24 rfl rfl
theorem dX2_count_0 : decode cX2_count 0 = .ok (.iload_n 1, 1) := dk_27 (dk_at dksX2_count_0 0 rfl rfl)
theorem dX2_count_1 : decode cX2_count 1 = .ok (.iconst 5, 1) := dk_8 (dk_at dksX2_count_0 1 rfl rfl)
theorem dX2_count_2 : decode cX2_count 2 = .ok (.bipush 9, 2) := dk_16 9 (dk_at dksX2_count_0 2 rfl rfl)
theorem dX2_count_4 : decode cX2_count 4 = .ok (.invokestatic 49, 3) := dk_184 0 49 (dk_at dksX2_count_0 4 rfl rfl)
theorem dX2_count_7 : decode cX2_count 7 = .ok (.ifCond .eq 11, 3) := dk_153 0 11 (dk_at dksX2_count_0 7 rfl rfl)
theorem dX2_count_10 : decode cX2_count 10 = .ok (.aload_n 0, 1) := dk_42 (dk_at dksX2_count_0 10 rfl rfl)
theorem dX2_count_11 : decode cX2_count 11 = .ok (.iload_n 1, 1) := dk_27 (dk_at dksX2_count_0 11 rfl rfl)
theorem dX2_count_12 : decode cX2_count 12 = .ok (.iconst 5, 1) := dk_8 (dk_at dksX2_count_0 12 rfl rfl)
theorem dX2_count_13 : decode cX2_count 13 = .ok (.isub, 1) := dk_100 (dk_at dksX2_count_0 13 rfl rfl)
theorem dX2_count_14 : decode cX2_count 14 = .ok (.invokevirtual 152, 3) := dk_182 0 152 (dk_at dksX2_count_0 14 rfl rfl)
theorem dX2_count_17 : decode cX2_count 17 = .ok (.ireturn, 1) := dk_172 (dk_at dksX2_count_0 17 rfl rfl)
theorem dX2_count_18 : decode cX2_count 18 = .ok (.iload_n 1, 1) := dk_27 (dk_at dksX2_count_0 18 rfl rfl)
theorem dX2_count_19 : decode cX2_count 19 = .ok (.bipush 17, 2) := dk_16 17 (dk_at dksX2_count_0 19 rfl rfl)
theorem dX2_count_21 : decode cX2_count 21 = .ok (.bipush 22, 2) := dk_16 22 (dk_at dksX2_count_0 21 rfl rfl)
theorem dX2_count_23 : decode cX2_count 23 = .ok (.invokestatic 49, 3) := dk_184 0 49 (dk_at dksX2_count_1 0 rfl rfl)
theorem dX2_count_26 : decode cX2_count 26 = .ok (.ifCond .eq 13, 3) := dk_153 0 13 (dk_at dksX2_count_1 3 rfl rfl)
theorem dX2_count_29 : decode cX2_count 29 = .ok (.aload_n 0, 1) := dk_42 (dk_at dksX2_count_1 6 rfl rfl)
theorem dX2_count_30 : decode cX2_count 30 = .ok (.getfield 7, 3) := dk_180 0 7 (dk_at dksX2_count_1 7 rfl rfl)
theorem dX2_count_33 : decode cX2_count 33 = .ok (.iload_n 1, 1) := dk_27 (dk_at dksX2_count_1 10 rfl rfl)
theorem dX2_count_34 : decode cX2_count 34 = .ok (.bipush 17, 2) := dk_16 17 (dk_at dksX2_count_1 11 rfl rfl)
theorem dX2_count_36 : decode cX2_count 36 = .ok (.isub, 1) := dk_100 (dk_at dksX2_count_1 13 rfl rfl)
theorem dX2_count_37 : decode cX2_count 37 = .ok (.iaload, 1) := dk_46 (dk_at dksX2_count_1 14 rfl rfl)
theorem dX2_count_38 : decode cX2_count 38 = .ok (.ireturn, 1) := dk_172 (dk_at dksX2_count_1 15 rfl rfl)
theorem dX2_count_39 : decode cX2_count 39 = .ok (.iconst 0, 1) := dk_3 (dk_at dksX2_count_1 16 rfl rfl)
theorem dX2_count_40 : decode cX2_count 40 = .ok (.istore_n 2, 1) := dk_61 (dk_at dksX2_count_1 17 rfl rfl)
theorem dX2_count_41 : decode cX2_count 41 = .ok (.iload_n 1, 1) := dk_27 (dk_at dksX2_count_1 18 rfl rfl)
theorem dX2_count_42 : decode cX2_count 42 = .ok (.tableswitch 220 0 16 #[82, 90, 98, 106, 111, 220, 220, 220, 220, 220, 119, 127, 135, 143, 148, 153, 190], 82) := by decide +kernel
theorem dX2_count_124 : decode cX2_count 124 = .ok (.aload_n 0, 1) := dk_42 (dk_at dksX2_count_3 0 rfl rfl)
theorem dX2_count_125 : decode cX2_count 125 = .ok (.getfield 7, 3) := dk_180 0 7 (dk_at dksX2_count_3 1 rfl rfl)
theorem dX2_count_128 : decode cX2_count 128 = .ok (.bipush 6, 2) := dk_16 6 (dk_at dksX2_count_3 4 rfl rfl)
theorem dX2_count_130 : decode cX2_count 130 = .ok (.iaload, 1) := dk_46 (dk_at dksX2_count_3 6 rfl rfl)
theorem dX2_count_131 : decode cX2_count 131 = .ok (.ireturn, 1) := dk_172 (dk_at dksX2_count_3 7 rfl rfl)
theorem dX2_count_132 : decode cX2_count 132 = .ok (.aload_n 0, 1) := dk_42 (dk_at dksX2_count_3 8 rfl rfl)
theorem dX2_count_133 : decode cX2_count 133 = .ok (.getfield 7, 3) := dk_180 0 7 (dk_at dksX2_count_3 9 rfl rfl)
theorem dX2_count_136 : decode cX2_count 136 = .ok (.bipush 7, 2) := dk_16 7 (dk_at dksX2_count_3 12 rfl rfl)
theorem dX2_count_138 : decode cX2_count 138 = .ok (.iaload, 1) := dk_46 (dk_at dksX2_count_3 14 rfl rfl)
theorem dX2_count_139 : decode cX2_count 139 = .ok (.ireturn, 1) := dk_172 (dk_at dksX2_count_3 15 rfl rfl)
theorem dX2_count_140 : decode cX2_count 140 = .ok (.aload_n 0, 1) := dk_42 (dk_at dksX2_count_3 16 rfl rfl)
theorem dX2_count_141 : decode cX2_count 141 = .ok (.getfield 7, 3) := dk_180 0 7 (dk_at dksX2_count_3 17 rfl rfl)
theorem dX2_count_144 : decode cX2_count 144 = .ok (.bipush 8, 2) := dk_16 8 (dk_at dksX2_count_3 20 rfl rfl)
theorem dX2_count_146 : decode cX2_count 146 = .ok (.iaload, 1) := dk_46 (dk_at dksX2_count_3 22 rfl rfl)
theorem dX2_count_147 : decode cX2_count 147 = .ok (.ireturn, 1) := dk_172 (dk_at dksX2_count_3 23 rfl rfl)
theorem dX2_count_148 : decode cX2_count 148 = .ok (.aload_n 0, 1) := dk_42 (dk_at dksX2_count_4 0 rfl rfl)
theorem dX2_count_149 : decode cX2_count 149 = .ok (.invokevirtual 64, 3) := dk_182 0 64 (dk_at dksX2_count_4 1 rfl rfl)
theorem dX2_count_152 : decode cX2_count 152 = .ok (.ireturn, 1) := dk_172 (dk_at dksX2_count_4 4 rfl rfl)
theorem dX2_count_153 : decode cX2_count 153 = .ok (.aload_n 0, 1) := dk_42 (dk_at dksX2_count_4 5 rfl rfl)
theorem dX2_count_154 : decode cX2_count 154 = .ok (.getfield 7, 3) := dk_180 0 7 (dk_at dksX2_count_4 6 rfl rfl)
theorem dX2_count_157 : decode cX2_count 157 = .ok (.bipush 9, 2) := dk_16 9 (dk_at dksX2_count_4 9 rfl rfl)
theorem dX2_count_159 : decode cX2_count 159 = .ok (.iaload, 1) := dk_46 (dk_at dksX2_count_4 11 rfl rfl)
theorem dX2_count_160 : decode cX2_count 160 = .ok (.ireturn, 1) := dk_172 (dk_at dksX2_count_4 12 rfl rfl)
theorem dX2_count_161 : decode cX2_count 161 = .ok (.aload_n 0, 1) := dk_42 (dk_at dksX2_count_4 13 rfl rfl)
theorem dX2_count_162 : decode cX2_count 162 = .ok (.getfield 7, 3) := dk_180 0 7 (dk_at dksX2_count_4 14 rfl rfl)
theorem dX2_count_165 : decode cX2_count 165 = .ok (.bipush 10, 2) := dk_16 10 (dk_at dksX2_count_4 17 rfl rfl)
theorem dX2_count_167 : decode cX2_count 167 = .ok (.iaload, 1) := dk_46 (dk_at dksX2_count_4 19 rfl rfl)
theorem dX2_count_168 : decode cX2_count 168 = .ok (.ireturn, 1) := dk_172 (dk_at dksX2_count_4 20 rfl rfl)
theorem dX2_count_169 : decode cX2_count 169 = .ok (.aload_n 0, 1) := dk_42 (dk_at dksX2_count_4 21 rfl rfl)
theorem dX2_count_170 : decode cX2_count 170 = .ok (.getfield 7, 3) := dk_180 0 7 (dk_at dksX2_count_5 0 rfl rfl)
theorem dX2_count_173 : decode cX2_count 173 = .ok (.bipush 12, 2) := dk_16 12 (dk_at dksX2_count_5 3 rfl rfl)
theorem dX2_count_175 : decode cX2_count 175 = .ok (.iaload, 1) := dk_46 (dk_at dksX2_count_5 5 rfl rfl)
theorem dX2_count_176 : decode cX2_count 176 = .ok (.ireturn, 1) := dk_172 (dk_at dksX2_count_5 6 rfl rfl)
theorem dX2_count_177 : decode cX2_count 177 = .ok (.aload_n 0, 1) := dk_42 (dk_at dksX2_count_5 7 rfl rfl)
theorem dX2_count_178 : decode cX2_count 178 = .ok (.getfield 7, 3) := dk_180 0 7 (dk_at dksX2_count_5 8 rfl rfl)
theorem dX2_count_181 : decode cX2_count 181 = .ok (.bipush 11, 2) := dk_16 11 (dk_at dksX2_count_5 11 rfl rfl)
theorem dX2_count_183 : decode cX2_count 183 = .ok (.iaload, 1) := dk_46 (dk_at dksX2_count_5 13 rfl rfl)
theorem dX2_count_184 : decode cX2_count 184 = .ok (.ireturn, 1) := dk_172 (dk_at dksX2_count_5 14 rfl rfl)
theorem dX2_count_185 : decode cX2_count 185 = .ok (.aload_n 0, 1) := dk_42 (dk_at dksX2_count_5 15 rfl rfl)
theorem dX2_count_186 : decode cX2_count 186 = .ok (.getfield 167, 3) := dk_180 0 167 (dk_at dksX2_count_5 16 rfl rfl)
theorem dX2_count_189 : decode cX2_count 189 = .ok (.ireturn, 1) := dk_172 (dk_at dksX2_count_5 19 rfl rfl)
theorem dX2_count_190 : decode cX2_count 190 = .ok (.aload_n 0, 1) := dk_42 (dk_at dksX2_count_5 20 rfl rfl)
theorem dX2_count_191 : decode cX2_count 191 = .ok (.getfield 45, 3) := dk_180 0 45 (dk_at dksX2_count_5 21 rfl rfl)
theorem dX2_count_194 : decode cX2_count 194 = .ok (.ireturn, 1) := dk_172 (dk_at dksX2_count_6 0 rfl rfl)
theorem dX2_count_195 : decode cX2_count 195 = .ok (.iconst 0, 1) := dk_3 (dk_at dksX2_count_6 1 rfl rfl)
theorem dX2_count_196 : decode cX2_count 196 = .ok (.istore_n 3, 1) := dk_62 (dk_at dksX2_count_6 2 rfl rfl)
theorem dX2_count_197 : decode cX2_count 197 = .ok (.iload_n 3, 1) := dk_29 (dk_at dksX2_count_6 3 rfl rfl)
theorem dX2_count_198 : decode cX2_count 198 = .ok (.aload_n 0, 1) := dk_42 (dk_at dksX2_count_6 4 rfl rfl)
theorem dX2_count_199 : decode cX2_count 199 = .ok (.getfield 7, 3) := dk_180 0 7 (dk_at dksX2_count_6 5 rfl rfl)
theorem dX2_count_202 : decode cX2_count 202 = .ok (.bipush 8, 2) := dk_16 8 (dk_at dksX2_count_6 8 rfl rfl)
theorem dX2_count_204 : decode cX2_count 204 = .ok (.iaload, 1) := dk_46 (dk_at dksX2_count_6 10 rfl rfl)
theorem dX2_count_205 : decode cX2_count 205 = .ok (.if_icmp .ge 25, 3) := dk_162 0 25 (dk_at dksX2_count_6 11 rfl rfl)
theorem dX2_count_208 : decode cX2_count 208 = .ok (.iload_n 2, 1) := dk_28 (dk_at dksX2_count_6 14 rfl rfl)
theorem dX2_count_209 : decode cX2_count 209 = .ok (.aload_n 0, 1) := dk_42 (dk_at dksX2_count_6 15 rfl rfl)
theorem dX2_count_210 : decode cX2_count 210 = .ok (.getfield 7, 3) := dk_180 0 7 (dk_at dksX2_count_6 16 rfl rfl)
theorem dX2_count_213 : decode cX2_count 213 = .ok (.bipush 50, 2) := dk_16 50 (dk_at dksX2_count_6 19 rfl rfl)
theorem dX2_count_215 : decode cX2_count 215 = .ok (.iconst 4, 1) := dk_7 (dk_at dksX2_count_6 21 rfl rfl)
theorem dX2_count_216 : decode cX2_count 216 = .ok (.iload_n 3, 1) := dk_29 (dk_at dksX2_count_6 22 rfl rfl)
theorem dX2_count_217 : decode cX2_count 217 = .ok (.imul, 1) := dk_104 (dk_at dksX2_count_6 23 rfl rfl)
theorem dX2_count_218 : decode cX2_count 218 = .ok (.iadd, 1) := dk_96 (dk_at dksX2_count_7 0 rfl rfl)
theorem dX2_count_219 : decode cX2_count 219 = .ok (.iconst 1, 1) := dk_4 (dk_at dksX2_count_7 1 rfl rfl)
theorem dX2_count_220 : decode cX2_count 220 = .ok (.iadd, 1) := dk_96 (dk_at dksX2_count_7 2 rfl rfl)
theorem dX2_count_221 : decode cX2_count 221 = .ok (.iaload, 1) := dk_46 (dk_at dksX2_count_7 3 rfl rfl)
theorem dX2_count_222 : decode cX2_count 222 = .ok (.iadd, 1) := dk_96 (dk_at dksX2_count_7 4 rfl rfl)
theorem dX2_count_223 : decode cX2_count 223 = .ok (.istore_n 2, 1) := dk_61 (dk_at dksX2_count_7 5 rfl rfl)
theorem dX2_count_224 : decode cX2_count 224 = .ok (.iinc 3 1, 3) := dk_132 3 1 (dk_at dksX2_count_7 6 rfl rfl)
theorem dX2_count_227 : decode cX2_count 227 = .ok (.goto (-30), 3) := dk_167 255 226 (dk_at dksX2_count_7 9 rfl rfl)
theorem dX2_count_230 : decode cX2_count 230 = .ok (.iload_n 2, 1) := dk_28 (dk_at dksX2_count_7 12 rfl rfl)
theorem dX2_count_231 : decode cX2_count 231 = .ok (.ireturn, 1) := dk_172 (dk_at dksX2_count_7 13 rfl rfl)
theorem dX2_count_232 : decode cX2_count 232 = .ok (.iconst 0, 1) := dk_3 (dk_at dksX2_count_7 14 rfl rfl)
theorem dX2_count_233 : decode cX2_count 233 = .ok (.istore_n 3, 1) := dk_62 (dk_at dksX2_count_7 15 rfl rfl)
theorem dX2_count_234 : decode cX2_count 234 = .ok (.iload_n 3, 1) := dk_29 (dk_at dksX2_count_7 16 rfl rfl)
theorem dX2_count_235 : decode cX2_count 235 = .ok (.aload_n 0, 1) := dk_42 (dk_at dksX2_count_7 17 rfl rfl)
theorem dX2_count_236 : decode cX2_count 236 = .ok (.getfield 7, 3) := dk_180 0 7 (dk_at dksX2_count_7 18 rfl rfl)
theorem dX2_count_239 : decode cX2_count 239 = .ok (.bipush 9, 2) := dk_16 9 (dk_at dksX2_count_7 21 rfl rfl)
theorem dX2_count_241 : decode cX2_count 241 = .ok (.iaload, 1) := dk_46 (dk_at dksX2_count_7 23 rfl rfl)
theorem dX2_count_242 : decode cX2_count 242 = .ok (.if_icmp .ge 18, 3) := dk_162 0 18 (dk_at dksX2_count_8 0 rfl rfl)
theorem dX2_count_245 : decode cX2_count 245 = .ok (.iload_n 2, 1) := dk_28 (dk_at dksX2_count_8 3 rfl rfl)
theorem dX2_count_246 : decode cX2_count 246 = .ok (.aload_n 0, 1) := dk_42 (dk_at dksX2_count_8 4 rfl rfl)
theorem dX2_count_247 : decode cX2_count 247 = .ok (.iload_n 3, 1) := dk_29 (dk_at dksX2_count_8 5 rfl rfl)
theorem dX2_count_248 : decode cX2_count 248 = .ok (.iconst 5, 1) := dk_8 (dk_at dksX2_count_8 6 rfl rfl)
theorem dX2_count_249 : decode cX2_count 249 = .ok (.invokevirtual 75, 3) := dk_182 0 75 (dk_at dksX2_count_8 7 rfl rfl)
theorem dX2_count_252 : decode cX2_count 252 = .ok (.iadd, 1) := dk_96 (dk_at dksX2_count_8 10 rfl rfl)
theorem dX2_count_253 : decode cX2_count 253 = .ok (.istore_n 2, 1) := dk_61 (dk_at dksX2_count_8 11 rfl rfl)
theorem dX2_count_254 : decode cX2_count 254 = .ok (.iinc 3 1, 3) := dk_132 3 1 (dk_at dksX2_count_8 12 rfl rfl)
theorem dX2_count_257 : decode cX2_count 257 = .ok (.goto (-23), 3) := dk_167 255 233 (dk_at dksX2_count_8 15 rfl rfl)
theorem dX2_count_260 : decode cX2_count 260 = .ok (.iload_n 2, 1) := dk_28 (dk_at dksX2_count_8 18 rfl rfl)
theorem dX2_count_261 : decode cX2_count 261 = .ok (.ireturn, 1) := dk_172 (dk_at dksX2_count_8 19 rfl rfl)
theorem dX2_count_262 : decode cX2_count 262 = .ok (.bipush (-2), 2) := dk_16 254 (dk_at dksX2_count_8 20 rfl rfl)
theorem dX2_count_264 : decode cX2_count 264 = .ok (.ireturn, 1) := dk_172 (dk_at dksX2_count_8 22 rfl rfl)
abbrev cX2_money : ByteArray := prog_12_method_60_code
def yX2_money : MethodName := ⟨RX2, "money", "(I)I"⟩
def dkwX2_money_4 : List UInt8 := [21, 4, 21, 5, 100, 167, 0, 4, 3, 96, 61, 132, 3, 1, 167, 255, 163, 28, 172]
abbrev dktX2_money_4 : List UInt8 := dkwX2_money_4 ++ []
def dkwX2_money_3 : List UInt8 := [4, 160, 0, 8, 21, 5, 167, 0, 27, 21, 6, 27, 5, 160, 0, 7, 4, 167, 0, 4, 3, 160, 0, 11]
abbrev dktX2_money_3 : List UInt8 := dkwX2_money_3 ++ dktX2_money_4
def dkwX2_money_2 : List UInt8 := [182, 0, 88, 155, 0, 7, 4, 167, 0, 4, 3, 54, 6, 28, 27, 154, 0, 8, 21, 4, 167, 0, 37, 27]
abbrev dktX2_money_2 : List UInt8 := dkwX2_money_2 ++ dktX2_money_3
def dkwX2_money_1 : List UInt8 := [162, 0, 88, 42, 29, 8, 182, 0, 88, 54, 4, 42, 29, 16, 6, 182, 0, 88, 54, 5, 42, 29, 5]
abbrev dktX2_money_1 : List UInt8 := dkwX2_money_1 ++ dktX2_money_2
def dkwX2_money_0 : List UInt8 := [27, 3, 6, 184, 0, 49, 154, 0, 6, 16, 254, 172, 3, 61, 3, 62, 29, 42, 180, 0, 7, 16, 10, 46]
abbrev dktX2_money_0 : List UInt8 := dkwX2_money_0 ++ dktX2_money_1
theorem dksX2_money_0 : cX2_money.data.toList.drop 0 = dktX2_money_0 := by decide +kernel
theorem dksX2_money_1 : cX2_money.data.toList.drop 24 = dktX2_money_1 := dk_seg dksX2_money_0 24 rfl rfl
theorem dksX2_money_2 : cX2_money.data.toList.drop 47 = dktX2_money_2 := dk_seg dksX2_money_1 23 rfl rfl
theorem dksX2_money_3 : cX2_money.data.toList.drop 71 = dktX2_money_3 := dk_seg dksX2_money_2 24 rfl rfl
theorem dksX2_money_4 : cX2_money.data.toList.drop 95 = dktX2_money_4 := dk_seg dksX2_money_3 24 rfl rfl
theorem dX2_money_0 : decode cX2_money 0 = .ok (.iload_n 1, 1) := dk_27 (dk_at dksX2_money_0 0 rfl rfl)
theorem dX2_money_1 : decode cX2_money 1 = .ok (.iconst 0, 1) := dk_3 (dk_at dksX2_money_0 1 rfl rfl)
theorem dX2_money_2 : decode cX2_money 2 = .ok (.iconst 3, 1) := dk_6 (dk_at dksX2_money_0 2 rfl rfl)
theorem dX2_money_3 : decode cX2_money 3 = .ok (.invokestatic 49, 3) := dk_184 0 49 (dk_at dksX2_money_0 3 rfl rfl)
theorem dX2_money_6 : decode cX2_money 6 = .ok (.ifCond .ne 6, 3) := dk_154 0 6 (dk_at dksX2_money_0 6 rfl rfl)
theorem dX2_money_9 : decode cX2_money 9 = .ok (.bipush (-2), 2) := dk_16 254 (dk_at dksX2_money_0 9 rfl rfl)
theorem dX2_money_11 : decode cX2_money 11 = .ok (.ireturn, 1) := dk_172 (dk_at dksX2_money_0 11 rfl rfl)
theorem dX2_money_12 : decode cX2_money 12 = .ok (.iconst 0, 1) := dk_3 (dk_at dksX2_money_0 12 rfl rfl)
theorem dX2_money_13 : decode cX2_money 13 = .ok (.istore_n 2, 1) := dk_61 (dk_at dksX2_money_0 13 rfl rfl)
theorem dX2_money_14 : decode cX2_money 14 = .ok (.iconst 0, 1) := dk_3 (dk_at dksX2_money_0 14 rfl rfl)
theorem dX2_money_15 : decode cX2_money 15 = .ok (.istore_n 3, 1) := dk_62 (dk_at dksX2_money_0 15 rfl rfl)
theorem dX2_money_16 : decode cX2_money 16 = .ok (.iload_n 3, 1) := dk_29 (dk_at dksX2_money_0 16 rfl rfl)
theorem dX2_money_17 : decode cX2_money 17 = .ok (.aload_n 0, 1) := dk_42 (dk_at dksX2_money_0 17 rfl rfl)
theorem dX2_money_18 : decode cX2_money 18 = .ok (.getfield 7, 3) := dk_180 0 7 (dk_at dksX2_money_0 18 rfl rfl)
theorem dX2_money_21 : decode cX2_money 21 = .ok (.bipush 10, 2) := dk_16 10 (dk_at dksX2_money_0 21 rfl rfl)
theorem dX2_money_23 : decode cX2_money 23 = .ok (.iaload, 1) := dk_46 (dk_at dksX2_money_0 23 rfl rfl)
theorem dX2_money_24 : decode cX2_money 24 = .ok (.if_icmp .ge 88, 3) := dk_162 0 88 (dk_at dksX2_money_1 0 rfl rfl)
theorem dX2_money_27 : decode cX2_money 27 = .ok (.aload_n 0, 1) := dk_42 (dk_at dksX2_money_1 3 rfl rfl)
theorem dX2_money_28 : decode cX2_money 28 = .ok (.iload_n 3, 1) := dk_29 (dk_at dksX2_money_1 4 rfl rfl)
theorem dX2_money_29 : decode cX2_money 29 = .ok (.iconst 5, 1) := dk_8 (dk_at dksX2_money_1 5 rfl rfl)
theorem dX2_money_30 : decode cX2_money 30 = .ok (.invokevirtual 88, 3) := dk_182 0 88 (dk_at dksX2_money_1 6 rfl rfl)
theorem dX2_money_33 : decode cX2_money 33 = .ok (.istore 4, 2) := dk_54 4 (dk_at dksX2_money_1 9 rfl rfl)
theorem dX2_money_35 : decode cX2_money 35 = .ok (.aload_n 0, 1) := dk_42 (dk_at dksX2_money_1 11 rfl rfl)
theorem dX2_money_36 : decode cX2_money 36 = .ok (.iload_n 3, 1) := dk_29 (dk_at dksX2_money_1 12 rfl rfl)
theorem dX2_money_37 : decode cX2_money 37 = .ok (.bipush 6, 2) := dk_16 6 (dk_at dksX2_money_1 13 rfl rfl)
theorem dX2_money_39 : decode cX2_money 39 = .ok (.invokevirtual 88, 3) := dk_182 0 88 (dk_at dksX2_money_1 15 rfl rfl)
theorem dX2_money_42 : decode cX2_money 42 = .ok (.istore 5, 2) := dk_54 5 (dk_at dksX2_money_1 18 rfl rfl)
theorem dX2_money_44 : decode cX2_money 44 = .ok (.aload_n 0, 1) := dk_42 (dk_at dksX2_money_1 20 rfl rfl)
theorem dX2_money_45 : decode cX2_money 45 = .ok (.iload_n 3, 1) := dk_29 (dk_at dksX2_money_1 21 rfl rfl)
theorem dX2_money_46 : decode cX2_money 46 = .ok (.iconst 2, 1) := dk_5 (dk_at dksX2_money_1 22 rfl rfl)
theorem dX2_money_47 : decode cX2_money 47 = .ok (.invokevirtual 88, 3) := dk_182 0 88 (dk_at dksX2_money_2 0 rfl rfl)
theorem dX2_money_50 : decode cX2_money 50 = .ok (.ifCond .lt 7, 3) := dk_155 0 7 (dk_at dksX2_money_2 3 rfl rfl)
theorem dX2_money_53 : decode cX2_money 53 = .ok (.iconst 1, 1) := dk_4 (dk_at dksX2_money_2 6 rfl rfl)
theorem dX2_money_54 : decode cX2_money 54 = .ok (.goto 4, 3) := dk_167 0 4 (dk_at dksX2_money_2 7 rfl rfl)
theorem dX2_money_57 : decode cX2_money 57 = .ok (.iconst 0, 1) := dk_3 (dk_at dksX2_money_2 10 rfl rfl)
theorem dX2_money_58 : decode cX2_money 58 = .ok (.istore 6, 2) := dk_54 6 (dk_at dksX2_money_2 11 rfl rfl)
theorem dX2_money_60 : decode cX2_money 60 = .ok (.iload_n 2, 1) := dk_28 (dk_at dksX2_money_2 13 rfl rfl)
theorem dX2_money_61 : decode cX2_money 61 = .ok (.iload_n 1, 1) := dk_27 (dk_at dksX2_money_2 14 rfl rfl)
theorem dX2_money_62 : decode cX2_money 62 = .ok (.ifCond .ne 8, 3) := dk_154 0 8 (dk_at dksX2_money_2 15 rfl rfl)
theorem dX2_money_65 : decode cX2_money 65 = .ok (.iload 4, 2) := dk_21 4 (dk_at dksX2_money_2 18 rfl rfl)
theorem dX2_money_67 : decode cX2_money 67 = .ok (.goto 37, 3) := dk_167 0 37 (dk_at dksX2_money_2 20 rfl rfl)
theorem dX2_money_70 : decode cX2_money 70 = .ok (.iload_n 1, 1) := dk_27 (dk_at dksX2_money_2 23 rfl rfl)
theorem dX2_money_71 : decode cX2_money 71 = .ok (.iconst 1, 1) := dk_4 (dk_at dksX2_money_3 0 rfl rfl)
theorem dX2_money_72 : decode cX2_money 72 = .ok (.if_icmp .ne 8, 3) := dk_160 0 8 (dk_at dksX2_money_3 1 rfl rfl)
theorem dX2_money_75 : decode cX2_money 75 = .ok (.iload 5, 2) := dk_21 5 (dk_at dksX2_money_3 4 rfl rfl)
theorem dX2_money_77 : decode cX2_money 77 = .ok (.goto 27, 3) := dk_167 0 27 (dk_at dksX2_money_3 6 rfl rfl)
theorem dX2_money_80 : decode cX2_money 80 = .ok (.iload 6, 2) := dk_21 6 (dk_at dksX2_money_3 9 rfl rfl)
theorem dX2_money_82 : decode cX2_money 82 = .ok (.iload_n 1, 1) := dk_27 (dk_at dksX2_money_3 11 rfl rfl)
theorem dX2_money_83 : decode cX2_money 83 = .ok (.iconst 2, 1) := dk_5 (dk_at dksX2_money_3 12 rfl rfl)
theorem dX2_money_84 : decode cX2_money 84 = .ok (.if_icmp .ne 7, 3) := dk_160 0 7 (dk_at dksX2_money_3 13 rfl rfl)
theorem dX2_money_87 : decode cX2_money 87 = .ok (.iconst 1, 1) := dk_4 (dk_at dksX2_money_3 16 rfl rfl)
theorem dX2_money_88 : decode cX2_money 88 = .ok (.goto 4, 3) := dk_167 0 4 (dk_at dksX2_money_3 17 rfl rfl)
theorem dX2_money_91 : decode cX2_money 91 = .ok (.iconst 0, 1) := dk_3 (dk_at dksX2_money_3 20 rfl rfl)
theorem dX2_money_92 : decode cX2_money 92 = .ok (.if_icmp .ne 11, 3) := dk_160 0 11 (dk_at dksX2_money_3 21 rfl rfl)
theorem dX2_money_95 : decode cX2_money 95 = .ok (.iload 4, 2) := dk_21 4 (dk_at dksX2_money_4 0 rfl rfl)
theorem dX2_money_97 : decode cX2_money 97 = .ok (.iload 5, 2) := dk_21 5 (dk_at dksX2_money_4 2 rfl rfl)
theorem dX2_money_99 : decode cX2_money 99 = .ok (.isub, 1) := dk_100 (dk_at dksX2_money_4 4 rfl rfl)
theorem dX2_money_100 : decode cX2_money 100 = .ok (.goto 4, 3) := dk_167 0 4 (dk_at dksX2_money_4 5 rfl rfl)
theorem dX2_money_103 : decode cX2_money 103 = .ok (.iconst 0, 1) := dk_3 (dk_at dksX2_money_4 8 rfl rfl)
theorem dX2_money_104 : decode cX2_money 104 = .ok (.iadd, 1) := dk_96 (dk_at dksX2_money_4 9 rfl rfl)
theorem dX2_money_105 : decode cX2_money 105 = .ok (.istore_n 2, 1) := dk_61 (dk_at dksX2_money_4 10 rfl rfl)
theorem dX2_money_106 : decode cX2_money 106 = .ok (.iinc 3 1, 3) := dk_132 3 1 (dk_at dksX2_money_4 11 rfl rfl)
theorem dX2_money_109 : decode cX2_money 109 = .ok (.goto (-93), 3) := dk_167 255 163 (dk_at dksX2_money_4 14 rfl rfl)
theorem dX2_money_112 : decode cX2_money 112 = .ok (.iload_n 2, 1) := dk_28 (dk_at dksX2_money_4 17 rfl rfl)
theorem dX2_money_113 : decode cX2_money 113 = .ok (.ireturn, 1) := dk_172 (dk_at dksX2_money_4 18 rfl rfl)
abbrev cX2_brightness : ByteArray := prog_12_method_61_code
def yX2_brightness : MethodName := ⟨RX2, "brightness", "(I)I"⟩
def dkwX2_brightness_2 : List UInt8 := [28, 182, 0, 140, 62, 42, 182, 0, 173, 29, 172]
abbrev dktX2_brightness_2 : List UInt8 := dkwX2_brightness_2 ++ []
def dkwX2_brightness_1 : List UInt8 := [42, 182, 0, 155, 132, 2, 1, 167, 255, 244, 42, 182, 0, 64, 61, 28, 156, 0, 7, 3, 167, 0, 8, 42]
abbrev dktX2_brightness_1 : List UInt8 := dkwX2_brightness_1 ++ dktX2_brightness_2
def dkwX2_brightness_0 : List UInt8 := [27, 4, 16, 90, 184, 0, 49, 154, 0, 6, 16, 254, 172, 42, 182, 0, 170, 3, 61, 28, 27, 162, 0, 13]
abbrev dktX2_brightness_0 : List UInt8 := dkwX2_brightness_0 ++ dktX2_brightness_1
theorem dksX2_brightness_0 : cX2_brightness.data.toList.drop 0 = dktX2_brightness_0 := by decide +kernel
theorem dksX2_brightness_1 : cX2_brightness.data.toList.drop 24 = dktX2_brightness_1 := dk_seg dksX2_brightness_0 24 rfl rfl
theorem dksX2_brightness_2 : cX2_brightness.data.toList.drop 48 = dktX2_brightness_2 := dk_seg dksX2_brightness_1 24 rfl rfl
theorem dX2_brightness_0 : decode cX2_brightness 0 = .ok (.iload_n 1, 1) := dk_27 (dk_at dksX2_brightness_0 0 rfl rfl)
theorem dX2_brightness_1 : decode cX2_brightness 1 = .ok (.iconst 1, 1) := dk_4 (dk_at dksX2_brightness_0 1 rfl rfl)
theorem dX2_brightness_2 : decode cX2_brightness 2 = .ok (.bipush 90, 2) := dk_16 90 (dk_at dksX2_brightness_0 2 rfl rfl)
theorem dX2_brightness_4 : decode cX2_brightness 4 = .ok (.invokestatic 49, 3) := dk_184 0 49 (dk_at dksX2_brightness_0 4 rfl rfl)
theorem dX2_brightness_7 : decode cX2_brightness 7 = .ok (.ifCond .ne 6, 3) := dk_154 0 6 (dk_at dksX2_brightness_0 7 rfl rfl)
theorem dX2_brightness_10 : decode cX2_brightness 10 = .ok (.bipush (-2), 2) := dk_16 254 (dk_at dksX2_brightness_0 10 rfl rfl)
theorem dX2_brightness_12 : decode cX2_brightness 12 = .ok (.ireturn, 1) := dk_172 (dk_at dksX2_brightness_0 12 rfl rfl)
theorem dX2_brightness_13 : decode cX2_brightness 13 = .ok (.aload_n 0, 1) := dk_42 (dk_at dksX2_brightness_0 13 rfl rfl)
theorem dX2_brightness_14 : decode cX2_brightness 14 = .ok (.invokevirtual 170, 3) := dk_182 0 170 (dk_at dksX2_brightness_0 14 rfl rfl)
theorem dX2_brightness_17 : decode cX2_brightness 17 = .ok (.iconst 0, 1) := dk_3 (dk_at dksX2_brightness_0 17 rfl rfl)
theorem dX2_brightness_18 : decode cX2_brightness 18 = .ok (.istore_n 2, 1) := dk_61 (dk_at dksX2_brightness_0 18 rfl rfl)
theorem dX2_brightness_19 : decode cX2_brightness 19 = .ok (.iload_n 2, 1) := dk_28 (dk_at dksX2_brightness_0 19 rfl rfl)
theorem dX2_brightness_20 : decode cX2_brightness 20 = .ok (.iload_n 1, 1) := dk_27 (dk_at dksX2_brightness_0 20 rfl rfl)
theorem dX2_brightness_21 : decode cX2_brightness 21 = .ok (.if_icmp .ge 13, 3) := dk_162 0 13 (dk_at dksX2_brightness_0 21 rfl rfl)
theorem dX2_brightness_24 : decode cX2_brightness 24 = .ok (.aload_n 0, 1) := dk_42 (dk_at dksX2_brightness_1 0 rfl rfl)
theorem dX2_brightness_25 : decode cX2_brightness 25 = .ok (.invokevirtual 155, 3) := dk_182 0 155 (dk_at dksX2_brightness_1 1 rfl rfl)
theorem dX2_brightness_28 : decode cX2_brightness 28 = .ok (.iinc 2 1, 3) := dk_132 2 1 (dk_at dksX2_brightness_1 4 rfl rfl)
theorem dX2_brightness_31 : decode cX2_brightness 31 = .ok (.goto (-12), 3) := dk_167 255 244 (dk_at dksX2_brightness_1 7 rfl rfl)
theorem dX2_brightness_34 : decode cX2_brightness 34 = .ok (.aload_n 0, 1) := dk_42 (dk_at dksX2_brightness_1 10 rfl rfl)
theorem dX2_brightness_35 : decode cX2_brightness 35 = .ok (.invokevirtual 64, 3) := dk_182 0 64 (dk_at dksX2_brightness_1 11 rfl rfl)
theorem dX2_brightness_38 : decode cX2_brightness 38 = .ok (.istore_n 2, 1) := dk_61 (dk_at dksX2_brightness_1 14 rfl rfl)
theorem dX2_brightness_39 : decode cX2_brightness 39 = .ok (.iload_n 2, 1) := dk_28 (dk_at dksX2_brightness_1 15 rfl rfl)
theorem dX2_brightness_40 : decode cX2_brightness 40 = .ok (.ifCond .ge 7, 3) := dk_156 0 7 (dk_at dksX2_brightness_1 16 rfl rfl)
theorem dX2_brightness_43 : decode cX2_brightness 43 = .ok (.iconst 0, 1) := dk_3 (dk_at dksX2_brightness_1 19 rfl rfl)
theorem dX2_brightness_44 : decode cX2_brightness 44 = .ok (.goto 8, 3) := dk_167 0 8 (dk_at dksX2_brightness_1 20 rfl rfl)
theorem dX2_brightness_47 : decode cX2_brightness 47 = .ok (.aload_n 0, 1) := dk_42 (dk_at dksX2_brightness_1 23 rfl rfl)
theorem dX2_brightness_48 : decode cX2_brightness 48 = .ok (.iload_n 2, 1) := dk_28 (dk_at dksX2_brightness_2 0 rfl rfl)
theorem dX2_brightness_49 : decode cX2_brightness 49 = .ok (.invokevirtual 140, 3) := dk_182 0 140 (dk_at dksX2_brightness_2 1 rfl rfl)
theorem dX2_brightness_52 : decode cX2_brightness 52 = .ok (.istore_n 3, 1) := dk_62 (dk_at dksX2_brightness_2 4 rfl rfl)
theorem dX2_brightness_53 : decode cX2_brightness 53 = .ok (.aload_n 0, 1) := dk_42 (dk_at dksX2_brightness_2 5 rfl rfl)
theorem dX2_brightness_54 : decode cX2_brightness 54 = .ok (.invokevirtual 173, 3) := dk_182 0 173 (dk_at dksX2_brightness_2 6 rfl rfl)
theorem dX2_brightness_57 : decode cX2_brightness 57 = .ok (.iload_n 3, 1) := dk_29 (dk_at dksX2_brightness_2 9 rfl rfl)
theorem dX2_brightness_58 : decode cX2_brightness 58 = .ok (.ireturn, 1) := dk_172 (dk_at dksX2_brightness_2 10 rfl rfl)
abbrev cX2_keep : ByteArray := prog_12_method_4_code
def yX2_keep : MethodName := ⟨RX2, "keep", "()V"⟩
def dkwX2_keep_1 : List UInt8 := [167, 255, 234, 177]
abbrev dktX2_keep_1 : List UInt8 := dkwX2_keep_1 ++ []
def dkwX2_keep_0 : List UInt8 := [3, 60, 27, 17, 7, 188, 162, 0, 21, 42, 180, 0, 13, 27, 42, 180, 0, 7, 27, 46, 79, 132, 1, 1]
abbrev dktX2_keep_0 : List UInt8 := dkwX2_keep_0 ++ dktX2_keep_1
theorem dksX2_keep_0 : cX2_keep.data.toList.drop 0 = dktX2_keep_0 := by decide +kernel
theorem dksX2_keep_1 : cX2_keep.data.toList.drop 24 = dktX2_keep_1 := dk_seg dksX2_keep_0 24 rfl rfl
theorem dX2_keep_0 : decode cX2_keep 0 = .ok (.iconst 0, 1) := dk_3 (dk_at dksX2_keep_0 0 rfl rfl)
theorem dX2_keep_1 : decode cX2_keep 1 = .ok (.istore_n 1, 1) := dk_60 (dk_at dksX2_keep_0 1 rfl rfl)
theorem dX2_keep_2 : decode cX2_keep 2 = .ok (.iload_n 1, 1) := dk_27 (dk_at dksX2_keep_0 2 rfl rfl)
theorem dX2_keep_3 : decode cX2_keep 3 = .ok (.sipush 1980, 3) := dk_17 7 188 (dk_at dksX2_keep_0 3 rfl rfl)
theorem dX2_keep_6 : decode cX2_keep 6 = .ok (.if_icmp .ge 21, 3) := dk_162 0 21 (dk_at dksX2_keep_0 6 rfl rfl)
theorem dX2_keep_9 : decode cX2_keep 9 = .ok (.aload_n 0, 1) := dk_42 (dk_at dksX2_keep_0 9 rfl rfl)
theorem dX2_keep_10 : decode cX2_keep 10 = .ok (.getfield 13, 3) := dk_180 0 13 (dk_at dksX2_keep_0 10 rfl rfl)
theorem dX2_keep_13 : decode cX2_keep 13 = .ok (.iload_n 1, 1) := dk_27 (dk_at dksX2_keep_0 13 rfl rfl)
theorem dX2_keep_14 : decode cX2_keep 14 = .ok (.aload_n 0, 1) := dk_42 (dk_at dksX2_keep_0 14 rfl rfl)
theorem dX2_keep_15 : decode cX2_keep 15 = .ok (.getfield 7, 3) := dk_180 0 7 (dk_at dksX2_keep_0 15 rfl rfl)
theorem dX2_keep_18 : decode cX2_keep 18 = .ok (.iload_n 1, 1) := dk_27 (dk_at dksX2_keep_0 18 rfl rfl)
theorem dX2_keep_19 : decode cX2_keep 19 = .ok (.iaload, 1) := dk_46 (dk_at dksX2_keep_0 19 rfl rfl)
theorem dX2_keep_20 : decode cX2_keep 20 = .ok (.iastore, 1) := dk_79 (dk_at dksX2_keep_0 20 rfl rfl)
theorem dX2_keep_21 : decode cX2_keep 21 = .ok (.iinc 1 1, 3) := dk_132 1 1 (dk_at dksX2_keep_0 21 rfl rfl)
theorem dX2_keep_24 : decode cX2_keep 24 = .ok (.goto (-22), 3) := dk_167 255 234 (dk_at dksX2_keep_1 0 rfl rfl)
theorem dX2_keep_27 : decode cX2_keep 27 = .ok (.return_, 1) := dk_177 (dk_at dksX2_keep_1 3 rfl rfl)
abbrev cX2_comeBack : ByteArray := prog_12_method_5_code
def yX2_comeBack : MethodName := ⟨RX2, "comeBack", "()V"⟩
def dkwX2_comeBack_1 : List UInt8 := [167, 255, 234, 177]
abbrev dktX2_comeBack_1 : List UInt8 := dkwX2_comeBack_1 ++ []
def dkwX2_comeBack_0 : List UInt8 := [3, 60, 27, 17, 7, 188, 162, 0, 21, 42, 180, 0, 7, 27, 42, 180, 0, 13, 27, 46, 79, 132, 1, 1]
abbrev dktX2_comeBack_0 : List UInt8 := dkwX2_comeBack_0 ++ dktX2_comeBack_1
theorem dksX2_comeBack_0 : cX2_comeBack.data.toList.drop 0 = dktX2_comeBack_0 := by decide +kernel
theorem dksX2_comeBack_1 : cX2_comeBack.data.toList.drop 24 = dktX2_comeBack_1 := dk_seg dksX2_comeBack_0 24 rfl rfl
theorem dX2_comeBack_0 : decode cX2_comeBack 0 = .ok (.iconst 0, 1) := dk_3 (dk_at dksX2_comeBack_0 0 rfl rfl)
theorem dX2_comeBack_1 : decode cX2_comeBack 1 = .ok (.istore_n 1, 1) := dk_60 (dk_at dksX2_comeBack_0 1 rfl rfl)
theorem dX2_comeBack_2 : decode cX2_comeBack 2 = .ok (.iload_n 1, 1) := dk_27 (dk_at dksX2_comeBack_0 2 rfl rfl)
theorem dX2_comeBack_3 : decode cX2_comeBack 3 = .ok (.sipush 1980, 3) := dk_17 7 188 (dk_at dksX2_comeBack_0 3 rfl rfl)
theorem dX2_comeBack_6 : decode cX2_comeBack 6 = .ok (.if_icmp .ge 21, 3) := dk_162 0 21 (dk_at dksX2_comeBack_0 6 rfl rfl)
theorem dX2_comeBack_9 : decode cX2_comeBack 9 = .ok (.aload_n 0, 1) := dk_42 (dk_at dksX2_comeBack_0 9 rfl rfl)
theorem dX2_comeBack_10 : decode cX2_comeBack 10 = .ok (.getfield 7, 3) := dk_180 0 7 (dk_at dksX2_comeBack_0 10 rfl rfl)
theorem dX2_comeBack_13 : decode cX2_comeBack 13 = .ok (.iload_n 1, 1) := dk_27 (dk_at dksX2_comeBack_0 13 rfl rfl)
theorem dX2_comeBack_14 : decode cX2_comeBack 14 = .ok (.aload_n 0, 1) := dk_42 (dk_at dksX2_comeBack_0 14 rfl rfl)
theorem dX2_comeBack_15 : decode cX2_comeBack 15 = .ok (.getfield 13, 3) := dk_180 0 13 (dk_at dksX2_comeBack_0 15 rfl rfl)
theorem dX2_comeBack_18 : decode cX2_comeBack 18 = .ok (.iload_n 1, 1) := dk_27 (dk_at dksX2_comeBack_0 18 rfl rfl)
theorem dX2_comeBack_19 : decode cX2_comeBack 19 = .ok (.iaload, 1) := dk_46 (dk_at dksX2_comeBack_0 19 rfl rfl)
theorem dX2_comeBack_20 : decode cX2_comeBack 20 = .ok (.iastore, 1) := dk_79 (dk_at dksX2_comeBack_0 20 rfl rfl)
theorem dX2_comeBack_21 : decode cX2_comeBack 21 = .ok (.iinc 1 1, 3) := dk_132 1 1 (dk_at dksX2_comeBack_0 21 rfl rfl)
theorem dX2_comeBack_24 : decode cX2_comeBack 24 = .ok (.goto (-22), 3) := dk_167 255 234 (dk_at dksX2_comeBack_1 0 rfl rfl)
theorem dX2_comeBack_27 : decode cX2_comeBack 27 = .ok (.return_, 1) := dk_177 (dk_at dksX2_comeBack_1 3 rfl rfl)
abbrev cX2_stateIn : ByteArray := prog_12_method_62_code
def yX2_stateIn : MethodName := ⟨RX2, "stateIn", "(II)I"⟩
def dkwX2_stateIn_2 : List UInt8 := [182, 0, 75, 62, 42, 182, 0, 173, 29, 172]
abbrev dktX2_stateIn_2 : List UInt8 := dkwX2_stateIn_2 ++ []
def dkwX2_stateIn_1 : List UInt8 := [182, 0, 170, 3, 62, 29, 28, 162, 0, 13, 42, 182, 0, 155, 132, 3, 1, 167, 255, 244, 42, 27, 6]
abbrev dktX2_stateIn_1 : List UInt8 := dkwX2_stateIn_1 ++ dktX2_stateIn_2
def dkwX2_stateIn_0 : List UInt8 := [42, 27, 182, 0, 97, 154, 0, 5, 2, 172, 28, 4, 16, 90, 184, 0, 49, 154, 0, 6, 16, 254, 172, 42]
abbrev dktX2_stateIn_0 : List UInt8 := dkwX2_stateIn_0 ++ dktX2_stateIn_1
theorem dksX2_stateIn_0 : cX2_stateIn.data.toList.drop 0 = dktX2_stateIn_0 := by decide +kernel
theorem dksX2_stateIn_1 : cX2_stateIn.data.toList.drop 24 = dktX2_stateIn_1 := dk_seg dksX2_stateIn_0 24 rfl rfl
theorem dksX2_stateIn_2 : cX2_stateIn.data.toList.drop 47 = dktX2_stateIn_2 := dk_seg dksX2_stateIn_1 23 rfl rfl
theorem dX2_stateIn_0 : decode cX2_stateIn 0 = .ok (.aload_n 0, 1) := dk_42 (dk_at dksX2_stateIn_0 0 rfl rfl)
theorem dX2_stateIn_1 : decode cX2_stateIn 1 = .ok (.iload_n 1, 1) := dk_27 (dk_at dksX2_stateIn_0 1 rfl rfl)
theorem dX2_stateIn_2 : decode cX2_stateIn 2 = .ok (.invokevirtual 97, 3) := dk_182 0 97 (dk_at dksX2_stateIn_0 2 rfl rfl)
theorem dX2_stateIn_5 : decode cX2_stateIn 5 = .ok (.ifCond .ne 5, 3) := dk_154 0 5 (dk_at dksX2_stateIn_0 5 rfl rfl)
theorem dX2_stateIn_8 : decode cX2_stateIn 8 = .ok (.iconst (-1), 1) := dk_2 (dk_at dksX2_stateIn_0 8 rfl rfl)
theorem dX2_stateIn_9 : decode cX2_stateIn 9 = .ok (.ireturn, 1) := dk_172 (dk_at dksX2_stateIn_0 9 rfl rfl)
theorem dX2_stateIn_10 : decode cX2_stateIn 10 = .ok (.iload_n 2, 1) := dk_28 (dk_at dksX2_stateIn_0 10 rfl rfl)
theorem dX2_stateIn_11 : decode cX2_stateIn 11 = .ok (.iconst 1, 1) := dk_4 (dk_at dksX2_stateIn_0 11 rfl rfl)
theorem dX2_stateIn_12 : decode cX2_stateIn 12 = .ok (.bipush 90, 2) := dk_16 90 (dk_at dksX2_stateIn_0 12 rfl rfl)
theorem dX2_stateIn_14 : decode cX2_stateIn 14 = .ok (.invokestatic 49, 3) := dk_184 0 49 (dk_at dksX2_stateIn_0 14 rfl rfl)
theorem dX2_stateIn_17 : decode cX2_stateIn 17 = .ok (.ifCond .ne 6, 3) := dk_154 0 6 (dk_at dksX2_stateIn_0 17 rfl rfl)
theorem dX2_stateIn_20 : decode cX2_stateIn 20 = .ok (.bipush (-2), 2) := dk_16 254 (dk_at dksX2_stateIn_0 20 rfl rfl)
theorem dX2_stateIn_22 : decode cX2_stateIn 22 = .ok (.ireturn, 1) := dk_172 (dk_at dksX2_stateIn_0 22 rfl rfl)
theorem dX2_stateIn_23 : decode cX2_stateIn 23 = .ok (.aload_n 0, 1) := dk_42 (dk_at dksX2_stateIn_0 23 rfl rfl)
theorem dX2_stateIn_24 : decode cX2_stateIn 24 = .ok (.invokevirtual 170, 3) := dk_182 0 170 (dk_at dksX2_stateIn_1 0 rfl rfl)
theorem dX2_stateIn_27 : decode cX2_stateIn 27 = .ok (.iconst 0, 1) := dk_3 (dk_at dksX2_stateIn_1 3 rfl rfl)
theorem dX2_stateIn_28 : decode cX2_stateIn 28 = .ok (.istore_n 3, 1) := dk_62 (dk_at dksX2_stateIn_1 4 rfl rfl)
theorem dX2_stateIn_29 : decode cX2_stateIn 29 = .ok (.iload_n 3, 1) := dk_29 (dk_at dksX2_stateIn_1 5 rfl rfl)
theorem dX2_stateIn_30 : decode cX2_stateIn 30 = .ok (.iload_n 2, 1) := dk_28 (dk_at dksX2_stateIn_1 6 rfl rfl)
theorem dX2_stateIn_31 : decode cX2_stateIn 31 = .ok (.if_icmp .ge 13, 3) := dk_162 0 13 (dk_at dksX2_stateIn_1 7 rfl rfl)
theorem dX2_stateIn_34 : decode cX2_stateIn 34 = .ok (.aload_n 0, 1) := dk_42 (dk_at dksX2_stateIn_1 10 rfl rfl)
theorem dX2_stateIn_35 : decode cX2_stateIn 35 = .ok (.invokevirtual 155, 3) := dk_182 0 155 (dk_at dksX2_stateIn_1 11 rfl rfl)
theorem dX2_stateIn_38 : decode cX2_stateIn 38 = .ok (.iinc 3 1, 3) := dk_132 3 1 (dk_at dksX2_stateIn_1 14 rfl rfl)
theorem dX2_stateIn_41 : decode cX2_stateIn 41 = .ok (.goto (-12), 3) := dk_167 255 244 (dk_at dksX2_stateIn_1 17 rfl rfl)
theorem dX2_stateIn_44 : decode cX2_stateIn 44 = .ok (.aload_n 0, 1) := dk_42 (dk_at dksX2_stateIn_1 20 rfl rfl)
theorem dX2_stateIn_45 : decode cX2_stateIn 45 = .ok (.iload_n 1, 1) := dk_27 (dk_at dksX2_stateIn_1 21 rfl rfl)
theorem dX2_stateIn_46 : decode cX2_stateIn 46 = .ok (.iconst 3, 1) := dk_6 (dk_at dksX2_stateIn_1 22 rfl rfl)
theorem dX2_stateIn_47 : decode cX2_stateIn 47 = .ok (.invokevirtual 75, 3) := dk_182 0 75 (dk_at dksX2_stateIn_2 0 rfl rfl)
theorem dX2_stateIn_50 : decode cX2_stateIn 50 = .ok (.istore_n 3, 1) := dk_62 (dk_at dksX2_stateIn_2 3 rfl rfl)
theorem dX2_stateIn_51 : decode cX2_stateIn 51 = .ok (.aload_n 0, 1) := dk_42 (dk_at dksX2_stateIn_2 4 rfl rfl)
theorem dX2_stateIn_52 : decode cX2_stateIn 52 = .ok (.invokevirtual 173, 3) := dk_182 0 173 (dk_at dksX2_stateIn_2 5 rfl rfl)
theorem dX2_stateIn_55 : decode cX2_stateIn 55 = .ok (.iload_n 3, 1) := dk_29 (dk_at dksX2_stateIn_2 8 rfl rfl)
theorem dX2_stateIn_56 : decode cX2_stateIn 56 = .ok (.ireturn, 1) := dk_172 (dk_at dksX2_stateIn_2 9 rfl rfl)
abbrev cX2_nextFree : ByteArray := prog_12_method_63_code
def yX2_nextFree : MethodName := ⟨RX2, "nextFree", "(II)I"⟩
def dkwX2_nextFree_1 : List UInt8 := [28, 3, 8, 184, 0, 49, 154, 0, 6, 16, 254, 172, 42, 16, 6, 27, 104, 28, 96, 182, 0, 121, 172]
abbrev dktX2_nextFree_1 : List UInt8 := dkwX2_nextFree_1 ++ []
def dkwX2_nextFree_0 : List UInt8 := [27, 42, 180, 0, 7, 16, 6, 46, 42, 180, 0, 7, 16, 6, 46, 16, 60, 96, 184, 0, 49, 153, 0, 12]
abbrev dktX2_nextFree_0 : List UInt8 := dkwX2_nextFree_0 ++ dktX2_nextFree_1
theorem dksX2_nextFree_0 : cX2_nextFree.data.toList.drop 0 = dktX2_nextFree_0 := by decide +kernel
theorem dksX2_nextFree_1 : cX2_nextFree.data.toList.drop 24 = dktX2_nextFree_1 := dk_seg dksX2_nextFree_0 24 rfl rfl
theorem dX2_nextFree_0 : decode cX2_nextFree 0 = .ok (.iload_n 1, 1) := dk_27 (dk_at dksX2_nextFree_0 0 rfl rfl)
theorem dX2_nextFree_1 : decode cX2_nextFree 1 = .ok (.aload_n 0, 1) := dk_42 (dk_at dksX2_nextFree_0 1 rfl rfl)
theorem dX2_nextFree_2 : decode cX2_nextFree 2 = .ok (.getfield 7, 3) := dk_180 0 7 (dk_at dksX2_nextFree_0 2 rfl rfl)
theorem dX2_nextFree_5 : decode cX2_nextFree 5 = .ok (.bipush 6, 2) := dk_16 6 (dk_at dksX2_nextFree_0 5 rfl rfl)
theorem dX2_nextFree_7 : decode cX2_nextFree 7 = .ok (.iaload, 1) := dk_46 (dk_at dksX2_nextFree_0 7 rfl rfl)
theorem dX2_nextFree_8 : decode cX2_nextFree 8 = .ok (.aload_n 0, 1) := dk_42 (dk_at dksX2_nextFree_0 8 rfl rfl)
theorem dX2_nextFree_9 : decode cX2_nextFree 9 = .ok (.getfield 7, 3) := dk_180 0 7 (dk_at dksX2_nextFree_0 9 rfl rfl)
theorem dX2_nextFree_12 : decode cX2_nextFree 12 = .ok (.bipush 6, 2) := dk_16 6 (dk_at dksX2_nextFree_0 12 rfl rfl)
theorem dX2_nextFree_14 : decode cX2_nextFree 14 = .ok (.iaload, 1) := dk_46 (dk_at dksX2_nextFree_0 14 rfl rfl)
theorem dX2_nextFree_15 : decode cX2_nextFree 15 = .ok (.bipush 60, 2) := dk_16 60 (dk_at dksX2_nextFree_0 15 rfl rfl)
theorem dX2_nextFree_17 : decode cX2_nextFree 17 = .ok (.iadd, 1) := dk_96 (dk_at dksX2_nextFree_0 17 rfl rfl)
theorem dX2_nextFree_18 : decode cX2_nextFree 18 = .ok (.invokestatic 49, 3) := dk_184 0 49 (dk_at dksX2_nextFree_0 18 rfl rfl)
theorem dX2_nextFree_21 : decode cX2_nextFree 21 = .ok (.ifCond .eq 12, 3) := dk_153 0 12 (dk_at dksX2_nextFree_0 21 rfl rfl)
theorem dX2_nextFree_24 : decode cX2_nextFree 24 = .ok (.iload_n 2, 1) := dk_28 (dk_at dksX2_nextFree_1 0 rfl rfl)
theorem dX2_nextFree_25 : decode cX2_nextFree 25 = .ok (.iconst 0, 1) := dk_3 (dk_at dksX2_nextFree_1 1 rfl rfl)
theorem dX2_nextFree_26 : decode cX2_nextFree 26 = .ok (.iconst 5, 1) := dk_8 (dk_at dksX2_nextFree_1 2 rfl rfl)
theorem dX2_nextFree_27 : decode cX2_nextFree 27 = .ok (.invokestatic 49, 3) := dk_184 0 49 (dk_at dksX2_nextFree_1 3 rfl rfl)
theorem dX2_nextFree_30 : decode cX2_nextFree 30 = .ok (.ifCond .ne 6, 3) := dk_154 0 6 (dk_at dksX2_nextFree_1 6 rfl rfl)
theorem dX2_nextFree_33 : decode cX2_nextFree 33 = .ok (.bipush (-2), 2) := dk_16 254 (dk_at dksX2_nextFree_1 9 rfl rfl)
theorem dX2_nextFree_35 : decode cX2_nextFree 35 = .ok (.ireturn, 1) := dk_172 (dk_at dksX2_nextFree_1 11 rfl rfl)
theorem dX2_nextFree_36 : decode cX2_nextFree 36 = .ok (.aload_n 0, 1) := dk_42 (dk_at dksX2_nextFree_1 12 rfl rfl)
theorem dX2_nextFree_37 : decode cX2_nextFree 37 = .ok (.bipush 6, 2) := dk_16 6 (dk_at dksX2_nextFree_1 13 rfl rfl)
theorem dX2_nextFree_39 : decode cX2_nextFree 39 = .ok (.iload_n 1, 1) := dk_27 (dk_at dksX2_nextFree_1 15 rfl rfl)
theorem dX2_nextFree_40 : decode cX2_nextFree 40 = .ok (.imul, 1) := dk_104 (dk_at dksX2_nextFree_1 16 rfl rfl)
theorem dX2_nextFree_41 : decode cX2_nextFree 41 = .ok (.iload_n 2, 1) := dk_28 (dk_at dksX2_nextFree_1 17 rfl rfl)
theorem dX2_nextFree_42 : decode cX2_nextFree 42 = .ok (.iadd, 1) := dk_96 (dk_at dksX2_nextFree_1 18 rfl rfl)
theorem dX2_nextFree_43 : decode cX2_nextFree 43 = .ok (.invokevirtual 121, 3) := dk_182 0 121 (dk_at dksX2_nextFree_1 19 rfl rfl)
theorem dX2_nextFree_46 : decode cX2_nextFree 46 = .ok (.ireturn, 1) := dk_172 (dk_at dksX2_nextFree_1 22 rfl rfl)
abbrev cX2_wouldDisplace : ByteArray := prog_12_method_64_code
def yX2_wouldDisplace : MethodName := ⟨RX2, "wouldDisplace", "(IIII)I"⟩
def dkwX2_wouldDisplace_2 : List UInt8 := [42, 182, 0, 173, 42, 180, 0, 32, 21, 4, 46, 172]
abbrev dktX2_wouldDisplace_2 : List UInt8 := dkwX2_wouldDisplace_2 ++ []
def dkwX2_wouldDisplace_1 : List UInt8 := [21, 5, 156, 0, 8, 21, 5, 167, 0, 5, 16, 254, 172, 42, 182, 0, 170, 42, 27, 28, 29, 182, 0, 137]
abbrev dktX2_wouldDisplace_1 : List UInt8 := dkwX2_wouldDisplace_1 ++ dktX2_wouldDisplace_2
def dkwX2_wouldDisplace_0 : List UInt8 := [42, 27, 28, 29, 182, 0, 133, 54, 5, 21, 5, 155, 0, 13, 21, 4, 3, 6, 184, 0, 49, 154, 0, 16]
abbrev dktX2_wouldDisplace_0 : List UInt8 := dkwX2_wouldDisplace_0 ++ dktX2_wouldDisplace_1
theorem dksX2_wouldDisplace_0 : cX2_wouldDisplace.data.toList.drop 0 = dktX2_wouldDisplace_0 := by decide +kernel
theorem dksX2_wouldDisplace_1 : cX2_wouldDisplace.data.toList.drop 24 = dktX2_wouldDisplace_1 := dk_seg dksX2_wouldDisplace_0 24 rfl rfl
theorem dksX2_wouldDisplace_2 : cX2_wouldDisplace.data.toList.drop 48 = dktX2_wouldDisplace_2 := dk_seg dksX2_wouldDisplace_1 24 rfl rfl
theorem dX2_wouldDisplace_0 : decode cX2_wouldDisplace 0 = .ok (.aload_n 0, 1) := dk_42 (dk_at dksX2_wouldDisplace_0 0 rfl rfl)
theorem dX2_wouldDisplace_1 : decode cX2_wouldDisplace 1 = .ok (.iload_n 1, 1) := dk_27 (dk_at dksX2_wouldDisplace_0 1 rfl rfl)
theorem dX2_wouldDisplace_2 : decode cX2_wouldDisplace 2 = .ok (.iload_n 2, 1) := dk_28 (dk_at dksX2_wouldDisplace_0 2 rfl rfl)
theorem dX2_wouldDisplace_3 : decode cX2_wouldDisplace 3 = .ok (.iload_n 3, 1) := dk_29 (dk_at dksX2_wouldDisplace_0 3 rfl rfl)
theorem dX2_wouldDisplace_4 : decode cX2_wouldDisplace 4 = .ok (.invokevirtual 133, 3) := dk_182 0 133 (dk_at dksX2_wouldDisplace_0 4 rfl rfl)
theorem dX2_wouldDisplace_7 : decode cX2_wouldDisplace 7 = .ok (.istore 5, 2) := dk_54 5 (dk_at dksX2_wouldDisplace_0 7 rfl rfl)
theorem dX2_wouldDisplace_9 : decode cX2_wouldDisplace 9 = .ok (.iload 5, 2) := dk_21 5 (dk_at dksX2_wouldDisplace_0 9 rfl rfl)
theorem dX2_wouldDisplace_11 : decode cX2_wouldDisplace 11 = .ok (.ifCond .lt 13, 3) := dk_155 0 13 (dk_at dksX2_wouldDisplace_0 11 rfl rfl)
theorem dX2_wouldDisplace_14 : decode cX2_wouldDisplace 14 = .ok (.iload 4, 2) := dk_21 4 (dk_at dksX2_wouldDisplace_0 14 rfl rfl)
theorem dX2_wouldDisplace_16 : decode cX2_wouldDisplace 16 = .ok (.iconst 0, 1) := dk_3 (dk_at dksX2_wouldDisplace_0 16 rfl rfl)
theorem dX2_wouldDisplace_17 : decode cX2_wouldDisplace 17 = .ok (.iconst 3, 1) := dk_6 (dk_at dksX2_wouldDisplace_0 17 rfl rfl)
theorem dX2_wouldDisplace_18 : decode cX2_wouldDisplace 18 = .ok (.invokestatic 49, 3) := dk_184 0 49 (dk_at dksX2_wouldDisplace_0 18 rfl rfl)
theorem dX2_wouldDisplace_21 : decode cX2_wouldDisplace 21 = .ok (.ifCond .ne 16, 3) := dk_154 0 16 (dk_at dksX2_wouldDisplace_0 21 rfl rfl)
theorem dX2_wouldDisplace_24 : decode cX2_wouldDisplace 24 = .ok (.iload 5, 2) := dk_21 5 (dk_at dksX2_wouldDisplace_1 0 rfl rfl)
theorem dX2_wouldDisplace_26 : decode cX2_wouldDisplace 26 = .ok (.ifCond .ge 8, 3) := dk_156 0 8 (dk_at dksX2_wouldDisplace_1 2 rfl rfl)
theorem dX2_wouldDisplace_29 : decode cX2_wouldDisplace 29 = .ok (.iload 5, 2) := dk_21 5 (dk_at dksX2_wouldDisplace_1 5 rfl rfl)
theorem dX2_wouldDisplace_31 : decode cX2_wouldDisplace 31 = .ok (.goto 5, 3) := dk_167 0 5 (dk_at dksX2_wouldDisplace_1 7 rfl rfl)
theorem dX2_wouldDisplace_34 : decode cX2_wouldDisplace 34 = .ok (.bipush (-2), 2) := dk_16 254 (dk_at dksX2_wouldDisplace_1 10 rfl rfl)
theorem dX2_wouldDisplace_36 : decode cX2_wouldDisplace 36 = .ok (.ireturn, 1) := dk_172 (dk_at dksX2_wouldDisplace_1 12 rfl rfl)
theorem dX2_wouldDisplace_37 : decode cX2_wouldDisplace 37 = .ok (.aload_n 0, 1) := dk_42 (dk_at dksX2_wouldDisplace_1 13 rfl rfl)
theorem dX2_wouldDisplace_38 : decode cX2_wouldDisplace 38 = .ok (.invokevirtual 170, 3) := dk_182 0 170 (dk_at dksX2_wouldDisplace_1 14 rfl rfl)
theorem dX2_wouldDisplace_41 : decode cX2_wouldDisplace 41 = .ok (.aload_n 0, 1) := dk_42 (dk_at dksX2_wouldDisplace_1 17 rfl rfl)
theorem dX2_wouldDisplace_42 : decode cX2_wouldDisplace 42 = .ok (.iload_n 1, 1) := dk_27 (dk_at dksX2_wouldDisplace_1 18 rfl rfl)
theorem dX2_wouldDisplace_43 : decode cX2_wouldDisplace 43 = .ok (.iload_n 2, 1) := dk_28 (dk_at dksX2_wouldDisplace_1 19 rfl rfl)
theorem dX2_wouldDisplace_44 : decode cX2_wouldDisplace 44 = .ok (.iload_n 3, 1) := dk_29 (dk_at dksX2_wouldDisplace_1 20 rfl rfl)
theorem dX2_wouldDisplace_45 : decode cX2_wouldDisplace 45 = .ok (.invokevirtual 137, 3) := dk_182 0 137 (dk_at dksX2_wouldDisplace_1 21 rfl rfl)
theorem dX2_wouldDisplace_48 : decode cX2_wouldDisplace 48 = .ok (.aload_n 0, 1) := dk_42 (dk_at dksX2_wouldDisplace_2 0 rfl rfl)
theorem dX2_wouldDisplace_49 : decode cX2_wouldDisplace 49 = .ok (.invokevirtual 173, 3) := dk_182 0 173 (dk_at dksX2_wouldDisplace_2 1 rfl rfl)
theorem dX2_wouldDisplace_52 : decode cX2_wouldDisplace 52 = .ok (.aload_n 0, 1) := dk_42 (dk_at dksX2_wouldDisplace_2 4 rfl rfl)
theorem dX2_wouldDisplace_53 : decode cX2_wouldDisplace 53 = .ok (.getfield 32, 3) := dk_180 0 32 (dk_at dksX2_wouldDisplace_2 5 rfl rfl)
theorem dX2_wouldDisplace_56 : decode cX2_wouldDisplace 56 = .ok (.iload 4, 2) := dk_21 4 (dk_at dksX2_wouldDisplace_2 8 rfl rfl)
theorem dX2_wouldDisplace_58 : decode cX2_wouldDisplace 58 = .ok (.iaload, 1) := dk_46 (dk_at dksX2_wouldDisplace_2 10 rfl rfl)
theorem dX2_wouldDisplace_59 : decode cX2_wouldDisplace 59 = .ok (.ireturn, 1) := dk_172 (dk_at dksX2_wouldDisplace_2 11 rfl rfl)
abbrev cX2_leastLife : ByteArray := prog_12_method_67_code
def yX2_leastLife : MethodName := ⟨RX2, "leastLife", "()I"⟩
def dkwX2_leastLife_1 : List UInt8 := [132, 1, 1, 167, 255, 236, 16, 250, 172]
abbrev dktX2_leastLife_1 : List UInt8 := dkwX2_leastLife_1 ++ []
def dkwX2_leastLife_0 : List UInt8 := [42, 182, 0, 179, 16, 50, 60, 27, 17, 19, 136, 163, 0, 19, 42, 27, 182, 0, 182, 153, 0, 5, 27, 172]
abbrev dktX2_leastLife_0 : List UInt8 := dkwX2_leastLife_0 ++ dktX2_leastLife_1
theorem dksX2_leastLife_0 : cX2_leastLife.data.toList.drop 0 = dktX2_leastLife_0 := by decide +kernel
theorem dksX2_leastLife_1 : cX2_leastLife.data.toList.drop 24 = dktX2_leastLife_1 := dk_seg dksX2_leastLife_0 24 rfl rfl
theorem dX2_leastLife_0 : decode cX2_leastLife 0 = .ok (.aload_n 0, 1) := dk_42 (dk_at dksX2_leastLife_0 0 rfl rfl)
theorem dX2_leastLife_1 : decode cX2_leastLife 1 = .ok (.invokevirtual 179, 3) := dk_182 0 179 (dk_at dksX2_leastLife_0 1 rfl rfl)
theorem dX2_leastLife_4 : decode cX2_leastLife 4 = .ok (.bipush 50, 2) := dk_16 50 (dk_at dksX2_leastLife_0 4 rfl rfl)
theorem dX2_leastLife_6 : decode cX2_leastLife 6 = .ok (.istore_n 1, 1) := dk_60 (dk_at dksX2_leastLife_0 6 rfl rfl)
theorem dX2_leastLife_7 : decode cX2_leastLife 7 = .ok (.iload_n 1, 1) := dk_27 (dk_at dksX2_leastLife_0 7 rfl rfl)
theorem dX2_leastLife_8 : decode cX2_leastLife 8 = .ok (.sipush 5000, 3) := dk_17 19 136 (dk_at dksX2_leastLife_0 8 rfl rfl)
theorem dX2_leastLife_11 : decode cX2_leastLife 11 = .ok (.if_icmp .gt 19, 3) := dk_163 0 19 (dk_at dksX2_leastLife_0 11 rfl rfl)
theorem dX2_leastLife_14 : decode cX2_leastLife 14 = .ok (.aload_n 0, 1) := dk_42 (dk_at dksX2_leastLife_0 14 rfl rfl)
theorem dX2_leastLife_15 : decode cX2_leastLife 15 = .ok (.iload_n 1, 1) := dk_27 (dk_at dksX2_leastLife_0 15 rfl rfl)
theorem dX2_leastLife_16 : decode cX2_leastLife 16 = .ok (.invokevirtual 182, 3) := dk_182 0 182 (dk_at dksX2_leastLife_0 16 rfl rfl)
theorem dX2_leastLife_19 : decode cX2_leastLife 19 = .ok (.ifCond .eq 5, 3) := dk_153 0 5 (dk_at dksX2_leastLife_0 19 rfl rfl)
theorem dX2_leastLife_22 : decode cX2_leastLife 22 = .ok (.iload_n 1, 1) := dk_27 (dk_at dksX2_leastLife_0 22 rfl rfl)
theorem dX2_leastLife_23 : decode cX2_leastLife 23 = .ok (.ireturn, 1) := dk_172 (dk_at dksX2_leastLife_0 23 rfl rfl)
theorem dX2_leastLife_24 : decode cX2_leastLife 24 = .ok (.iinc 1 1, 3) := dk_132 1 1 (dk_at dksX2_leastLife_1 0 rfl rfl)
theorem dX2_leastLife_27 : decode cX2_leastLife 27 = .ok (.goto (-20), 3) := dk_167 255 236 (dk_at dksX2_leastLife_1 3 rfl rfl)
theorem dX2_leastLife_30 : decode cX2_leastLife 30 = .ok (.bipush (-6), 2) := dk_16 250 (dk_at dksX2_leastLife_1 6 rfl rfl)
theorem dX2_leastLife_32 : decode cX2_leastLife 32 = .ok (.ireturn, 1) := dk_172 (dk_at dksX2_leastLife_1 8 rfl rfl)
abbrev cX2_layOrder : ByteArray := prog_12_method_65_code
def yX2_layOrder : MethodName := ⟨RX2, "layOrder", "()V"⟩
def dkwX2_layOrder_7 : List UInt8 := [42, 29, 5, 182, 0, 75, 96, 60, 167, 255, 97, 177]
abbrev dktX2_layOrder_7 : List UInt8 := dkwX2_layOrder_7 ++ []
def dkwX2_layOrder_6 : List UInt8 := [180, 0, 176, 29, 79, 42, 89, 180, 0, 176, 4, 96, 181, 0, 176, 16, 6, 42, 29, 4, 182, 0, 75, 104]
abbrev dktX2_layOrder_6 : List UInt8 := dkwX2_layOrder_6 ++ dktX2_layOrder_7
def dkwX2_layOrder_5 : List UInt8 := [167, 255, 161, 29, 155, 0, 7, 4, 167, 0, 4, 3, 61, 28, 153, 0, 40, 42, 180, 0, 35, 42]
abbrev dktX2_layOrder_5 : List UInt8 := dkwX2_layOrder_5 ++ dktX2_layOrder_6
def dkwX2_layOrder_4 : List UInt8 := [182, 0, 75, 104, 42, 29, 5, 182, 0, 75, 96, 162, 0, 8, 21, 4, 167, 0, 4, 29, 62, 132, 4, 1]
abbrev dktX2_layOrder_4 : List UInt8 := dkwX2_layOrder_4 ++ dktX2_layOrder_5
def dkwX2_layOrder_3 : List UInt8 := [167, 0, 4, 3, 54, 6, 21, 6, 153, 0, 33, 29, 155, 0, 24, 21, 5, 16, 6, 42, 29, 4]
abbrev dktX2_layOrder_3 : List UInt8 := dkwX2_layOrder_3 ++ dktX2_layOrder_4
def dkwX2_layOrder_2 : List UInt8 := [182, 0, 75, 96, 54, 5, 42, 21, 4, 6, 182, 0, 75, 154, 0, 13, 21, 5, 27, 164, 0, 7, 4]
abbrev dktX2_layOrder_2 : List UInt8 := dkwX2_layOrder_2 ++ dktX2_layOrder_3
def dkwX2_layOrder_1 : List UInt8 := [180, 0, 7, 16, 9, 46, 162, 0, 89, 16, 6, 42, 21, 4, 4, 182, 0, 75, 104, 42, 21, 4, 5]
abbrev dktX2_layOrder_1 : List UInt8 := dkwX2_layOrder_1 ++ dktX2_layOrder_2
def dkwX2_layOrder_0 : List UInt8 := [42, 3, 181, 0, 176, 2, 60, 4, 61, 28, 153, 0, 161, 16, 250, 62, 3, 54, 4, 21, 4, 42]
abbrev dktX2_layOrder_0 : List UInt8 := dkwX2_layOrder_0 ++ dktX2_layOrder_1
theorem dksX2_layOrder_0 : cX2_layOrder.data.toList.drop 0 = dktX2_layOrder_0 := by decide +kernel
theorem dksX2_layOrder_1 : cX2_layOrder.data.toList.drop 22 = dktX2_layOrder_1 := dk_seg dksX2_layOrder_0 22 rfl rfl
theorem dksX2_layOrder_2 : cX2_layOrder.data.toList.drop 45 = dktX2_layOrder_2 := dk_seg dksX2_layOrder_1 23 rfl rfl
theorem dksX2_layOrder_3 : cX2_layOrder.data.toList.drop 68 = dktX2_layOrder_3 := dk_seg dksX2_layOrder_2 23 rfl rfl
theorem dksX2_layOrder_4 : cX2_layOrder.data.toList.drop 90 = dktX2_layOrder_4 := dk_seg dksX2_layOrder_3 22 rfl rfl
theorem dksX2_layOrder_5 : cX2_layOrder.data.toList.drop 114 = dktX2_layOrder_5 := dk_seg dksX2_layOrder_4 24 rfl rfl
theorem dksX2_layOrder_6 : cX2_layOrder.data.toList.drop 136 = dktX2_layOrder_6 := dk_seg dksX2_layOrder_5 22 rfl rfl
theorem dksX2_layOrder_7 : cX2_layOrder.data.toList.drop 160 = dktX2_layOrder_7 := dk_seg dksX2_layOrder_6 24 rfl rfl
theorem dX2_layOrder_0 : decode cX2_layOrder 0 = .ok (.aload_n 0, 1) := dk_42 (dk_at dksX2_layOrder_0 0 rfl rfl)
theorem dX2_layOrder_1 : decode cX2_layOrder 1 = .ok (.iconst 0, 1) := dk_3 (dk_at dksX2_layOrder_0 1 rfl rfl)
theorem dX2_layOrder_2 : decode cX2_layOrder 2 = .ok (.putfield 176, 3) := dk_181 0 176 (dk_at dksX2_layOrder_0 2 rfl rfl)
theorem dX2_layOrder_5 : decode cX2_layOrder 5 = .ok (.iconst (-1), 1) := dk_2 (dk_at dksX2_layOrder_0 5 rfl rfl)
theorem dX2_layOrder_6 : decode cX2_layOrder 6 = .ok (.istore_n 1, 1) := dk_60 (dk_at dksX2_layOrder_0 6 rfl rfl)
theorem dX2_layOrder_7 : decode cX2_layOrder 7 = .ok (.iconst 1, 1) := dk_4 (dk_at dksX2_layOrder_0 7 rfl rfl)
theorem dX2_layOrder_8 : decode cX2_layOrder 8 = .ok (.istore_n 2, 1) := dk_61 (dk_at dksX2_layOrder_0 8 rfl rfl)
theorem dX2_layOrder_9 : decode cX2_layOrder 9 = .ok (.iload_n 2, 1) := dk_28 (dk_at dksX2_layOrder_0 9 rfl rfl)
theorem dX2_layOrder_10 : decode cX2_layOrder 10 = .ok (.ifCond .eq 161, 3) := dk_153 0 161 (dk_at dksX2_layOrder_0 10 rfl rfl)
theorem dX2_layOrder_13 : decode cX2_layOrder 13 = .ok (.bipush (-6), 2) := dk_16 250 (dk_at dksX2_layOrder_0 13 rfl rfl)
theorem dX2_layOrder_15 : decode cX2_layOrder 15 = .ok (.istore_n 3, 1) := dk_62 (dk_at dksX2_layOrder_0 15 rfl rfl)
theorem dX2_layOrder_16 : decode cX2_layOrder 16 = .ok (.iconst 0, 1) := dk_3 (dk_at dksX2_layOrder_0 16 rfl rfl)
theorem dX2_layOrder_17 : decode cX2_layOrder 17 = .ok (.istore 4, 2) := dk_54 4 (dk_at dksX2_layOrder_0 17 rfl rfl)
theorem dX2_layOrder_19 : decode cX2_layOrder 19 = .ok (.iload 4, 2) := dk_21 4 (dk_at dksX2_layOrder_0 19 rfl rfl)
theorem dX2_layOrder_21 : decode cX2_layOrder 21 = .ok (.aload_n 0, 1) := dk_42 (dk_at dksX2_layOrder_0 21 rfl rfl)
theorem dX2_layOrder_22 : decode cX2_layOrder 22 = .ok (.getfield 7, 3) := dk_180 0 7 (dk_at dksX2_layOrder_1 0 rfl rfl)
theorem dX2_layOrder_25 : decode cX2_layOrder 25 = .ok (.bipush 9, 2) := dk_16 9 (dk_at dksX2_layOrder_1 3 rfl rfl)
theorem dX2_layOrder_27 : decode cX2_layOrder 27 = .ok (.iaload, 1) := dk_46 (dk_at dksX2_layOrder_1 5 rfl rfl)
theorem dX2_layOrder_28 : decode cX2_layOrder 28 = .ok (.if_icmp .ge 89, 3) := dk_162 0 89 (dk_at dksX2_layOrder_1 6 rfl rfl)
theorem dX2_layOrder_31 : decode cX2_layOrder 31 = .ok (.bipush 6, 2) := dk_16 6 (dk_at dksX2_layOrder_1 9 rfl rfl)
theorem dX2_layOrder_33 : decode cX2_layOrder 33 = .ok (.aload_n 0, 1) := dk_42 (dk_at dksX2_layOrder_1 11 rfl rfl)
theorem dX2_layOrder_34 : decode cX2_layOrder 34 = .ok (.iload 4, 2) := dk_21 4 (dk_at dksX2_layOrder_1 12 rfl rfl)
theorem dX2_layOrder_36 : decode cX2_layOrder 36 = .ok (.iconst 1, 1) := dk_4 (dk_at dksX2_layOrder_1 14 rfl rfl)
theorem dX2_layOrder_37 : decode cX2_layOrder 37 = .ok (.invokevirtual 75, 3) := dk_182 0 75 (dk_at dksX2_layOrder_1 15 rfl rfl)
theorem dX2_layOrder_40 : decode cX2_layOrder 40 = .ok (.imul, 1) := dk_104 (dk_at dksX2_layOrder_1 18 rfl rfl)
theorem dX2_layOrder_41 : decode cX2_layOrder 41 = .ok (.aload_n 0, 1) := dk_42 (dk_at dksX2_layOrder_1 19 rfl rfl)
theorem dX2_layOrder_42 : decode cX2_layOrder 42 = .ok (.iload 4, 2) := dk_21 4 (dk_at dksX2_layOrder_1 20 rfl rfl)
theorem dX2_layOrder_44 : decode cX2_layOrder 44 = .ok (.iconst 2, 1) := dk_5 (dk_at dksX2_layOrder_1 22 rfl rfl)
theorem dX2_layOrder_45 : decode cX2_layOrder 45 = .ok (.invokevirtual 75, 3) := dk_182 0 75 (dk_at dksX2_layOrder_2 0 rfl rfl)
theorem dX2_layOrder_48 : decode cX2_layOrder 48 = .ok (.iadd, 1) := dk_96 (dk_at dksX2_layOrder_2 3 rfl rfl)
theorem dX2_layOrder_49 : decode cX2_layOrder 49 = .ok (.istore 5, 2) := dk_54 5 (dk_at dksX2_layOrder_2 4 rfl rfl)
theorem dX2_layOrder_51 : decode cX2_layOrder 51 = .ok (.aload_n 0, 1) := dk_42 (dk_at dksX2_layOrder_2 6 rfl rfl)
theorem dX2_layOrder_52 : decode cX2_layOrder 52 = .ok (.iload 4, 2) := dk_21 4 (dk_at dksX2_layOrder_2 7 rfl rfl)
theorem dX2_layOrder_54 : decode cX2_layOrder 54 = .ok (.iconst 3, 1) := dk_6 (dk_at dksX2_layOrder_2 9 rfl rfl)
theorem dX2_layOrder_55 : decode cX2_layOrder 55 = .ok (.invokevirtual 75, 3) := dk_182 0 75 (dk_at dksX2_layOrder_2 10 rfl rfl)
theorem dX2_layOrder_58 : decode cX2_layOrder 58 = .ok (.ifCond .ne 13, 3) := dk_154 0 13 (dk_at dksX2_layOrder_2 13 rfl rfl)
theorem dX2_layOrder_61 : decode cX2_layOrder 61 = .ok (.iload 5, 2) := dk_21 5 (dk_at dksX2_layOrder_2 16 rfl rfl)
theorem dX2_layOrder_63 : decode cX2_layOrder 63 = .ok (.iload_n 1, 1) := dk_27 (dk_at dksX2_layOrder_2 18 rfl rfl)
theorem dX2_layOrder_64 : decode cX2_layOrder 64 = .ok (.if_icmp .le 7, 3) := dk_164 0 7 (dk_at dksX2_layOrder_2 19 rfl rfl)
theorem dX2_layOrder_67 : decode cX2_layOrder 67 = .ok (.iconst 1, 1) := dk_4 (dk_at dksX2_layOrder_2 22 rfl rfl)
theorem dX2_layOrder_68 : decode cX2_layOrder 68 = .ok (.goto 4, 3) := dk_167 0 4 (dk_at dksX2_layOrder_3 0 rfl rfl)
theorem dX2_layOrder_71 : decode cX2_layOrder 71 = .ok (.iconst 0, 1) := dk_3 (dk_at dksX2_layOrder_3 3 rfl rfl)
theorem dX2_layOrder_72 : decode cX2_layOrder 72 = .ok (.istore 6, 2) := dk_54 6 (dk_at dksX2_layOrder_3 4 rfl rfl)
theorem dX2_layOrder_74 : decode cX2_layOrder 74 = .ok (.iload 6, 2) := dk_21 6 (dk_at dksX2_layOrder_3 6 rfl rfl)
theorem dX2_layOrder_76 : decode cX2_layOrder 76 = .ok (.ifCond .eq 33, 3) := dk_153 0 33 (dk_at dksX2_layOrder_3 8 rfl rfl)
theorem dX2_layOrder_79 : decode cX2_layOrder 79 = .ok (.iload_n 3, 1) := dk_29 (dk_at dksX2_layOrder_3 11 rfl rfl)
theorem dX2_layOrder_80 : decode cX2_layOrder 80 = .ok (.ifCond .lt 24, 3) := dk_155 0 24 (dk_at dksX2_layOrder_3 12 rfl rfl)
theorem dX2_layOrder_83 : decode cX2_layOrder 83 = .ok (.iload 5, 2) := dk_21 5 (dk_at dksX2_layOrder_3 15 rfl rfl)
theorem dX2_layOrder_85 : decode cX2_layOrder 85 = .ok (.bipush 6, 2) := dk_16 6 (dk_at dksX2_layOrder_3 17 rfl rfl)
theorem dX2_layOrder_87 : decode cX2_layOrder 87 = .ok (.aload_n 0, 1) := dk_42 (dk_at dksX2_layOrder_3 19 rfl rfl)
theorem dX2_layOrder_88 : decode cX2_layOrder 88 = .ok (.iload_n 3, 1) := dk_29 (dk_at dksX2_layOrder_3 20 rfl rfl)
theorem dX2_layOrder_89 : decode cX2_layOrder 89 = .ok (.iconst 1, 1) := dk_4 (dk_at dksX2_layOrder_3 21 rfl rfl)
theorem dX2_layOrder_90 : decode cX2_layOrder 90 = .ok (.invokevirtual 75, 3) := dk_182 0 75 (dk_at dksX2_layOrder_4 0 rfl rfl)
theorem dX2_layOrder_93 : decode cX2_layOrder 93 = .ok (.imul, 1) := dk_104 (dk_at dksX2_layOrder_4 3 rfl rfl)
theorem dX2_layOrder_94 : decode cX2_layOrder 94 = .ok (.aload_n 0, 1) := dk_42 (dk_at dksX2_layOrder_4 4 rfl rfl)
theorem dX2_layOrder_95 : decode cX2_layOrder 95 = .ok (.iload_n 3, 1) := dk_29 (dk_at dksX2_layOrder_4 5 rfl rfl)
theorem dX2_layOrder_96 : decode cX2_layOrder 96 = .ok (.iconst 2, 1) := dk_5 (dk_at dksX2_layOrder_4 6 rfl rfl)
theorem dX2_layOrder_97 : decode cX2_layOrder 97 = .ok (.invokevirtual 75, 3) := dk_182 0 75 (dk_at dksX2_layOrder_4 7 rfl rfl)
theorem dX2_layOrder_100 : decode cX2_layOrder 100 = .ok (.iadd, 1) := dk_96 (dk_at dksX2_layOrder_4 10 rfl rfl)
theorem dX2_layOrder_101 : decode cX2_layOrder 101 = .ok (.if_icmp .ge 8, 3) := dk_162 0 8 (dk_at dksX2_layOrder_4 11 rfl rfl)
theorem dX2_layOrder_104 : decode cX2_layOrder 104 = .ok (.iload 4, 2) := dk_21 4 (dk_at dksX2_layOrder_4 14 rfl rfl)
theorem dX2_layOrder_106 : decode cX2_layOrder 106 = .ok (.goto 4, 3) := dk_167 0 4 (dk_at dksX2_layOrder_4 16 rfl rfl)
theorem dX2_layOrder_109 : decode cX2_layOrder 109 = .ok (.iload_n 3, 1) := dk_29 (dk_at dksX2_layOrder_4 19 rfl rfl)
theorem dX2_layOrder_110 : decode cX2_layOrder 110 = .ok (.istore_n 3, 1) := dk_62 (dk_at dksX2_layOrder_4 20 rfl rfl)
theorem dX2_layOrder_111 : decode cX2_layOrder 111 = .ok (.iinc 4 1, 3) := dk_132 4 1 (dk_at dksX2_layOrder_4 21 rfl rfl)
theorem dX2_layOrder_114 : decode cX2_layOrder 114 = .ok (.goto (-95), 3) := dk_167 255 161 (dk_at dksX2_layOrder_5 0 rfl rfl)
theorem dX2_layOrder_117 : decode cX2_layOrder 117 = .ok (.iload_n 3, 1) := dk_29 (dk_at dksX2_layOrder_5 3 rfl rfl)
theorem dX2_layOrder_118 : decode cX2_layOrder 118 = .ok (.ifCond .lt 7, 3) := dk_155 0 7 (dk_at dksX2_layOrder_5 4 rfl rfl)
theorem dX2_layOrder_121 : decode cX2_layOrder 121 = .ok (.iconst 1, 1) := dk_4 (dk_at dksX2_layOrder_5 7 rfl rfl)
theorem dX2_layOrder_122 : decode cX2_layOrder 122 = .ok (.goto 4, 3) := dk_167 0 4 (dk_at dksX2_layOrder_5 8 rfl rfl)
theorem dX2_layOrder_125 : decode cX2_layOrder 125 = .ok (.iconst 0, 1) := dk_3 (dk_at dksX2_layOrder_5 11 rfl rfl)
theorem dX2_layOrder_126 : decode cX2_layOrder 126 = .ok (.istore_n 2, 1) := dk_61 (dk_at dksX2_layOrder_5 12 rfl rfl)
theorem dX2_layOrder_127 : decode cX2_layOrder 127 = .ok (.iload_n 2, 1) := dk_28 (dk_at dksX2_layOrder_5 13 rfl rfl)
theorem dX2_layOrder_128 : decode cX2_layOrder 128 = .ok (.ifCond .eq 40, 3) := dk_153 0 40 (dk_at dksX2_layOrder_5 14 rfl rfl)
theorem dX2_layOrder_131 : decode cX2_layOrder 131 = .ok (.aload_n 0, 1) := dk_42 (dk_at dksX2_layOrder_5 17 rfl rfl)
theorem dX2_layOrder_132 : decode cX2_layOrder 132 = .ok (.getfield 35, 3) := dk_180 0 35 (dk_at dksX2_layOrder_5 18 rfl rfl)
theorem dX2_layOrder_135 : decode cX2_layOrder 135 = .ok (.aload_n 0, 1) := dk_42 (dk_at dksX2_layOrder_5 21 rfl rfl)
theorem dX2_layOrder_136 : decode cX2_layOrder 136 = .ok (.getfield 176, 3) := dk_180 0 176 (dk_at dksX2_layOrder_6 0 rfl rfl)
theorem dX2_layOrder_139 : decode cX2_layOrder 139 = .ok (.iload_n 3, 1) := dk_29 (dk_at dksX2_layOrder_6 3 rfl rfl)
theorem dX2_layOrder_140 : decode cX2_layOrder 140 = .ok (.iastore, 1) := dk_79 (dk_at dksX2_layOrder_6 4 rfl rfl)
theorem dX2_layOrder_141 : decode cX2_layOrder 141 = .ok (.aload_n 0, 1) := dk_42 (dk_at dksX2_layOrder_6 5 rfl rfl)
theorem dX2_layOrder_142 : decode cX2_layOrder 142 = .ok (.dup, 1) := dk_89 (dk_at dksX2_layOrder_6 6 rfl rfl)
theorem dX2_layOrder_143 : decode cX2_layOrder 143 = .ok (.getfield 176, 3) := dk_180 0 176 (dk_at dksX2_layOrder_6 7 rfl rfl)
theorem dX2_layOrder_146 : decode cX2_layOrder 146 = .ok (.iconst 1, 1) := dk_4 (dk_at dksX2_layOrder_6 10 rfl rfl)
theorem dX2_layOrder_147 : decode cX2_layOrder 147 = .ok (.iadd, 1) := dk_96 (dk_at dksX2_layOrder_6 11 rfl rfl)
theorem dX2_layOrder_148 : decode cX2_layOrder 148 = .ok (.putfield 176, 3) := dk_181 0 176 (dk_at dksX2_layOrder_6 12 rfl rfl)
theorem dX2_layOrder_151 : decode cX2_layOrder 151 = .ok (.bipush 6, 2) := dk_16 6 (dk_at dksX2_layOrder_6 15 rfl rfl)
theorem dX2_layOrder_153 : decode cX2_layOrder 153 = .ok (.aload_n 0, 1) := dk_42 (dk_at dksX2_layOrder_6 17 rfl rfl)
theorem dX2_layOrder_154 : decode cX2_layOrder 154 = .ok (.iload_n 3, 1) := dk_29 (dk_at dksX2_layOrder_6 18 rfl rfl)
theorem dX2_layOrder_155 : decode cX2_layOrder 155 = .ok (.iconst 1, 1) := dk_4 (dk_at dksX2_layOrder_6 19 rfl rfl)
theorem dX2_layOrder_156 : decode cX2_layOrder 156 = .ok (.invokevirtual 75, 3) := dk_182 0 75 (dk_at dksX2_layOrder_6 20 rfl rfl)
theorem dX2_layOrder_159 : decode cX2_layOrder 159 = .ok (.imul, 1) := dk_104 (dk_at dksX2_layOrder_6 23 rfl rfl)
theorem dX2_layOrder_160 : decode cX2_layOrder 160 = .ok (.aload_n 0, 1) := dk_42 (dk_at dksX2_layOrder_7 0 rfl rfl)
theorem dX2_layOrder_161 : decode cX2_layOrder 161 = .ok (.iload_n 3, 1) := dk_29 (dk_at dksX2_layOrder_7 1 rfl rfl)
theorem dX2_layOrder_162 : decode cX2_layOrder 162 = .ok (.iconst 2, 1) := dk_5 (dk_at dksX2_layOrder_7 2 rfl rfl)
theorem dX2_layOrder_163 : decode cX2_layOrder 163 = .ok (.invokevirtual 75, 3) := dk_182 0 75 (dk_at dksX2_layOrder_7 3 rfl rfl)
theorem dX2_layOrder_166 : decode cX2_layOrder 166 = .ok (.iadd, 1) := dk_96 (dk_at dksX2_layOrder_7 6 rfl rfl)
theorem dX2_layOrder_167 : decode cX2_layOrder 167 = .ok (.istore_n 1, 1) := dk_60 (dk_at dksX2_layOrder_7 7 rfl rfl)
theorem dX2_layOrder_168 : decode cX2_layOrder 168 = .ok (.goto (-159), 3) := dk_167 255 97 (dk_at dksX2_layOrder_7 8 rfl rfl)
theorem dX2_layOrder_171 : decode cX2_layOrder 171 = .ok (.return_, 1) := dk_177 (dk_at dksX2_layOrder_7 11 rfl rfl)
abbrev cX2_doesFor : ByteArray := prog_12_method_66_code
def yX2_doesFor : MethodName := ⟨RX2, "doesFor", "(I)Z"⟩
def dkwX2_doesFor_3 : List UInt8 := [61, 132, 3, 1, 167, 255, 185, 4, 172]
abbrev dktX2_doesFor_3 : List UInt8 := dkwX2_doesFor_3 ++ []
def dkwX2_doesFor_2 : List UInt8 := [28, 42, 180, 0, 7, 21, 4, 46, 96, 27, 164, 0, 5, 3, 172, 28, 42, 180, 0, 7, 21, 4, 46, 96]
abbrev dktX2_doesFor_2 : List UInt8 := dkwX2_doesFor_2 ++ dktX2_doesFor_3
def dkwX2_doesFor_1 : List UInt8 := [182, 0, 75, 104, 96, 54, 4, 28, 27, 184, 0, 60, 42, 180, 0, 7, 21, 4, 4, 96, 46, 161, 0, 16]
abbrev dktX2_doesFor_1 : List UInt8 := dkwX2_doesFor_1 ++ dktX2_doesFor_2
def dkwX2_doesFor_0 : List UInt8 := [3, 61, 3, 62, 29, 42, 180, 0, 176, 162, 0, 69, 16, 20, 6, 42, 42, 180, 0, 35, 29, 46, 3]
abbrev dktX2_doesFor_0 : List UInt8 := dkwX2_doesFor_0 ++ dktX2_doesFor_1
theorem dksX2_doesFor_0 : cX2_doesFor.data.toList.drop 0 = dktX2_doesFor_0 := by decide +kernel
theorem dksX2_doesFor_1 : cX2_doesFor.data.toList.drop 23 = dktX2_doesFor_1 := dk_seg dksX2_doesFor_0 23 rfl rfl
theorem dksX2_doesFor_2 : cX2_doesFor.data.toList.drop 47 = dktX2_doesFor_2 := dk_seg dksX2_doesFor_1 24 rfl rfl
theorem dksX2_doesFor_3 : cX2_doesFor.data.toList.drop 71 = dktX2_doesFor_3 := dk_seg dksX2_doesFor_2 24 rfl rfl
theorem dX2_doesFor_0 : decode cX2_doesFor 0 = .ok (.iconst 0, 1) := dk_3 (dk_at dksX2_doesFor_0 0 rfl rfl)
theorem dX2_doesFor_1 : decode cX2_doesFor 1 = .ok (.istore_n 2, 1) := dk_61 (dk_at dksX2_doesFor_0 1 rfl rfl)
theorem dX2_doesFor_2 : decode cX2_doesFor 2 = .ok (.iconst 0, 1) := dk_3 (dk_at dksX2_doesFor_0 2 rfl rfl)
theorem dX2_doesFor_3 : decode cX2_doesFor 3 = .ok (.istore_n 3, 1) := dk_62 (dk_at dksX2_doesFor_0 3 rfl rfl)
theorem dX2_doesFor_4 : decode cX2_doesFor 4 = .ok (.iload_n 3, 1) := dk_29 (dk_at dksX2_doesFor_0 4 rfl rfl)
theorem dX2_doesFor_5 : decode cX2_doesFor 5 = .ok (.aload_n 0, 1) := dk_42 (dk_at dksX2_doesFor_0 5 rfl rfl)
theorem dX2_doesFor_6 : decode cX2_doesFor 6 = .ok (.getfield 176, 3) := dk_180 0 176 (dk_at dksX2_doesFor_0 6 rfl rfl)
theorem dX2_doesFor_9 : decode cX2_doesFor 9 = .ok (.if_icmp .ge 69, 3) := dk_162 0 69 (dk_at dksX2_doesFor_0 9 rfl rfl)
theorem dX2_doesFor_12 : decode cX2_doesFor 12 = .ok (.bipush 20, 2) := dk_16 20 (dk_at dksX2_doesFor_0 12 rfl rfl)
theorem dX2_doesFor_14 : decode cX2_doesFor 14 = .ok (.iconst 3, 1) := dk_6 (dk_at dksX2_doesFor_0 14 rfl rfl)
theorem dX2_doesFor_15 : decode cX2_doesFor 15 = .ok (.aload_n 0, 1) := dk_42 (dk_at dksX2_doesFor_0 15 rfl rfl)
theorem dX2_doesFor_16 : decode cX2_doesFor 16 = .ok (.aload_n 0, 1) := dk_42 (dk_at dksX2_doesFor_0 16 rfl rfl)
theorem dX2_doesFor_17 : decode cX2_doesFor 17 = .ok (.getfield 35, 3) := dk_180 0 35 (dk_at dksX2_doesFor_0 17 rfl rfl)
theorem dX2_doesFor_20 : decode cX2_doesFor 20 = .ok (.iload_n 3, 1) := dk_29 (dk_at dksX2_doesFor_0 20 rfl rfl)
theorem dX2_doesFor_21 : decode cX2_doesFor 21 = .ok (.iaload, 1) := dk_46 (dk_at dksX2_doesFor_0 21 rfl rfl)
theorem dX2_doesFor_22 : decode cX2_doesFor 22 = .ok (.iconst 0, 1) := dk_3 (dk_at dksX2_doesFor_0 22 rfl rfl)
theorem dX2_doesFor_23 : decode cX2_doesFor 23 = .ok (.invokevirtual 75, 3) := dk_182 0 75 (dk_at dksX2_doesFor_1 0 rfl rfl)
theorem dX2_doesFor_26 : decode cX2_doesFor 26 = .ok (.imul, 1) := dk_104 (dk_at dksX2_doesFor_1 3 rfl rfl)
theorem dX2_doesFor_27 : decode cX2_doesFor 27 = .ok (.iadd, 1) := dk_96 (dk_at dksX2_doesFor_1 4 rfl rfl)
theorem dX2_doesFor_28 : decode cX2_doesFor 28 = .ok (.istore 4, 2) := dk_54 4 (dk_at dksX2_doesFor_1 5 rfl rfl)
theorem dX2_doesFor_30 : decode cX2_doesFor 30 = .ok (.iload_n 2, 1) := dk_28 (dk_at dksX2_doesFor_1 7 rfl rfl)
theorem dX2_doesFor_31 : decode cX2_doesFor 31 = .ok (.iload_n 1, 1) := dk_27 (dk_at dksX2_doesFor_1 8 rfl rfl)
theorem dX2_doesFor_32 : decode cX2_doesFor 32 = .ok (.invokestatic 60, 3) := dk_184 0 60 (dk_at dksX2_doesFor_1 9 rfl rfl)
theorem dX2_doesFor_35 : decode cX2_doesFor 35 = .ok (.aload_n 0, 1) := dk_42 (dk_at dksX2_doesFor_1 12 rfl rfl)
theorem dX2_doesFor_36 : decode cX2_doesFor 36 = .ok (.getfield 7, 3) := dk_180 0 7 (dk_at dksX2_doesFor_1 13 rfl rfl)
theorem dX2_doesFor_39 : decode cX2_doesFor 39 = .ok (.iload 4, 2) := dk_21 4 (dk_at dksX2_doesFor_1 16 rfl rfl)
theorem dX2_doesFor_41 : decode cX2_doesFor 41 = .ok (.iconst 1, 1) := dk_4 (dk_at dksX2_doesFor_1 18 rfl rfl)
theorem dX2_doesFor_42 : decode cX2_doesFor 42 = .ok (.iadd, 1) := dk_96 (dk_at dksX2_doesFor_1 19 rfl rfl)
theorem dX2_doesFor_43 : decode cX2_doesFor 43 = .ok (.iaload, 1) := dk_46 (dk_at dksX2_doesFor_1 20 rfl rfl)
theorem dX2_doesFor_44 : decode cX2_doesFor 44 = .ok (.if_icmp .lt 16, 3) := dk_161 0 16 (dk_at dksX2_doesFor_1 21 rfl rfl)
theorem dX2_doesFor_47 : decode cX2_doesFor 47 = .ok (.iload_n 2, 1) := dk_28 (dk_at dksX2_doesFor_2 0 rfl rfl)
theorem dX2_doesFor_48 : decode cX2_doesFor 48 = .ok (.aload_n 0, 1) := dk_42 (dk_at dksX2_doesFor_2 1 rfl rfl)
theorem dX2_doesFor_49 : decode cX2_doesFor 49 = .ok (.getfield 7, 3) := dk_180 0 7 (dk_at dksX2_doesFor_2 2 rfl rfl)
theorem dX2_doesFor_52 : decode cX2_doesFor 52 = .ok (.iload 4, 2) := dk_21 4 (dk_at dksX2_doesFor_2 5 rfl rfl)
theorem dX2_doesFor_54 : decode cX2_doesFor 54 = .ok (.iaload, 1) := dk_46 (dk_at dksX2_doesFor_2 7 rfl rfl)
theorem dX2_doesFor_55 : decode cX2_doesFor 55 = .ok (.iadd, 1) := dk_96 (dk_at dksX2_doesFor_2 8 rfl rfl)
theorem dX2_doesFor_56 : decode cX2_doesFor 56 = .ok (.iload_n 1, 1) := dk_27 (dk_at dksX2_doesFor_2 9 rfl rfl)
theorem dX2_doesFor_57 : decode cX2_doesFor 57 = .ok (.if_icmp .le 5, 3) := dk_164 0 5 (dk_at dksX2_doesFor_2 10 rfl rfl)
theorem dX2_doesFor_60 : decode cX2_doesFor 60 = .ok (.iconst 0, 1) := dk_3 (dk_at dksX2_doesFor_2 13 rfl rfl)
theorem dX2_doesFor_61 : decode cX2_doesFor 61 = .ok (.ireturn, 1) := dk_172 (dk_at dksX2_doesFor_2 14 rfl rfl)
theorem dX2_doesFor_62 : decode cX2_doesFor 62 = .ok (.iload_n 2, 1) := dk_28 (dk_at dksX2_doesFor_2 15 rfl rfl)
theorem dX2_doesFor_63 : decode cX2_doesFor 63 = .ok (.aload_n 0, 1) := dk_42 (dk_at dksX2_doesFor_2 16 rfl rfl)
theorem dX2_doesFor_64 : decode cX2_doesFor 64 = .ok (.getfield 7, 3) := dk_180 0 7 (dk_at dksX2_doesFor_2 17 rfl rfl)
theorem dX2_doesFor_67 : decode cX2_doesFor 67 = .ok (.iload 4, 2) := dk_21 4 (dk_at dksX2_doesFor_2 20 rfl rfl)
theorem dX2_doesFor_69 : decode cX2_doesFor 69 = .ok (.iaload, 1) := dk_46 (dk_at dksX2_doesFor_2 22 rfl rfl)
theorem dX2_doesFor_70 : decode cX2_doesFor 70 = .ok (.iadd, 1) := dk_96 (dk_at dksX2_doesFor_2 23 rfl rfl)
theorem dX2_doesFor_71 : decode cX2_doesFor 71 = .ok (.istore_n 2, 1) := dk_61 (dk_at dksX2_doesFor_3 0 rfl rfl)
theorem dX2_doesFor_72 : decode cX2_doesFor 72 = .ok (.iinc 3 1, 3) := dk_132 3 1 (dk_at dksX2_doesFor_3 1 rfl rfl)
theorem dX2_doesFor_75 : decode cX2_doesFor 75 = .ok (.goto (-71), 3) := dk_167 255 185 (dk_at dksX2_doesFor_3 4 rfl rfl)
theorem dX2_doesFor_78 : decode cX2_doesFor 78 = .ok (.iconst 1, 1) := dk_4 (dk_at dksX2_doesFor_3 7 rfl rfl)
theorem dX2_doesFor_79 : decode cX2_doesFor 79 = .ok (.ireturn, 1) := dk_172 (dk_at dksX2_doesFor_3 8 rfl rfl)
abbrev cX2_mostShows : ByteArray := prog_12_method_68_code
def yX2_mostShows : MethodName := ⟨RX2, "mostShows", "(II)I"⟩
def dkwX2_mostShows_4 : List UInt8 := [27, 104, 96, 46, 96, 62, 132, 5, 1, 167, 255, 199, 21, 5, 172]
abbrev dktX2_mostShows_4 : List UInt8 := dkwX2_mostShows_4 ++ []
def dkwX2_mostShows_3 : List UInt8 := [180, 0, 7, 16, 20, 6, 27, 104, 96, 46, 96, 21, 4, 163, 0, 23, 29, 42, 180, 0, 7, 16, 20, 6]
abbrev dktX2_mostShows_3 : List UInt8 := dkwX2_mostShows_3 ++ dktX2_mostShows_4
def dkwX2_mostShows_2 : List UInt8 := [29, 21, 4, 184, 0, 60, 42, 180, 0, 7, 16, 20, 6, 27, 104, 96, 4, 96, 46, 161, 0, 41, 29, 42]
abbrev dktX2_mostShows_2 : List UInt8 := dkwX2_mostShows_2 ++ dktX2_mostShows_3
def dkwX2_mostShows_1 : List UInt8 := [7, 28, 104, 96, 4, 96, 46, 62, 42, 180, 0, 7, 16, 50, 7, 28, 104, 96, 46, 54, 4, 3, 54, 5]
abbrev dktX2_mostShows_1 : List UInt8 := dkwX2_mostShows_1 ++ dktX2_mostShows_2
def dkwX2_mostShows_0 : List UInt8 := [42, 27, 182, 0, 56, 153, 0, 11, 42, 28, 182, 0, 68, 154, 0, 5, 2, 172, 42, 180, 0, 7, 16, 50]
abbrev dktX2_mostShows_0 : List UInt8 := dkwX2_mostShows_0 ++ dktX2_mostShows_1
theorem dksX2_mostShows_0 : cX2_mostShows.data.toList.drop 0 = dktX2_mostShows_0 := by decide +kernel
theorem dksX2_mostShows_1 : cX2_mostShows.data.toList.drop 24 = dktX2_mostShows_1 := dk_seg dksX2_mostShows_0 24 rfl rfl
theorem dksX2_mostShows_2 : cX2_mostShows.data.toList.drop 48 = dktX2_mostShows_2 := dk_seg dksX2_mostShows_1 24 rfl rfl
theorem dksX2_mostShows_3 : cX2_mostShows.data.toList.drop 72 = dktX2_mostShows_3 := dk_seg dksX2_mostShows_2 24 rfl rfl
theorem dksX2_mostShows_4 : cX2_mostShows.data.toList.drop 96 = dktX2_mostShows_4 := dk_seg dksX2_mostShows_3 24 rfl rfl
theorem dX2_mostShows_0 : decode cX2_mostShows 0 = .ok (.aload_n 0, 1) := dk_42 (dk_at dksX2_mostShows_0 0 rfl rfl)
theorem dX2_mostShows_1 : decode cX2_mostShows 1 = .ok (.iload_n 1, 1) := dk_27 (dk_at dksX2_mostShows_0 1 rfl rfl)
theorem dX2_mostShows_2 : decode cX2_mostShows 2 = .ok (.invokevirtual 56, 3) := dk_182 0 56 (dk_at dksX2_mostShows_0 2 rfl rfl)
theorem dX2_mostShows_5 : decode cX2_mostShows 5 = .ok (.ifCond .eq 11, 3) := dk_153 0 11 (dk_at dksX2_mostShows_0 5 rfl rfl)
theorem dX2_mostShows_8 : decode cX2_mostShows 8 = .ok (.aload_n 0, 1) := dk_42 (dk_at dksX2_mostShows_0 8 rfl rfl)
theorem dX2_mostShows_9 : decode cX2_mostShows 9 = .ok (.iload_n 2, 1) := dk_28 (dk_at dksX2_mostShows_0 9 rfl rfl)
theorem dX2_mostShows_10 : decode cX2_mostShows 10 = .ok (.invokevirtual 68, 3) := dk_182 0 68 (dk_at dksX2_mostShows_0 10 rfl rfl)
theorem dX2_mostShows_13 : decode cX2_mostShows 13 = .ok (.ifCond .ne 5, 3) := dk_154 0 5 (dk_at dksX2_mostShows_0 13 rfl rfl)
theorem dX2_mostShows_16 : decode cX2_mostShows 16 = .ok (.iconst (-1), 1) := dk_2 (dk_at dksX2_mostShows_0 16 rfl rfl)
theorem dX2_mostShows_17 : decode cX2_mostShows 17 = .ok (.ireturn, 1) := dk_172 (dk_at dksX2_mostShows_0 17 rfl rfl)
theorem dX2_mostShows_18 : decode cX2_mostShows 18 = .ok (.aload_n 0, 1) := dk_42 (dk_at dksX2_mostShows_0 18 rfl rfl)
theorem dX2_mostShows_19 : decode cX2_mostShows 19 = .ok (.getfield 7, 3) := dk_180 0 7 (dk_at dksX2_mostShows_0 19 rfl rfl)
theorem dX2_mostShows_22 : decode cX2_mostShows 22 = .ok (.bipush 50, 2) := dk_16 50 (dk_at dksX2_mostShows_0 22 rfl rfl)
theorem dX2_mostShows_24 : decode cX2_mostShows 24 = .ok (.iconst 4, 1) := dk_7 (dk_at dksX2_mostShows_1 0 rfl rfl)
theorem dX2_mostShows_25 : decode cX2_mostShows 25 = .ok (.iload_n 2, 1) := dk_28 (dk_at dksX2_mostShows_1 1 rfl rfl)
theorem dX2_mostShows_26 : decode cX2_mostShows 26 = .ok (.imul, 1) := dk_104 (dk_at dksX2_mostShows_1 2 rfl rfl)
theorem dX2_mostShows_27 : decode cX2_mostShows 27 = .ok (.iadd, 1) := dk_96 (dk_at dksX2_mostShows_1 3 rfl rfl)
theorem dX2_mostShows_28 : decode cX2_mostShows 28 = .ok (.iconst 1, 1) := dk_4 (dk_at dksX2_mostShows_1 4 rfl rfl)
theorem dX2_mostShows_29 : decode cX2_mostShows 29 = .ok (.iadd, 1) := dk_96 (dk_at dksX2_mostShows_1 5 rfl rfl)
theorem dX2_mostShows_30 : decode cX2_mostShows 30 = .ok (.iaload, 1) := dk_46 (dk_at dksX2_mostShows_1 6 rfl rfl)
theorem dX2_mostShows_31 : decode cX2_mostShows 31 = .ok (.istore_n 3, 1) := dk_62 (dk_at dksX2_mostShows_1 7 rfl rfl)
theorem dX2_mostShows_32 : decode cX2_mostShows 32 = .ok (.aload_n 0, 1) := dk_42 (dk_at dksX2_mostShows_1 8 rfl rfl)
theorem dX2_mostShows_33 : decode cX2_mostShows 33 = .ok (.getfield 7, 3) := dk_180 0 7 (dk_at dksX2_mostShows_1 9 rfl rfl)
theorem dX2_mostShows_36 : decode cX2_mostShows 36 = .ok (.bipush 50, 2) := dk_16 50 (dk_at dksX2_mostShows_1 12 rfl rfl)
theorem dX2_mostShows_38 : decode cX2_mostShows 38 = .ok (.iconst 4, 1) := dk_7 (dk_at dksX2_mostShows_1 14 rfl rfl)
theorem dX2_mostShows_39 : decode cX2_mostShows 39 = .ok (.iload_n 2, 1) := dk_28 (dk_at dksX2_mostShows_1 15 rfl rfl)
theorem dX2_mostShows_40 : decode cX2_mostShows 40 = .ok (.imul, 1) := dk_104 (dk_at dksX2_mostShows_1 16 rfl rfl)
theorem dX2_mostShows_41 : decode cX2_mostShows 41 = .ok (.iadd, 1) := dk_96 (dk_at dksX2_mostShows_1 17 rfl rfl)
theorem dX2_mostShows_42 : decode cX2_mostShows 42 = .ok (.iaload, 1) := dk_46 (dk_at dksX2_mostShows_1 18 rfl rfl)
theorem dX2_mostShows_43 : decode cX2_mostShows 43 = .ok (.istore 4, 2) := dk_54 4 (dk_at dksX2_mostShows_1 19 rfl rfl)
theorem dX2_mostShows_45 : decode cX2_mostShows 45 = .ok (.iconst 0, 1) := dk_3 (dk_at dksX2_mostShows_1 21 rfl rfl)
theorem dX2_mostShows_46 : decode cX2_mostShows 46 = .ok (.istore 5, 2) := dk_54 5 (dk_at dksX2_mostShows_1 22 rfl rfl)
theorem dX2_mostShows_48 : decode cX2_mostShows 48 = .ok (.iload_n 3, 1) := dk_29 (dk_at dksX2_mostShows_2 0 rfl rfl)
theorem dX2_mostShows_49 : decode cX2_mostShows 49 = .ok (.iload 4, 2) := dk_21 4 (dk_at dksX2_mostShows_2 1 rfl rfl)
theorem dX2_mostShows_51 : decode cX2_mostShows 51 = .ok (.invokestatic 60, 3) := dk_184 0 60 (dk_at dksX2_mostShows_2 3 rfl rfl)
theorem dX2_mostShows_54 : decode cX2_mostShows 54 = .ok (.aload_n 0, 1) := dk_42 (dk_at dksX2_mostShows_2 6 rfl rfl)
theorem dX2_mostShows_55 : decode cX2_mostShows 55 = .ok (.getfield 7, 3) := dk_180 0 7 (dk_at dksX2_mostShows_2 7 rfl rfl)
theorem dX2_mostShows_58 : decode cX2_mostShows 58 = .ok (.bipush 20, 2) := dk_16 20 (dk_at dksX2_mostShows_2 10 rfl rfl)
theorem dX2_mostShows_60 : decode cX2_mostShows 60 = .ok (.iconst 3, 1) := dk_6 (dk_at dksX2_mostShows_2 12 rfl rfl)
theorem dX2_mostShows_61 : decode cX2_mostShows 61 = .ok (.iload_n 1, 1) := dk_27 (dk_at dksX2_mostShows_2 13 rfl rfl)
theorem dX2_mostShows_62 : decode cX2_mostShows 62 = .ok (.imul, 1) := dk_104 (dk_at dksX2_mostShows_2 14 rfl rfl)
theorem dX2_mostShows_63 : decode cX2_mostShows 63 = .ok (.iadd, 1) := dk_96 (dk_at dksX2_mostShows_2 15 rfl rfl)
theorem dX2_mostShows_64 : decode cX2_mostShows 64 = .ok (.iconst 1, 1) := dk_4 (dk_at dksX2_mostShows_2 16 rfl rfl)
theorem dX2_mostShows_65 : decode cX2_mostShows 65 = .ok (.iadd, 1) := dk_96 (dk_at dksX2_mostShows_2 17 rfl rfl)
theorem dX2_mostShows_66 : decode cX2_mostShows 66 = .ok (.iaload, 1) := dk_46 (dk_at dksX2_mostShows_2 18 rfl rfl)
theorem dX2_mostShows_67 : decode cX2_mostShows 67 = .ok (.if_icmp .lt 41, 3) := dk_161 0 41 (dk_at dksX2_mostShows_2 19 rfl rfl)
theorem dX2_mostShows_70 : decode cX2_mostShows 70 = .ok (.iload_n 3, 1) := dk_29 (dk_at dksX2_mostShows_2 22 rfl rfl)
theorem dX2_mostShows_71 : decode cX2_mostShows 71 = .ok (.aload_n 0, 1) := dk_42 (dk_at dksX2_mostShows_2 23 rfl rfl)
theorem dX2_mostShows_72 : decode cX2_mostShows 72 = .ok (.getfield 7, 3) := dk_180 0 7 (dk_at dksX2_mostShows_3 0 rfl rfl)
theorem dX2_mostShows_75 : decode cX2_mostShows 75 = .ok (.bipush 20, 2) := dk_16 20 (dk_at dksX2_mostShows_3 3 rfl rfl)
theorem dX2_mostShows_77 : decode cX2_mostShows 77 = .ok (.iconst 3, 1) := dk_6 (dk_at dksX2_mostShows_3 5 rfl rfl)
theorem dX2_mostShows_78 : decode cX2_mostShows 78 = .ok (.iload_n 1, 1) := dk_27 (dk_at dksX2_mostShows_3 6 rfl rfl)
theorem dX2_mostShows_79 : decode cX2_mostShows 79 = .ok (.imul, 1) := dk_104 (dk_at dksX2_mostShows_3 7 rfl rfl)
theorem dX2_mostShows_80 : decode cX2_mostShows 80 = .ok (.iadd, 1) := dk_96 (dk_at dksX2_mostShows_3 8 rfl rfl)
theorem dX2_mostShows_81 : decode cX2_mostShows 81 = .ok (.iaload, 1) := dk_46 (dk_at dksX2_mostShows_3 9 rfl rfl)
theorem dX2_mostShows_82 : decode cX2_mostShows 82 = .ok (.iadd, 1) := dk_96 (dk_at dksX2_mostShows_3 10 rfl rfl)
theorem dX2_mostShows_83 : decode cX2_mostShows 83 = .ok (.iload 4, 2) := dk_21 4 (dk_at dksX2_mostShows_3 11 rfl rfl)
theorem dX2_mostShows_85 : decode cX2_mostShows 85 = .ok (.if_icmp .gt 23, 3) := dk_163 0 23 (dk_at dksX2_mostShows_3 13 rfl rfl)
theorem dX2_mostShows_88 : decode cX2_mostShows 88 = .ok (.iload_n 3, 1) := dk_29 (dk_at dksX2_mostShows_3 16 rfl rfl)
theorem dX2_mostShows_89 : decode cX2_mostShows 89 = .ok (.aload_n 0, 1) := dk_42 (dk_at dksX2_mostShows_3 17 rfl rfl)
theorem dX2_mostShows_90 : decode cX2_mostShows 90 = .ok (.getfield 7, 3) := dk_180 0 7 (dk_at dksX2_mostShows_3 18 rfl rfl)
theorem dX2_mostShows_93 : decode cX2_mostShows 93 = .ok (.bipush 20, 2) := dk_16 20 (dk_at dksX2_mostShows_3 21 rfl rfl)
theorem dX2_mostShows_95 : decode cX2_mostShows 95 = .ok (.iconst 3, 1) := dk_6 (dk_at dksX2_mostShows_3 23 rfl rfl)
theorem dX2_mostShows_96 : decode cX2_mostShows 96 = .ok (.iload_n 1, 1) := dk_27 (dk_at dksX2_mostShows_4 0 rfl rfl)
theorem dX2_mostShows_97 : decode cX2_mostShows 97 = .ok (.imul, 1) := dk_104 (dk_at dksX2_mostShows_4 1 rfl rfl)
theorem dX2_mostShows_98 : decode cX2_mostShows 98 = .ok (.iadd, 1) := dk_96 (dk_at dksX2_mostShows_4 2 rfl rfl)
theorem dX2_mostShows_99 : decode cX2_mostShows 99 = .ok (.iaload, 1) := dk_46 (dk_at dksX2_mostShows_4 3 rfl rfl)
theorem dX2_mostShows_100 : decode cX2_mostShows 100 = .ok (.iadd, 1) := dk_96 (dk_at dksX2_mostShows_4 4 rfl rfl)
theorem dX2_mostShows_101 : decode cX2_mostShows 101 = .ok (.istore_n 3, 1) := dk_62 (dk_at dksX2_mostShows_4 5 rfl rfl)
theorem dX2_mostShows_102 : decode cX2_mostShows 102 = .ok (.iinc 5 1, 3) := dk_132 5 1 (dk_at dksX2_mostShows_4 6 rfl rfl)
theorem dX2_mostShows_105 : decode cX2_mostShows 105 = .ok (.goto (-57), 3) := dk_167 255 199 (dk_at dksX2_mostShows_4 9 rfl rfl)
theorem dX2_mostShows_108 : decode cX2_mostShows 108 = .ok (.iload 5, 2) := dk_21 5 (dk_at dksX2_mostShows_4 12 rfl rfl)
theorem dX2_mostShows_110 : decode cX2_mostShows 110 = .ok (.ireturn, 1) := dk_172 (dk_at dksX2_mostShows_4 14 rfl rfl)
abbrev cX2_rowFor : ByteArray := prog_12_method_69_code
def yX2_rowFor : MethodName := ⟨RX2, "rowFor", "(II)I"⟩
def dkwX2_rowFor_1 : List UInt8 := [27, 28, 182, 0, 100, 154, 0, 6, 16, 251, 172, 42, 27, 182, 0, 103, 42, 28, 182, 0, 107, 172]
abbrev dktX2_rowFor_1 : List UInt8 := dkwX2_rowFor_1 ++ []
def dkwX2_rowFor_0 : List UInt8 := [42, 27, 182, 0, 97, 154, 0, 5, 2, 172, 28, 4, 16, 40, 184, 0, 49, 154, 0, 6, 16, 254, 172, 42]
abbrev dktX2_rowFor_0 : List UInt8 := dkwX2_rowFor_0 ++ dktX2_rowFor_1
theorem dksX2_rowFor_0 : cX2_rowFor.data.toList.drop 0 = dktX2_rowFor_0 := by decide +kernel
theorem dksX2_rowFor_1 : cX2_rowFor.data.toList.drop 24 = dktX2_rowFor_1 := dk_seg dksX2_rowFor_0 24 rfl rfl
theorem dX2_rowFor_0 : decode cX2_rowFor 0 = .ok (.aload_n 0, 1) := dk_42 (dk_at dksX2_rowFor_0 0 rfl rfl)
theorem dX2_rowFor_1 : decode cX2_rowFor 1 = .ok (.iload_n 1, 1) := dk_27 (dk_at dksX2_rowFor_0 1 rfl rfl)
theorem dX2_rowFor_2 : decode cX2_rowFor 2 = .ok (.invokevirtual 97, 3) := dk_182 0 97 (dk_at dksX2_rowFor_0 2 rfl rfl)
theorem dX2_rowFor_5 : decode cX2_rowFor 5 = .ok (.ifCond .ne 5, 3) := dk_154 0 5 (dk_at dksX2_rowFor_0 5 rfl rfl)
theorem dX2_rowFor_8 : decode cX2_rowFor 8 = .ok (.iconst (-1), 1) := dk_2 (dk_at dksX2_rowFor_0 8 rfl rfl)
theorem dX2_rowFor_9 : decode cX2_rowFor 9 = .ok (.ireturn, 1) := dk_172 (dk_at dksX2_rowFor_0 9 rfl rfl)
theorem dX2_rowFor_10 : decode cX2_rowFor 10 = .ok (.iload_n 2, 1) := dk_28 (dk_at dksX2_rowFor_0 10 rfl rfl)
theorem dX2_rowFor_11 : decode cX2_rowFor 11 = .ok (.iconst 1, 1) := dk_4 (dk_at dksX2_rowFor_0 11 rfl rfl)
theorem dX2_rowFor_12 : decode cX2_rowFor 12 = .ok (.bipush 40, 2) := dk_16 40 (dk_at dksX2_rowFor_0 12 rfl rfl)
theorem dX2_rowFor_14 : decode cX2_rowFor 14 = .ok (.invokestatic 49, 3) := dk_184 0 49 (dk_at dksX2_rowFor_0 14 rfl rfl)
theorem dX2_rowFor_17 : decode cX2_rowFor 17 = .ok (.ifCond .ne 6, 3) := dk_154 0 6 (dk_at dksX2_rowFor_0 17 rfl rfl)
theorem dX2_rowFor_20 : decode cX2_rowFor 20 = .ok (.bipush (-2), 2) := dk_16 254 (dk_at dksX2_rowFor_0 20 rfl rfl)
theorem dX2_rowFor_22 : decode cX2_rowFor 22 = .ok (.ireturn, 1) := dk_172 (dk_at dksX2_rowFor_0 22 rfl rfl)
theorem dX2_rowFor_23 : decode cX2_rowFor 23 = .ok (.aload_n 0, 1) := dk_42 (dk_at dksX2_rowFor_0 23 rfl rfl)
theorem dX2_rowFor_24 : decode cX2_rowFor 24 = .ok (.iload_n 1, 1) := dk_27 (dk_at dksX2_rowFor_1 0 rfl rfl)
theorem dX2_rowFor_25 : decode cX2_rowFor 25 = .ok (.iload_n 2, 1) := dk_28 (dk_at dksX2_rowFor_1 1 rfl rfl)
theorem dX2_rowFor_26 : decode cX2_rowFor 26 = .ok (.invokevirtual 100, 3) := dk_182 0 100 (dk_at dksX2_rowFor_1 2 rfl rfl)
theorem dX2_rowFor_29 : decode cX2_rowFor 29 = .ok (.ifCond .ne 6, 3) := dk_154 0 6 (dk_at dksX2_rowFor_1 5 rfl rfl)
theorem dX2_rowFor_32 : decode cX2_rowFor 32 = .ok (.bipush (-5), 2) := dk_16 251 (dk_at dksX2_rowFor_1 8 rfl rfl)
theorem dX2_rowFor_34 : decode cX2_rowFor 34 = .ok (.ireturn, 1) := dk_172 (dk_at dksX2_rowFor_1 10 rfl rfl)
theorem dX2_rowFor_35 : decode cX2_rowFor 35 = .ok (.aload_n 0, 1) := dk_42 (dk_at dksX2_rowFor_1 11 rfl rfl)
theorem dX2_rowFor_36 : decode cX2_rowFor 36 = .ok (.iload_n 1, 1) := dk_27 (dk_at dksX2_rowFor_1 12 rfl rfl)
theorem dX2_rowFor_37 : decode cX2_rowFor 37 = .ok (.invokevirtual 103, 3) := dk_182 0 103 (dk_at dksX2_rowFor_1 13 rfl rfl)
theorem dX2_rowFor_40 : decode cX2_rowFor 40 = .ok (.aload_n 0, 1) := dk_42 (dk_at dksX2_rowFor_1 16 rfl rfl)
theorem dX2_rowFor_41 : decode cX2_rowFor 41 = .ok (.iload_n 2, 1) := dk_28 (dk_at dksX2_rowFor_1 17 rfl rfl)
theorem dX2_rowFor_42 : decode cX2_rowFor 42 = .ok (.invokevirtual 107, 3) := dk_182 0 107 (dk_at dksX2_rowFor_1 18 rfl rfl)
theorem dX2_rowFor_45 : decode cX2_rowFor 45 = .ok (.ireturn, 1) := dk_172 (dk_at dksX2_rowFor_1 21 rfl rfl)
abbrev cX2_put : ByteArray := prog_12_method_76_code
def yX2_put : MethodName := ⟨RX2, "put", "(J)I"⟩
def dkwX2_put_5 : List UInt8 := [55, 4, 132, 6, 255, 167, 255, 222, 42, 89, 180, 0, 167, 29, 96, 181, 0, 167, 42, 180, 0, 167, 172]
abbrev dktX2_put_5 : List UInt8 := dkwX2_put_5 ++ []
def dkwX2_put_4 : List UInt8 := [180, 0, 26, 42, 180, 0, 167, 21, 6, 96, 22, 4, 20, 0, 209, 127, 136, 79, 22, 4, 16, 8, 125]
abbrev dktX2_put_4 : List UInt8 := dkwX2_put_4 ++ dktX2_put_5
def dkwX2_put_3 : List UInt8 := [16, 80, 164, 0, 6, 16, 252, 172, 31, 55, 4, 29, 4, 100, 54, 6, 21, 6, 155, 0, 35, 42]
abbrev dktX2_put_3 : List UInt8 := dkwX2_put_3 ++ dktX2_put_4
def dkwX2_put_2 : List UInt8 := [167, 255, 215, 22, 4, 9, 148, 154, 0, 7, 29, 154, 0, 6, 16, 254, 172, 42, 180, 0, 167, 29, 96]
abbrev dktX2_put_2 : List UInt8 := dkwX2_put_2 ++ dktX2_put_3
def dkwX2_put_1 : List UInt8 := [16, 33, 16, 126, 184, 0, 49, 154, 0, 6, 16, 254, 172, 132, 3, 1, 22, 4, 16, 8, 125, 55, 4]
abbrev dktX2_put_1 : List UInt8 := dkwX2_put_1 ++ dktX2_put_2
def dkwX2_put_0 : List UInt8 := [3, 62, 31, 55, 4, 22, 4, 20, 0, 209, 127, 9, 148, 153, 0, 36, 22, 4, 20, 0, 209, 127, 136]
abbrev dktX2_put_0 : List UInt8 := dkwX2_put_0 ++ dktX2_put_1
theorem dksX2_put_0 : cX2_put.data.toList.drop 0 = dktX2_put_0 := by decide +kernel
theorem dksX2_put_1 : cX2_put.data.toList.drop 23 = dktX2_put_1 := dk_seg dksX2_put_0 23 rfl rfl
theorem dksX2_put_2 : cX2_put.data.toList.drop 46 = dktX2_put_2 := dk_seg dksX2_put_1 23 rfl rfl
theorem dksX2_put_3 : cX2_put.data.toList.drop 69 = dktX2_put_3 := dk_seg dksX2_put_2 23 rfl rfl
theorem dksX2_put_4 : cX2_put.data.toList.drop 91 = dktX2_put_4 := dk_seg dksX2_put_3 22 rfl rfl
theorem dksX2_put_5 : cX2_put.data.toList.drop 114 = dktX2_put_5 := dk_seg dksX2_put_4 23 rfl rfl
theorem dX2_put_0 : decode cX2_put 0 = .ok (.iconst 0, 1) := dk_3 (dk_at dksX2_put_0 0 rfl rfl)
theorem dX2_put_1 : decode cX2_put 1 = .ok (.istore_n 3, 1) := dk_62 (dk_at dksX2_put_0 1 rfl rfl)
theorem dX2_put_2 : decode cX2_put 2 = .ok (.lload_n 1, 1) := dk_31 (dk_at dksX2_put_0 2 rfl rfl)
theorem dX2_put_3 : decode cX2_put 3 = .ok (.lstore 4, 2) := dk_55 4 (dk_at dksX2_put_0 3 rfl rfl)
theorem dX2_put_5 : decode cX2_put 5 = .ok (.lload 4, 2) := dk_22 4 (dk_at dksX2_put_0 5 rfl rfl)
theorem dX2_put_7 : decode cX2_put 7 = .ok (.ldc2_w 209, 3) := dk_20 0 209 (dk_at dksX2_put_0 7 rfl rfl)
theorem dX2_put_10 : decode cX2_put 10 = .ok (.land, 1) := dk_127 (dk_at dksX2_put_0 10 rfl rfl)
theorem dX2_put_11 : decode cX2_put 11 = .ok (.lconst 0, 1) := dk_9 (dk_at dksX2_put_0 11 rfl rfl)
theorem dX2_put_12 : decode cX2_put 12 = .ok (.lcmp, 1) := dk_148 (dk_at dksX2_put_0 12 rfl rfl)
theorem dX2_put_13 : decode cX2_put 13 = .ok (.ifCond .eq 36, 3) := dk_153 0 36 (dk_at dksX2_put_0 13 rfl rfl)
theorem dX2_put_16 : decode cX2_put 16 = .ok (.lload 4, 2) := dk_22 4 (dk_at dksX2_put_0 16 rfl rfl)
theorem dX2_put_18 : decode cX2_put 18 = .ok (.ldc2_w 209, 3) := dk_20 0 209 (dk_at dksX2_put_0 18 rfl rfl)
theorem dX2_put_21 : decode cX2_put 21 = .ok (.land, 1) := dk_127 (dk_at dksX2_put_0 21 rfl rfl)
theorem dX2_put_22 : decode cX2_put 22 = .ok (.l2i, 1) := dk_136 (dk_at dksX2_put_0 22 rfl rfl)
theorem dX2_put_23 : decode cX2_put 23 = .ok (.bipush 33, 2) := dk_16 33 (dk_at dksX2_put_1 0 rfl rfl)
theorem dX2_put_25 : decode cX2_put 25 = .ok (.bipush 126, 2) := dk_16 126 (dk_at dksX2_put_1 2 rfl rfl)
theorem dX2_put_27 : decode cX2_put 27 = .ok (.invokestatic 49, 3) := dk_184 0 49 (dk_at dksX2_put_1 4 rfl rfl)
theorem dX2_put_30 : decode cX2_put 30 = .ok (.ifCond .ne 6, 3) := dk_154 0 6 (dk_at dksX2_put_1 7 rfl rfl)
theorem dX2_put_33 : decode cX2_put 33 = .ok (.bipush (-2), 2) := dk_16 254 (dk_at dksX2_put_1 10 rfl rfl)
theorem dX2_put_35 : decode cX2_put 35 = .ok (.ireturn, 1) := dk_172 (dk_at dksX2_put_1 12 rfl rfl)
theorem dX2_put_36 : decode cX2_put 36 = .ok (.iinc 3 1, 3) := dk_132 3 1 (dk_at dksX2_put_1 13 rfl rfl)
theorem dX2_put_39 : decode cX2_put 39 = .ok (.lload 4, 2) := dk_22 4 (dk_at dksX2_put_1 16 rfl rfl)
theorem dX2_put_41 : decode cX2_put 41 = .ok (.bipush 8, 2) := dk_16 8 (dk_at dksX2_put_1 18 rfl rfl)
theorem dX2_put_43 : decode cX2_put 43 = .ok (.lushr, 1) := dk_125 (dk_at dksX2_put_1 20 rfl rfl)
theorem dX2_put_44 : decode cX2_put 44 = .ok (.lstore 4, 2) := dk_55 4 (dk_at dksX2_put_1 21 rfl rfl)
theorem dX2_put_46 : decode cX2_put 46 = .ok (.goto (-41), 3) := dk_167 255 215 (dk_at dksX2_put_2 0 rfl rfl)
theorem dX2_put_49 : decode cX2_put 49 = .ok (.lload 4, 2) := dk_22 4 (dk_at dksX2_put_2 3 rfl rfl)
theorem dX2_put_51 : decode cX2_put 51 = .ok (.lconst 0, 1) := dk_9 (dk_at dksX2_put_2 5 rfl rfl)
theorem dX2_put_52 : decode cX2_put 52 = .ok (.lcmp, 1) := dk_148 (dk_at dksX2_put_2 6 rfl rfl)
theorem dX2_put_53 : decode cX2_put 53 = .ok (.ifCond .ne 7, 3) := dk_154 0 7 (dk_at dksX2_put_2 7 rfl rfl)
theorem dX2_put_56 : decode cX2_put 56 = .ok (.iload_n 3, 1) := dk_29 (dk_at dksX2_put_2 10 rfl rfl)
theorem dX2_put_57 : decode cX2_put 57 = .ok (.ifCond .ne 6, 3) := dk_154 0 6 (dk_at dksX2_put_2 11 rfl rfl)
theorem dX2_put_60 : decode cX2_put 60 = .ok (.bipush (-2), 2) := dk_16 254 (dk_at dksX2_put_2 14 rfl rfl)
theorem dX2_put_62 : decode cX2_put 62 = .ok (.ireturn, 1) := dk_172 (dk_at dksX2_put_2 16 rfl rfl)
theorem dX2_put_63 : decode cX2_put 63 = .ok (.aload_n 0, 1) := dk_42 (dk_at dksX2_put_2 17 rfl rfl)
theorem dX2_put_64 : decode cX2_put 64 = .ok (.getfield 167, 3) := dk_180 0 167 (dk_at dksX2_put_2 18 rfl rfl)
theorem dX2_put_67 : decode cX2_put 67 = .ok (.iload_n 3, 1) := dk_29 (dk_at dksX2_put_2 21 rfl rfl)
theorem dX2_put_68 : decode cX2_put 68 = .ok (.iadd, 1) := dk_96 (dk_at dksX2_put_2 22 rfl rfl)
theorem dX2_put_69 : decode cX2_put 69 = .ok (.bipush 80, 2) := dk_16 80 (dk_at dksX2_put_3 0 rfl rfl)
theorem dX2_put_71 : decode cX2_put 71 = .ok (.if_icmp .le 6, 3) := dk_164 0 6 (dk_at dksX2_put_3 2 rfl rfl)
theorem dX2_put_74 : decode cX2_put 74 = .ok (.bipush (-4), 2) := dk_16 252 (dk_at dksX2_put_3 5 rfl rfl)
theorem dX2_put_76 : decode cX2_put 76 = .ok (.ireturn, 1) := dk_172 (dk_at dksX2_put_3 7 rfl rfl)
theorem dX2_put_77 : decode cX2_put 77 = .ok (.lload_n 1, 1) := dk_31 (dk_at dksX2_put_3 8 rfl rfl)
theorem dX2_put_78 : decode cX2_put 78 = .ok (.lstore 4, 2) := dk_55 4 (dk_at dksX2_put_3 9 rfl rfl)
theorem dX2_put_80 : decode cX2_put 80 = .ok (.iload_n 3, 1) := dk_29 (dk_at dksX2_put_3 11 rfl rfl)
theorem dX2_put_81 : decode cX2_put 81 = .ok (.iconst 1, 1) := dk_4 (dk_at dksX2_put_3 12 rfl rfl)
theorem dX2_put_82 : decode cX2_put 82 = .ok (.isub, 1) := dk_100 (dk_at dksX2_put_3 13 rfl rfl)
theorem dX2_put_83 : decode cX2_put 83 = .ok (.istore 6, 2) := dk_54 6 (dk_at dksX2_put_3 14 rfl rfl)
theorem dX2_put_85 : decode cX2_put 85 = .ok (.iload 6, 2) := dk_21 6 (dk_at dksX2_put_3 16 rfl rfl)
theorem dX2_put_87 : decode cX2_put 87 = .ok (.ifCond .lt 35, 3) := dk_155 0 35 (dk_at dksX2_put_3 18 rfl rfl)
theorem dX2_put_90 : decode cX2_put 90 = .ok (.aload_n 0, 1) := dk_42 (dk_at dksX2_put_3 21 rfl rfl)
theorem dX2_put_91 : decode cX2_put 91 = .ok (.getfield 26, 3) := dk_180 0 26 (dk_at dksX2_put_4 0 rfl rfl)
theorem dX2_put_94 : decode cX2_put 94 = .ok (.aload_n 0, 1) := dk_42 (dk_at dksX2_put_4 3 rfl rfl)
theorem dX2_put_95 : decode cX2_put 95 = .ok (.getfield 167, 3) := dk_180 0 167 (dk_at dksX2_put_4 4 rfl rfl)
theorem dX2_put_98 : decode cX2_put 98 = .ok (.iload 6, 2) := dk_21 6 (dk_at dksX2_put_4 7 rfl rfl)
theorem dX2_put_100 : decode cX2_put 100 = .ok (.iadd, 1) := dk_96 (dk_at dksX2_put_4 9 rfl rfl)
theorem dX2_put_101 : decode cX2_put 101 = .ok (.lload 4, 2) := dk_22 4 (dk_at dksX2_put_4 10 rfl rfl)
theorem dX2_put_103 : decode cX2_put 103 = .ok (.ldc2_w 209, 3) := dk_20 0 209 (dk_at dksX2_put_4 12 rfl rfl)
theorem dX2_put_106 : decode cX2_put 106 = .ok (.land, 1) := dk_127 (dk_at dksX2_put_4 15 rfl rfl)
theorem dX2_put_107 : decode cX2_put 107 = .ok (.l2i, 1) := dk_136 (dk_at dksX2_put_4 16 rfl rfl)
theorem dX2_put_108 : decode cX2_put 108 = .ok (.iastore, 1) := dk_79 (dk_at dksX2_put_4 17 rfl rfl)
theorem dX2_put_109 : decode cX2_put 109 = .ok (.lload 4, 2) := dk_22 4 (dk_at dksX2_put_4 18 rfl rfl)
theorem dX2_put_111 : decode cX2_put 111 = .ok (.bipush 8, 2) := dk_16 8 (dk_at dksX2_put_4 20 rfl rfl)
theorem dX2_put_113 : decode cX2_put 113 = .ok (.lushr, 1) := dk_125 (dk_at dksX2_put_4 22 rfl rfl)
theorem dX2_put_114 : decode cX2_put 114 = .ok (.lstore 4, 2) := dk_55 4 (dk_at dksX2_put_5 0 rfl rfl)
theorem dX2_put_116 : decode cX2_put 116 = .ok (.iinc 6 (-1), 3) := dk_132 6 255 (dk_at dksX2_put_5 2 rfl rfl)
theorem dX2_put_119 : decode cX2_put 119 = .ok (.goto (-34), 3) := dk_167 255 222 (dk_at dksX2_put_5 5 rfl rfl)
theorem dX2_put_122 : decode cX2_put 122 = .ok (.aload_n 0, 1) := dk_42 (dk_at dksX2_put_5 8 rfl rfl)
theorem dX2_put_123 : decode cX2_put 123 = .ok (.dup, 1) := dk_89 (dk_at dksX2_put_5 9 rfl rfl)
theorem dX2_put_124 : decode cX2_put 124 = .ok (.getfield 167, 3) := dk_180 0 167 (dk_at dksX2_put_5 10 rfl rfl)
theorem dX2_put_127 : decode cX2_put 127 = .ok (.iload_n 3, 1) := dk_29 (dk_at dksX2_put_5 13 rfl rfl)
theorem dX2_put_128 : decode cX2_put 128 = .ok (.iadd, 1) := dk_96 (dk_at dksX2_put_5 14 rfl rfl)
theorem dX2_put_129 : decode cX2_put 129 = .ok (.putfield 167, 3) := dk_181 0 167 (dk_at dksX2_put_5 15 rfl rfl)
theorem dX2_put_132 : decode cX2_put 132 = .ok (.aload_n 0, 1) := dk_42 (dk_at dksX2_put_5 18 rfl rfl)
theorem dX2_put_133 : decode cX2_put 133 = .ok (.getfield 167, 3) := dk_180 0 167 (dk_at dksX2_put_5 19 rfl rfl)
theorem dX2_put_136 : decode cX2_put 136 = .ok (.ireturn, 1) := dk_172 (dk_at dksX2_put_5 22 rfl rfl)
abbrev cX2_wipe : ByteArray := prog_12_method_77_code
def yX2_wipe : MethodName := ⟨RX2, "wipe", "()I"⟩
def dkwX2_wipe_0 : List UInt8 := [42, 180, 0, 167, 60, 42, 3, 181, 0, 167, 27, 172]
abbrev dktX2_wipe_0 : List UInt8 := dkwX2_wipe_0 ++ []
theorem dksX2_wipe_0 : cX2_wipe.data.toList.drop 0 = dktX2_wipe_0 := by decide +kernel
theorem dX2_wipe_0 : decode cX2_wipe 0 = .ok (.aload_n 0, 1) := dk_42 (dk_at dksX2_wipe_0 0 rfl rfl)
theorem dX2_wipe_1 : decode cX2_wipe 1 = .ok (.getfield 167, 3) := dk_180 0 167 (dk_at dksX2_wipe_0 1 rfl rfl)
theorem dX2_wipe_4 : decode cX2_wipe 4 = .ok (.istore_n 1, 1) := dk_60 (dk_at dksX2_wipe_0 4 rfl rfl)
theorem dX2_wipe_5 : decode cX2_wipe 5 = .ok (.aload_n 0, 1) := dk_42 (dk_at dksX2_wipe_0 5 rfl rfl)
theorem dX2_wipe_6 : decode cX2_wipe 6 = .ok (.iconst 0, 1) := dk_3 (dk_at dksX2_wipe_0 6 rfl rfl)
theorem dX2_wipe_7 : decode cX2_wipe 7 = .ok (.putfield 167, 3) := dk_181 0 167 (dk_at dksX2_wipe_0 7 rfl rfl)
theorem dX2_wipe_10 : decode cX2_wipe 10 = .ok (.iload_n 1, 1) := dk_27 (dk_at dksX2_wipe_0 10 rfl rfl)
theorem dX2_wipe_11 : decode cX2_wipe 11 = .ok (.ireturn, 1) := dk_172 (dk_at dksX2_wipe_0 11 rfl rfl)
abbrev cX2_fault : ByteArray := prog_12_method_78_code
def yX2_fault : MethodName := ⟨RX2, "fault", "()I"⟩
theorem dX2_fault_0 : decode cX2_fault 0 = .ok (.aload_n 0, 1) := by decide +kernel
theorem dX2_fault_1 : decode cX2_fault 1 = .ok (.invokevirtual 211, 3) := by decide +kernel
theorem dX2_fault_4 : decode cX2_fault 4 = .ok (.ireturn, 1) := by decide +kernel
abbrev cX2_faultOf : ByteArray := prog_12_method_75_code
def yX2_faultOf : MethodName := ⟨RX2, "faultOf", "()I"⟩
def dkwX2_faultOf_3 : List UInt8 := [16, 250, 172]
abbrev dktX2_faultOf_3 : List UInt8 := dkwX2_faultOf_3 ++ []
def dkwX2_faultOf_2 : List UInt8 := [154, 255, 228, 42, 182, 0, 206, 167, 255, 221, 42, 180, 0, 188, 153, 0, 10, 42, 180, 0, 185, 167, 0, 5]
abbrev dktX2_faultOf_2 : List UInt8 := dkwX2_faultOf_2 ++ dktX2_faultOf_3
def dkwX2_faultOf_1 : List UInt8 := [154, 0, 34, 42, 180, 0, 185, 42, 180, 0, 167, 162, 0, 23, 42, 16, 59, 182, 0, 203, 42, 180, 0, 188]
abbrev dktX2_faultOf_1 : List UInt8 := dkwX2_faultOf_1 ++ dktX2_faultOf_2
def dkwX2_faultOf_0 : List UInt8 := [42, 3, 181, 0, 185, 42, 3, 181, 0, 197, 42, 3, 181, 0, 188, 42, 182, 0, 206, 42, 180, 0, 188]
abbrev dktX2_faultOf_0 : List UInt8 := dkwX2_faultOf_0 ++ dktX2_faultOf_1
theorem dksX2_faultOf_0 : cX2_faultOf.data.toList.drop 0 = dktX2_faultOf_0 := by decide +kernel
theorem dksX2_faultOf_1 : cX2_faultOf.data.toList.drop 23 = dktX2_faultOf_1 := dk_seg dksX2_faultOf_0 23 rfl rfl
theorem dksX2_faultOf_2 : cX2_faultOf.data.toList.drop 47 = dktX2_faultOf_2 := dk_seg dksX2_faultOf_1 24 rfl rfl
theorem dksX2_faultOf_3 : cX2_faultOf.data.toList.drop 71 = dktX2_faultOf_3 := dk_seg dksX2_faultOf_2 24 rfl rfl
theorem dX2_faultOf_0 : decode cX2_faultOf 0 = .ok (.aload_n 0, 1) := dk_42 (dk_at dksX2_faultOf_0 0 rfl rfl)
theorem dX2_faultOf_1 : decode cX2_faultOf 1 = .ok (.iconst 0, 1) := dk_3 (dk_at dksX2_faultOf_0 1 rfl rfl)
theorem dX2_faultOf_2 : decode cX2_faultOf 2 = .ok (.putfield 185, 3) := dk_181 0 185 (dk_at dksX2_faultOf_0 2 rfl rfl)
theorem dX2_faultOf_5 : decode cX2_faultOf 5 = .ok (.aload_n 0, 1) := dk_42 (dk_at dksX2_faultOf_0 5 rfl rfl)
theorem dX2_faultOf_6 : decode cX2_faultOf 6 = .ok (.iconst 0, 1) := dk_3 (dk_at dksX2_faultOf_0 6 rfl rfl)
theorem dX2_faultOf_7 : decode cX2_faultOf 7 = .ok (.putfield 197, 3) := dk_181 0 197 (dk_at dksX2_faultOf_0 7 rfl rfl)
theorem dX2_faultOf_10 : decode cX2_faultOf 10 = .ok (.aload_n 0, 1) := dk_42 (dk_at dksX2_faultOf_0 10 rfl rfl)
theorem dX2_faultOf_11 : decode cX2_faultOf 11 = .ok (.iconst 0, 1) := dk_3 (dk_at dksX2_faultOf_0 11 rfl rfl)
theorem dX2_faultOf_12 : decode cX2_faultOf 12 = .ok (.putfield 188, 3) := dk_181 0 188 (dk_at dksX2_faultOf_0 12 rfl rfl)
theorem dX2_faultOf_15 : decode cX2_faultOf 15 = .ok (.aload_n 0, 1) := dk_42 (dk_at dksX2_faultOf_0 15 rfl rfl)
theorem dX2_faultOf_16 : decode cX2_faultOf 16 = .ok (.invokevirtual 206, 3) := dk_182 0 206 (dk_at dksX2_faultOf_0 16 rfl rfl)
theorem dX2_faultOf_19 : decode cX2_faultOf 19 = .ok (.aload_n 0, 1) := dk_42 (dk_at dksX2_faultOf_0 19 rfl rfl)
theorem dX2_faultOf_20 : decode cX2_faultOf 20 = .ok (.getfield 188, 3) := dk_180 0 188 (dk_at dksX2_faultOf_0 20 rfl rfl)
theorem dX2_faultOf_23 : decode cX2_faultOf 23 = .ok (.ifCond .ne 34, 3) := dk_154 0 34 (dk_at dksX2_faultOf_1 0 rfl rfl)
theorem dX2_faultOf_26 : decode cX2_faultOf 26 = .ok (.aload_n 0, 1) := dk_42 (dk_at dksX2_faultOf_1 3 rfl rfl)
theorem dX2_faultOf_27 : decode cX2_faultOf 27 = .ok (.getfield 185, 3) := dk_180 0 185 (dk_at dksX2_faultOf_1 4 rfl rfl)
theorem dX2_faultOf_30 : decode cX2_faultOf 30 = .ok (.aload_n 0, 1) := dk_42 (dk_at dksX2_faultOf_1 7 rfl rfl)
theorem dX2_faultOf_31 : decode cX2_faultOf 31 = .ok (.getfield 167, 3) := dk_180 0 167 (dk_at dksX2_faultOf_1 8 rfl rfl)
theorem dX2_faultOf_34 : decode cX2_faultOf 34 = .ok (.if_icmp .ge 23, 3) := dk_162 0 23 (dk_at dksX2_faultOf_1 11 rfl rfl)
theorem dX2_faultOf_37 : decode cX2_faultOf 37 = .ok (.aload_n 0, 1) := dk_42 (dk_at dksX2_faultOf_1 14 rfl rfl)
theorem dX2_faultOf_38 : decode cX2_faultOf 38 = .ok (.bipush 59, 2) := dk_16 59 (dk_at dksX2_faultOf_1 15 rfl rfl)
theorem dX2_faultOf_40 : decode cX2_faultOf 40 = .ok (.invokevirtual 203, 3) := dk_182 0 203 (dk_at dksX2_faultOf_1 17 rfl rfl)
theorem dX2_faultOf_43 : decode cX2_faultOf 43 = .ok (.aload_n 0, 1) := dk_42 (dk_at dksX2_faultOf_1 20 rfl rfl)
theorem dX2_faultOf_44 : decode cX2_faultOf 44 = .ok (.getfield 188, 3) := dk_180 0 188 (dk_at dksX2_faultOf_1 21 rfl rfl)
theorem dX2_faultOf_47 : decode cX2_faultOf 47 = .ok (.ifCond .ne (-28), 3) := dk_154 255 228 (dk_at dksX2_faultOf_2 0 rfl rfl)
theorem dX2_faultOf_50 : decode cX2_faultOf 50 = .ok (.aload_n 0, 1) := dk_42 (dk_at dksX2_faultOf_2 3 rfl rfl)
theorem dX2_faultOf_51 : decode cX2_faultOf 51 = .ok (.invokevirtual 206, 3) := dk_182 0 206 (dk_at dksX2_faultOf_2 4 rfl rfl)
theorem dX2_faultOf_54 : decode cX2_faultOf 54 = .ok (.goto (-35), 3) := dk_167 255 221 (dk_at dksX2_faultOf_2 7 rfl rfl)
theorem dX2_faultOf_57 : decode cX2_faultOf 57 = .ok (.aload_n 0, 1) := dk_42 (dk_at dksX2_faultOf_2 10 rfl rfl)
theorem dX2_faultOf_58 : decode cX2_faultOf 58 = .ok (.getfield 188, 3) := dk_180 0 188 (dk_at dksX2_faultOf_2 11 rfl rfl)
theorem dX2_faultOf_61 : decode cX2_faultOf 61 = .ok (.ifCond .eq 10, 3) := dk_153 0 10 (dk_at dksX2_faultOf_2 14 rfl rfl)
theorem dX2_faultOf_64 : decode cX2_faultOf 64 = .ok (.aload_n 0, 1) := dk_42 (dk_at dksX2_faultOf_2 17 rfl rfl)
theorem dX2_faultOf_65 : decode cX2_faultOf 65 = .ok (.getfield 185, 3) := dk_180 0 185 (dk_at dksX2_faultOf_2 18 rfl rfl)
theorem dX2_faultOf_68 : decode cX2_faultOf 68 = .ok (.goto 5, 3) := dk_167 0 5 (dk_at dksX2_faultOf_2 21 rfl rfl)
theorem dX2_faultOf_71 : decode cX2_faultOf 71 = .ok (.bipush (-6), 2) := dk_16 250 (dk_at dksX2_faultOf_3 0 rfl rfl)
theorem dX2_faultOf_73 : decode cX2_faultOf 73 = .ok (.ireturn, 1) := dk_172 (dk_at dksX2_faultOf_3 2 rfl rfl)
abbrev cX2_readOne : ByteArray := prog_12_method_74_code
def yX2_readOne : MethodName := ⟨RX2, "readOne", "()V"⟩
def dkwX2_readOne_12 : List UInt8 := [181, 0, 197, 177]
abbrev dktX2_readOne_12 : List UInt8 := dkwX2_readOne_12 ++ []
def dkwX2_readOne_11 : List UInt8 := [16, 9, 182, 0, 194, 167, 0, 10, 42, 4, 16, 6, 182, 0, 194, 79, 42, 89, 180, 0, 197, 4, 96]
abbrev dktX2_readOne_11 : List UInt8 := dkwX2_readOne_11 ++ dktX2_readOne_12
def dkwX2_readOne_10 : List UInt8 := [167, 0, 5, 16, 120, 182, 0, 203, 42, 180, 0, 38, 27, 6, 96, 28, 16, 112, 160, 0, 13, 42, 3]
abbrev dktX2_readOne_10 : List UInt8 := dkwX2_readOne_10 ++ dktX2_readOne_11
def dkwX2_readOne_9 : List UInt8 := [42, 180, 0, 38, 27, 5, 96, 42, 3, 8, 182, 0, 194, 79, 42, 28, 16, 112, 160, 0, 8, 16, 107]
abbrev dktX2_readOne_9 : List UInt8 := dkwX2_readOne_9 ++ dktX2_readOne_10
def dkwX2_readOne_8 : List UInt8 := [180, 0, 185, 42, 180, 0, 38, 27, 7, 96, 46, 96, 181, 0, 185, 167, 0, 71, 42, 16, 47, 182, 0, 203]
abbrev dktX2_readOne_8 : List UInt8 := dkwX2_readOne_8 ++ dktX2_readOne_9
def dkwX2_readOne_7 : List UInt8 := [42, 180, 0, 188, 154, 0, 16, 42, 182, 0, 191, 16, 33, 160, 0, 7, 4, 167, 0, 4, 3, 79, 42, 89]
abbrev dktX2_readOne_7 : List UInt8 := dkwX2_readOne_7 ++ dktX2_readOne_8
def dkwX2_readOne_6 : List UInt8 := [181, 0, 185, 42, 180, 0, 38, 27, 6, 96, 42, 3, 8, 182, 0, 194, 79, 42, 180, 0, 38, 27, 7, 96]
abbrev dktX2_readOne_6 : List UInt8 := dkwX2_readOne_6 ++ dktX2_readOne_7
def dkwX2_readOne_5 : List UInt8 := [180, 0, 188, 154, 0, 36, 42, 182, 0, 191, 16, 115, 160, 0, 27, 42, 89, 180, 0, 185, 4, 96]
abbrev dktX2_readOne_5 : List UInt8 := dkwX2_readOne_5 ++ dktX2_readOne_6
def dkwX2_readOne_4 : List UInt8 := [42, 180, 0, 38, 27, 5, 96, 42, 182, 0, 200, 79, 42, 180, 0, 38, 27, 6, 96, 16, 250, 79, 42]
abbrev dktX2_readOne_4 : List UInt8 := dkwX2_readOne_4 ++ dktX2_readOne_5
def dkwX2_readOne_3 : List UInt8 := [42, 180, 0, 38, 27, 4, 96, 42, 182, 0, 200, 79, 28, 16, 98, 160, 0, 120, 42, 16, 58, 182, 0, 203]
abbrev dktX2_readOne_3 : List UInt8 := dkwX2_readOne_3 ++ dktX2_readOne_4
def dkwX2_readOne_2 : List UInt8 := [180, 0, 188, 153, 0, 4, 177, 42, 89, 180, 0, 185, 4, 96, 181, 0, 185, 42, 180, 0, 38, 27, 28, 79]
abbrev dktX2_readOne_2 : List UInt8 := dkwX2_readOne_2 ++ dktX2_readOne_3
def dkwX2_readOne_1 : List UInt8 := [159, 0, 19, 28, 16, 101, 159, 0, 13, 28, 16, 98, 159, 0, 7, 4, 167, 0, 4, 3, 181, 0, 188, 42]
abbrev dktX2_readOne_1 : List UInt8 := dkwX2_readOne_1 ++ dktX2_readOne_2
def dkwX2_readOne_0 : List UInt8 := [8, 42, 180, 0, 197, 104, 60, 42, 182, 0, 191, 61, 42, 42, 180, 0, 188, 154, 0, 21, 28, 16, 112]
abbrev dktX2_readOne_0 : List UInt8 := dkwX2_readOne_0 ++ dktX2_readOne_1
theorem dksX2_readOne_0 : cX2_readOne.data.toList.drop 0 = dktX2_readOne_0 := by decide +kernel
theorem dksX2_readOne_1 : cX2_readOne.data.toList.drop 23 = dktX2_readOne_1 := dk_seg dksX2_readOne_0 23 rfl rfl
theorem dksX2_readOne_2 : cX2_readOne.data.toList.drop 47 = dktX2_readOne_2 := dk_seg dksX2_readOne_1 24 rfl rfl
theorem dksX2_readOne_3 : cX2_readOne.data.toList.drop 71 = dktX2_readOne_3 := dk_seg dksX2_readOne_2 24 rfl rfl
theorem dksX2_readOne_4 : cX2_readOne.data.toList.drop 95 = dktX2_readOne_4 := dk_seg dksX2_readOne_3 24 rfl rfl
theorem dksX2_readOne_5 : cX2_readOne.data.toList.drop 118 = dktX2_readOne_5 := dk_seg dksX2_readOne_4 23 rfl rfl
theorem dksX2_readOne_6 : cX2_readOne.data.toList.drop 140 = dktX2_readOne_6 := dk_seg dksX2_readOne_5 22 rfl rfl
theorem dksX2_readOne_7 : cX2_readOne.data.toList.drop 164 = dktX2_readOne_7 := dk_seg dksX2_readOne_6 24 rfl rfl
theorem dksX2_readOne_8 : cX2_readOne.data.toList.drop 188 = dktX2_readOne_8 := dk_seg dksX2_readOne_7 24 rfl rfl
theorem dksX2_readOne_9 : cX2_readOne.data.toList.drop 212 = dktX2_readOne_9 := dk_seg dksX2_readOne_8 24 rfl rfl
theorem dksX2_readOne_10 : cX2_readOne.data.toList.drop 235 = dktX2_readOne_10 := dk_seg dksX2_readOne_9 23 rfl rfl
theorem dksX2_readOne_11 : cX2_readOne.data.toList.drop 258 = dktX2_readOne_11 := dk_seg dksX2_readOne_10 23 rfl rfl
theorem dksX2_readOne_12 : cX2_readOne.data.toList.drop 281 = dktX2_readOne_12 := dk_seg dksX2_readOne_11 23 rfl rfl
theorem dX2_readOne_0 : decode cX2_readOne 0 = .ok (.iconst 5, 1) := dk_8 (dk_at dksX2_readOne_0 0 rfl rfl)
theorem dX2_readOne_1 : decode cX2_readOne 1 = .ok (.aload_n 0, 1) := dk_42 (dk_at dksX2_readOne_0 1 rfl rfl)
theorem dX2_readOne_2 : decode cX2_readOne 2 = .ok (.getfield 197, 3) := dk_180 0 197 (dk_at dksX2_readOne_0 2 rfl rfl)
theorem dX2_readOne_5 : decode cX2_readOne 5 = .ok (.imul, 1) := dk_104 (dk_at dksX2_readOne_0 5 rfl rfl)
theorem dX2_readOne_6 : decode cX2_readOne 6 = .ok (.istore_n 1, 1) := dk_60 (dk_at dksX2_readOne_0 6 rfl rfl)
theorem dX2_readOne_7 : decode cX2_readOne 7 = .ok (.aload_n 0, 1) := dk_42 (dk_at dksX2_readOne_0 7 rfl rfl)
theorem dX2_readOne_8 : decode cX2_readOne 8 = .ok (.invokevirtual 191, 3) := dk_182 0 191 (dk_at dksX2_readOne_0 8 rfl rfl)
theorem dX2_readOne_11 : decode cX2_readOne 11 = .ok (.istore_n 2, 1) := dk_61 (dk_at dksX2_readOne_0 11 rfl rfl)
theorem dX2_readOne_12 : decode cX2_readOne 12 = .ok (.aload_n 0, 1) := dk_42 (dk_at dksX2_readOne_0 12 rfl rfl)
theorem dX2_readOne_13 : decode cX2_readOne 13 = .ok (.aload_n 0, 1) := dk_42 (dk_at dksX2_readOne_0 13 rfl rfl)
theorem dX2_readOne_14 : decode cX2_readOne 14 = .ok (.getfield 188, 3) := dk_180 0 188 (dk_at dksX2_readOne_0 14 rfl rfl)
theorem dX2_readOne_17 : decode cX2_readOne 17 = .ok (.ifCond .ne 21, 3) := dk_154 0 21 (dk_at dksX2_readOne_0 17 rfl rfl)
theorem dX2_readOne_20 : decode cX2_readOne 20 = .ok (.iload_n 2, 1) := dk_28 (dk_at dksX2_readOne_0 20 rfl rfl)
theorem dX2_readOne_21 : decode cX2_readOne 21 = .ok (.bipush 112, 2) := dk_16 112 (dk_at dksX2_readOne_0 21 rfl rfl)
theorem dX2_readOne_23 : decode cX2_readOne 23 = .ok (.if_icmp .eq 19, 3) := dk_159 0 19 (dk_at dksX2_readOne_1 0 rfl rfl)
theorem dX2_readOne_26 : decode cX2_readOne 26 = .ok (.iload_n 2, 1) := dk_28 (dk_at dksX2_readOne_1 3 rfl rfl)
theorem dX2_readOne_27 : decode cX2_readOne 27 = .ok (.bipush 101, 2) := dk_16 101 (dk_at dksX2_readOne_1 4 rfl rfl)
theorem dX2_readOne_29 : decode cX2_readOne 29 = .ok (.if_icmp .eq 13, 3) := dk_159 0 13 (dk_at dksX2_readOne_1 6 rfl rfl)
theorem dX2_readOne_32 : decode cX2_readOne 32 = .ok (.iload_n 2, 1) := dk_28 (dk_at dksX2_readOne_1 9 rfl rfl)
theorem dX2_readOne_33 : decode cX2_readOne 33 = .ok (.bipush 98, 2) := dk_16 98 (dk_at dksX2_readOne_1 10 rfl rfl)
theorem dX2_readOne_35 : decode cX2_readOne 35 = .ok (.if_icmp .eq 7, 3) := dk_159 0 7 (dk_at dksX2_readOne_1 12 rfl rfl)
theorem dX2_readOne_38 : decode cX2_readOne 38 = .ok (.iconst 1, 1) := dk_4 (dk_at dksX2_readOne_1 15 rfl rfl)
theorem dX2_readOne_39 : decode cX2_readOne 39 = .ok (.goto 4, 3) := dk_167 0 4 (dk_at dksX2_readOne_1 16 rfl rfl)
theorem dX2_readOne_42 : decode cX2_readOne 42 = .ok (.iconst 0, 1) := dk_3 (dk_at dksX2_readOne_1 19 rfl rfl)
theorem dX2_readOne_43 : decode cX2_readOne 43 = .ok (.putfield 188, 3) := dk_181 0 188 (dk_at dksX2_readOne_1 20 rfl rfl)
theorem dX2_readOne_46 : decode cX2_readOne 46 = .ok (.aload_n 0, 1) := dk_42 (dk_at dksX2_readOne_1 23 rfl rfl)
theorem dX2_readOne_47 : decode cX2_readOne 47 = .ok (.getfield 188, 3) := dk_180 0 188 (dk_at dksX2_readOne_2 0 rfl rfl)
theorem dX2_readOne_50 : decode cX2_readOne 50 = .ok (.ifCond .eq 4, 3) := dk_153 0 4 (dk_at dksX2_readOne_2 3 rfl rfl)
theorem dX2_readOne_53 : decode cX2_readOne 53 = .ok (.return_, 1) := dk_177 (dk_at dksX2_readOne_2 6 rfl rfl)
theorem dX2_readOne_54 : decode cX2_readOne 54 = .ok (.aload_n 0, 1) := dk_42 (dk_at dksX2_readOne_2 7 rfl rfl)
theorem dX2_readOne_55 : decode cX2_readOne 55 = .ok (.dup, 1) := dk_89 (dk_at dksX2_readOne_2 8 rfl rfl)
theorem dX2_readOne_56 : decode cX2_readOne 56 = .ok (.getfield 185, 3) := dk_180 0 185 (dk_at dksX2_readOne_2 9 rfl rfl)
theorem dX2_readOne_59 : decode cX2_readOne 59 = .ok (.iconst 1, 1) := dk_4 (dk_at dksX2_readOne_2 12 rfl rfl)
theorem dX2_readOne_60 : decode cX2_readOne 60 = .ok (.iadd, 1) := dk_96 (dk_at dksX2_readOne_2 13 rfl rfl)
theorem dX2_readOne_61 : decode cX2_readOne 61 = .ok (.putfield 185, 3) := dk_181 0 185 (dk_at dksX2_readOne_2 14 rfl rfl)
theorem dX2_readOne_64 : decode cX2_readOne 64 = .ok (.aload_n 0, 1) := dk_42 (dk_at dksX2_readOne_2 17 rfl rfl)
theorem dX2_readOne_65 : decode cX2_readOne 65 = .ok (.getfield 38, 3) := dk_180 0 38 (dk_at dksX2_readOne_2 18 rfl rfl)
theorem dX2_readOne_68 : decode cX2_readOne 68 = .ok (.iload_n 1, 1) := dk_27 (dk_at dksX2_readOne_2 21 rfl rfl)
theorem dX2_readOne_69 : decode cX2_readOne 69 = .ok (.iload_n 2, 1) := dk_28 (dk_at dksX2_readOne_2 22 rfl rfl)
theorem dX2_readOne_70 : decode cX2_readOne 70 = .ok (.iastore, 1) := dk_79 (dk_at dksX2_readOne_2 23 rfl rfl)
theorem dX2_readOne_71 : decode cX2_readOne 71 = .ok (.aload_n 0, 1) := dk_42 (dk_at dksX2_readOne_3 0 rfl rfl)
theorem dX2_readOne_72 : decode cX2_readOne 72 = .ok (.getfield 38, 3) := dk_180 0 38 (dk_at dksX2_readOne_3 1 rfl rfl)
theorem dX2_readOne_75 : decode cX2_readOne 75 = .ok (.iload_n 1, 1) := dk_27 (dk_at dksX2_readOne_3 4 rfl rfl)
theorem dX2_readOne_76 : decode cX2_readOne 76 = .ok (.iconst 1, 1) := dk_4 (dk_at dksX2_readOne_3 5 rfl rfl)
theorem dX2_readOne_77 : decode cX2_readOne 77 = .ok (.iadd, 1) := dk_96 (dk_at dksX2_readOne_3 6 rfl rfl)
theorem dX2_readOne_78 : decode cX2_readOne 78 = .ok (.aload_n 0, 1) := dk_42 (dk_at dksX2_readOne_3 7 rfl rfl)
theorem dX2_readOne_79 : decode cX2_readOne 79 = .ok (.invokevirtual 200, 3) := dk_182 0 200 (dk_at dksX2_readOne_3 8 rfl rfl)
theorem dX2_readOne_82 : decode cX2_readOne 82 = .ok (.iastore, 1) := dk_79 (dk_at dksX2_readOne_3 11 rfl rfl)
theorem dX2_readOne_83 : decode cX2_readOne 83 = .ok (.iload_n 2, 1) := dk_28 (dk_at dksX2_readOne_3 12 rfl rfl)
theorem dX2_readOne_84 : decode cX2_readOne 84 = .ok (.bipush 98, 2) := dk_16 98 (dk_at dksX2_readOne_3 13 rfl rfl)
theorem dX2_readOne_86 : decode cX2_readOne 86 = .ok (.if_icmp .ne 120, 3) := dk_160 0 120 (dk_at dksX2_readOne_3 15 rfl rfl)
theorem dX2_readOne_89 : decode cX2_readOne 89 = .ok (.aload_n 0, 1) := dk_42 (dk_at dksX2_readOne_3 18 rfl rfl)
theorem dX2_readOne_90 : decode cX2_readOne 90 = .ok (.bipush 58, 2) := dk_16 58 (dk_at dksX2_readOne_3 19 rfl rfl)
theorem dX2_readOne_92 : decode cX2_readOne 92 = .ok (.invokevirtual 203, 3) := dk_182 0 203 (dk_at dksX2_readOne_3 21 rfl rfl)
theorem dX2_readOne_95 : decode cX2_readOne 95 = .ok (.aload_n 0, 1) := dk_42 (dk_at dksX2_readOne_4 0 rfl rfl)
theorem dX2_readOne_96 : decode cX2_readOne 96 = .ok (.getfield 38, 3) := dk_180 0 38 (dk_at dksX2_readOne_4 1 rfl rfl)
theorem dX2_readOne_99 : decode cX2_readOne 99 = .ok (.iload_n 1, 1) := dk_27 (dk_at dksX2_readOne_4 4 rfl rfl)
theorem dX2_readOne_100 : decode cX2_readOne 100 = .ok (.iconst 2, 1) := dk_5 (dk_at dksX2_readOne_4 5 rfl rfl)
theorem dX2_readOne_101 : decode cX2_readOne 101 = .ok (.iadd, 1) := dk_96 (dk_at dksX2_readOne_4 6 rfl rfl)
theorem dX2_readOne_102 : decode cX2_readOne 102 = .ok (.aload_n 0, 1) := dk_42 (dk_at dksX2_readOne_4 7 rfl rfl)
theorem dX2_readOne_103 : decode cX2_readOne 103 = .ok (.invokevirtual 200, 3) := dk_182 0 200 (dk_at dksX2_readOne_4 8 rfl rfl)
theorem dX2_readOne_106 : decode cX2_readOne 106 = .ok (.iastore, 1) := dk_79 (dk_at dksX2_readOne_4 11 rfl rfl)
theorem dX2_readOne_107 : decode cX2_readOne 107 = .ok (.aload_n 0, 1) := dk_42 (dk_at dksX2_readOne_4 12 rfl rfl)
theorem dX2_readOne_108 : decode cX2_readOne 108 = .ok (.getfield 38, 3) := dk_180 0 38 (dk_at dksX2_readOne_4 13 rfl rfl)
theorem dX2_readOne_111 : decode cX2_readOne 111 = .ok (.iload_n 1, 1) := dk_27 (dk_at dksX2_readOne_4 16 rfl rfl)
theorem dX2_readOne_112 : decode cX2_readOne 112 = .ok (.iconst 3, 1) := dk_6 (dk_at dksX2_readOne_4 17 rfl rfl)
theorem dX2_readOne_113 : decode cX2_readOne 113 = .ok (.iadd, 1) := dk_96 (dk_at dksX2_readOne_4 18 rfl rfl)
theorem dX2_readOne_114 : decode cX2_readOne 114 = .ok (.bipush (-6), 2) := dk_16 250 (dk_at dksX2_readOne_4 19 rfl rfl)
theorem dX2_readOne_116 : decode cX2_readOne 116 = .ok (.iastore, 1) := dk_79 (dk_at dksX2_readOne_4 21 rfl rfl)
theorem dX2_readOne_117 : decode cX2_readOne 117 = .ok (.aload_n 0, 1) := dk_42 (dk_at dksX2_readOne_4 22 rfl rfl)
theorem dX2_readOne_118 : decode cX2_readOne 118 = .ok (.getfield 188, 3) := dk_180 0 188 (dk_at dksX2_readOne_5 0 rfl rfl)
theorem dX2_readOne_121 : decode cX2_readOne 121 = .ok (.ifCond .ne 36, 3) := dk_154 0 36 (dk_at dksX2_readOne_5 3 rfl rfl)
theorem dX2_readOne_124 : decode cX2_readOne 124 = .ok (.aload_n 0, 1) := dk_42 (dk_at dksX2_readOne_5 6 rfl rfl)
theorem dX2_readOne_125 : decode cX2_readOne 125 = .ok (.invokevirtual 191, 3) := dk_182 0 191 (dk_at dksX2_readOne_5 7 rfl rfl)
theorem dX2_readOne_128 : decode cX2_readOne 128 = .ok (.bipush 115, 2) := dk_16 115 (dk_at dksX2_readOne_5 10 rfl rfl)
theorem dX2_readOne_130 : decode cX2_readOne 130 = .ok (.if_icmp .ne 27, 3) := dk_160 0 27 (dk_at dksX2_readOne_5 12 rfl rfl)
theorem dX2_readOne_133 : decode cX2_readOne 133 = .ok (.aload_n 0, 1) := dk_42 (dk_at dksX2_readOne_5 15 rfl rfl)
theorem dX2_readOne_134 : decode cX2_readOne 134 = .ok (.dup, 1) := dk_89 (dk_at dksX2_readOne_5 16 rfl rfl)
theorem dX2_readOne_135 : decode cX2_readOne 135 = .ok (.getfield 185, 3) := dk_180 0 185 (dk_at dksX2_readOne_5 17 rfl rfl)
theorem dX2_readOne_138 : decode cX2_readOne 138 = .ok (.iconst 1, 1) := dk_4 (dk_at dksX2_readOne_5 20 rfl rfl)
theorem dX2_readOne_139 : decode cX2_readOne 139 = .ok (.iadd, 1) := dk_96 (dk_at dksX2_readOne_5 21 rfl rfl)
theorem dX2_readOne_140 : decode cX2_readOne 140 = .ok (.putfield 185, 3) := dk_181 0 185 (dk_at dksX2_readOne_6 0 rfl rfl)
theorem dX2_readOne_143 : decode cX2_readOne 143 = .ok (.aload_n 0, 1) := dk_42 (dk_at dksX2_readOne_6 3 rfl rfl)
theorem dX2_readOne_144 : decode cX2_readOne 144 = .ok (.getfield 38, 3) := dk_180 0 38 (dk_at dksX2_readOne_6 4 rfl rfl)
theorem dX2_readOne_147 : decode cX2_readOne 147 = .ok (.iload_n 1, 1) := dk_27 (dk_at dksX2_readOne_6 7 rfl rfl)
theorem dX2_readOne_148 : decode cX2_readOne 148 = .ok (.iconst 3, 1) := dk_6 (dk_at dksX2_readOne_6 8 rfl rfl)
theorem dX2_readOne_149 : decode cX2_readOne 149 = .ok (.iadd, 1) := dk_96 (dk_at dksX2_readOne_6 9 rfl rfl)
theorem dX2_readOne_150 : decode cX2_readOne 150 = .ok (.aload_n 0, 1) := dk_42 (dk_at dksX2_readOne_6 10 rfl rfl)
theorem dX2_readOne_151 : decode cX2_readOne 151 = .ok (.iconst 0, 1) := dk_3 (dk_at dksX2_readOne_6 11 rfl rfl)
theorem dX2_readOne_152 : decode cX2_readOne 152 = .ok (.iconst 5, 1) := dk_8 (dk_at dksX2_readOne_6 12 rfl rfl)
theorem dX2_readOne_153 : decode cX2_readOne 153 = .ok (.invokevirtual 194, 3) := dk_182 0 194 (dk_at dksX2_readOne_6 13 rfl rfl)
theorem dX2_readOne_156 : decode cX2_readOne 156 = .ok (.iastore, 1) := dk_79 (dk_at dksX2_readOne_6 16 rfl rfl)
theorem dX2_readOne_157 : decode cX2_readOne 157 = .ok (.aload_n 0, 1) := dk_42 (dk_at dksX2_readOne_6 17 rfl rfl)
theorem dX2_readOne_158 : decode cX2_readOne 158 = .ok (.getfield 38, 3) := dk_180 0 38 (dk_at dksX2_readOne_6 18 rfl rfl)
theorem dX2_readOne_161 : decode cX2_readOne 161 = .ok (.iload_n 1, 1) := dk_27 (dk_at dksX2_readOne_6 21 rfl rfl)
theorem dX2_readOne_162 : decode cX2_readOne 162 = .ok (.iconst 4, 1) := dk_7 (dk_at dksX2_readOne_6 22 rfl rfl)
theorem dX2_readOne_163 : decode cX2_readOne 163 = .ok (.iadd, 1) := dk_96 (dk_at dksX2_readOne_6 23 rfl rfl)
theorem dX2_readOne_164 : decode cX2_readOne 164 = .ok (.aload_n 0, 1) := dk_42 (dk_at dksX2_readOne_7 0 rfl rfl)
theorem dX2_readOne_165 : decode cX2_readOne 165 = .ok (.getfield 188, 3) := dk_180 0 188 (dk_at dksX2_readOne_7 1 rfl rfl)
theorem dX2_readOne_168 : decode cX2_readOne 168 = .ok (.ifCond .ne 16, 3) := dk_154 0 16 (dk_at dksX2_readOne_7 4 rfl rfl)
theorem dX2_readOne_171 : decode cX2_readOne 171 = .ok (.aload_n 0, 1) := dk_42 (dk_at dksX2_readOne_7 7 rfl rfl)
theorem dX2_readOne_172 : decode cX2_readOne 172 = .ok (.invokevirtual 191, 3) := dk_182 0 191 (dk_at dksX2_readOne_7 8 rfl rfl)
theorem dX2_readOne_175 : decode cX2_readOne 175 = .ok (.bipush 33, 2) := dk_16 33 (dk_at dksX2_readOne_7 11 rfl rfl)
theorem dX2_readOne_177 : decode cX2_readOne 177 = .ok (.if_icmp .ne 7, 3) := dk_160 0 7 (dk_at dksX2_readOne_7 13 rfl rfl)
theorem dX2_readOne_180 : decode cX2_readOne 180 = .ok (.iconst 1, 1) := dk_4 (dk_at dksX2_readOne_7 16 rfl rfl)
theorem dX2_readOne_181 : decode cX2_readOne 181 = .ok (.goto 4, 3) := dk_167 0 4 (dk_at dksX2_readOne_7 17 rfl rfl)
theorem dX2_readOne_184 : decode cX2_readOne 184 = .ok (.iconst 0, 1) := dk_3 (dk_at dksX2_readOne_7 20 rfl rfl)
theorem dX2_readOne_185 : decode cX2_readOne 185 = .ok (.iastore, 1) := dk_79 (dk_at dksX2_readOne_7 21 rfl rfl)
theorem dX2_readOne_186 : decode cX2_readOne 186 = .ok (.aload_n 0, 1) := dk_42 (dk_at dksX2_readOne_7 22 rfl rfl)
theorem dX2_readOne_187 : decode cX2_readOne 187 = .ok (.dup, 1) := dk_89 (dk_at dksX2_readOne_7 23 rfl rfl)
theorem dX2_readOne_188 : decode cX2_readOne 188 = .ok (.getfield 185, 3) := dk_180 0 185 (dk_at dksX2_readOne_8 0 rfl rfl)
theorem dX2_readOne_191 : decode cX2_readOne 191 = .ok (.aload_n 0, 1) := dk_42 (dk_at dksX2_readOne_8 3 rfl rfl)
theorem dX2_readOne_192 : decode cX2_readOne 192 = .ok (.getfield 38, 3) := dk_180 0 38 (dk_at dksX2_readOne_8 4 rfl rfl)
theorem dX2_readOne_195 : decode cX2_readOne 195 = .ok (.iload_n 1, 1) := dk_27 (dk_at dksX2_readOne_8 7 rfl rfl)
theorem dX2_readOne_196 : decode cX2_readOne 196 = .ok (.iconst 4, 1) := dk_7 (dk_at dksX2_readOne_8 8 rfl rfl)
theorem dX2_readOne_197 : decode cX2_readOne 197 = .ok (.iadd, 1) := dk_96 (dk_at dksX2_readOne_8 9 rfl rfl)
theorem dX2_readOne_198 : decode cX2_readOne 198 = .ok (.iaload, 1) := dk_46 (dk_at dksX2_readOne_8 10 rfl rfl)
theorem dX2_readOne_199 : decode cX2_readOne 199 = .ok (.iadd, 1) := dk_96 (dk_at dksX2_readOne_8 11 rfl rfl)
theorem dX2_readOne_200 : decode cX2_readOne 200 = .ok (.putfield 185, 3) := dk_181 0 185 (dk_at dksX2_readOne_8 12 rfl rfl)
theorem dX2_readOne_203 : decode cX2_readOne 203 = .ok (.goto 71, 3) := dk_167 0 71 (dk_at dksX2_readOne_8 15 rfl rfl)
theorem dX2_readOne_206 : decode cX2_readOne 206 = .ok (.aload_n 0, 1) := dk_42 (dk_at dksX2_readOne_8 18 rfl rfl)
theorem dX2_readOne_207 : decode cX2_readOne 207 = .ok (.bipush 47, 2) := dk_16 47 (dk_at dksX2_readOne_8 19 rfl rfl)
theorem dX2_readOne_209 : decode cX2_readOne 209 = .ok (.invokevirtual 203, 3) := dk_182 0 203 (dk_at dksX2_readOne_8 21 rfl rfl)
theorem dX2_readOne_212 : decode cX2_readOne 212 = .ok (.aload_n 0, 1) := dk_42 (dk_at dksX2_readOne_9 0 rfl rfl)
theorem dX2_readOne_213 : decode cX2_readOne 213 = .ok (.getfield 38, 3) := dk_180 0 38 (dk_at dksX2_readOne_9 1 rfl rfl)
theorem dX2_readOne_216 : decode cX2_readOne 216 = .ok (.iload_n 1, 1) := dk_27 (dk_at dksX2_readOne_9 4 rfl rfl)
theorem dX2_readOne_217 : decode cX2_readOne 217 = .ok (.iconst 2, 1) := dk_5 (dk_at dksX2_readOne_9 5 rfl rfl)
theorem dX2_readOne_218 : decode cX2_readOne 218 = .ok (.iadd, 1) := dk_96 (dk_at dksX2_readOne_9 6 rfl rfl)
theorem dX2_readOne_219 : decode cX2_readOne 219 = .ok (.aload_n 0, 1) := dk_42 (dk_at dksX2_readOne_9 7 rfl rfl)
theorem dX2_readOne_220 : decode cX2_readOne 220 = .ok (.iconst 0, 1) := dk_3 (dk_at dksX2_readOne_9 8 rfl rfl)
theorem dX2_readOne_221 : decode cX2_readOne 221 = .ok (.iconst 5, 1) := dk_8 (dk_at dksX2_readOne_9 9 rfl rfl)
theorem dX2_readOne_222 : decode cX2_readOne 222 = .ok (.invokevirtual 194, 3) := dk_182 0 194 (dk_at dksX2_readOne_9 10 rfl rfl)
theorem dX2_readOne_225 : decode cX2_readOne 225 = .ok (.iastore, 1) := dk_79 (dk_at dksX2_readOne_9 13 rfl rfl)
theorem dX2_readOne_226 : decode cX2_readOne 226 = .ok (.aload_n 0, 1) := dk_42 (dk_at dksX2_readOne_9 14 rfl rfl)
theorem dX2_readOne_227 : decode cX2_readOne 227 = .ok (.iload_n 2, 1) := dk_28 (dk_at dksX2_readOne_9 15 rfl rfl)
theorem dX2_readOne_228 : decode cX2_readOne 228 = .ok (.bipush 112, 2) := dk_16 112 (dk_at dksX2_readOne_9 16 rfl rfl)
theorem dX2_readOne_230 : decode cX2_readOne 230 = .ok (.if_icmp .ne 8, 3) := dk_160 0 8 (dk_at dksX2_readOne_9 18 rfl rfl)
theorem dX2_readOne_233 : decode cX2_readOne 233 = .ok (.bipush 107, 2) := dk_16 107 (dk_at dksX2_readOne_9 21 rfl rfl)
theorem dX2_readOne_235 : decode cX2_readOne 235 = .ok (.goto 5, 3) := dk_167 0 5 (dk_at dksX2_readOne_10 0 rfl rfl)
theorem dX2_readOne_238 : decode cX2_readOne 238 = .ok (.bipush 120, 2) := dk_16 120 (dk_at dksX2_readOne_10 3 rfl rfl)
theorem dX2_readOne_240 : decode cX2_readOne 240 = .ok (.invokevirtual 203, 3) := dk_182 0 203 (dk_at dksX2_readOne_10 5 rfl rfl)
theorem dX2_readOne_243 : decode cX2_readOne 243 = .ok (.aload_n 0, 1) := dk_42 (dk_at dksX2_readOne_10 8 rfl rfl)
theorem dX2_readOne_244 : decode cX2_readOne 244 = .ok (.getfield 38, 3) := dk_180 0 38 (dk_at dksX2_readOne_10 9 rfl rfl)
theorem dX2_readOne_247 : decode cX2_readOne 247 = .ok (.iload_n 1, 1) := dk_27 (dk_at dksX2_readOne_10 12 rfl rfl)
theorem dX2_readOne_248 : decode cX2_readOne 248 = .ok (.iconst 3, 1) := dk_6 (dk_at dksX2_readOne_10 13 rfl rfl)
theorem dX2_readOne_249 : decode cX2_readOne 249 = .ok (.iadd, 1) := dk_96 (dk_at dksX2_readOne_10 14 rfl rfl)
theorem dX2_readOne_250 : decode cX2_readOne 250 = .ok (.iload_n 2, 1) := dk_28 (dk_at dksX2_readOne_10 15 rfl rfl)
theorem dX2_readOne_251 : decode cX2_readOne 251 = .ok (.bipush 112, 2) := dk_16 112 (dk_at dksX2_readOne_10 16 rfl rfl)
theorem dX2_readOne_253 : decode cX2_readOne 253 = .ok (.if_icmp .ne 13, 3) := dk_160 0 13 (dk_at dksX2_readOne_10 18 rfl rfl)
theorem dX2_readOne_256 : decode cX2_readOne 256 = .ok (.aload_n 0, 1) := dk_42 (dk_at dksX2_readOne_10 21 rfl rfl)
theorem dX2_readOne_257 : decode cX2_readOne 257 = .ok (.iconst 0, 1) := dk_3 (dk_at dksX2_readOne_10 22 rfl rfl)
theorem dX2_readOne_258 : decode cX2_readOne 258 = .ok (.bipush 9, 2) := dk_16 9 (dk_at dksX2_readOne_11 0 rfl rfl)
theorem dX2_readOne_260 : decode cX2_readOne 260 = .ok (.invokevirtual 194, 3) := dk_182 0 194 (dk_at dksX2_readOne_11 2 rfl rfl)
theorem dX2_readOne_263 : decode cX2_readOne 263 = .ok (.goto 10, 3) := dk_167 0 10 (dk_at dksX2_readOne_11 5 rfl rfl)
theorem dX2_readOne_266 : decode cX2_readOne 266 = .ok (.aload_n 0, 1) := dk_42 (dk_at dksX2_readOne_11 8 rfl rfl)
theorem dX2_readOne_267 : decode cX2_readOne 267 = .ok (.iconst 1, 1) := dk_4 (dk_at dksX2_readOne_11 9 rfl rfl)
theorem dX2_readOne_268 : decode cX2_readOne 268 = .ok (.bipush 6, 2) := dk_16 6 (dk_at dksX2_readOne_11 10 rfl rfl)
theorem dX2_readOne_270 : decode cX2_readOne 270 = .ok (.invokevirtual 194, 3) := dk_182 0 194 (dk_at dksX2_readOne_11 12 rfl rfl)
theorem dX2_readOne_273 : decode cX2_readOne 273 = .ok (.iastore, 1) := dk_79 (dk_at dksX2_readOne_11 15 rfl rfl)
theorem dX2_readOne_274 : decode cX2_readOne 274 = .ok (.aload_n 0, 1) := dk_42 (dk_at dksX2_readOne_11 16 rfl rfl)
theorem dX2_readOne_275 : decode cX2_readOne 275 = .ok (.dup, 1) := dk_89 (dk_at dksX2_readOne_11 17 rfl rfl)
theorem dX2_readOne_276 : decode cX2_readOne 276 = .ok (.getfield 197, 3) := dk_180 0 197 (dk_at dksX2_readOne_11 18 rfl rfl)
theorem dX2_readOne_279 : decode cX2_readOne 279 = .ok (.iconst 1, 1) := dk_4 (dk_at dksX2_readOne_11 21 rfl rfl)
theorem dX2_readOne_280 : decode cX2_readOne 280 = .ok (.iadd, 1) := dk_96 (dk_at dksX2_readOne_11 22 rfl rfl)
theorem dX2_readOne_281 : decode cX2_readOne 281 = .ok (.putfield 197, 3) := dk_181 0 197 (dk_at dksX2_readOne_12 0 rfl rfl)
theorem dX2_readOne_284 : decode cX2_readOne 284 = .ok (.return_, 1) := dk_177 (dk_at dksX2_readOne_12 3 rfl rfl)
abbrev cX2_sign : ByteArray := prog_12_method_70_code
def yX2_sign : MethodName := ⟨RX2, "sign", "()I"⟩
def dkwX2_sign_1 : List UInt8 := [172]
abbrev dktX2_sign_1 : List UInt8 := dkwX2_sign_1 ++ []
def dkwX2_sign_0 : List UInt8 := [42, 180, 0, 185, 42, 180, 0, 167, 162, 0, 15, 42, 180, 0, 26, 42, 180, 0, 185, 46, 167, 0, 4, 3]
abbrev dktX2_sign_0 : List UInt8 := dkwX2_sign_0 ++ dktX2_sign_1
theorem dksX2_sign_0 : cX2_sign.data.toList.drop 0 = dktX2_sign_0 := by decide +kernel
theorem dksX2_sign_1 : cX2_sign.data.toList.drop 24 = dktX2_sign_1 := dk_seg dksX2_sign_0 24 rfl rfl
theorem dX2_sign_0 : decode cX2_sign 0 = .ok (.aload_n 0, 1) := dk_42 (dk_at dksX2_sign_0 0 rfl rfl)
theorem dX2_sign_1 : decode cX2_sign 1 = .ok (.getfield 185, 3) := dk_180 0 185 (dk_at dksX2_sign_0 1 rfl rfl)
theorem dX2_sign_4 : decode cX2_sign 4 = .ok (.aload_n 0, 1) := dk_42 (dk_at dksX2_sign_0 4 rfl rfl)
theorem dX2_sign_5 : decode cX2_sign 5 = .ok (.getfield 167, 3) := dk_180 0 167 (dk_at dksX2_sign_0 5 rfl rfl)
theorem dX2_sign_8 : decode cX2_sign 8 = .ok (.if_icmp .ge 15, 3) := dk_162 0 15 (dk_at dksX2_sign_0 8 rfl rfl)
theorem dX2_sign_11 : decode cX2_sign 11 = .ok (.aload_n 0, 1) := dk_42 (dk_at dksX2_sign_0 11 rfl rfl)
theorem dX2_sign_12 : decode cX2_sign 12 = .ok (.getfield 26, 3) := dk_180 0 26 (dk_at dksX2_sign_0 12 rfl rfl)
theorem dX2_sign_15 : decode cX2_sign 15 = .ok (.aload_n 0, 1) := dk_42 (dk_at dksX2_sign_0 15 rfl rfl)
theorem dX2_sign_16 : decode cX2_sign 16 = .ok (.getfield 185, 3) := dk_180 0 185 (dk_at dksX2_sign_0 16 rfl rfl)
theorem dX2_sign_19 : decode cX2_sign 19 = .ok (.iaload, 1) := dk_46 (dk_at dksX2_sign_0 19 rfl rfl)
theorem dX2_sign_20 : decode cX2_sign 20 = .ok (.goto 4, 3) := dk_167 0 4 (dk_at dksX2_sign_0 20 rfl rfl)
theorem dX2_sign_23 : decode cX2_sign 23 = .ok (.iconst 0, 1) := dk_3 (dk_at dksX2_sign_0 23 rfl rfl)
theorem dX2_sign_24 : decode cX2_sign 24 = .ok (.ireturn, 1) := dk_172 (dk_at dksX2_sign_1 0 rfl rfl)
abbrev cX2_number : ByteArray := prog_12_method_73_code
def yX2_number : MethodName := ⟨RX2, "number", "()I"⟩
def dkwX2_number_3 : List UInt8 := [4, 96, 181, 0, 185, 167, 255, 190, 27, 172]
abbrev dktX2_number_3 : List UInt8 := dkwX2_number_3 ++ []
def dkwX2_number_2 : List UInt8 := [17, 3, 231, 163, 0, 29, 16, 10, 27, 104, 42, 182, 0, 191, 96, 16, 48, 100, 60, 42, 89, 180, 0, 185]
abbrev dktX2_number_2 : List UInt8 := dkwX2_number_2 ++ dktX2_number_3
def dkwX2_number_1 : List UInt8 := [16, 48, 16, 57, 184, 0, 49, 153, 0, 47, 16, 10, 27, 104, 42, 182, 0, 191, 96, 16, 48, 100]
abbrev dktX2_number_1 : List UInt8 := dkwX2_number_1 ++ dktX2_number_2
def dkwX2_number_0 : List UInt8 := [42, 3, 16, 9, 182, 0, 194, 60, 42, 180, 0, 188, 154, 0, 65, 27, 158, 0, 61, 42, 182, 0, 191]
abbrev dktX2_number_0 : List UInt8 := dkwX2_number_0 ++ dktX2_number_1
theorem dksX2_number_0 : cX2_number.data.toList.drop 0 = dktX2_number_0 := by decide +kernel
theorem dksX2_number_1 : cX2_number.data.toList.drop 23 = dktX2_number_1 := dk_seg dksX2_number_0 23 rfl rfl
theorem dksX2_number_2 : cX2_number.data.toList.drop 45 = dktX2_number_2 := dk_seg dksX2_number_1 22 rfl rfl
theorem dksX2_number_3 : cX2_number.data.toList.drop 69 = dktX2_number_3 := dk_seg dksX2_number_2 24 rfl rfl
theorem dX2_number_0 : decode cX2_number 0 = .ok (.aload_n 0, 1) := dk_42 (dk_at dksX2_number_0 0 rfl rfl)
theorem dX2_number_1 : decode cX2_number 1 = .ok (.iconst 0, 1) := dk_3 (dk_at dksX2_number_0 1 rfl rfl)
theorem dX2_number_2 : decode cX2_number 2 = .ok (.bipush 9, 2) := dk_16 9 (dk_at dksX2_number_0 2 rfl rfl)
theorem dX2_number_4 : decode cX2_number 4 = .ok (.invokevirtual 194, 3) := dk_182 0 194 (dk_at dksX2_number_0 4 rfl rfl)
theorem dX2_number_7 : decode cX2_number 7 = .ok (.istore_n 1, 1) := dk_60 (dk_at dksX2_number_0 7 rfl rfl)
theorem dX2_number_8 : decode cX2_number 8 = .ok (.aload_n 0, 1) := dk_42 (dk_at dksX2_number_0 8 rfl rfl)
theorem dX2_number_9 : decode cX2_number 9 = .ok (.getfield 188, 3) := dk_180 0 188 (dk_at dksX2_number_0 9 rfl rfl)
theorem dX2_number_12 : decode cX2_number 12 = .ok (.ifCond .ne 65, 3) := dk_154 0 65 (dk_at dksX2_number_0 12 rfl rfl)
theorem dX2_number_15 : decode cX2_number 15 = .ok (.iload_n 1, 1) := dk_27 (dk_at dksX2_number_0 15 rfl rfl)
theorem dX2_number_16 : decode cX2_number 16 = .ok (.ifCond .le 61, 3) := dk_158 0 61 (dk_at dksX2_number_0 16 rfl rfl)
theorem dX2_number_19 : decode cX2_number 19 = .ok (.aload_n 0, 1) := dk_42 (dk_at dksX2_number_0 19 rfl rfl)
theorem dX2_number_20 : decode cX2_number 20 = .ok (.invokevirtual 191, 3) := dk_182 0 191 (dk_at dksX2_number_0 20 rfl rfl)
theorem dX2_number_23 : decode cX2_number 23 = .ok (.bipush 48, 2) := dk_16 48 (dk_at dksX2_number_1 0 rfl rfl)
theorem dX2_number_25 : decode cX2_number 25 = .ok (.bipush 57, 2) := dk_16 57 (dk_at dksX2_number_1 2 rfl rfl)
theorem dX2_number_27 : decode cX2_number 27 = .ok (.invokestatic 49, 3) := dk_184 0 49 (dk_at dksX2_number_1 4 rfl rfl)
theorem dX2_number_30 : decode cX2_number 30 = .ok (.ifCond .eq 47, 3) := dk_153 0 47 (dk_at dksX2_number_1 7 rfl rfl)
theorem dX2_number_33 : decode cX2_number 33 = .ok (.bipush 10, 2) := dk_16 10 (dk_at dksX2_number_1 10 rfl rfl)
theorem dX2_number_35 : decode cX2_number 35 = .ok (.iload_n 1, 1) := dk_27 (dk_at dksX2_number_1 12 rfl rfl)
theorem dX2_number_36 : decode cX2_number 36 = .ok (.imul, 1) := dk_104 (dk_at dksX2_number_1 13 rfl rfl)
theorem dX2_number_37 : decode cX2_number 37 = .ok (.aload_n 0, 1) := dk_42 (dk_at dksX2_number_1 14 rfl rfl)
theorem dX2_number_38 : decode cX2_number 38 = .ok (.invokevirtual 191, 3) := dk_182 0 191 (dk_at dksX2_number_1 15 rfl rfl)
theorem dX2_number_41 : decode cX2_number 41 = .ok (.iadd, 1) := dk_96 (dk_at dksX2_number_1 18 rfl rfl)
theorem dX2_number_42 : decode cX2_number 42 = .ok (.bipush 48, 2) := dk_16 48 (dk_at dksX2_number_1 19 rfl rfl)
theorem dX2_number_44 : decode cX2_number 44 = .ok (.isub, 1) := dk_100 (dk_at dksX2_number_1 21 rfl rfl)
theorem dX2_number_45 : decode cX2_number 45 = .ok (.sipush 999, 3) := dk_17 3 231 (dk_at dksX2_number_2 0 rfl rfl)
theorem dX2_number_48 : decode cX2_number 48 = .ok (.if_icmp .gt 29, 3) := dk_163 0 29 (dk_at dksX2_number_2 3 rfl rfl)
theorem dX2_number_51 : decode cX2_number 51 = .ok (.bipush 10, 2) := dk_16 10 (dk_at dksX2_number_2 6 rfl rfl)
theorem dX2_number_53 : decode cX2_number 53 = .ok (.iload_n 1, 1) := dk_27 (dk_at dksX2_number_2 8 rfl rfl)
theorem dX2_number_54 : decode cX2_number 54 = .ok (.imul, 1) := dk_104 (dk_at dksX2_number_2 9 rfl rfl)
theorem dX2_number_55 : decode cX2_number 55 = .ok (.aload_n 0, 1) := dk_42 (dk_at dksX2_number_2 10 rfl rfl)
theorem dX2_number_56 : decode cX2_number 56 = .ok (.invokevirtual 191, 3) := dk_182 0 191 (dk_at dksX2_number_2 11 rfl rfl)
theorem dX2_number_59 : decode cX2_number 59 = .ok (.iadd, 1) := dk_96 (dk_at dksX2_number_2 14 rfl rfl)
theorem dX2_number_60 : decode cX2_number 60 = .ok (.bipush 48, 2) := dk_16 48 (dk_at dksX2_number_2 15 rfl rfl)
theorem dX2_number_62 : decode cX2_number 62 = .ok (.isub, 1) := dk_100 (dk_at dksX2_number_2 17 rfl rfl)
theorem dX2_number_63 : decode cX2_number 63 = .ok (.istore_n 1, 1) := dk_60 (dk_at dksX2_number_2 18 rfl rfl)
theorem dX2_number_64 : decode cX2_number 64 = .ok (.aload_n 0, 1) := dk_42 (dk_at dksX2_number_2 19 rfl rfl)
theorem dX2_number_65 : decode cX2_number 65 = .ok (.dup, 1) := dk_89 (dk_at dksX2_number_2 20 rfl rfl)
theorem dX2_number_66 : decode cX2_number 66 = .ok (.getfield 185, 3) := dk_180 0 185 (dk_at dksX2_number_2 21 rfl rfl)
theorem dX2_number_69 : decode cX2_number 69 = .ok (.iconst 1, 1) := dk_4 (dk_at dksX2_number_3 0 rfl rfl)
theorem dX2_number_70 : decode cX2_number 70 = .ok (.iadd, 1) := dk_96 (dk_at dksX2_number_3 1 rfl rfl)
theorem dX2_number_71 : decode cX2_number 71 = .ok (.putfield 185, 3) := dk_181 0 185 (dk_at dksX2_number_3 2 rfl rfl)
theorem dX2_number_74 : decode cX2_number 74 = .ok (.goto (-66), 3) := dk_167 255 190 (dk_at dksX2_number_3 5 rfl rfl)
theorem dX2_number_77 : decode cX2_number 77 = .ok (.iload_n 1, 1) := dk_27 (dk_at dksX2_number_3 8 rfl rfl)
theorem dX2_number_78 : decode cX2_number 78 = .ok (.ireturn, 1) := dk_172 (dk_at dksX2_number_3 9 rfl rfl)
abbrev cX2_digit : ByteArray := prog_12_method_72_code
def yX2_digit : MethodName := ⟨RX2, "digit", "(II)I"⟩
def dkwX2_digit_2 : List UInt8 := [167, 0, 4, 4, 96, 181, 0, 185, 42, 180, 0, 188, 153, 0, 7, 3, 167, 0, 4, 29, 172]
abbrev dktX2_digit_2 : List UInt8 := dkwX2_digit_2 ++ []
def dkwX2_digit_1 : List UInt8 := [154, 0, 7, 4, 167, 0, 4, 3, 181, 0, 188, 42, 89, 180, 0, 185, 42, 180, 0, 188, 153, 0, 7, 3]
abbrev dktX2_digit_1 : List UInt8 := dkwX2_digit_1 ++ dktX2_digit_2
def dkwX2_digit_0 : List UInt8 := [42, 182, 0, 191, 16, 48, 100, 62, 42, 42, 180, 0, 188, 154, 0, 12, 29, 27, 28, 184, 0, 49]
abbrev dktX2_digit_0 : List UInt8 := dkwX2_digit_0 ++ dktX2_digit_1
theorem dksX2_digit_0 : cX2_digit.data.toList.drop 0 = dktX2_digit_0 := by decide +kernel
theorem dksX2_digit_1 : cX2_digit.data.toList.drop 22 = dktX2_digit_1 := dk_seg dksX2_digit_0 22 rfl rfl
theorem dksX2_digit_2 : cX2_digit.data.toList.drop 46 = dktX2_digit_2 := dk_seg dksX2_digit_1 24 rfl rfl
theorem dX2_digit_0 : decode cX2_digit 0 = .ok (.aload_n 0, 1) := dk_42 (dk_at dksX2_digit_0 0 rfl rfl)
theorem dX2_digit_1 : decode cX2_digit 1 = .ok (.invokevirtual 191, 3) := dk_182 0 191 (dk_at dksX2_digit_0 1 rfl rfl)
theorem dX2_digit_4 : decode cX2_digit 4 = .ok (.bipush 48, 2) := dk_16 48 (dk_at dksX2_digit_0 4 rfl rfl)
theorem dX2_digit_6 : decode cX2_digit 6 = .ok (.isub, 1) := dk_100 (dk_at dksX2_digit_0 6 rfl rfl)
theorem dX2_digit_7 : decode cX2_digit 7 = .ok (.istore_n 3, 1) := dk_62 (dk_at dksX2_digit_0 7 rfl rfl)
theorem dX2_digit_8 : decode cX2_digit 8 = .ok (.aload_n 0, 1) := dk_42 (dk_at dksX2_digit_0 8 rfl rfl)
theorem dX2_digit_9 : decode cX2_digit 9 = .ok (.aload_n 0, 1) := dk_42 (dk_at dksX2_digit_0 9 rfl rfl)
theorem dX2_digit_10 : decode cX2_digit 10 = .ok (.getfield 188, 3) := dk_180 0 188 (dk_at dksX2_digit_0 10 rfl rfl)
theorem dX2_digit_13 : decode cX2_digit 13 = .ok (.ifCond .ne 12, 3) := dk_154 0 12 (dk_at dksX2_digit_0 13 rfl rfl)
theorem dX2_digit_16 : decode cX2_digit 16 = .ok (.iload_n 3, 1) := dk_29 (dk_at dksX2_digit_0 16 rfl rfl)
theorem dX2_digit_17 : decode cX2_digit 17 = .ok (.iload_n 1, 1) := dk_27 (dk_at dksX2_digit_0 17 rfl rfl)
theorem dX2_digit_18 : decode cX2_digit 18 = .ok (.iload_n 2, 1) := dk_28 (dk_at dksX2_digit_0 18 rfl rfl)
theorem dX2_digit_19 : decode cX2_digit 19 = .ok (.invokestatic 49, 3) := dk_184 0 49 (dk_at dksX2_digit_0 19 rfl rfl)
theorem dX2_digit_22 : decode cX2_digit 22 = .ok (.ifCond .ne 7, 3) := dk_154 0 7 (dk_at dksX2_digit_1 0 rfl rfl)
theorem dX2_digit_25 : decode cX2_digit 25 = .ok (.iconst 1, 1) := dk_4 (dk_at dksX2_digit_1 3 rfl rfl)
theorem dX2_digit_26 : decode cX2_digit 26 = .ok (.goto 4, 3) := dk_167 0 4 (dk_at dksX2_digit_1 4 rfl rfl)
theorem dX2_digit_29 : decode cX2_digit 29 = .ok (.iconst 0, 1) := dk_3 (dk_at dksX2_digit_1 7 rfl rfl)
theorem dX2_digit_30 : decode cX2_digit 30 = .ok (.putfield 188, 3) := dk_181 0 188 (dk_at dksX2_digit_1 8 rfl rfl)
theorem dX2_digit_33 : decode cX2_digit 33 = .ok (.aload_n 0, 1) := dk_42 (dk_at dksX2_digit_1 11 rfl rfl)
theorem dX2_digit_34 : decode cX2_digit 34 = .ok (.dup, 1) := dk_89 (dk_at dksX2_digit_1 12 rfl rfl)
theorem dX2_digit_35 : decode cX2_digit 35 = .ok (.getfield 185, 3) := dk_180 0 185 (dk_at dksX2_digit_1 13 rfl rfl)
theorem dX2_digit_38 : decode cX2_digit 38 = .ok (.aload_n 0, 1) := dk_42 (dk_at dksX2_digit_1 16 rfl rfl)
theorem dX2_digit_39 : decode cX2_digit 39 = .ok (.getfield 188, 3) := dk_180 0 188 (dk_at dksX2_digit_1 17 rfl rfl)
theorem dX2_digit_42 : decode cX2_digit 42 = .ok (.ifCond .eq 7, 3) := dk_153 0 7 (dk_at dksX2_digit_1 20 rfl rfl)
theorem dX2_digit_45 : decode cX2_digit 45 = .ok (.iconst 0, 1) := dk_3 (dk_at dksX2_digit_1 23 rfl rfl)
theorem dX2_digit_46 : decode cX2_digit 46 = .ok (.goto 4, 3) := dk_167 0 4 (dk_at dksX2_digit_2 0 rfl rfl)
theorem dX2_digit_49 : decode cX2_digit 49 = .ok (.iconst 1, 1) := dk_4 (dk_at dksX2_digit_2 3 rfl rfl)
theorem dX2_digit_50 : decode cX2_digit 50 = .ok (.iadd, 1) := dk_96 (dk_at dksX2_digit_2 4 rfl rfl)
theorem dX2_digit_51 : decode cX2_digit 51 = .ok (.putfield 185, 3) := dk_181 0 185 (dk_at dksX2_digit_2 5 rfl rfl)
theorem dX2_digit_54 : decode cX2_digit 54 = .ok (.aload_n 0, 1) := dk_42 (dk_at dksX2_digit_2 8 rfl rfl)
theorem dX2_digit_55 : decode cX2_digit 55 = .ok (.getfield 188, 3) := dk_180 0 188 (dk_at dksX2_digit_2 9 rfl rfl)
theorem dX2_digit_58 : decode cX2_digit 58 = .ok (.ifCond .eq 7, 3) := dk_153 0 7 (dk_at dksX2_digit_2 12 rfl rfl)
theorem dX2_digit_61 : decode cX2_digit 61 = .ok (.iconst 0, 1) := dk_3 (dk_at dksX2_digit_2 15 rfl rfl)
theorem dX2_digit_62 : decode cX2_digit 62 = .ok (.goto 4, 3) := dk_167 0 4 (dk_at dksX2_digit_2 16 rfl rfl)
theorem dX2_digit_65 : decode cX2_digit 65 = .ok (.iload_n 3, 1) := dk_29 (dk_at dksX2_digit_2 19 rfl rfl)
theorem dX2_digit_66 : decode cX2_digit 66 = .ok (.ireturn, 1) := dk_172 (dk_at dksX2_digit_2 20 rfl rfl)
abbrev cX2_need : ByteArray := prog_12_method_71_code
def yX2_need : MethodName := ⟨RX2, "need", "(I)V"⟩
def dkwX2_need_1 : List UInt8 := [42, 89, 180, 0, 185, 42, 180, 0, 188, 153, 0, 7, 3, 167, 0, 4, 4, 96, 181, 0, 185, 177]
abbrev dktX2_need_1 : List UInt8 := dkwX2_need_1 ++ []
def dkwX2_need_0 : List UInt8 := [42, 42, 180, 0, 188, 154, 0, 11, 42, 182, 0, 191, 27, 159, 0, 7, 4, 167, 0, 4, 3, 181, 0, 188]
abbrev dktX2_need_0 : List UInt8 := dkwX2_need_0 ++ dktX2_need_1
theorem dksX2_need_0 : cX2_need.data.toList.drop 0 = dktX2_need_0 := by decide +kernel
theorem dksX2_need_1 : cX2_need.data.toList.drop 24 = dktX2_need_1 := dk_seg dksX2_need_0 24 rfl rfl
theorem dX2_need_0 : decode cX2_need 0 = .ok (.aload_n 0, 1) := dk_42 (dk_at dksX2_need_0 0 rfl rfl)
theorem dX2_need_1 : decode cX2_need 1 = .ok (.aload_n 0, 1) := dk_42 (dk_at dksX2_need_0 1 rfl rfl)
theorem dX2_need_2 : decode cX2_need 2 = .ok (.getfield 188, 3) := dk_180 0 188 (dk_at dksX2_need_0 2 rfl rfl)
theorem dX2_need_5 : decode cX2_need 5 = .ok (.ifCond .ne 11, 3) := dk_154 0 11 (dk_at dksX2_need_0 5 rfl rfl)
theorem dX2_need_8 : decode cX2_need 8 = .ok (.aload_n 0, 1) := dk_42 (dk_at dksX2_need_0 8 rfl rfl)
theorem dX2_need_9 : decode cX2_need 9 = .ok (.invokevirtual 191, 3) := dk_182 0 191 (dk_at dksX2_need_0 9 rfl rfl)
theorem dX2_need_12 : decode cX2_need 12 = .ok (.iload_n 1, 1) := dk_27 (dk_at dksX2_need_0 12 rfl rfl)
theorem dX2_need_13 : decode cX2_need 13 = .ok (.if_icmp .eq 7, 3) := dk_159 0 7 (dk_at dksX2_need_0 13 rfl rfl)
theorem dX2_need_16 : decode cX2_need 16 = .ok (.iconst 1, 1) := dk_4 (dk_at dksX2_need_0 16 rfl rfl)
theorem dX2_need_17 : decode cX2_need 17 = .ok (.goto 4, 3) := dk_167 0 4 (dk_at dksX2_need_0 17 rfl rfl)
theorem dX2_need_20 : decode cX2_need 20 = .ok (.iconst 0, 1) := dk_3 (dk_at dksX2_need_0 20 rfl rfl)
theorem dX2_need_21 : decode cX2_need 21 = .ok (.putfield 188, 3) := dk_181 0 188 (dk_at dksX2_need_0 21 rfl rfl)
theorem dX2_need_24 : decode cX2_need 24 = .ok (.aload_n 0, 1) := dk_42 (dk_at dksX2_need_1 0 rfl rfl)
theorem dX2_need_25 : decode cX2_need 25 = .ok (.dup, 1) := dk_89 (dk_at dksX2_need_1 1 rfl rfl)
theorem dX2_need_26 : decode cX2_need 26 = .ok (.getfield 185, 3) := dk_180 0 185 (dk_at dksX2_need_1 2 rfl rfl)
theorem dX2_need_29 : decode cX2_need 29 = .ok (.aload_n 0, 1) := dk_42 (dk_at dksX2_need_1 5 rfl rfl)
theorem dX2_need_30 : decode cX2_need 30 = .ok (.getfield 188, 3) := dk_180 0 188 (dk_at dksX2_need_1 6 rfl rfl)
theorem dX2_need_33 : decode cX2_need 33 = .ok (.ifCond .eq 7, 3) := dk_153 0 7 (dk_at dksX2_need_1 9 rfl rfl)
theorem dX2_need_36 : decode cX2_need 36 = .ok (.iconst 0, 1) := dk_3 (dk_at dksX2_need_1 12 rfl rfl)
theorem dX2_need_37 : decode cX2_need 37 = .ok (.goto 4, 3) := dk_167 0 4 (dk_at dksX2_need_1 13 rfl rfl)
theorem dX2_need_40 : decode cX2_need 40 = .ok (.iconst 1, 1) := dk_4 (dk_at dksX2_need_1 16 rfl rfl)
theorem dX2_need_41 : decode cX2_need 41 = .ok (.iadd, 1) := dk_96 (dk_at dksX2_need_1 17 rfl rfl)
theorem dX2_need_42 : decode cX2_need 42 = .ok (.putfield 185, 3) := dk_181 0 185 (dk_at dksX2_need_1 18 rfl rfl)
theorem dX2_need_45 : decode cX2_need 45 = .ok (.return_, 1) := dk_177 (dk_at dksX2_need_1 21 rfl rfl)
abbrev cX2_carryOut : ByteArray := prog_12_method_80_code
def yX2_carryOut : MethodName := ⟨RX2, "carryOut", "()I"⟩
def dkwX2_carryOut_2 : List UInt8 := [3, 181, 0, 41, 42, 3, 181, 0, 167, 27, 172]
abbrev dktX2_carryOut_2 : List UInt8 := dkwX2_carryOut_2 ++ []
def dkwX2_carryOut_1 : List UInt8 := [42, 180, 0, 197, 162, 0, 19, 42, 8, 27, 104, 182, 0, 224, 155, 0, 9, 132, 1, 1, 167, 255, 235, 42]
abbrev dktX2_carryOut_1 : List UInt8 := dkwX2_carryOut_1 ++ dktX2_carryOut_2
def dkwX2_carryOut_0 : List UInt8 := [42, 182, 0, 211, 16, 250, 159, 0, 6, 16, 253, 172, 42, 182, 0, 53, 42, 4, 181, 0, 41, 3, 60, 27]
abbrev dktX2_carryOut_0 : List UInt8 := dkwX2_carryOut_0 ++ dktX2_carryOut_1
theorem dksX2_carryOut_0 : cX2_carryOut.data.toList.drop 0 = dktX2_carryOut_0 := by decide +kernel
theorem dksX2_carryOut_1 : cX2_carryOut.data.toList.drop 24 = dktX2_carryOut_1 := dk_seg dksX2_carryOut_0 24 rfl rfl
theorem dksX2_carryOut_2 : cX2_carryOut.data.toList.drop 48 = dktX2_carryOut_2 := dk_seg dksX2_carryOut_1 24 rfl rfl
theorem dX2_carryOut_0 : decode cX2_carryOut 0 = .ok (.aload_n 0, 1) := dk_42 (dk_at dksX2_carryOut_0 0 rfl rfl)
theorem dX2_carryOut_1 : decode cX2_carryOut 1 = .ok (.invokevirtual 211, 3) := dk_182 0 211 (dk_at dksX2_carryOut_0 1 rfl rfl)
theorem dX2_carryOut_4 : decode cX2_carryOut 4 = .ok (.bipush (-6), 2) := dk_16 250 (dk_at dksX2_carryOut_0 4 rfl rfl)
theorem dX2_carryOut_6 : decode cX2_carryOut 6 = .ok (.if_icmp .eq 6, 3) := dk_159 0 6 (dk_at dksX2_carryOut_0 6 rfl rfl)
theorem dX2_carryOut_9 : decode cX2_carryOut 9 = .ok (.bipush (-3), 2) := dk_16 253 (dk_at dksX2_carryOut_0 9 rfl rfl)
theorem dX2_carryOut_11 : decode cX2_carryOut 11 = .ok (.ireturn, 1) := dk_172 (dk_at dksX2_carryOut_0 11 rfl rfl)
theorem dX2_carryOut_12 : decode cX2_carryOut 12 = .ok (.aload_n 0, 1) := dk_42 (dk_at dksX2_carryOut_0 12 rfl rfl)
theorem dX2_carryOut_13 : decode cX2_carryOut 13 = .ok (.invokevirtual 53, 3) := dk_182 0 53 (dk_at dksX2_carryOut_0 13 rfl rfl)
theorem dX2_carryOut_16 : decode cX2_carryOut 16 = .ok (.aload_n 0, 1) := dk_42 (dk_at dksX2_carryOut_0 16 rfl rfl)
theorem dX2_carryOut_17 : decode cX2_carryOut 17 = .ok (.iconst 1, 1) := dk_4 (dk_at dksX2_carryOut_0 17 rfl rfl)
theorem dX2_carryOut_18 : decode cX2_carryOut 18 = .ok (.putfield 41, 3) := dk_181 0 41 (dk_at dksX2_carryOut_0 18 rfl rfl)
theorem dX2_carryOut_21 : decode cX2_carryOut 21 = .ok (.iconst 0, 1) := dk_3 (dk_at dksX2_carryOut_0 21 rfl rfl)
theorem dX2_carryOut_22 : decode cX2_carryOut 22 = .ok (.istore_n 1, 1) := dk_60 (dk_at dksX2_carryOut_0 22 rfl rfl)
theorem dX2_carryOut_23 : decode cX2_carryOut 23 = .ok (.iload_n 1, 1) := dk_27 (dk_at dksX2_carryOut_0 23 rfl rfl)
theorem dX2_carryOut_24 : decode cX2_carryOut 24 = .ok (.aload_n 0, 1) := dk_42 (dk_at dksX2_carryOut_1 0 rfl rfl)
theorem dX2_carryOut_25 : decode cX2_carryOut 25 = .ok (.getfield 197, 3) := dk_180 0 197 (dk_at dksX2_carryOut_1 1 rfl rfl)
theorem dX2_carryOut_28 : decode cX2_carryOut 28 = .ok (.if_icmp .ge 19, 3) := dk_162 0 19 (dk_at dksX2_carryOut_1 4 rfl rfl)
theorem dX2_carryOut_31 : decode cX2_carryOut 31 = .ok (.aload_n 0, 1) := dk_42 (dk_at dksX2_carryOut_1 7 rfl rfl)
theorem dX2_carryOut_32 : decode cX2_carryOut 32 = .ok (.iconst 5, 1) := dk_8 (dk_at dksX2_carryOut_1 8 rfl rfl)
theorem dX2_carryOut_33 : decode cX2_carryOut 33 = .ok (.iload_n 1, 1) := dk_27 (dk_at dksX2_carryOut_1 9 rfl rfl)
theorem dX2_carryOut_34 : decode cX2_carryOut 34 = .ok (.imul, 1) := dk_104 (dk_at dksX2_carryOut_1 10 rfl rfl)
theorem dX2_carryOut_35 : decode cX2_carryOut 35 = .ok (.invokevirtual 224, 3) := dk_182 0 224 (dk_at dksX2_carryOut_1 11 rfl rfl)
theorem dX2_carryOut_38 : decode cX2_carryOut 38 = .ok (.ifCond .lt 9, 3) := dk_155 0 9 (dk_at dksX2_carryOut_1 14 rfl rfl)
theorem dX2_carryOut_41 : decode cX2_carryOut 41 = .ok (.iinc 1 1, 3) := dk_132 1 1 (dk_at dksX2_carryOut_1 17 rfl rfl)
theorem dX2_carryOut_44 : decode cX2_carryOut 44 = .ok (.goto (-21), 3) := dk_167 255 235 (dk_at dksX2_carryOut_1 20 rfl rfl)
theorem dX2_carryOut_47 : decode cX2_carryOut 47 = .ok (.aload_n 0, 1) := dk_42 (dk_at dksX2_carryOut_1 23 rfl rfl)
theorem dX2_carryOut_48 : decode cX2_carryOut 48 = .ok (.iconst 0, 1) := dk_3 (dk_at dksX2_carryOut_2 0 rfl rfl)
theorem dX2_carryOut_49 : decode cX2_carryOut 49 = .ok (.putfield 41, 3) := dk_181 0 41 (dk_at dksX2_carryOut_2 1 rfl rfl)
theorem dX2_carryOut_52 : decode cX2_carryOut 52 = .ok (.aload_n 0, 1) := dk_42 (dk_at dksX2_carryOut_2 4 rfl rfl)
theorem dX2_carryOut_53 : decode cX2_carryOut 53 = .ok (.iconst 0, 1) := dk_3 (dk_at dksX2_carryOut_2 5 rfl rfl)
theorem dX2_carryOut_54 : decode cX2_carryOut 54 = .ok (.putfield 167, 3) := dk_181 0 167 (dk_at dksX2_carryOut_2 6 rfl rfl)
theorem dX2_carryOut_57 : decode cX2_carryOut 57 = .ok (.iload_n 1, 1) := dk_27 (dk_at dksX2_carryOut_2 9 rfl rfl)
theorem dX2_carryOut_58 : decode cX2_carryOut 58 = .ok (.ireturn, 1) := dk_172 (dk_at dksX2_carryOut_2 10 rfl rfl)
abbrev cX2_carry : ByteArray := prog_12_method_79_code
def yX2_carry : MethodName := ⟨RX2, "carry", "(I)I"⟩
def dkwX2_carry_5 : List UInt8 := [27, 5, 96, 46, 42, 180, 0, 38, 27, 6, 96, 46, 42, 180, 0, 38, 27, 7, 96, 46, 182, 0, 220, 172]
abbrev dktX2_carry_5 : List UInt8 := dkwX2_carry_5 ++ []
def dkwX2_carry_4 : List UInt8 := [180, 0, 38, 27, 6, 96, 46, 182, 0, 217, 172, 42, 42, 180, 0, 38, 27, 4, 96, 46, 42, 180, 0, 38]
abbrev dktX2_carry_4 : List UInt8 := dkwX2_carry_4 ++ dktX2_carry_5
def dkwX2_carry_3 : List UInt8 := [46, 182, 0, 214, 172, 42, 42, 180, 0, 38, 27, 4, 96, 46, 42, 180, 0, 38, 27, 5, 96, 46, 42]
abbrev dktX2_carry_3 : List UInt8 := dkwX2_carry_3 ++ dktX2_carry_4
def dkwX2_carry_2 : List UInt8 := [42, 42, 180, 0, 38, 27, 4, 96, 46, 42, 180, 0, 38, 27, 5, 96, 46, 42, 180, 0, 38, 27, 6, 96]
abbrev dktX2_carry_2 : List UInt8 := dkwX2_carry_2 ++ dktX2_carry_3
def dkwX2_carry_1 : List UInt8 := [171, 0, 0, 0, 0, 84, 0, 0, 0, 2, 0, 0, 0, 101, 0, 0, 0, 55, 0, 0, 0, 112, 0, 0, 0, 26]
abbrev dktX2_carry_1 : List UInt8 := dkwX2_carry_1 ++ dktX2_carry_2
def dkwX2_carry_0 : List UInt8 := [42, 180, 0, 38, 27, 46]
abbrev dktX2_carry_0 : List UInt8 := dkwX2_carry_0 ++ dktX2_carry_1
theorem dksX2_carry_0 : cX2_carry.data.toList.drop 0 = dktX2_carry_0 := by decide +kernel
theorem dksX2_carry_1 : cX2_carry.data.toList.drop 6 = dktX2_carry_1 := dk_seg dksX2_carry_0 6 rfl rfl
theorem dksX2_carry_2 : cX2_carry.data.toList.drop 32 = dktX2_carry_2 := dk_seg dksX2_carry_1 26 rfl rfl
theorem dksX2_carry_3 : cX2_carry.data.toList.drop 56 = dktX2_carry_3 := dk_seg dksX2_carry_2 24 rfl rfl
theorem dksX2_carry_4 : cX2_carry.data.toList.drop 79 = dktX2_carry_4 := dk_seg dksX2_carry_3 23 rfl rfl
theorem dksX2_carry_5 : cX2_carry.data.toList.drop 103 = dktX2_carry_5 := dk_seg dksX2_carry_4 24 rfl rfl
theorem dX2_carry_0 : decode cX2_carry 0 = .ok (.aload_n 0, 1) := dk_42 (dk_at dksX2_carry_0 0 rfl rfl)
theorem dX2_carry_1 : decode cX2_carry 1 = .ok (.getfield 38, 3) := dk_180 0 38 (dk_at dksX2_carry_0 1 rfl rfl)
theorem dX2_carry_4 : decode cX2_carry 4 = .ok (.iload_n 1, 1) := dk_27 (dk_at dksX2_carry_0 4 rfl rfl)
theorem dX2_carry_5 : decode cX2_carry 5 = .ok (.iaload, 1) := dk_46 (dk_at dksX2_carry_0 5 rfl rfl)
theorem dX2_carry_6 : decode cX2_carry 6 = .ok (.lookupswitch 84 #[(101, 55), (112, 26)], 26) := by decide +kernel
theorem dX2_carry_32 : decode cX2_carry 32 = .ok (.aload_n 0, 1) := dk_42 (dk_at dksX2_carry_2 0 rfl rfl)
theorem dX2_carry_33 : decode cX2_carry 33 = .ok (.aload_n 0, 1) := dk_42 (dk_at dksX2_carry_2 1 rfl rfl)
theorem dX2_carry_34 : decode cX2_carry 34 = .ok (.getfield 38, 3) := dk_180 0 38 (dk_at dksX2_carry_2 2 rfl rfl)
theorem dX2_carry_37 : decode cX2_carry 37 = .ok (.iload_n 1, 1) := dk_27 (dk_at dksX2_carry_2 5 rfl rfl)
theorem dX2_carry_38 : decode cX2_carry 38 = .ok (.iconst 1, 1) := dk_4 (dk_at dksX2_carry_2 6 rfl rfl)
theorem dX2_carry_39 : decode cX2_carry 39 = .ok (.iadd, 1) := dk_96 (dk_at dksX2_carry_2 7 rfl rfl)
theorem dX2_carry_40 : decode cX2_carry 40 = .ok (.iaload, 1) := dk_46 (dk_at dksX2_carry_2 8 rfl rfl)
theorem dX2_carry_41 : decode cX2_carry 41 = .ok (.aload_n 0, 1) := dk_42 (dk_at dksX2_carry_2 9 rfl rfl)
theorem dX2_carry_42 : decode cX2_carry 42 = .ok (.getfield 38, 3) := dk_180 0 38 (dk_at dksX2_carry_2 10 rfl rfl)
theorem dX2_carry_45 : decode cX2_carry 45 = .ok (.iload_n 1, 1) := dk_27 (dk_at dksX2_carry_2 13 rfl rfl)
theorem dX2_carry_46 : decode cX2_carry 46 = .ok (.iconst 2, 1) := dk_5 (dk_at dksX2_carry_2 14 rfl rfl)
theorem dX2_carry_47 : decode cX2_carry 47 = .ok (.iadd, 1) := dk_96 (dk_at dksX2_carry_2 15 rfl rfl)
theorem dX2_carry_48 : decode cX2_carry 48 = .ok (.iaload, 1) := dk_46 (dk_at dksX2_carry_2 16 rfl rfl)
theorem dX2_carry_49 : decode cX2_carry 49 = .ok (.aload_n 0, 1) := dk_42 (dk_at dksX2_carry_2 17 rfl rfl)
theorem dX2_carry_50 : decode cX2_carry 50 = .ok (.getfield 38, 3) := dk_180 0 38 (dk_at dksX2_carry_2 18 rfl rfl)
theorem dX2_carry_53 : decode cX2_carry 53 = .ok (.iload_n 1, 1) := dk_27 (dk_at dksX2_carry_2 21 rfl rfl)
theorem dX2_carry_54 : decode cX2_carry 54 = .ok (.iconst 3, 1) := dk_6 (dk_at dksX2_carry_2 22 rfl rfl)
theorem dX2_carry_55 : decode cX2_carry 55 = .ok (.iadd, 1) := dk_96 (dk_at dksX2_carry_2 23 rfl rfl)
theorem dX2_carry_56 : decode cX2_carry 56 = .ok (.iaload, 1) := dk_46 (dk_at dksX2_carry_3 0 rfl rfl)
theorem dX2_carry_57 : decode cX2_carry 57 = .ok (.invokevirtual 214, 3) := dk_182 0 214 (dk_at dksX2_carry_3 1 rfl rfl)
theorem dX2_carry_60 : decode cX2_carry 60 = .ok (.ireturn, 1) := dk_172 (dk_at dksX2_carry_3 4 rfl rfl)
theorem dX2_carry_61 : decode cX2_carry 61 = .ok (.aload_n 0, 1) := dk_42 (dk_at dksX2_carry_3 5 rfl rfl)
theorem dX2_carry_62 : decode cX2_carry 62 = .ok (.aload_n 0, 1) := dk_42 (dk_at dksX2_carry_3 6 rfl rfl)
theorem dX2_carry_63 : decode cX2_carry 63 = .ok (.getfield 38, 3) := dk_180 0 38 (dk_at dksX2_carry_3 7 rfl rfl)
theorem dX2_carry_66 : decode cX2_carry 66 = .ok (.iload_n 1, 1) := dk_27 (dk_at dksX2_carry_3 10 rfl rfl)
theorem dX2_carry_67 : decode cX2_carry 67 = .ok (.iconst 1, 1) := dk_4 (dk_at dksX2_carry_3 11 rfl rfl)
theorem dX2_carry_68 : decode cX2_carry 68 = .ok (.iadd, 1) := dk_96 (dk_at dksX2_carry_3 12 rfl rfl)
theorem dX2_carry_69 : decode cX2_carry 69 = .ok (.iaload, 1) := dk_46 (dk_at dksX2_carry_3 13 rfl rfl)
theorem dX2_carry_70 : decode cX2_carry 70 = .ok (.aload_n 0, 1) := dk_42 (dk_at dksX2_carry_3 14 rfl rfl)
theorem dX2_carry_71 : decode cX2_carry 71 = .ok (.getfield 38, 3) := dk_180 0 38 (dk_at dksX2_carry_3 15 rfl rfl)
theorem dX2_carry_74 : decode cX2_carry 74 = .ok (.iload_n 1, 1) := dk_27 (dk_at dksX2_carry_3 18 rfl rfl)
theorem dX2_carry_75 : decode cX2_carry 75 = .ok (.iconst 2, 1) := dk_5 (dk_at dksX2_carry_3 19 rfl rfl)
theorem dX2_carry_76 : decode cX2_carry 76 = .ok (.iadd, 1) := dk_96 (dk_at dksX2_carry_3 20 rfl rfl)
theorem dX2_carry_77 : decode cX2_carry 77 = .ok (.iaload, 1) := dk_46 (dk_at dksX2_carry_3 21 rfl rfl)
theorem dX2_carry_78 : decode cX2_carry 78 = .ok (.aload_n 0, 1) := dk_42 (dk_at dksX2_carry_3 22 rfl rfl)
theorem dX2_carry_79 : decode cX2_carry 79 = .ok (.getfield 38, 3) := dk_180 0 38 (dk_at dksX2_carry_4 0 rfl rfl)
theorem dX2_carry_82 : decode cX2_carry 82 = .ok (.iload_n 1, 1) := dk_27 (dk_at dksX2_carry_4 3 rfl rfl)
theorem dX2_carry_83 : decode cX2_carry 83 = .ok (.iconst 3, 1) := dk_6 (dk_at dksX2_carry_4 4 rfl rfl)
theorem dX2_carry_84 : decode cX2_carry 84 = .ok (.iadd, 1) := dk_96 (dk_at dksX2_carry_4 5 rfl rfl)
theorem dX2_carry_85 : decode cX2_carry 85 = .ok (.iaload, 1) := dk_46 (dk_at dksX2_carry_4 6 rfl rfl)
theorem dX2_carry_86 : decode cX2_carry 86 = .ok (.invokevirtual 217, 3) := dk_182 0 217 (dk_at dksX2_carry_4 7 rfl rfl)
theorem dX2_carry_89 : decode cX2_carry 89 = .ok (.ireturn, 1) := dk_172 (dk_at dksX2_carry_4 10 rfl rfl)
theorem dX2_carry_90 : decode cX2_carry 90 = .ok (.aload_n 0, 1) := dk_42 (dk_at dksX2_carry_4 11 rfl rfl)
theorem dX2_carry_91 : decode cX2_carry 91 = .ok (.aload_n 0, 1) := dk_42 (dk_at dksX2_carry_4 12 rfl rfl)
theorem dX2_carry_92 : decode cX2_carry 92 = .ok (.getfield 38, 3) := dk_180 0 38 (dk_at dksX2_carry_4 13 rfl rfl)
theorem dX2_carry_95 : decode cX2_carry 95 = .ok (.iload_n 1, 1) := dk_27 (dk_at dksX2_carry_4 16 rfl rfl)
theorem dX2_carry_96 : decode cX2_carry 96 = .ok (.iconst 1, 1) := dk_4 (dk_at dksX2_carry_4 17 rfl rfl)
theorem dX2_carry_97 : decode cX2_carry 97 = .ok (.iadd, 1) := dk_96 (dk_at dksX2_carry_4 18 rfl rfl)
theorem dX2_carry_98 : decode cX2_carry 98 = .ok (.iaload, 1) := dk_46 (dk_at dksX2_carry_4 19 rfl rfl)
theorem dX2_carry_99 : decode cX2_carry 99 = .ok (.aload_n 0, 1) := dk_42 (dk_at dksX2_carry_4 20 rfl rfl)
theorem dX2_carry_100 : decode cX2_carry 100 = .ok (.getfield 38, 3) := dk_180 0 38 (dk_at dksX2_carry_4 21 rfl rfl)
theorem dX2_carry_103 : decode cX2_carry 103 = .ok (.iload_n 1, 1) := dk_27 (dk_at dksX2_carry_5 0 rfl rfl)
theorem dX2_carry_104 : decode cX2_carry 104 = .ok (.iconst 2, 1) := dk_5 (dk_at dksX2_carry_5 1 rfl rfl)
theorem dX2_carry_105 : decode cX2_carry 105 = .ok (.iadd, 1) := dk_96 (dk_at dksX2_carry_5 2 rfl rfl)
theorem dX2_carry_106 : decode cX2_carry 106 = .ok (.iaload, 1) := dk_46 (dk_at dksX2_carry_5 3 rfl rfl)
theorem dX2_carry_107 : decode cX2_carry 107 = .ok (.aload_n 0, 1) := dk_42 (dk_at dksX2_carry_5 4 rfl rfl)
theorem dX2_carry_108 : decode cX2_carry 108 = .ok (.getfield 38, 3) := dk_180 0 38 (dk_at dksX2_carry_5 5 rfl rfl)
theorem dX2_carry_111 : decode cX2_carry 111 = .ok (.iload_n 1, 1) := dk_27 (dk_at dksX2_carry_5 8 rfl rfl)
theorem dX2_carry_112 : decode cX2_carry 112 = .ok (.iconst 3, 1) := dk_6 (dk_at dksX2_carry_5 9 rfl rfl)
theorem dX2_carry_113 : decode cX2_carry 113 = .ok (.iadd, 1) := dk_96 (dk_at dksX2_carry_5 10 rfl rfl)
theorem dX2_carry_114 : decode cX2_carry 114 = .ok (.iaload, 1) := dk_46 (dk_at dksX2_carry_5 11 rfl rfl)
theorem dX2_carry_115 : decode cX2_carry 115 = .ok (.aload_n 0, 1) := dk_42 (dk_at dksX2_carry_5 12 rfl rfl)
theorem dX2_carry_116 : decode cX2_carry 116 = .ok (.getfield 38, 3) := dk_180 0 38 (dk_at dksX2_carry_5 13 rfl rfl)
theorem dX2_carry_119 : decode cX2_carry 119 = .ok (.iload_n 1, 1) := dk_27 (dk_at dksX2_carry_5 16 rfl rfl)
theorem dX2_carry_120 : decode cX2_carry 120 = .ok (.iconst 4, 1) := dk_7 (dk_at dksX2_carry_5 17 rfl rfl)
theorem dX2_carry_121 : decode cX2_carry 121 = .ok (.iadd, 1) := dk_96 (dk_at dksX2_carry_5 18 rfl rfl)
theorem dX2_carry_122 : decode cX2_carry 122 = .ok (.iaload, 1) := dk_46 (dk_at dksX2_carry_5 19 rfl rfl)
theorem dX2_carry_123 : decode cX2_carry 123 = .ok (.invokevirtual 220, 3) := dk_182 0 220 (dk_at dksX2_carry_5 20 rfl rfl)
theorem dX2_carry_126 : decode cX2_carry 126 = .ok (.ireturn, 1) := dk_172 (dk_at dksX2_carry_5 23 rfl rfl)
abbrev cX2_undo : ByteArray := prog_12_method_81_code
def yX2_undo : MethodName := ⟨RX2, "undo", "()I"⟩
def dkwX2_undo_2 : List UInt8 := [96, 46, 79, 132, 1, 1, 167, 255, 225, 42, 180, 0, 45, 172]
abbrev dktX2_undo_2 : List UInt8 := dkwX2_undo_2 ++ []
def dkwX2_undo_1 : List UInt8 := [17, 7, 188, 162, 0, 30, 42, 180, 0, 7, 27, 42, 180, 0, 16, 42, 180, 0, 45, 17, 7, 188, 104, 27]
abbrev dktX2_undo_1 : List UInt8 := dkwX2_undo_1 ++ dktX2_undo_2
def dkwX2_undo_0 : List UInt8 := [42, 180, 0, 45, 154, 0, 6, 16, 251, 172, 42, 89, 180, 0, 45, 4, 100, 181, 0, 45, 3, 60, 27]
abbrev dktX2_undo_0 : List UInt8 := dkwX2_undo_0 ++ dktX2_undo_1
theorem dksX2_undo_0 : cX2_undo.data.toList.drop 0 = dktX2_undo_0 := by decide +kernel
theorem dksX2_undo_1 : cX2_undo.data.toList.drop 23 = dktX2_undo_1 := dk_seg dksX2_undo_0 23 rfl rfl
theorem dksX2_undo_2 : cX2_undo.data.toList.drop 47 = dktX2_undo_2 := dk_seg dksX2_undo_1 24 rfl rfl
theorem dX2_undo_0 : decode cX2_undo 0 = .ok (.aload_n 0, 1) := dk_42 (dk_at dksX2_undo_0 0 rfl rfl)
theorem dX2_undo_1 : decode cX2_undo 1 = .ok (.getfield 45, 3) := dk_180 0 45 (dk_at dksX2_undo_0 1 rfl rfl)
theorem dX2_undo_4 : decode cX2_undo 4 = .ok (.ifCond .ne 6, 3) := dk_154 0 6 (dk_at dksX2_undo_0 4 rfl rfl)
theorem dX2_undo_7 : decode cX2_undo 7 = .ok (.bipush (-5), 2) := dk_16 251 (dk_at dksX2_undo_0 7 rfl rfl)
theorem dX2_undo_9 : decode cX2_undo 9 = .ok (.ireturn, 1) := dk_172 (dk_at dksX2_undo_0 9 rfl rfl)
theorem dX2_undo_10 : decode cX2_undo 10 = .ok (.aload_n 0, 1) := dk_42 (dk_at dksX2_undo_0 10 rfl rfl)
theorem dX2_undo_11 : decode cX2_undo 11 = .ok (.dup, 1) := dk_89 (dk_at dksX2_undo_0 11 rfl rfl)
theorem dX2_undo_12 : decode cX2_undo 12 = .ok (.getfield 45, 3) := dk_180 0 45 (dk_at dksX2_undo_0 12 rfl rfl)
theorem dX2_undo_15 : decode cX2_undo 15 = .ok (.iconst 1, 1) := dk_4 (dk_at dksX2_undo_0 15 rfl rfl)
theorem dX2_undo_16 : decode cX2_undo 16 = .ok (.isub, 1) := dk_100 (dk_at dksX2_undo_0 16 rfl rfl)
theorem dX2_undo_17 : decode cX2_undo 17 = .ok (.putfield 45, 3) := dk_181 0 45 (dk_at dksX2_undo_0 17 rfl rfl)
theorem dX2_undo_20 : decode cX2_undo 20 = .ok (.iconst 0, 1) := dk_3 (dk_at dksX2_undo_0 20 rfl rfl)
theorem dX2_undo_21 : decode cX2_undo 21 = .ok (.istore_n 1, 1) := dk_60 (dk_at dksX2_undo_0 21 rfl rfl)
theorem dX2_undo_22 : decode cX2_undo 22 = .ok (.iload_n 1, 1) := dk_27 (dk_at dksX2_undo_0 22 rfl rfl)
theorem dX2_undo_23 : decode cX2_undo 23 = .ok (.sipush 1980, 3) := dk_17 7 188 (dk_at dksX2_undo_1 0 rfl rfl)
theorem dX2_undo_26 : decode cX2_undo 26 = .ok (.if_icmp .ge 30, 3) := dk_162 0 30 (dk_at dksX2_undo_1 3 rfl rfl)
theorem dX2_undo_29 : decode cX2_undo 29 = .ok (.aload_n 0, 1) := dk_42 (dk_at dksX2_undo_1 6 rfl rfl)
theorem dX2_undo_30 : decode cX2_undo 30 = .ok (.getfield 7, 3) := dk_180 0 7 (dk_at dksX2_undo_1 7 rfl rfl)
theorem dX2_undo_33 : decode cX2_undo 33 = .ok (.iload_n 1, 1) := dk_27 (dk_at dksX2_undo_1 10 rfl rfl)
theorem dX2_undo_34 : decode cX2_undo 34 = .ok (.aload_n 0, 1) := dk_42 (dk_at dksX2_undo_1 11 rfl rfl)
theorem dX2_undo_35 : decode cX2_undo 35 = .ok (.getfield 16, 3) := dk_180 0 16 (dk_at dksX2_undo_1 12 rfl rfl)
theorem dX2_undo_38 : decode cX2_undo 38 = .ok (.aload_n 0, 1) := dk_42 (dk_at dksX2_undo_1 15 rfl rfl)
theorem dX2_undo_39 : decode cX2_undo 39 = .ok (.getfield 45, 3) := dk_180 0 45 (dk_at dksX2_undo_1 16 rfl rfl)
theorem dX2_undo_42 : decode cX2_undo 42 = .ok (.sipush 1980, 3) := dk_17 7 188 (dk_at dksX2_undo_1 19 rfl rfl)
theorem dX2_undo_45 : decode cX2_undo 45 = .ok (.imul, 1) := dk_104 (dk_at dksX2_undo_1 22 rfl rfl)
theorem dX2_undo_46 : decode cX2_undo 46 = .ok (.iload_n 1, 1) := dk_27 (dk_at dksX2_undo_1 23 rfl rfl)
theorem dX2_undo_47 : decode cX2_undo 47 = .ok (.iadd, 1) := dk_96 (dk_at dksX2_undo_2 0 rfl rfl)
theorem dX2_undo_48 : decode cX2_undo 48 = .ok (.iaload, 1) := dk_46 (dk_at dksX2_undo_2 1 rfl rfl)
theorem dX2_undo_49 : decode cX2_undo 49 = .ok (.iastore, 1) := dk_79 (dk_at dksX2_undo_2 2 rfl rfl)
theorem dX2_undo_50 : decode cX2_undo 50 = .ok (.iinc 1 1, 3) := dk_132 1 1 (dk_at dksX2_undo_2 3 rfl rfl)
theorem dX2_undo_53 : decode cX2_undo 53 = .ok (.goto (-31), 3) := dk_167 255 225 (dk_at dksX2_undo_2 6 rfl rfl)
theorem dX2_undo_56 : decode cX2_undo 56 = .ok (.aload_n 0, 1) := dk_42 (dk_at dksX2_undo_2 9 rfl rfl)
theorem dX2_undo_57 : decode cX2_undo 57 = .ok (.getfield 45, 3) := dk_180 0 45 (dk_at dksX2_undo_2 10 rfl rfl)
theorem dX2_undo_60 : decode cX2_undo 60 = .ok (.ireturn, 1) := dk_172 (dk_at dksX2_undo_2 13 rfl rfl)
abbrev cX2_save : ByteArray := prog_12_method_82_code
def yX2_save : MethodName := ⟨RX2, "save", "(I)I"⟩
def dkwX2_save_2 : List UInt8 := [180, 0, 22, 27, 4, 84, 42, 180, 0, 7, 16, 6, 46, 172]
abbrev dktX2_save_2 : List UInt8 := dkwX2_save_2 ++ []
def dkwX2_save_1 : List UInt8 := [180, 0, 19, 27, 17, 7, 188, 104, 28, 96, 42, 180, 0, 7, 28, 46, 79, 132, 2, 1, 167, 255, 228, 42]
abbrev dktX2_save_1 : List UInt8 := dkwX2_save_1 ++ dktX2_save_2
def dkwX2_save_0 : List UInt8 := [27, 3, 4, 184, 0, 49, 154, 0, 6, 16, 254, 172, 3, 61, 28, 17, 7, 188, 162, 0, 27, 42]
abbrev dktX2_save_0 : List UInt8 := dkwX2_save_0 ++ dktX2_save_1
theorem dksX2_save_0 : cX2_save.data.toList.drop 0 = dktX2_save_0 := by decide +kernel
theorem dksX2_save_1 : cX2_save.data.toList.drop 22 = dktX2_save_1 := dk_seg dksX2_save_0 22 rfl rfl
theorem dksX2_save_2 : cX2_save.data.toList.drop 46 = dktX2_save_2 := dk_seg dksX2_save_1 24 rfl rfl
theorem dX2_save_0 : decode cX2_save 0 = .ok (.iload_n 1, 1) := dk_27 (dk_at dksX2_save_0 0 rfl rfl)
theorem dX2_save_1 : decode cX2_save 1 = .ok (.iconst 0, 1) := dk_3 (dk_at dksX2_save_0 1 rfl rfl)
theorem dX2_save_2 : decode cX2_save 2 = .ok (.iconst 1, 1) := dk_4 (dk_at dksX2_save_0 2 rfl rfl)
theorem dX2_save_3 : decode cX2_save 3 = .ok (.invokestatic 49, 3) := dk_184 0 49 (dk_at dksX2_save_0 3 rfl rfl)
theorem dX2_save_6 : decode cX2_save 6 = .ok (.ifCond .ne 6, 3) := dk_154 0 6 (dk_at dksX2_save_0 6 rfl rfl)
theorem dX2_save_9 : decode cX2_save 9 = .ok (.bipush (-2), 2) := dk_16 254 (dk_at dksX2_save_0 9 rfl rfl)
theorem dX2_save_11 : decode cX2_save 11 = .ok (.ireturn, 1) := dk_172 (dk_at dksX2_save_0 11 rfl rfl)
theorem dX2_save_12 : decode cX2_save 12 = .ok (.iconst 0, 1) := dk_3 (dk_at dksX2_save_0 12 rfl rfl)
theorem dX2_save_13 : decode cX2_save 13 = .ok (.istore_n 2, 1) := dk_61 (dk_at dksX2_save_0 13 rfl rfl)
theorem dX2_save_14 : decode cX2_save 14 = .ok (.iload_n 2, 1) := dk_28 (dk_at dksX2_save_0 14 rfl rfl)
theorem dX2_save_15 : decode cX2_save 15 = .ok (.sipush 1980, 3) := dk_17 7 188 (dk_at dksX2_save_0 15 rfl rfl)
theorem dX2_save_18 : decode cX2_save 18 = .ok (.if_icmp .ge 27, 3) := dk_162 0 27 (dk_at dksX2_save_0 18 rfl rfl)
theorem dX2_save_21 : decode cX2_save 21 = .ok (.aload_n 0, 1) := dk_42 (dk_at dksX2_save_0 21 rfl rfl)
theorem dX2_save_22 : decode cX2_save 22 = .ok (.getfield 19, 3) := dk_180 0 19 (dk_at dksX2_save_1 0 rfl rfl)
theorem dX2_save_25 : decode cX2_save 25 = .ok (.iload_n 1, 1) := dk_27 (dk_at dksX2_save_1 3 rfl rfl)
theorem dX2_save_26 : decode cX2_save 26 = .ok (.sipush 1980, 3) := dk_17 7 188 (dk_at dksX2_save_1 4 rfl rfl)
theorem dX2_save_29 : decode cX2_save 29 = .ok (.imul, 1) := dk_104 (dk_at dksX2_save_1 7 rfl rfl)
theorem dX2_save_30 : decode cX2_save 30 = .ok (.iload_n 2, 1) := dk_28 (dk_at dksX2_save_1 8 rfl rfl)
theorem dX2_save_31 : decode cX2_save 31 = .ok (.iadd, 1) := dk_96 (dk_at dksX2_save_1 9 rfl rfl)
theorem dX2_save_32 : decode cX2_save 32 = .ok (.aload_n 0, 1) := dk_42 (dk_at dksX2_save_1 10 rfl rfl)
theorem dX2_save_33 : decode cX2_save 33 = .ok (.getfield 7, 3) := dk_180 0 7 (dk_at dksX2_save_1 11 rfl rfl)
theorem dX2_save_36 : decode cX2_save 36 = .ok (.iload_n 2, 1) := dk_28 (dk_at dksX2_save_1 14 rfl rfl)
theorem dX2_save_37 : decode cX2_save 37 = .ok (.iaload, 1) := dk_46 (dk_at dksX2_save_1 15 rfl rfl)
theorem dX2_save_38 : decode cX2_save 38 = .ok (.iastore, 1) := dk_79 (dk_at dksX2_save_1 16 rfl rfl)
theorem dX2_save_39 : decode cX2_save 39 = .ok (.iinc 2 1, 3) := dk_132 2 1 (dk_at dksX2_save_1 17 rfl rfl)
theorem dX2_save_42 : decode cX2_save 42 = .ok (.goto (-28), 3) := dk_167 255 228 (dk_at dksX2_save_1 20 rfl rfl)
theorem dX2_save_45 : decode cX2_save 45 = .ok (.aload_n 0, 1) := dk_42 (dk_at dksX2_save_1 23 rfl rfl)
theorem dX2_save_46 : decode cX2_save 46 = .ok (.getfield 22, 3) := dk_180 0 22 (dk_at dksX2_save_2 0 rfl rfl)
theorem dX2_save_49 : decode cX2_save 49 = .ok (.iload_n 1, 1) := dk_27 (dk_at dksX2_save_2 3 rfl rfl)
theorem dX2_save_50 : decode cX2_save 50 = .ok (.iconst 1, 1) := dk_4 (dk_at dksX2_save_2 4 rfl rfl)
theorem dX2_save_51 : decode cX2_save 51 = .ok (.bastore, 1) := dk_84 (dk_at dksX2_save_2 5 rfl rfl)
theorem dX2_save_52 : decode cX2_save 52 = .ok (.aload_n 0, 1) := dk_42 (dk_at dksX2_save_2 6 rfl rfl)
theorem dX2_save_53 : decode cX2_save 53 = .ok (.getfield 7, 3) := dk_180 0 7 (dk_at dksX2_save_2 7 rfl rfl)
theorem dX2_save_56 : decode cX2_save 56 = .ok (.bipush 6, 2) := dk_16 6 (dk_at dksX2_save_2 10 rfl rfl)
theorem dX2_save_58 : decode cX2_save 58 = .ok (.iaload, 1) := dk_46 (dk_at dksX2_save_2 12 rfl rfl)
theorem dX2_save_59 : decode cX2_save 59 = .ok (.ireturn, 1) := dk_172 (dk_at dksX2_save_2 13 rfl rfl)
abbrev cX2_restore : ByteArray := prog_12_method_83_code
def yX2_restore : MethodName := ⟨RX2, "restore", "(I)I"⟩
def dkwX2_restore_2 : List UInt8 := [17, 7, 188, 104, 28, 96, 46, 79, 132, 2, 1, 167, 255, 228, 42, 180, 0, 7, 16, 6, 46, 172]
abbrev dktX2_restore_2 : List UInt8 := dkwX2_restore_2 ++ []
def dkwX2_restore_1 : List UInt8 := [42, 182, 0, 53, 3, 61, 28, 17, 7, 188, 162, 0, 27, 42, 180, 0, 7, 28, 42, 180, 0, 19, 27]
abbrev dktX2_restore_1 : List UInt8 := dkwX2_restore_1 ++ dktX2_restore_2
def dkwX2_restore_0 : List UInt8 := [27, 3, 4, 184, 0, 49, 154, 0, 6, 16, 254, 172, 42, 180, 0, 22, 27, 51, 154, 0, 6, 16, 251, 172]
abbrev dktX2_restore_0 : List UInt8 := dkwX2_restore_0 ++ dktX2_restore_1
theorem dksX2_restore_0 : cX2_restore.data.toList.drop 0 = dktX2_restore_0 := by decide +kernel
theorem dksX2_restore_1 : cX2_restore.data.toList.drop 24 = dktX2_restore_1 := dk_seg dksX2_restore_0 24 rfl rfl
theorem dksX2_restore_2 : cX2_restore.data.toList.drop 47 = dktX2_restore_2 := dk_seg dksX2_restore_1 23 rfl rfl
theorem dX2_restore_0 : decode cX2_restore 0 = .ok (.iload_n 1, 1) := dk_27 (dk_at dksX2_restore_0 0 rfl rfl)
theorem dX2_restore_1 : decode cX2_restore 1 = .ok (.iconst 0, 1) := dk_3 (dk_at dksX2_restore_0 1 rfl rfl)
theorem dX2_restore_2 : decode cX2_restore 2 = .ok (.iconst 1, 1) := dk_4 (dk_at dksX2_restore_0 2 rfl rfl)
theorem dX2_restore_3 : decode cX2_restore 3 = .ok (.invokestatic 49, 3) := dk_184 0 49 (dk_at dksX2_restore_0 3 rfl rfl)
theorem dX2_restore_6 : decode cX2_restore 6 = .ok (.ifCond .ne 6, 3) := dk_154 0 6 (dk_at dksX2_restore_0 6 rfl rfl)
theorem dX2_restore_9 : decode cX2_restore 9 = .ok (.bipush (-2), 2) := dk_16 254 (dk_at dksX2_restore_0 9 rfl rfl)
theorem dX2_restore_11 : decode cX2_restore 11 = .ok (.ireturn, 1) := dk_172 (dk_at dksX2_restore_0 11 rfl rfl)
theorem dX2_restore_12 : decode cX2_restore 12 = .ok (.aload_n 0, 1) := dk_42 (dk_at dksX2_restore_0 12 rfl rfl)
theorem dX2_restore_13 : decode cX2_restore 13 = .ok (.getfield 22, 3) := dk_180 0 22 (dk_at dksX2_restore_0 13 rfl rfl)
theorem dX2_restore_16 : decode cX2_restore 16 = .ok (.iload_n 1, 1) := dk_27 (dk_at dksX2_restore_0 16 rfl rfl)
theorem dX2_restore_17 : decode cX2_restore 17 = .ok (.baload, 1) := dk_51 (dk_at dksX2_restore_0 17 rfl rfl)
theorem dX2_restore_18 : decode cX2_restore 18 = .ok (.ifCond .ne 6, 3) := dk_154 0 6 (dk_at dksX2_restore_0 18 rfl rfl)
theorem dX2_restore_21 : decode cX2_restore 21 = .ok (.bipush (-5), 2) := dk_16 251 (dk_at dksX2_restore_0 21 rfl rfl)
theorem dX2_restore_23 : decode cX2_restore 23 = .ok (.ireturn, 1) := dk_172 (dk_at dksX2_restore_0 23 rfl rfl)
theorem dX2_restore_24 : decode cX2_restore 24 = .ok (.aload_n 0, 1) := dk_42 (dk_at dksX2_restore_1 0 rfl rfl)
theorem dX2_restore_25 : decode cX2_restore 25 = .ok (.invokevirtual 53, 3) := dk_182 0 53 (dk_at dksX2_restore_1 1 rfl rfl)
theorem dX2_restore_28 : decode cX2_restore 28 = .ok (.iconst 0, 1) := dk_3 (dk_at dksX2_restore_1 4 rfl rfl)
theorem dX2_restore_29 : decode cX2_restore 29 = .ok (.istore_n 2, 1) := dk_61 (dk_at dksX2_restore_1 5 rfl rfl)
theorem dX2_restore_30 : decode cX2_restore 30 = .ok (.iload_n 2, 1) := dk_28 (dk_at dksX2_restore_1 6 rfl rfl)
theorem dX2_restore_31 : decode cX2_restore 31 = .ok (.sipush 1980, 3) := dk_17 7 188 (dk_at dksX2_restore_1 7 rfl rfl)
theorem dX2_restore_34 : decode cX2_restore 34 = .ok (.if_icmp .ge 27, 3) := dk_162 0 27 (dk_at dksX2_restore_1 10 rfl rfl)
theorem dX2_restore_37 : decode cX2_restore 37 = .ok (.aload_n 0, 1) := dk_42 (dk_at dksX2_restore_1 13 rfl rfl)
theorem dX2_restore_38 : decode cX2_restore 38 = .ok (.getfield 7, 3) := dk_180 0 7 (dk_at dksX2_restore_1 14 rfl rfl)
theorem dX2_restore_41 : decode cX2_restore 41 = .ok (.iload_n 2, 1) := dk_28 (dk_at dksX2_restore_1 17 rfl rfl)
theorem dX2_restore_42 : decode cX2_restore 42 = .ok (.aload_n 0, 1) := dk_42 (dk_at dksX2_restore_1 18 rfl rfl)
theorem dX2_restore_43 : decode cX2_restore 43 = .ok (.getfield 19, 3) := dk_180 0 19 (dk_at dksX2_restore_1 19 rfl rfl)
theorem dX2_restore_46 : decode cX2_restore 46 = .ok (.iload_n 1, 1) := dk_27 (dk_at dksX2_restore_1 22 rfl rfl)
theorem dX2_restore_47 : decode cX2_restore 47 = .ok (.sipush 1980, 3) := dk_17 7 188 (dk_at dksX2_restore_2 0 rfl rfl)
theorem dX2_restore_50 : decode cX2_restore 50 = .ok (.imul, 1) := dk_104 (dk_at dksX2_restore_2 3 rfl rfl)
theorem dX2_restore_51 : decode cX2_restore 51 = .ok (.iload_n 2, 1) := dk_28 (dk_at dksX2_restore_2 4 rfl rfl)
theorem dX2_restore_52 : decode cX2_restore 52 = .ok (.iadd, 1) := dk_96 (dk_at dksX2_restore_2 5 rfl rfl)
theorem dX2_restore_53 : decode cX2_restore 53 = .ok (.iaload, 1) := dk_46 (dk_at dksX2_restore_2 6 rfl rfl)
theorem dX2_restore_54 : decode cX2_restore 54 = .ok (.iastore, 1) := dk_79 (dk_at dksX2_restore_2 7 rfl rfl)
theorem dX2_restore_55 : decode cX2_restore 55 = .ok (.iinc 2 1, 3) := dk_132 2 1 (dk_at dksX2_restore_2 8 rfl rfl)
theorem dX2_restore_58 : decode cX2_restore 58 = .ok (.goto (-28), 3) := dk_167 255 228 (dk_at dksX2_restore_2 11 rfl rfl)
theorem dX2_restore_61 : decode cX2_restore 61 = .ok (.aload_n 0, 1) := dk_42 (dk_at dksX2_restore_2 14 rfl rfl)
theorem dX2_restore_62 : decode cX2_restore 62 = .ok (.getfield 7, 3) := dk_180 0 7 (dk_at dksX2_restore_2 15 rfl rfl)
theorem dX2_restore_65 : decode cX2_restore 65 = .ok (.bipush 6, 2) := dk_16 6 (dk_at dksX2_restore_2 18 rfl rfl)
theorem dX2_restore_67 : decode cX2_restore 67 = .ok (.iaload, 1) := dk_46 (dk_at dksX2_restore_2 20 rfl rfl)
theorem dX2_restore_68 : decode cX2_restore 68 = .ok (.ireturn, 1) := dk_172 (dk_at dksX2_restore_2 21 rfl rfl)
theorem q88 : (Jvm.Cond.initialized "DomeNightsModel") ∈ lw_all := lw_g (lw_at lw_m1 12 rfl) rfl
theorem q487 : (Jvm.Cond.selects "DomeNightsModel" ({ cls := "java/lang/Object", name := "getClass", desc := "()Ljava/lang/Class;" } : Jvm.MethodName) ({ cls := "java/lang/Object", name := "getClass", desc := "()Ljava/lang/Class;" } : Jvm.MethodName)) ∈ lw_all := lw_g (lw_at lw_m2 171 rfl) rfl
theorem q1107 : (Jvm.Cond.selects "DomeNightsModel" ({ cls := "java/lang/Object", name := "hashCode", desc := "()I" } : Jvm.MethodName) ({ cls := "java/lang/Object", name := "hashCode", desc := "()I" } : Jvm.MethodName)) ∈ lw_all := lw_g (lw_at lw_m5 71 rfl) rfl
theorem q1142 : (Jvm.Cond.selects "DomeNightsModel" ({ cls := "java/lang/Object", name := "equals", desc := "(Ljava/lang/Object;)Z" } : Jvm.MethodName) ({ cls := "java/lang/Object", name := "equals", desc := "(Ljava/lang/Object;)Z" } : Jvm.MethodName)) ∈ lw_all := lw_g (lw_at lw_m5 106 rfl) rfl
theorem q1950 : (Jvm.Cond.instantiable "DomeNightsModel" (17 : Nat)) ∈ lw_all := lw_g (lw_at lw_m8 194 rfl) rfl
theorem q1952 : (Jvm.Cond.instanceMethod ({ cls := "DomeNightsModel", name := "<init>", desc := "()V" } : Jvm.MethodName)) ∈ lw_all := lw_g (lw_at lw_m8 196 rfl) rfl
theorem q1953 : (Jvm.Cond.code ({ cls := "DomeNightsModel", name := "<init>", desc := "()V" } : Jvm.MethodName) prog_12_method_1_code (1 : Nat) (Option.none : Option Jvm.ClassFile.FieldType)) ∈ lw_all := lw_g (lw_at lw_m8 197 rfl) rfl
theorem q1954 : (Jvm.Cond.methodLink "DomeNightsModel" (1 : Nat) ({ cls := "java/lang/Object", name := "<init>", desc := "()V" } : Jvm.MethodName)) ∈ lw_all := lw_g (lw_at lw_m8 198 rfl) rfl
theorem q1955 : (Jvm.Cond.fieldLink "DomeNightsModel" (7 : Nat) "DomeNightsModel" "now" "[I") ∈ lw_all := lw_g (lw_at lw_m8 199 rfl) rfl
theorem q1956 : (Jvm.Cond.fieldLink "DomeNightsModel" (13 : Nat) "DomeNightsModel" "kept" "[I") ∈ lw_all := lw_g (lw_at lw_m8 200 rfl) rfl
theorem q1957 : (Jvm.Cond.fieldLink "DomeNightsModel" (16 : Nat) "DomeNightsModel" "history" "[I") ∈ lw_all := lw_g (lw_at lw_m8 201 rfl) rfl
theorem q1958 : (Jvm.Cond.fieldLink "DomeNightsModel" (45 : Nat) "DomeNightsModel" "undos" "I") ∈ lw_all := lw_g (lw_at lw_m8 202 rfl) rfl
theorem q1959 : (Jvm.Cond.fieldLink "DomeNightsModel" (19 : Nat) "DomeNightsModel" "saved" "[I") ∈ lw_all := lw_g (lw_at lw_m8 203 rfl) rfl
theorem q1960 : (Jvm.Cond.fieldLink "DomeNightsModel" (22 : Nat) "DomeNightsModel" "isSaved" "[Z") ∈ lw_all := lw_g (lw_at lw_m8 204 rfl) rfl
theorem q1961 : (Jvm.Cond.fieldLink "DomeNightsModel" (26 : Nat) "DomeNightsModel" "pad" "[I") ∈ lw_all := lw_g (lw_at lw_m8 205 rfl) rfl
theorem q1962 : (Jvm.Cond.fieldLink "DomeNightsModel" (167 : Nat) "DomeNightsModel" "signs" "I") ∈ lw_all := lw_g (lw_at lw_m8 206 rfl) rfl
theorem q1963 : (Jvm.Cond.fieldLink "DomeNightsModel" (41 : Nat) "DomeNightsModel" "isInText" "Z") ∈ lw_all := lw_g (lw_at lw_m8 207 rfl) rfl
theorem q1964 : (Jvm.Cond.fieldLink "DomeNightsModel" (29 : Nat) "DomeNightsModel" "free" "[I") ∈ lw_all := lw_g (lw_at lw_m8 208 rfl) rfl
theorem q1965 : (Jvm.Cond.fieldLink "DomeNightsModel" (32 : Nat) "DomeNightsModel" "did" "[I") ∈ lw_all := lw_g (lw_at lw_m8 209 rfl) rfl
theorem q1966 : (Jvm.Cond.fieldLink "DomeNightsModel" (35 : Nat) "DomeNightsModel" "order" "[I") ∈ lw_all := lw_g (lw_at lw_m8 210 rfl) rfl
theorem q1967 : (Jvm.Cond.fieldLink "DomeNightsModel" (176 : Nat) "DomeNightsModel" "planned" "I") ∈ lw_all := lw_g (lw_at lw_m8 211 rfl) rfl
theorem q1968 : (Jvm.Cond.fieldLink "DomeNightsModel" (38 : Nat) "DomeNightsModel" "orders" "[I") ∈ lw_all := lw_g (lw_at lw_m8 212 rfl) rfl
theorem q1969 : (Jvm.Cond.fieldLink "DomeNightsModel" (197 : Nat) "DomeNightsModel" "ordered" "I") ∈ lw_all := lw_g (lw_at lw_m8 213 rfl) rfl
theorem q1970 : (Jvm.Cond.fieldLink "DomeNightsModel" (185 : Nat) "DomeNightsModel" "at" "I") ∈ lw_all := lw_g (lw_at lw_m8 214 rfl) rfl
theorem q1971 : (Jvm.Cond.fieldLink "DomeNightsModel" (188 : Nat) "DomeNightsModel" "isWrong" "Z") ∈ lw_all := lw_g (lw_at lw_m8 215 rfl) rfl
theorem q1972 : (Jvm.Cond.laysFinal "DomeNightsModel" "DomeNightsModel" "now" "[I") ∈ lw_all := lw_g (lw_at lw_m8 216 rfl) rfl
theorem q1973 : (Jvm.Cond.soleField "DomeNightsModel" "now") ∈ lw_all := lw_g (lw_at lw_m8 217 rfl) rfl
theorem q1974 : (Jvm.Cond.laysFinal "DomeNightsModel" "DomeNightsModel" "kept" "[I") ∈ lw_all := lw_g (lw_at lw_m8 218 rfl) rfl
theorem q1975 : (Jvm.Cond.soleField "DomeNightsModel" "kept") ∈ lw_all := lw_g (lw_at lw_m8 219 rfl) rfl
theorem q1976 : (Jvm.Cond.laysFinal "DomeNightsModel" "DomeNightsModel" "history" "[I") ∈ lw_all := lw_g (lw_at lw_m8 220 rfl) rfl
theorem q1977 : (Jvm.Cond.soleField "DomeNightsModel" "history") ∈ lw_all := lw_g (lw_at lw_m8 221 rfl) rfl
theorem q1978 : (Jvm.Cond.lays "DomeNightsModel" "DomeNightsModel" "undos" "I") ∈ lw_all := lw_g (lw_at lw_m8 222 rfl) rfl
theorem q1979 : (Jvm.Cond.soleField "DomeNightsModel" "undos") ∈ lw_all := lw_g (lw_at lw_m8 223 rfl) rfl
theorem q1980 : (Jvm.Cond.laysFinal "DomeNightsModel" "DomeNightsModel" "saved" "[I") ∈ lw_all := lw_g (lw_at lw_m8 224 rfl) rfl
theorem q1981 : (Jvm.Cond.soleField "DomeNightsModel" "saved") ∈ lw_all := lw_g (lw_at lw_m8 225 rfl) rfl
theorem q1982 : (Jvm.Cond.laysFinal "DomeNightsModel" "DomeNightsModel" "isSaved" "[Z") ∈ lw_all := lw_g (lw_at lw_m8 226 rfl) rfl
theorem q1983 : (Jvm.Cond.soleField "DomeNightsModel" "isSaved") ∈ lw_all := lw_g (lw_at lw_m8 227 rfl) rfl
theorem q1984 : (Jvm.Cond.laysFinal "DomeNightsModel" "DomeNightsModel" "pad" "[I") ∈ lw_all := lw_g (lw_at lw_m8 228 rfl) rfl
theorem q1985 : (Jvm.Cond.soleField "DomeNightsModel" "pad") ∈ lw_all := lw_g (lw_at lw_m8 229 rfl) rfl
theorem q1986 : (Jvm.Cond.lays "DomeNightsModel" "DomeNightsModel" "signs" "I") ∈ lw_all := lw_g (lw_at lw_m8 230 rfl) rfl
theorem q1987 : (Jvm.Cond.soleField "DomeNightsModel" "signs") ∈ lw_all := lw_g (lw_at lw_m8 231 rfl) rfl
theorem q1988 : (Jvm.Cond.lays "DomeNightsModel" "DomeNightsModel" "isInText" "Z") ∈ lw_all := lw_g (lw_at lw_m8 232 rfl) rfl
theorem q1989 : (Jvm.Cond.soleField "DomeNightsModel" "isInText") ∈ lw_all := lw_g (lw_at lw_m8 233 rfl) rfl
theorem q1990 : (Jvm.Cond.laysFinal "DomeNightsModel" "DomeNightsModel" "free" "[I") ∈ lw_all := lw_g (lw_at lw_m8 234 rfl) rfl
theorem q1991 : (Jvm.Cond.soleField "DomeNightsModel" "free") ∈ lw_all := lw_g (lw_at lw_m8 235 rfl) rfl
theorem q1992 : (Jvm.Cond.laysFinal "DomeNightsModel" "DomeNightsModel" "did" "[I") ∈ lw_all := lw_g (lw_at lw_m8 236 rfl) rfl
theorem q1993 : (Jvm.Cond.soleField "DomeNightsModel" "did") ∈ lw_all := lw_g (lw_at lw_m8 237 rfl) rfl
theorem q1994 : (Jvm.Cond.laysFinal "DomeNightsModel" "DomeNightsModel" "order" "[I") ∈ lw_all := lw_g (lw_at lw_m8 238 rfl) rfl
theorem q1995 : (Jvm.Cond.soleField "DomeNightsModel" "order") ∈ lw_all := lw_g (lw_at lw_m8 239 rfl) rfl
theorem q1996 : (Jvm.Cond.lays "DomeNightsModel" "DomeNightsModel" "planned" "I") ∈ lw_all := lw_g (lw_at lw_m9 0 rfl) rfl
theorem q1997 : (Jvm.Cond.soleField "DomeNightsModel" "planned") ∈ lw_all := lw_g (lw_at lw_m9 1 rfl) rfl
theorem q1998 : (Jvm.Cond.laysFinal "DomeNightsModel" "DomeNightsModel" "orders" "[I") ∈ lw_all := lw_g (lw_at lw_m9 2 rfl) rfl
theorem q1999 : (Jvm.Cond.soleField "DomeNightsModel" "orders") ∈ lw_all := lw_g (lw_at lw_m9 3 rfl) rfl
theorem q2000 : (Jvm.Cond.lays "DomeNightsModel" "DomeNightsModel" "ordered" "I") ∈ lw_all := lw_g (lw_at lw_m9 4 rfl) rfl
theorem q2001 : (Jvm.Cond.soleField "DomeNightsModel" "ordered") ∈ lw_all := lw_g (lw_at lw_m9 5 rfl) rfl
theorem q2002 : (Jvm.Cond.lays "DomeNightsModel" "DomeNightsModel" "at" "I") ∈ lw_all := lw_g (lw_at lw_m9 6 rfl) rfl
theorem q2003 : (Jvm.Cond.soleField "DomeNightsModel" "at") ∈ lw_all := lw_g (lw_at lw_m9 7 rfl) rfl
theorem q2004 : (Jvm.Cond.lays "DomeNightsModel" "DomeNightsModel" "isWrong" "Z") ∈ lw_all := lw_g (lw_at lw_m9 8 rfl) rfl
theorem q2005 : (Jvm.Cond.soleField "DomeNightsModel" "isWrong") ∈ lw_all := lw_g (lw_at lw_m9 9 rfl) rfl
theorem q2006 : (Jvm.Cond.superclass "DomeNightsModel" "java/lang/Object") ∈ lw_all := lw_g (lw_at lw_m9 10 rfl) rfl
theorem q2009 : (Jvm.Cond.instanceMethod ({ cls := "DomeNightsModel", name := "set", desc := "(II)I" } : Jvm.MethodName)) ∈ lw_all := lw_g (lw_at lw_m9 13 rfl) rfl
theorem q2010 : (Jvm.Cond.selects "DomeNightsModel" ({ cls := "DomeNightsModel", name := "set", desc := "(II)I" } : Jvm.MethodName) ({ cls := "DomeNightsModel", name := "set", desc := "(II)I" } : Jvm.MethodName)) ∈ lw_all := lw_g (lw_at lw_m9 14 rfl) rfl
theorem q2011 : (Jvm.Cond.code ({ cls := "DomeNightsModel", name := "set", desc := "(II)I" } : Jvm.MethodName) prog_12_method_6_code (5 : Nat) (Option.some Jvm.ClassFile.FieldType.int)) ∈ lw_all := lw_g (lw_at lw_m9 15 rfl) rfl
theorem q2012 : (Jvm.Cond.methodLink "DomeNightsModel" (49 : Nat) ({ cls := "DomeNightsModel", name := "in", desc := "(III)Z" } : Jvm.MethodName)) ∈ lw_all := lw_g (lw_at lw_m9 16 rfl) rfl
theorem q2013 : (Jvm.Cond.static ({ cls := "DomeNightsModel", name := "in", desc := "(III)Z" } : Jvm.MethodName)) ∈ lw_all := lw_g (lw_at lw_m9 17 rfl) rfl
theorem q2014 : (Jvm.Cond.code ({ cls := "DomeNightsModel", name := "in", desc := "(III)Z" } : Jvm.MethodName) prog_12_method_2_code (3 : Nat) (Option.some Jvm.ClassFile.FieldType.boolean)) ∈ lw_all := lw_g (lw_at lw_m9 18 rfl) rfl
theorem q2015 : (Jvm.Cond.methodLink "DomeNightsModel" (53 : Nat) ({ cls := "DomeNightsModel", name := "record", desc := "()V" } : Jvm.MethodName)) ∈ lw_all := lw_g (lw_at lw_m9 19 rfl) rfl
theorem q2016 : (Jvm.Cond.privateMethod ({ cls := "DomeNightsModel", name := "record", desc := "()V" } : Jvm.MethodName)) ∈ lw_tbl := lw_at lw_m9 20 rfl
theorem q2017 : (Jvm.Cond.instanceMethod ({ cls := "DomeNightsModel", name := "record", desc := "()V" } : Jvm.MethodName)) ∈ lw_all := lw_g (lw_at lw_m9 21 rfl) rfl
theorem q2018 : (Jvm.Cond.code ({ cls := "DomeNightsModel", name := "record", desc := "()V" } : Jvm.MethodName) prog_12_method_3_code (2 : Nat) (Option.none : Option Jvm.ClassFile.FieldType)) ∈ lw_all := lw_g (lw_at lw_m9 22 rfl) rfl
theorem q2020 : (Jvm.Cond.instanceMethod ({ cls := "DomeNightsModel", name := "kind", desc := "(III)I" } : Jvm.MethodName)) ∈ lw_all := lw_g (lw_at lw_m9 24 rfl) rfl
theorem q2021 : (Jvm.Cond.selects "DomeNightsModel" ({ cls := "DomeNightsModel", name := "kind", desc := "(III)I" } : Jvm.MethodName) ({ cls := "DomeNightsModel", name := "kind", desc := "(III)I" } : Jvm.MethodName)) ∈ lw_all := lw_g (lw_at lw_m9 25 rfl) rfl
theorem q2022 : (Jvm.Cond.code ({ cls := "DomeNightsModel", name := "kind", desc := "(III)I" } : Jvm.MethodName) prog_12_method_8_code (5 : Nat) (Option.some Jvm.ClassFile.FieldType.int)) ∈ lw_all := lw_g (lw_at lw_m9 26 rfl) rfl
theorem q2024 : (Jvm.Cond.instanceMethod ({ cls := "DomeNightsModel", name := "price", desc := "(II)I" } : Jvm.MethodName)) ∈ lw_all := lw_g (lw_at lw_m9 28 rfl) rfl
theorem q2025 : (Jvm.Cond.selects "DomeNightsModel" ({ cls := "DomeNightsModel", name := "price", desc := "(II)I" } : Jvm.MethodName) ({ cls := "DomeNightsModel", name := "price", desc := "(II)I" } : Jvm.MethodName)) ∈ lw_all := lw_g (lw_at lw_m9 29 rfl) rfl
theorem q2026 : (Jvm.Cond.code ({ cls := "DomeNightsModel", name := "price", desc := "(II)I" } : Jvm.MethodName) prog_12_method_9_code (4 : Nat) (Option.some Jvm.ClassFile.FieldType.int)) ∈ lw_all := lw_g (lw_at lw_m9 30 rfl) rfl
theorem q2027 : (Jvm.Cond.methodLink "DomeNightsModel" (56 : Nat) ({ cls := "DomeNightsModel", name := "isKind", desc := "(I)Z" } : Jvm.MethodName)) ∈ lw_all := lw_g (lw_at lw_m9 31 rfl) rfl
theorem q2028 : (Jvm.Cond.privateMethod ({ cls := "DomeNightsModel", name := "isKind", desc := "(I)Z" } : Jvm.MethodName)) ∈ lw_tbl := lw_at lw_m9 32 rfl
theorem q2029 : (Jvm.Cond.instanceMethod ({ cls := "DomeNightsModel", name := "isKind", desc := "(I)Z" } : Jvm.MethodName)) ∈ lw_all := lw_g (lw_at lw_m9 33 rfl) rfl
theorem q2030 : (Jvm.Cond.code ({ cls := "DomeNightsModel", name := "isKind", desc := "(I)Z" } : Jvm.MethodName) prog_12_method_7_code (2 : Nat) (Option.some Jvm.ClassFile.FieldType.boolean)) ∈ lw_all := lw_g (lw_at lw_m9 34 rfl) rfl
theorem q2032 : (Jvm.Cond.instanceMethod ({ cls := "DomeNightsModel", name := "lamp", desc := "(I)I" } : Jvm.MethodName)) ∈ lw_all := lw_g (lw_at lw_m9 36 rfl) rfl
theorem q2033 : (Jvm.Cond.selects "DomeNightsModel" ({ cls := "DomeNightsModel", name := "lamp", desc := "(I)I" } : Jvm.MethodName) ({ cls := "DomeNightsModel", name := "lamp", desc := "(I)I" } : Jvm.MethodName)) ∈ lw_all := lw_g (lw_at lw_m9 37 rfl) rfl
theorem q2034 : (Jvm.Cond.code ({ cls := "DomeNightsModel", name := "lamp", desc := "(I)I" } : Jvm.MethodName) prog_12_method_11_code (3 : Nat) (Option.some Jvm.ClassFile.FieldType.int)) ∈ lw_all := lw_g (lw_at lw_m9 38 rfl) rfl
theorem q2036 : (Jvm.Cond.instanceMethod ({ cls := "DomeNightsModel", name := "fit", desc := "(I)I" } : Jvm.MethodName)) ∈ lw_all := lw_g (lw_at lw_m9 40 rfl) rfl
theorem q2037 : (Jvm.Cond.selects "DomeNightsModel" ({ cls := "DomeNightsModel", name := "fit", desc := "(I)I" } : Jvm.MethodName) ({ cls := "DomeNightsModel", name := "fit", desc := "(I)I" } : Jvm.MethodName)) ∈ lw_all := lw_g (lw_at lw_m9 41 rfl) rfl
theorem q2038 : (Jvm.Cond.code ({ cls := "DomeNightsModel", name := "fit", desc := "(I)I" } : Jvm.MethodName) prog_12_method_16_code (2 : Nat) (Option.some Jvm.ClassFile.FieldType.int)) ∈ lw_all := lw_g (lw_at lw_m9 42 rfl) rfl
theorem q2039 : (Jvm.Cond.methodLink "DomeNightsModel" (68 : Nat) ({ cls := "DomeNightsModel", name := "isLamp", desc := "(I)Z" } : Jvm.MethodName)) ∈ lw_all := lw_g (lw_at lw_m9 43 rfl) rfl
theorem q2040 : (Jvm.Cond.privateMethod ({ cls := "DomeNightsModel", name := "isLamp", desc := "(I)Z" } : Jvm.MethodName)) ∈ lw_tbl := lw_at lw_m9 44 rfl
theorem q2041 : (Jvm.Cond.instanceMethod ({ cls := "DomeNightsModel", name := "isLamp", desc := "(I)Z" } : Jvm.MethodName)) ∈ lw_all := lw_g (lw_at lw_m9 45 rfl) rfl
theorem q2042 : (Jvm.Cond.code ({ cls := "DomeNightsModel", name := "isLamp", desc := "(I)Z" } : Jvm.MethodName) prog_12_method_10_code (2 : Nat) (Option.some Jvm.ClassFile.FieldType.boolean)) ∈ lw_all := lw_g (lw_at lw_m9 46 rfl) rfl
theorem q2043 : (Jvm.Cond.methodLink "DomeNightsModel" (71 : Nat) ({ cls := "DomeNightsModel", name := "putIn", desc := "(I)I" } : Jvm.MethodName)) ∈ lw_all := lw_g (lw_at lw_m9 47 rfl) rfl
theorem q2044 : (Jvm.Cond.privateMethod ({ cls := "DomeNightsModel", name := "putIn", desc := "(I)I" } : Jvm.MethodName)) ∈ lw_tbl := lw_at lw_m9 48 rfl
theorem q2045 : (Jvm.Cond.instanceMethod ({ cls := "DomeNightsModel", name := "putIn", desc := "(I)I" } : Jvm.MethodName)) ∈ lw_all := lw_g (lw_at lw_m9 49 rfl) rfl
theorem q2046 : (Jvm.Cond.code ({ cls := "DomeNightsModel", name := "putIn", desc := "(I)I" } : Jvm.MethodName) prog_12_method_15_code (3 : Nat) (Option.some Jvm.ClassFile.FieldType.int)) ∈ lw_all := lw_g (lw_at lw_m9 50 rfl) rfl
theorem q2047 : (Jvm.Cond.methodLink "DomeNightsModel" (64 : Nat) ({ cls := "DomeNightsModel", name := "fitted", desc := "()I" } : Jvm.MethodName)) ∈ lw_all := lw_g (lw_at lw_m9 51 rfl) rfl
theorem q2048 : (Jvm.Cond.privateMethod ({ cls := "DomeNightsModel", name := "fitted", desc := "()I" } : Jvm.MethodName)) ∈ lw_tbl := lw_at lw_m9 52 rfl
theorem q2049 : (Jvm.Cond.instanceMethod ({ cls := "DomeNightsModel", name := "fitted", desc := "()I" } : Jvm.MethodName)) ∈ lw_all := lw_g (lw_at lw_m9 53 rfl) rfl
theorem q2050 : (Jvm.Cond.code ({ cls := "DomeNightsModel", name := "fitted", desc := "()I" } : Jvm.MethodName) prog_12_method_12_code (3 : Nat) (Option.some Jvm.ClassFile.FieldType.int)) ∈ lw_all := lw_g (lw_at lw_m9 54 rfl) rfl
theorem q2052 : (Jvm.Cond.instanceMethod ({ cls := "DomeNightsModel", name := "plan", desc := "(III)I" } : Jvm.MethodName)) ∈ lw_all := lw_g (lw_at lw_m9 56 rfl) rfl
theorem q2053 : (Jvm.Cond.selects "DomeNightsModel" ({ cls := "DomeNightsModel", name := "plan", desc := "(III)I" } : Jvm.MethodName) ({ cls := "DomeNightsModel", name := "plan", desc := "(III)I" } : Jvm.MethodName)) ∈ lw_all := lw_g (lw_at lw_m9 57 rfl) rfl
theorem q2054 : (Jvm.Cond.code ({ cls := "DomeNightsModel", name := "plan", desc := "(III)I" } : Jvm.MethodName) prog_12_method_22_code (5 : Nat) (Option.some Jvm.ClassFile.FieldType.int)) ∈ lw_all := lw_g (lw_at lw_m9 58 rfl) rfl
theorem q2055 : (Jvm.Cond.methodLink "DomeNightsModel" (84 : Nat) ({ cls := "DomeNightsModel", name := "isFree", desc := "(II)Z" } : Jvm.MethodName)) ∈ lw_all := lw_g (lw_at lw_m9 59 rfl) rfl
theorem q2056 : (Jvm.Cond.privateMethod ({ cls := "DomeNightsModel", name := "isFree", desc := "(II)Z" } : Jvm.MethodName)) ∈ lw_tbl := lw_at lw_m9 60 rfl
theorem q2057 : (Jvm.Cond.instanceMethod ({ cls := "DomeNightsModel", name := "isFree", desc := "(II)Z" } : Jvm.MethodName)) ∈ lw_all := lw_g (lw_at lw_m9 61 rfl) rfl
theorem q2058 : (Jvm.Cond.code ({ cls := "DomeNightsModel", name := "isFree", desc := "(II)Z" } : Jvm.MethodName) prog_12_method_21_code (3 : Nat) (Option.some Jvm.ClassFile.FieldType.boolean)) ∈ lw_all := lw_g (lw_at lw_m9 62 rfl) rfl
theorem q2059 : (Jvm.Cond.methodLink "DomeNightsModel" (78 : Nat) ({ cls := "DomeNightsModel", name := "eventAt", desc := "(II)I" } : Jvm.MethodName)) ∈ lw_all := lw_g (lw_at lw_m9 63 rfl) rfl
theorem q2060 : (Jvm.Cond.privateMethod ({ cls := "DomeNightsModel", name := "eventAt", desc := "(II)I" } : Jvm.MethodName)) ∈ lw_tbl := lw_at lw_m9 64 rfl
theorem q2061 : (Jvm.Cond.instanceMethod ({ cls := "DomeNightsModel", name := "eventAt", desc := "(II)I" } : Jvm.MethodName)) ∈ lw_all := lw_g (lw_at lw_m9 65 rfl) rfl
theorem q2062 : (Jvm.Cond.code ({ cls := "DomeNightsModel", name := "eventAt", desc := "(II)I" } : Jvm.MethodName) prog_12_method_19_code (7 : Nat) (Option.some Jvm.ClassFile.FieldType.int)) ∈ lw_all := lw_g (lw_at lw_m9 66 rfl) rfl
theorem q2063 : (Jvm.Cond.methodLink "DomeNightsModel" (81 : Nat) ({ cls := "DomeNightsModel", name := "plannedAt", desc := "(II)I" } : Jvm.MethodName)) ∈ lw_all := lw_g (lw_at lw_m9 67 rfl) rfl
theorem q2064 : (Jvm.Cond.privateMethod ({ cls := "DomeNightsModel", name := "plannedAt", desc := "(II)I" } : Jvm.MethodName)) ∈ lw_tbl := lw_at lw_m9 68 rfl
theorem q2065 : (Jvm.Cond.instanceMethod ({ cls := "DomeNightsModel", name := "plannedAt", desc := "(II)I" } : Jvm.MethodName)) ∈ lw_all := lw_g (lw_at lw_m9 69 rfl) rfl
theorem q2066 : (Jvm.Cond.code ({ cls := "DomeNightsModel", name := "plannedAt", desc := "(II)I" } : Jvm.MethodName) prog_12_method_20_code (5 : Nat) (Option.some Jvm.ClassFile.FieldType.int)) ∈ lw_all := lw_g (lw_at lw_m9 70 rfl) rfl
theorem q2067 : (Jvm.Cond.methodLink "DomeNightsModel" (75 : Nat) ({ cls := "DomeNightsModel", name := "ofShow", desc := "(II)I" } : Jvm.MethodName)) ∈ lw_all := lw_g (lw_at lw_m9 71 rfl) rfl
theorem q2068 : (Jvm.Cond.privateMethod ({ cls := "DomeNightsModel", name := "ofShow", desc := "(II)I" } : Jvm.MethodName)) ∈ lw_tbl := lw_at lw_m9 72 rfl
theorem q2069 : (Jvm.Cond.instanceMethod ({ cls := "DomeNightsModel", name := "ofShow", desc := "(II)I" } : Jvm.MethodName)) ∈ lw_all := lw_g (lw_at lw_m9 73 rfl) rfl
theorem q2070 : (Jvm.Cond.code ({ cls := "DomeNightsModel", name := "ofShow", desc := "(II)I" } : Jvm.MethodName) prog_12_method_18_code (3 : Nat) (Option.some Jvm.ClassFile.FieldType.int)) ∈ lw_all := lw_g (lw_at lw_m9 74 rfl) rfl
theorem q2072 : (Jvm.Cond.instanceMethod ({ cls := "DomeNightsModel", name := "book", desc := "(IIII)I" } : Jvm.MethodName)) ∈ lw_all := lw_g (lw_at lw_m9 76 rfl) rfl
theorem q2073 : (Jvm.Cond.selects "DomeNightsModel" ({ cls := "DomeNightsModel", name := "book", desc := "(IIII)I" } : Jvm.MethodName) ({ cls := "DomeNightsModel", name := "book", desc := "(IIII)I" } : Jvm.MethodName)) ∈ lw_all := lw_g (lw_at lw_m9 77 rfl) rfl
theorem q2074 : (Jvm.Cond.code ({ cls := "DomeNightsModel", name := "book", desc := "(IIII)I" } : Jvm.MethodName) prog_12_method_32_code (10 : Nat) (Option.some Jvm.ClassFile.FieldType.int)) ∈ lw_all := lw_g (lw_at lw_m9 78 rfl) rfl
theorem q2075 : (Jvm.Cond.methodLink "DomeNightsModel" (97 : Nat) ({ cls := "DomeNightsModel", name := "isShow", desc := "(I)Z" } : Jvm.MethodName)) ∈ lw_all := lw_g (lw_at lw_m9 79 rfl) rfl
theorem q2076 : (Jvm.Cond.privateMethod ({ cls := "DomeNightsModel", name := "isShow", desc := "(I)Z" } : Jvm.MethodName)) ∈ lw_tbl := lw_at lw_m9 80 rfl
theorem q2077 : (Jvm.Cond.instanceMethod ({ cls := "DomeNightsModel", name := "isShow", desc := "(I)Z" } : Jvm.MethodName)) ∈ lw_all := lw_g (lw_at lw_m9 81 rfl) rfl
theorem q2078 : (Jvm.Cond.code ({ cls := "DomeNightsModel", name := "isShow", desc := "(I)Z" } : Jvm.MethodName) prog_12_method_17_code (2 : Nat) (Option.some Jvm.ClassFile.FieldType.boolean)) ∈ lw_all := lw_g (lw_at lw_m9 82 rfl) rfl
theorem q2079 : (Jvm.Cond.methodLink "DomeNightsModel" (100 : Nat) ({ cls := "DomeNightsModel", name := "canBook", desc := "(II)Z" } : Jvm.MethodName)) ∈ lw_all := lw_g (lw_at lw_m9 83 rfl) rfl
theorem q2080 : (Jvm.Cond.privateMethod ({ cls := "DomeNightsModel", name := "canBook", desc := "(II)Z" } : Jvm.MethodName)) ∈ lw_tbl := lw_at lw_m9 84 rfl
theorem q2081 : (Jvm.Cond.instanceMethod ({ cls := "DomeNightsModel", name := "canBook", desc := "(II)Z" } : Jvm.MethodName)) ∈ lw_all := lw_g (lw_at lw_m9 85 rfl) rfl
theorem q2082 : (Jvm.Cond.code ({ cls := "DomeNightsModel", name := "canBook", desc := "(II)Z" } : Jvm.MethodName) prog_12_method_29_code (3 : Nat) (Option.some Jvm.ClassFile.FieldType.boolean)) ∈ lw_all := lw_g (lw_at lw_m9 86 rfl) rfl
theorem q2083 : (Jvm.Cond.methodLink "DomeNightsModel" (94 : Nat) ({ cls := "DomeNightsModel", name := "takenOf", desc := "(I)I" } : Jvm.MethodName)) ∈ lw_all := lw_g (lw_at lw_m9 87 rfl) rfl
theorem q2084 : (Jvm.Cond.privateMethod ({ cls := "DomeNightsModel", name := "takenOf", desc := "(I)I" } : Jvm.MethodName)) ∈ lw_tbl := lw_at lw_m9 88 rfl
theorem q2085 : (Jvm.Cond.instanceMethod ({ cls := "DomeNightsModel", name := "takenOf", desc := "(I)I" } : Jvm.MethodName)) ∈ lw_all := lw_g (lw_at lw_m9 89 rfl) rfl
theorem q2086 : (Jvm.Cond.code ({ cls := "DomeNightsModel", name := "takenOf", desc := "(I)I" } : Jvm.MethodName) prog_12_method_26_code (4 : Nat) (Option.some Jvm.ClassFile.FieldType.int)) ∈ lw_all := lw_g (lw_at lw_m9 90 rfl) rfl
theorem q2087 : (Jvm.Cond.methodLink "DomeNightsModel" (91 : Nat) ({ cls := "DomeNightsModel", name := "freeIn", desc := "(II)I" } : Jvm.MethodName)) ∈ lw_all := lw_g (lw_at lw_m9 91 rfl) rfl
theorem q2088 : (Jvm.Cond.privateMethod ({ cls := "DomeNightsModel", name := "freeIn", desc := "(II)I" } : Jvm.MethodName)) ∈ lw_tbl := lw_at lw_m9 92 rfl
theorem q2089 : (Jvm.Cond.instanceMethod ({ cls := "DomeNightsModel", name := "freeIn", desc := "(II)I" } : Jvm.MethodName)) ∈ lw_all := lw_g (lw_at lw_m9 93 rfl) rfl
theorem q2090 : (Jvm.Cond.code ({ cls := "DomeNightsModel", name := "freeIn", desc := "(II)I" } : Jvm.MethodName) prog_12_method_25_code (5 : Nat) (Option.some Jvm.ClassFile.FieldType.int)) ∈ lw_all := lw_g (lw_at lw_m9 94 rfl) rfl
theorem q2091 : (Jvm.Cond.methodLink "DomeNightsModel" (88 : Nat) ({ cls := "DomeNightsModel", name := "ofBooking", desc := "(II)I" } : Jvm.MethodName)) ∈ lw_all := lw_g (lw_at lw_m9 95 rfl) rfl
theorem q2092 : (Jvm.Cond.privateMethod ({ cls := "DomeNightsModel", name := "ofBooking", desc := "(II)I" } : Jvm.MethodName)) ∈ lw_tbl := lw_at lw_m9 96 rfl
theorem q2093 : (Jvm.Cond.instanceMethod ({ cls := "DomeNightsModel", name := "ofBooking", desc := "(II)I" } : Jvm.MethodName)) ∈ lw_all := lw_g (lw_at lw_m9 97 rfl) rfl
theorem q2094 : (Jvm.Cond.code ({ cls := "DomeNightsModel", name := "ofBooking", desc := "(II)I" } : Jvm.MethodName) prog_12_method_24_code (3 : Nat) (Option.some Jvm.ClassFile.FieldType.int)) ∈ lw_all := lw_g (lw_at lw_m9 98 rfl) rfl
theorem q2095 : (Jvm.Cond.methodLink "DomeNightsModel" (103 : Nat) ({ cls := "DomeNightsModel", name := "layFree", desc := "(I)V" } : Jvm.MethodName)) ∈ lw_all := lw_g (lw_at lw_m9 99 rfl) rfl
theorem q2096 : (Jvm.Cond.privateMethod ({ cls := "DomeNightsModel", name := "layFree", desc := "(I)V" } : Jvm.MethodName)) ∈ lw_tbl := lw_at lw_m9 100 rfl
theorem q2097 : (Jvm.Cond.instanceMethod ({ cls := "DomeNightsModel", name := "layFree", desc := "(I)V" } : Jvm.MethodName)) ∈ lw_all := lw_g (lw_at lw_m9 101 rfl) rfl
theorem q2098 : (Jvm.Cond.code ({ cls := "DomeNightsModel", name := "layFree", desc := "(I)V" } : Jvm.MethodName) prog_12_method_27_code (3 : Nat) (Option.none : Option Jvm.ClassFile.FieldType)) ∈ lw_all := lw_g (lw_at lw_m9 102 rfl) rfl
theorem q2099 : (Jvm.Cond.methodLink "DomeNightsModel" (107 : Nat) ({ cls := "DomeNightsModel", name := "nextRow", desc := "(I)I" } : Jvm.MethodName)) ∈ lw_all := lw_g (lw_at lw_m9 103 rfl) rfl
theorem q2100 : (Jvm.Cond.privateMethod ({ cls := "DomeNightsModel", name := "nextRow", desc := "(I)I" } : Jvm.MethodName)) ∈ lw_tbl := lw_at lw_m9 104 rfl
theorem q2101 : (Jvm.Cond.instanceMethod ({ cls := "DomeNightsModel", name := "nextRow", desc := "(I)I" } : Jvm.MethodName)) ∈ lw_all := lw_g (lw_at lw_m9 105 rfl) rfl
theorem q2102 : (Jvm.Cond.code ({ cls := "DomeNightsModel", name := "nextRow", desc := "(I)I" } : Jvm.MethodName) prog_12_method_28_code (5 : Nat) (Option.some Jvm.ClassFile.FieldType.int)) ∈ lw_all := lw_g (lw_at lw_m9 106 rfl) rfl
theorem q2104 : (Jvm.Cond.instanceMethod ({ cls := "DomeNightsModel", name := "giveBack", desc := "(I)I" } : Jvm.MethodName)) ∈ lw_all := lw_g (lw_at lw_m9 108 rfl) rfl
theorem q2105 : (Jvm.Cond.selects "DomeNightsModel" ({ cls := "DomeNightsModel", name := "giveBack", desc := "(I)I" } : Jvm.MethodName) ({ cls := "DomeNightsModel", name := "giveBack", desc := "(I)I" } : Jvm.MethodName)) ∈ lw_all := lw_g (lw_at lw_m9 109 rfl) rfl
theorem q2106 : (Jvm.Cond.code ({ cls := "DomeNightsModel", name := "giveBack", desc := "(I)I" } : Jvm.MethodName) prog_12_method_33_code (5 : Nat) (Option.some Jvm.ClassFile.FieldType.int)) ∈ lw_all := lw_g (lw_at lw_m9 110 rfl) rfl
theorem q2107 : (Jvm.Cond.methodLink "DomeNightsModel" (110 : Nat) ({ cls := "DomeNightsModel", name := "isBooking", desc := "(I)Z" } : Jvm.MethodName)) ∈ lw_all := lw_g (lw_at lw_m9 111 rfl) rfl
theorem q2108 : (Jvm.Cond.privateMethod ({ cls := "DomeNightsModel", name := "isBooking", desc := "(I)Z" } : Jvm.MethodName)) ∈ lw_tbl := lw_at lw_m9 112 rfl
theorem q2109 : (Jvm.Cond.instanceMethod ({ cls := "DomeNightsModel", name := "isBooking", desc := "(I)Z" } : Jvm.MethodName)) ∈ lw_all := lw_g (lw_at lw_m9 113 rfl) rfl
theorem q2110 : (Jvm.Cond.code ({ cls := "DomeNightsModel", name := "isBooking", desc := "(I)Z" } : Jvm.MethodName) prog_12_method_23_code (2 : Nat) (Option.some Jvm.ClassFile.FieldType.boolean)) ∈ lw_all := lw_g (lw_at lw_m9 114 rfl) rfl
theorem q2111 : (Jvm.Cond.methodLink "DomeNightsModel" (113 : Nat) ({ cls := "DomeNightsModel", name := "tally", desc := "(II)V" } : Jvm.MethodName)) ∈ lw_all := lw_g (lw_at lw_m9 115 rfl) rfl
theorem q2112 : (Jvm.Cond.privateMethod ({ cls := "DomeNightsModel", name := "tally", desc := "(II)V" } : Jvm.MethodName)) ∈ lw_tbl := lw_at lw_m9 116 rfl
theorem q2113 : (Jvm.Cond.instanceMethod ({ cls := "DomeNightsModel", name := "tally", desc := "(II)V" } : Jvm.MethodName)) ∈ lw_all := lw_g (lw_at lw_m9 117 rfl) rfl
theorem q2114 : (Jvm.Cond.code ({ cls := "DomeNightsModel", name := "tally", desc := "(II)V" } : Jvm.MethodName) prog_12_method_30_code (7 : Nat) (Option.none : Option Jvm.ClassFile.FieldType)) ∈ lw_all := lw_g (lw_at lw_m9 118 rfl) rfl
theorem q2115 : (Jvm.Cond.methodLink "DomeNightsModel" (117 : Nat) ({ cls := "DomeNightsModel", name := "vacate", desc := "(III)V" } : Jvm.MethodName)) ∈ lw_all := lw_g (lw_at lw_m9 119 rfl) rfl
theorem q2116 : (Jvm.Cond.privateMethod ({ cls := "DomeNightsModel", name := "vacate", desc := "(III)V" } : Jvm.MethodName)) ∈ lw_tbl := lw_at lw_m9 120 rfl
theorem q2117 : (Jvm.Cond.instanceMethod ({ cls := "DomeNightsModel", name := "vacate", desc := "(III)V" } : Jvm.MethodName)) ∈ lw_all := lw_g (lw_at lw_m9 121 rfl) rfl
theorem q2118 : (Jvm.Cond.code ({ cls := "DomeNightsModel", name := "vacate", desc := "(III)V" } : Jvm.MethodName) prog_12_method_31_code (6 : Nat) (Option.none : Option Jvm.ClassFile.FieldType)) ∈ lw_all := lw_g (lw_at lw_m9 122 rfl) rfl
theorem q2120 : (Jvm.Cond.instanceMethod ({ cls := "DomeNightsModel", name := "event", desc := "(III)I" } : Jvm.MethodName)) ∈ lw_all := lw_g (lw_at lw_m9 124 rfl) rfl
theorem q2121 : (Jvm.Cond.selects "DomeNightsModel" ({ cls := "DomeNightsModel", name := "event", desc := "(III)I" } : Jvm.MethodName) ({ cls := "DomeNightsModel", name := "event", desc := "(III)I" } : Jvm.MethodName)) ∈ lw_all := lw_g (lw_at lw_m9 125 rfl) rfl
theorem q2122 : (Jvm.Cond.code ({ cls := "DomeNightsModel", name := "event", desc := "(III)I" } : Jvm.MethodName) prog_12_method_40_code (5 : Nat) (Option.some Jvm.ClassFile.FieldType.int)) ∈ lw_all := lw_g (lw_at lw_m9 126 rfl) rfl
theorem q2123 : (Jvm.Cond.methodLink "DomeNightsModel" (133 : Nat) ({ cls := "DomeNightsModel", name := "barOfEvent", desc := "(III)I" } : Jvm.MethodName)) ∈ lw_all := lw_g (lw_at lw_m9 127 rfl) rfl
theorem q2124 : (Jvm.Cond.privateMethod ({ cls := "DomeNightsModel", name := "barOfEvent", desc := "(III)I" } : Jvm.MethodName)) ∈ lw_tbl := lw_at lw_m9 128 rfl
theorem q2125 : (Jvm.Cond.instanceMethod ({ cls := "DomeNightsModel", name := "barOfEvent", desc := "(III)I" } : Jvm.MethodName)) ∈ lw_all := lw_g (lw_at lw_m9 129 rfl) rfl
theorem q2126 : (Jvm.Cond.code ({ cls := "DomeNightsModel", name := "barOfEvent", desc := "(III)I" } : Jvm.MethodName) prog_12_method_34_code (5 : Nat) (Option.some Jvm.ClassFile.FieldType.int)) ∈ lw_all := lw_g (lw_at lw_m9 130 rfl) rfl
theorem q2127 : (Jvm.Cond.methodLink "DomeNightsModel" (137 : Nat) ({ cls := "DomeNightsModel", name := "tellEvent", desc := "(III)V" } : Jvm.MethodName)) ∈ lw_all := lw_g (lw_at lw_m9 131 rfl) rfl
theorem q2128 : (Jvm.Cond.privateMethod ({ cls := "DomeNightsModel", name := "tellEvent", desc := "(III)V" } : Jvm.MethodName)) ∈ lw_tbl := lw_at lw_m9 132 rfl
theorem q2129 : (Jvm.Cond.instanceMethod ({ cls := "DomeNightsModel", name := "tellEvent", desc := "(III)V" } : Jvm.MethodName)) ∈ lw_all := lw_g (lw_at lw_m9 133 rfl) rfl
theorem q2130 : (Jvm.Cond.code ({ cls := "DomeNightsModel", name := "tellEvent", desc := "(III)V" } : Jvm.MethodName) prog_12_method_39_code (7 : Nat) (Option.none : Option Jvm.ClassFile.FieldType)) ∈ lw_all := lw_g (lw_at lw_m9 134 rfl) rfl
theorem q2131 : (Jvm.Cond.methodLink "DomeNightsModel" (130 : Nat) ({ cls := "DomeNightsModel", name := "displace", desc := "(I)V" } : Jvm.MethodName)) ∈ lw_all := lw_g (lw_at lw_m9 135 rfl) rfl
theorem q2132 : (Jvm.Cond.privateMethod ({ cls := "DomeNightsModel", name := "displace", desc := "(I)V" } : Jvm.MethodName)) ∈ lw_tbl := lw_at lw_m9 136 rfl
theorem q2133 : (Jvm.Cond.instanceMethod ({ cls := "DomeNightsModel", name := "displace", desc := "(I)V" } : Jvm.MethodName)) ∈ lw_all := lw_g (lw_at lw_m9 137 rfl) rfl
theorem q2134 : (Jvm.Cond.code ({ cls := "DomeNightsModel", name := "displace", desc := "(I)V" } : Jvm.MethodName) prog_12_method_37_code (6 : Nat) (Option.none : Option Jvm.ClassFile.FieldType)) ∈ lw_all := lw_g (lw_at lw_m9 138 rfl) rfl
theorem q2135 : (Jvm.Cond.methodLink "DomeNightsModel" (121 : Nat) ({ cls := "DomeNightsModel", name := "firstFree", desc := "(I)I" } : Jvm.MethodName)) ∈ lw_all := lw_g (lw_at lw_m9 139 rfl) rfl
theorem q2136 : (Jvm.Cond.privateMethod ({ cls := "DomeNightsModel", name := "firstFree", desc := "(I)I" } : Jvm.MethodName)) ∈ lw_tbl := lw_at lw_m9 140 rfl
theorem q2137 : (Jvm.Cond.instanceMethod ({ cls := "DomeNightsModel", name := "firstFree", desc := "(I)I" } : Jvm.MethodName)) ∈ lw_all := lw_g (lw_at lw_m9 141 rfl) rfl
theorem q2138 : (Jvm.Cond.code ({ cls := "DomeNightsModel", name := "firstFree", desc := "(I)I" } : Jvm.MethodName) prog_12_method_36_code (3 : Nat) (Option.some Jvm.ClassFile.FieldType.int)) ∈ lw_all := lw_g (lw_at lw_m9 142 rfl) rfl
theorem q2139 : (Jvm.Cond.methodLink "DomeNightsModel" (124 : Nat) ({ cls := "DomeNightsModel", name := "lose", desc := "(II)V" } : Jvm.MethodName)) ∈ lw_all := lw_g (lw_at lw_m9 143 rfl) rfl
theorem q2140 : (Jvm.Cond.privateMethod ({ cls := "DomeNightsModel", name := "lose", desc := "(II)V" } : Jvm.MethodName)) ∈ lw_tbl := lw_at lw_m9 144 rfl
theorem q2141 : (Jvm.Cond.instanceMethod ({ cls := "DomeNightsModel", name := "lose", desc := "(II)V" } : Jvm.MethodName)) ∈ lw_all := lw_g (lw_at lw_m9 145 rfl) rfl
theorem q2142 : (Jvm.Cond.code ({ cls := "DomeNightsModel", name := "lose", desc := "(II)V" } : Jvm.MethodName) prog_12_method_35_code (3 : Nat) (Option.none : Option Jvm.ClassFile.FieldType)) ∈ lw_all := lw_g (lw_at lw_m9 146 rfl) rfl
theorem q2143 : (Jvm.Cond.methodLink "DomeNightsModel" (127 : Nat) ({ cls := "DomeNightsModel", name := "tallyMoved", desc := "(III)V" } : Jvm.MethodName)) ∈ lw_all := lw_g (lw_at lw_m9 147 rfl) rfl
theorem q2144 : (Jvm.Cond.privateMethod ({ cls := "DomeNightsModel", name := "tallyMoved", desc := "(III)V" } : Jvm.MethodName)) ∈ lw_tbl := lw_at lw_m9 148 rfl
theorem q2145 : (Jvm.Cond.instanceMethod ({ cls := "DomeNightsModel", name := "tallyMoved", desc := "(III)V" } : Jvm.MethodName)) ∈ lw_all := lw_g (lw_at lw_m9 149 rfl) rfl
theorem q2146 : (Jvm.Cond.code ({ cls := "DomeNightsModel", name := "tallyMoved", desc := "(III)V" } : Jvm.MethodName) prog_12_method_38_code (7 : Nat) (Option.none : Option Jvm.ClassFile.FieldType)) ∈ lw_all := lw_g (lw_at lw_m9 150 rfl) rfl
theorem q2148 : (Jvm.Cond.instanceMethod ({ cls := "DomeNightsModel", name := "promise", desc := "(IIII)I" } : Jvm.MethodName)) ∈ lw_all := lw_g (lw_at lw_m9 152 rfl) rfl
theorem q2149 : (Jvm.Cond.selects "DomeNightsModel" ({ cls := "DomeNightsModel", name := "promise", desc := "(IIII)I" } : Jvm.MethodName) ({ cls := "DomeNightsModel", name := "promise", desc := "(IIII)I" } : Jvm.MethodName)) ∈ lw_all := lw_g (lw_at lw_m9 153 rfl) rfl
theorem q2150 : (Jvm.Cond.code ({ cls := "DomeNightsModel", name := "promise", desc := "(IIII)I" } : Jvm.MethodName) prog_12_method_42_code (7 : Nat) (Option.some Jvm.ClassFile.FieldType.int)) ∈ lw_all := lw_g (lw_at lw_m9 154 rfl) rfl
theorem q2152 : (Jvm.Cond.instanceMethod ({ cls := "DomeNightsModel", name := "pass", desc := "(I)I" } : Jvm.MethodName)) ∈ lw_all := lw_g (lw_at lw_m9 156 rfl) rfl
theorem q2153 : (Jvm.Cond.selects "DomeNightsModel" ({ cls := "DomeNightsModel", name := "pass", desc := "(I)I" } : Jvm.MethodName) ({ cls := "DomeNightsModel", name := "pass", desc := "(I)I" } : Jvm.MethodName)) ∈ lw_all := lw_g (lw_at lw_m9 157 rfl) rfl
theorem q2154 : (Jvm.Cond.code ({ cls := "DomeNightsModel", name := "pass", desc := "(I)I" } : Jvm.MethodName) prog_12_method_48_code (4 : Nat) (Option.some Jvm.ClassFile.FieldType.int)) ∈ lw_all := lw_g (lw_at lw_m9 158 rfl) rfl
theorem q2155 : (Jvm.Cond.methodLink "DomeNightsModel" (152 : Nat) ({ cls := "DomeNightsModel", name := "showsIn", desc := "(I)I" } : Jvm.MethodName)) ∈ lw_all := lw_g (lw_at lw_m9 159 rfl) rfl
theorem q2156 : (Jvm.Cond.privateMethod ({ cls := "DomeNightsModel", name := "showsIn", desc := "(I)I" } : Jvm.MethodName)) ∈ lw_tbl := lw_at lw_m9 160 rfl
theorem q2157 : (Jvm.Cond.instanceMethod ({ cls := "DomeNightsModel", name := "showsIn", desc := "(I)I" } : Jvm.MethodName)) ∈ lw_all := lw_g (lw_at lw_m9 161 rfl) rfl
theorem q2158 : (Jvm.Cond.code ({ cls := "DomeNightsModel", name := "showsIn", desc := "(I)I" } : Jvm.MethodName) prog_12_method_47_code (4 : Nat) (Option.some Jvm.ClassFile.FieldType.int)) ∈ lw_all := lw_g (lw_at lw_m9 162 rfl) rfl
theorem q2159 : (Jvm.Cond.methodLink "DomeNightsModel" (155 : Nat) ({ cls := "DomeNightsModel", name := "passDay", desc := "()V" } : Jvm.MethodName)) ∈ lw_all := lw_g (lw_at lw_m9 163 rfl) rfl
theorem q2160 : (Jvm.Cond.privateMethod ({ cls := "DomeNightsModel", name := "passDay", desc := "()V" } : Jvm.MethodName)) ∈ lw_tbl := lw_at lw_m9 164 rfl
theorem q2161 : (Jvm.Cond.instanceMethod ({ cls := "DomeNightsModel", name := "passDay", desc := "()V" } : Jvm.MethodName)) ∈ lw_all := lw_g (lw_at lw_m9 165 rfl) rfl
theorem q2162 : (Jvm.Cond.code ({ cls := "DomeNightsModel", name := "passDay", desc := "()V" } : Jvm.MethodName) prog_12_method_46_code (3 : Nat) (Option.none : Option Jvm.ClassFile.FieldType)) ∈ lw_all := lw_g (lw_at lw_m9 166 rfl) rfl
theorem q2163 : (Jvm.Cond.methodLink "DomeNightsModel" (149 : Nat) ({ cls := "DomeNightsModel", name := "hold", desc := "(I)V" } : Jvm.MethodName)) ∈ lw_all := lw_g (lw_at lw_m9 167 rfl) rfl
theorem q2164 : (Jvm.Cond.privateMethod ({ cls := "DomeNightsModel", name := "hold", desc := "(I)V" } : Jvm.MethodName)) ∈ lw_tbl := lw_at lw_m9 168 rfl
theorem q2165 : (Jvm.Cond.instanceMethod ({ cls := "DomeNightsModel", name := "hold", desc := "(I)V" } : Jvm.MethodName)) ∈ lw_all := lw_g (lw_at lw_m9 169 rfl) rfl
theorem q2166 : (Jvm.Cond.code ({ cls := "DomeNightsModel", name := "hold", desc := "(I)V" } : Jvm.MethodName) prog_12_method_45_code (9 : Nat) (Option.none : Option Jvm.ClassFile.FieldType)) ∈ lw_all := lw_g (lw_at lw_m9 170 rfl) rfl
theorem q2167 : (Jvm.Cond.methodLink "DomeNightsModel" (143 : Nat) ({ cls := "DomeNightsModel", name := "hasLight", desc := "(I)Z" } : Jvm.MethodName)) ∈ lw_all := lw_g (lw_at lw_m9 171 rfl) rfl
theorem q2168 : (Jvm.Cond.privateMethod ({ cls := "DomeNightsModel", name := "hasLight", desc := "(I)Z" } : Jvm.MethodName)) ∈ lw_tbl := lw_at lw_m9 172 rfl
theorem q2169 : (Jvm.Cond.instanceMethod ({ cls := "DomeNightsModel", name := "hasLight", desc := "(I)Z" } : Jvm.MethodName)) ∈ lw_all := lw_g (lw_at lw_m9 173 rfl) rfl
theorem q2170 : (Jvm.Cond.code ({ cls := "DomeNightsModel", name := "hasLight", desc := "(I)Z" } : Jvm.MethodName) prog_12_method_43_code (6 : Nat) (Option.some Jvm.ClassFile.FieldType.boolean)) ∈ lw_all := lw_g (lw_at lw_m9 174 rfl) rfl
theorem q2171 : (Jvm.Cond.methodLink "DomeNightsModel" (140 : Nat) ({ cls := "DomeNightsModel", name := "brightOf", desc := "(I)I" } : Jvm.MethodName)) ∈ lw_all := lw_g (lw_at lw_m9 175 rfl) rfl
theorem q2172 : (Jvm.Cond.privateMethod ({ cls := "DomeNightsModel", name := "brightOf", desc := "(I)I" } : Jvm.MethodName)) ∈ lw_tbl := lw_at lw_m9 176 rfl
theorem q2173 : (Jvm.Cond.instanceMethod ({ cls := "DomeNightsModel", name := "brightOf", desc := "(I)I" } : Jvm.MethodName)) ∈ lw_all := lw_g (lw_at lw_m9 177 rfl) rfl
theorem q2174 : (Jvm.Cond.code ({ cls := "DomeNightsModel", name := "brightOf", desc := "(I)I" } : Jvm.MethodName) prog_12_method_14_code (2 : Nat) (Option.some Jvm.ClassFile.FieldType.int)) ∈ lw_all := lw_g (lw_at lw_m9 178 rfl) rfl
theorem q2175 : (Jvm.Cond.methodLink "DomeNightsModel" (60 : Nat) ({ cls := "DomeNightsModel", name := "bright", desc := "(II)I" } : Jvm.MethodName)) ∈ lw_all := lw_g (lw_at lw_m9 179 rfl) rfl
theorem q2176 : (Jvm.Cond.static ({ cls := "DomeNightsModel", name := "bright", desc := "(II)I" } : Jvm.MethodName)) ∈ lw_all := lw_g (lw_at lw_m9 180 rfl) rfl
theorem q2177 : (Jvm.Cond.code ({ cls := "DomeNightsModel", name := "bright", desc := "(II)I" } : Jvm.MethodName) prog_12_method_13_code (2 : Nat) (Option.some Jvm.ClassFile.FieldType.int)) ∈ lw_all := lw_g (lw_at lw_m9 181 rfl) rfl
theorem q2178 : (Jvm.Cond.methodLink "DomeNightsModel" (146 : Nat) ({ cls := "DomeNightsModel", name := "close", desc := "(II)V" } : Jvm.MethodName)) ∈ lw_all := lw_g (lw_at lw_m9 182 rfl) rfl
theorem q2179 : (Jvm.Cond.privateMethod ({ cls := "DomeNightsModel", name := "close", desc := "(II)V" } : Jvm.MethodName)) ∈ lw_tbl := lw_at lw_m9 183 rfl
theorem q2180 : (Jvm.Cond.instanceMethod ({ cls := "DomeNightsModel", name := "close", desc := "(II)V" } : Jvm.MethodName)) ∈ lw_all := lw_g (lw_at lw_m9 184 rfl) rfl
theorem q2181 : (Jvm.Cond.code ({ cls := "DomeNightsModel", name := "close", desc := "(II)V" } : Jvm.MethodName) prog_12_method_44_code (4 : Nat) (Option.none : Option Jvm.ClassFile.FieldType)) ∈ lw_all := lw_g (lw_at lw_m9 185 rfl) rfl
theorem q2183 : (Jvm.Cond.instanceMethod ({ cls := "DomeNightsModel", name := "ofKind", desc := "(II)I" } : Jvm.MethodName)) ∈ lw_all := lw_g (lw_at lw_m9 187 rfl) rfl
theorem q2184 : (Jvm.Cond.selects "DomeNightsModel" ({ cls := "DomeNightsModel", name := "ofKind", desc := "(II)I" } : Jvm.MethodName) ({ cls := "DomeNightsModel", name := "ofKind", desc := "(II)I" } : Jvm.MethodName)) ∈ lw_all := lw_g (lw_at lw_m9 188 rfl) rfl
theorem q2185 : (Jvm.Cond.code ({ cls := "DomeNightsModel", name := "ofKind", desc := "(II)I" } : Jvm.MethodName) prog_12_method_49_code (5 : Nat) (Option.some Jvm.ClassFile.FieldType.int)) ∈ lw_all := lw_g (lw_at lw_m9 189 rfl) rfl
theorem q2187 : (Jvm.Cond.instanceMethod ({ cls := "DomeNightsModel", name := "ofLamp", desc := "(II)I" } : Jvm.MethodName)) ∈ lw_all := lw_g (lw_at lw_m9 191 rfl) rfl
theorem q2188 : (Jvm.Cond.selects "DomeNightsModel" ({ cls := "DomeNightsModel", name := "ofLamp", desc := "(II)I" } : Jvm.MethodName) ({ cls := "DomeNightsModel", name := "ofLamp", desc := "(II)I" } : Jvm.MethodName)) ∈ lw_all := lw_g (lw_at lw_m9 192 rfl) rfl
theorem q2189 : (Jvm.Cond.code ({ cls := "DomeNightsModel", name := "ofLamp", desc := "(II)I" } : Jvm.MethodName) prog_12_method_50_code (3 : Nat) (Option.some Jvm.ClassFile.FieldType.int)) ∈ lw_all := lw_g (lw_at lw_m9 193 rfl) rfl
theorem q2191 : (Jvm.Cond.instanceMethod ({ cls := "DomeNightsModel", name := "show", desc := "(II)I" } : Jvm.MethodName)) ∈ lw_all := lw_g (lw_at lw_m9 195 rfl) rfl
theorem q2192 : (Jvm.Cond.selects "DomeNightsModel" ({ cls := "DomeNightsModel", name := "show", desc := "(II)I" } : Jvm.MethodName) ({ cls := "DomeNightsModel", name := "show", desc := "(II)I" } : Jvm.MethodName)) ∈ lw_all := lw_g (lw_at lw_m9 196 rfl) rfl
theorem q2193 : (Jvm.Cond.code ({ cls := "DomeNightsModel", name := "show", desc := "(II)I" } : Jvm.MethodName) prog_12_method_52_code (3 : Nat) (Option.some Jvm.ClassFile.FieldType.int)) ∈ lw_all := lw_g (lw_at lw_m9 197 rfl) rfl
theorem q2194 : (Jvm.Cond.methodLink "DomeNightsModel" (158 : Nat) ({ cls := "DomeNightsModel", name := "sumOf", desc := "(II)I" } : Jvm.MethodName)) ∈ lw_all := lw_g (lw_at lw_m9 198 rfl) rfl
theorem q2195 : (Jvm.Cond.privateMethod ({ cls := "DomeNightsModel", name := "sumOf", desc := "(II)I" } : Jvm.MethodName)) ∈ lw_tbl := lw_at lw_m9 199 rfl
theorem q2196 : (Jvm.Cond.instanceMethod ({ cls := "DomeNightsModel", name := "sumOf", desc := "(II)I" } : Jvm.MethodName)) ∈ lw_all := lw_g (lw_at lw_m9 200 rfl) rfl
theorem q2197 : (Jvm.Cond.code ({ cls := "DomeNightsModel", name := "sumOf", desc := "(II)I" } : Jvm.MethodName) prog_12_method_51_code (5 : Nat) (Option.some Jvm.ClassFile.FieldType.int)) ∈ lw_all := lw_g (lw_at lw_m9 201 rfl) rfl
theorem q2199 : (Jvm.Cond.instanceMethod ({ cls := "DomeNightsModel", name := "free", desc := "(II)I" } : Jvm.MethodName)) ∈ lw_all := lw_g (lw_at lw_m9 203 rfl) rfl
theorem q2200 : (Jvm.Cond.selects "DomeNightsModel" ({ cls := "DomeNightsModel", name := "free", desc := "(II)I" } : Jvm.MethodName) ({ cls := "DomeNightsModel", name := "free", desc := "(II)I" } : Jvm.MethodName)) ∈ lw_all := lw_g (lw_at lw_m9 204 rfl) rfl
theorem q2201 : (Jvm.Cond.code ({ cls := "DomeNightsModel", name := "free", desc := "(II)I" } : Jvm.MethodName) prog_12_method_53_code (3 : Nat) (Option.some Jvm.ClassFile.FieldType.int)) ∈ lw_all := lw_g (lw_at lw_m9 205 rfl) rfl
theorem q2203 : (Jvm.Cond.instanceMethod ({ cls := "DomeNightsModel", name := "booking", desc := "(II)I" } : Jvm.MethodName)) ∈ lw_all := lw_g (lw_at lw_m9 207 rfl) rfl
theorem q2204 : (Jvm.Cond.selects "DomeNightsModel" ({ cls := "DomeNightsModel", name := "booking", desc := "(II)I" } : Jvm.MethodName) ({ cls := "DomeNightsModel", name := "booking", desc := "(II)I" } : Jvm.MethodName)) ∈ lw_all := lw_g (lw_at lw_m9 208 rfl) rfl
theorem q2205 : (Jvm.Cond.code ({ cls := "DomeNightsModel", name := "booking", desc := "(II)I" } : Jvm.MethodName) prog_12_method_54_code (3 : Nat) (Option.some Jvm.ClassFile.FieldType.int)) ∈ lw_all := lw_g (lw_at lw_m9 209 rfl) rfl
theorem q2207 : (Jvm.Cond.instanceMethod ({ cls := "DomeNightsModel", name := "ofPromise", desc := "(II)I" } : Jvm.MethodName)) ∈ lw_all := lw_g (lw_at lw_m9 211 rfl) rfl
theorem q2208 : (Jvm.Cond.selects "DomeNightsModel" ({ cls := "DomeNightsModel", name := "ofPromise", desc := "(II)I" } : Jvm.MethodName) ({ cls := "DomeNightsModel", name := "ofPromise", desc := "(II)I" } : Jvm.MethodName)) ∈ lw_all := lw_g (lw_at lw_m9 212 rfl) rfl
theorem q2209 : (Jvm.Cond.code ({ cls := "DomeNightsModel", name := "ofPromise", desc := "(II)I" } : Jvm.MethodName) prog_12_method_56_code (3 : Nat) (Option.some Jvm.ClassFile.FieldType.int)) ∈ lw_all := lw_g (lw_at lw_m9 213 rfl) rfl
theorem q2210 : (Jvm.Cond.methodLink "DomeNightsModel" (161 : Nat) ({ cls := "DomeNightsModel", name := "isPromise", desc := "(I)Z" } : Jvm.MethodName)) ∈ lw_all := lw_g (lw_at lw_m9 214 rfl) rfl
theorem q2211 : (Jvm.Cond.privateMethod ({ cls := "DomeNightsModel", name := "isPromise", desc := "(I)Z" } : Jvm.MethodName)) ∈ lw_tbl := lw_at lw_m9 215 rfl
theorem q2212 : (Jvm.Cond.instanceMethod ({ cls := "DomeNightsModel", name := "isPromise", desc := "(I)Z" } : Jvm.MethodName)) ∈ lw_all := lw_g (lw_at lw_m9 216 rfl) rfl
theorem q2213 : (Jvm.Cond.code ({ cls := "DomeNightsModel", name := "isPromise", desc := "(I)Z" } : Jvm.MethodName) prog_12_method_41_code (2 : Nat) (Option.some Jvm.ClassFile.FieldType.boolean)) ∈ lw_all := lw_g (lw_at lw_m9 217 rfl) rfl
theorem q2214 : (Jvm.Cond.methodLink "DomeNightsModel" (164 : Nat) ({ cls := "DomeNightsModel", name := "wouldBeSeen", desc := "(I)I" } : Jvm.MethodName)) ∈ lw_all := lw_g (lw_at lw_m9 218 rfl) rfl
theorem q2215 : (Jvm.Cond.privateMethod ({ cls := "DomeNightsModel", name := "wouldBeSeen", desc := "(I)I" } : Jvm.MethodName)) ∈ lw_tbl := lw_at lw_m9 219 rfl
theorem q2216 : (Jvm.Cond.instanceMethod ({ cls := "DomeNightsModel", name := "wouldBeSeen", desc := "(I)I" } : Jvm.MethodName)) ∈ lw_all := lw_g (lw_at lw_m9 220 rfl) rfl
theorem q2217 : (Jvm.Cond.code ({ cls := "DomeNightsModel", name := "wouldBeSeen", desc := "(I)I" } : Jvm.MethodName) prog_12_method_55_code (7 : Nat) (Option.some Jvm.ClassFile.FieldType.int)) ∈ lw_all := lw_g (lw_at lw_m9 221 rfl) rfl
theorem q2219 : (Jvm.Cond.instanceMethod ({ cls := "DomeNightsModel", name := "reason", desc := "(I)I" } : Jvm.MethodName)) ∈ lw_all := lw_g (lw_at lw_m9 223 rfl) rfl
theorem q2220 : (Jvm.Cond.selects "DomeNightsModel" ({ cls := "DomeNightsModel", name := "reason", desc := "(I)I" } : Jvm.MethodName) ({ cls := "DomeNightsModel", name := "reason", desc := "(I)I" } : Jvm.MethodName)) ∈ lw_all := lw_g (lw_at lw_m9 224 rfl) rfl
theorem q2221 : (Jvm.Cond.code ({ cls := "DomeNightsModel", name := "reason", desc := "(I)I" } : Jvm.MethodName) prog_12_method_57_code (6 : Nat) (Option.some Jvm.ClassFile.FieldType.int)) ∈ lw_all := lw_g (lw_at lw_m9 225 rfl) rfl
theorem q2223 : (Jvm.Cond.instanceMethod ({ cls := "DomeNightsModel", name := "at", desc := "(II)I" } : Jvm.MethodName)) ∈ lw_all := lw_g (lw_at lw_m9 227 rfl) rfl
theorem q2224 : (Jvm.Cond.selects "DomeNightsModel" ({ cls := "DomeNightsModel", name := "at", desc := "(II)I" } : Jvm.MethodName) ({ cls := "DomeNightsModel", name := "at", desc := "(II)I" } : Jvm.MethodName)) ∈ lw_all := lw_g (lw_at lw_m9 228 rfl) rfl
theorem q2225 : (Jvm.Cond.code ({ cls := "DomeNightsModel", name := "at", desc := "(II)I" } : Jvm.MethodName) prog_12_method_58_code (4 : Nat) (Option.some Jvm.ClassFile.FieldType.int)) ∈ lw_all := lw_g (lw_at lw_m9 229 rfl) rfl
theorem q2227 : (Jvm.Cond.instanceMethod ({ cls := "DomeNightsModel", name := "count", desc := "(I)I" } : Jvm.MethodName)) ∈ lw_all := lw_g (lw_at lw_m9 231 rfl) rfl
theorem q2228 : (Jvm.Cond.selects "DomeNightsModel" ({ cls := "DomeNightsModel", name := "count", desc := "(I)I" } : Jvm.MethodName) ({ cls := "DomeNightsModel", name := "count", desc := "(I)I" } : Jvm.MethodName)) ∈ lw_all := lw_g (lw_at lw_m9 232 rfl) rfl
theorem q2229 : (Jvm.Cond.code ({ cls := "DomeNightsModel", name := "count", desc := "(I)I" } : Jvm.MethodName) prog_12_method_59_code (4 : Nat) (Option.some Jvm.ClassFile.FieldType.int)) ∈ lw_all := lw_g (lw_at lw_m9 233 rfl) rfl
theorem q2231 : (Jvm.Cond.instanceMethod ({ cls := "DomeNightsModel", name := "money", desc := "(I)I" } : Jvm.MethodName)) ∈ lw_all := lw_g (lw_at lw_m9 235 rfl) rfl
theorem q2232 : (Jvm.Cond.selects "DomeNightsModel" ({ cls := "DomeNightsModel", name := "money", desc := "(I)I" } : Jvm.MethodName) ({ cls := "DomeNightsModel", name := "money", desc := "(I)I" } : Jvm.MethodName)) ∈ lw_all := lw_g (lw_at lw_m9 236 rfl) rfl
theorem q2233 : (Jvm.Cond.code ({ cls := "DomeNightsModel", name := "money", desc := "(I)I" } : Jvm.MethodName) prog_12_method_60_code (7 : Nat) (Option.some Jvm.ClassFile.FieldType.int)) ∈ lw_all := lw_g (lw_at lw_m9 237 rfl) rfl
theorem q2235 : (Jvm.Cond.instanceMethod ({ cls := "DomeNightsModel", name := "brightness", desc := "(I)I" } : Jvm.MethodName)) ∈ lw_all := lw_g (lw_at lw_m9 239 rfl) rfl
theorem q2236 : (Jvm.Cond.selects "DomeNightsModel" ({ cls := "DomeNightsModel", name := "brightness", desc := "(I)I" } : Jvm.MethodName) ({ cls := "DomeNightsModel", name := "brightness", desc := "(I)I" } : Jvm.MethodName)) ∈ lw_all := lw_g (lw_at lw_m10 0 rfl) rfl
theorem q2237 : (Jvm.Cond.code ({ cls := "DomeNightsModel", name := "brightness", desc := "(I)I" } : Jvm.MethodName) prog_12_method_61_code (4 : Nat) (Option.some Jvm.ClassFile.FieldType.int)) ∈ lw_all := lw_g (lw_at lw_m10 1 rfl) rfl
theorem q2238 : (Jvm.Cond.methodLink "DomeNightsModel" (170 : Nat) ({ cls := "DomeNightsModel", name := "keep", desc := "()V" } : Jvm.MethodName)) ∈ lw_all := lw_g (lw_at lw_m10 2 rfl) rfl
theorem q2239 : (Jvm.Cond.privateMethod ({ cls := "DomeNightsModel", name := "keep", desc := "()V" } : Jvm.MethodName)) ∈ lw_tbl := lw_at lw_m10 3 rfl
theorem q2240 : (Jvm.Cond.instanceMethod ({ cls := "DomeNightsModel", name := "keep", desc := "()V" } : Jvm.MethodName)) ∈ lw_all := lw_g (lw_at lw_m10 4 rfl) rfl
theorem q2241 : (Jvm.Cond.code ({ cls := "DomeNightsModel", name := "keep", desc := "()V" } : Jvm.MethodName) prog_12_method_4_code (2 : Nat) (Option.none : Option Jvm.ClassFile.FieldType)) ∈ lw_all := lw_g (lw_at lw_m10 5 rfl) rfl
theorem q2242 : (Jvm.Cond.methodLink "DomeNightsModel" (173 : Nat) ({ cls := "DomeNightsModel", name := "comeBack", desc := "()V" } : Jvm.MethodName)) ∈ lw_all := lw_g (lw_at lw_m10 6 rfl) rfl
theorem q2243 : (Jvm.Cond.privateMethod ({ cls := "DomeNightsModel", name := "comeBack", desc := "()V" } : Jvm.MethodName)) ∈ lw_tbl := lw_at lw_m10 7 rfl
theorem q2244 : (Jvm.Cond.instanceMethod ({ cls := "DomeNightsModel", name := "comeBack", desc := "()V" } : Jvm.MethodName)) ∈ lw_all := lw_g (lw_at lw_m10 8 rfl) rfl
theorem q2245 : (Jvm.Cond.code ({ cls := "DomeNightsModel", name := "comeBack", desc := "()V" } : Jvm.MethodName) prog_12_method_5_code (2 : Nat) (Option.none : Option Jvm.ClassFile.FieldType)) ∈ lw_all := lw_g (lw_at lw_m10 9 rfl) rfl
theorem q2247 : (Jvm.Cond.instanceMethod ({ cls := "DomeNightsModel", name := "stateIn", desc := "(II)I" } : Jvm.MethodName)) ∈ lw_all := lw_g (lw_at lw_m10 11 rfl) rfl
theorem q2248 : (Jvm.Cond.selects "DomeNightsModel" ({ cls := "DomeNightsModel", name := "stateIn", desc := "(II)I" } : Jvm.MethodName) ({ cls := "DomeNightsModel", name := "stateIn", desc := "(II)I" } : Jvm.MethodName)) ∈ lw_all := lw_g (lw_at lw_m10 12 rfl) rfl
theorem q2249 : (Jvm.Cond.code ({ cls := "DomeNightsModel", name := "stateIn", desc := "(II)I" } : Jvm.MethodName) prog_12_method_62_code (4 : Nat) (Option.some Jvm.ClassFile.FieldType.int)) ∈ lw_all := lw_g (lw_at lw_m10 13 rfl) rfl
theorem q2251 : (Jvm.Cond.instanceMethod ({ cls := "DomeNightsModel", name := "nextFree", desc := "(II)I" } : Jvm.MethodName)) ∈ lw_all := lw_g (lw_at lw_m10 15 rfl) rfl
theorem q2252 : (Jvm.Cond.selects "DomeNightsModel" ({ cls := "DomeNightsModel", name := "nextFree", desc := "(II)I" } : Jvm.MethodName) ({ cls := "DomeNightsModel", name := "nextFree", desc := "(II)I" } : Jvm.MethodName)) ∈ lw_all := lw_g (lw_at lw_m10 16 rfl) rfl
theorem q2253 : (Jvm.Cond.code ({ cls := "DomeNightsModel", name := "nextFree", desc := "(II)I" } : Jvm.MethodName) prog_12_method_63_code (3 : Nat) (Option.some Jvm.ClassFile.FieldType.int)) ∈ lw_all := lw_g (lw_at lw_m10 17 rfl) rfl
theorem q2255 : (Jvm.Cond.instanceMethod ({ cls := "DomeNightsModel", name := "wouldDisplace", desc := "(IIII)I" } : Jvm.MethodName)) ∈ lw_all := lw_g (lw_at lw_m10 19 rfl) rfl
theorem q2256 : (Jvm.Cond.selects "DomeNightsModel" ({ cls := "DomeNightsModel", name := "wouldDisplace", desc := "(IIII)I" } : Jvm.MethodName) ({ cls := "DomeNightsModel", name := "wouldDisplace", desc := "(IIII)I" } : Jvm.MethodName)) ∈ lw_all := lw_g (lw_at lw_m10 20 rfl) rfl
theorem q2257 : (Jvm.Cond.code ({ cls := "DomeNightsModel", name := "wouldDisplace", desc := "(IIII)I" } : Jvm.MethodName) prog_12_method_64_code (6 : Nat) (Option.some Jvm.ClassFile.FieldType.int)) ∈ lw_all := lw_g (lw_at lw_m10 21 rfl) rfl
theorem q2259 : (Jvm.Cond.instanceMethod ({ cls := "DomeNightsModel", name := "leastLife", desc := "()I" } : Jvm.MethodName)) ∈ lw_all := lw_g (lw_at lw_m10 23 rfl) rfl
theorem q2260 : (Jvm.Cond.selects "DomeNightsModel" ({ cls := "DomeNightsModel", name := "leastLife", desc := "()I" } : Jvm.MethodName) ({ cls := "DomeNightsModel", name := "leastLife", desc := "()I" } : Jvm.MethodName)) ∈ lw_all := lw_g (lw_at lw_m10 24 rfl) rfl
theorem q2261 : (Jvm.Cond.code ({ cls := "DomeNightsModel", name := "leastLife", desc := "()I" } : Jvm.MethodName) prog_12_method_67_code (2 : Nat) (Option.some Jvm.ClassFile.FieldType.int)) ∈ lw_all := lw_g (lw_at lw_m10 25 rfl) rfl
theorem q2262 : (Jvm.Cond.methodLink "DomeNightsModel" (179 : Nat) ({ cls := "DomeNightsModel", name := "layOrder", desc := "()V" } : Jvm.MethodName)) ∈ lw_all := lw_g (lw_at lw_m10 26 rfl) rfl
theorem q2263 : (Jvm.Cond.privateMethod ({ cls := "DomeNightsModel", name := "layOrder", desc := "()V" } : Jvm.MethodName)) ∈ lw_tbl := lw_at lw_m10 27 rfl
theorem q2264 : (Jvm.Cond.instanceMethod ({ cls := "DomeNightsModel", name := "layOrder", desc := "()V" } : Jvm.MethodName)) ∈ lw_all := lw_g (lw_at lw_m10 28 rfl) rfl
theorem q2265 : (Jvm.Cond.code ({ cls := "DomeNightsModel", name := "layOrder", desc := "()V" } : Jvm.MethodName) prog_12_method_65_code (7 : Nat) (Option.none : Option Jvm.ClassFile.FieldType)) ∈ lw_all := lw_g (lw_at lw_m10 29 rfl) rfl
theorem q2266 : (Jvm.Cond.methodLink "DomeNightsModel" (182 : Nat) ({ cls := "DomeNightsModel", name := "doesFor", desc := "(I)Z" } : Jvm.MethodName)) ∈ lw_all := lw_g (lw_at lw_m10 30 rfl) rfl
theorem q2267 : (Jvm.Cond.privateMethod ({ cls := "DomeNightsModel", name := "doesFor", desc := "(I)Z" } : Jvm.MethodName)) ∈ lw_tbl := lw_at lw_m10 31 rfl
theorem q2268 : (Jvm.Cond.instanceMethod ({ cls := "DomeNightsModel", name := "doesFor", desc := "(I)Z" } : Jvm.MethodName)) ∈ lw_all := lw_g (lw_at lw_m10 32 rfl) rfl
theorem q2269 : (Jvm.Cond.code ({ cls := "DomeNightsModel", name := "doesFor", desc := "(I)Z" } : Jvm.MethodName) prog_12_method_66_code (5 : Nat) (Option.some Jvm.ClassFile.FieldType.boolean)) ∈ lw_all := lw_g (lw_at lw_m10 33 rfl) rfl
theorem q2271 : (Jvm.Cond.instanceMethod ({ cls := "DomeNightsModel", name := "mostShows", desc := "(II)I" } : Jvm.MethodName)) ∈ lw_all := lw_g (lw_at lw_m10 35 rfl) rfl
theorem q2272 : (Jvm.Cond.selects "DomeNightsModel" ({ cls := "DomeNightsModel", name := "mostShows", desc := "(II)I" } : Jvm.MethodName) ({ cls := "DomeNightsModel", name := "mostShows", desc := "(II)I" } : Jvm.MethodName)) ∈ lw_all := lw_g (lw_at lw_m10 36 rfl) rfl
theorem q2273 : (Jvm.Cond.code ({ cls := "DomeNightsModel", name := "mostShows", desc := "(II)I" } : Jvm.MethodName) prog_12_method_68_code (6 : Nat) (Option.some Jvm.ClassFile.FieldType.int)) ∈ lw_all := lw_g (lw_at lw_m10 37 rfl) rfl
theorem q2275 : (Jvm.Cond.instanceMethod ({ cls := "DomeNightsModel", name := "rowFor", desc := "(II)I" } : Jvm.MethodName)) ∈ lw_all := lw_g (lw_at lw_m10 39 rfl) rfl
theorem q2276 : (Jvm.Cond.selects "DomeNightsModel" ({ cls := "DomeNightsModel", name := "rowFor", desc := "(II)I" } : Jvm.MethodName) ({ cls := "DomeNightsModel", name := "rowFor", desc := "(II)I" } : Jvm.MethodName)) ∈ lw_all := lw_g (lw_at lw_m10 40 rfl) rfl
theorem q2277 : (Jvm.Cond.code ({ cls := "DomeNightsModel", name := "rowFor", desc := "(II)I" } : Jvm.MethodName) prog_12_method_69_code (3 : Nat) (Option.some Jvm.ClassFile.FieldType.int)) ∈ lw_all := lw_g (lw_at lw_m10 41 rfl) rfl
theorem q2279 : (Jvm.Cond.instanceMethod ({ cls := "DomeNightsModel", name := "put", desc := "(J)I" } : Jvm.MethodName)) ∈ lw_all := lw_g (lw_at lw_m10 43 rfl) rfl
theorem q2280 : (Jvm.Cond.selects "DomeNightsModel" ({ cls := "DomeNightsModel", name := "put", desc := "(J)I" } : Jvm.MethodName) ({ cls := "DomeNightsModel", name := "put", desc := "(J)I" } : Jvm.MethodName)) ∈ lw_all := lw_g (lw_at lw_m10 44 rfl) rfl
theorem q2281 : (Jvm.Cond.code ({ cls := "DomeNightsModel", name := "put", desc := "(J)I" } : Jvm.MethodName) prog_12_method_76_code (7 : Nat) (Option.some Jvm.ClassFile.FieldType.int)) ∈ lw_all := lw_g (lw_at lw_m10 45 rfl) rfl
theorem q2282 : (Jvm.Cond.constantLong "DomeNightsModel" (209 : Nat) (255 : Int64)) ∈ lw_all := lw_g (lw_at lw_m10 46 rfl) rfl
theorem q2284 : (Jvm.Cond.instanceMethod ({ cls := "DomeNightsModel", name := "wipe", desc := "()I" } : Jvm.MethodName)) ∈ lw_all := lw_g (lw_at lw_m10 48 rfl) rfl
theorem q2285 : (Jvm.Cond.selects "DomeNightsModel" ({ cls := "DomeNightsModel", name := "wipe", desc := "()I" } : Jvm.MethodName) ({ cls := "DomeNightsModel", name := "wipe", desc := "()I" } : Jvm.MethodName)) ∈ lw_all := lw_g (lw_at lw_m10 49 rfl) rfl
theorem q2286 : (Jvm.Cond.code ({ cls := "DomeNightsModel", name := "wipe", desc := "()I" } : Jvm.MethodName) prog_12_method_77_code (2 : Nat) (Option.some Jvm.ClassFile.FieldType.int)) ∈ lw_all := lw_g (lw_at lw_m10 50 rfl) rfl
theorem q2288 : (Jvm.Cond.instanceMethod ({ cls := "DomeNightsModel", name := "fault", desc := "()I" } : Jvm.MethodName)) ∈ lw_all := lw_g (lw_at lw_m10 52 rfl) rfl
theorem q2289 : (Jvm.Cond.selects "DomeNightsModel" ({ cls := "DomeNightsModel", name := "fault", desc := "()I" } : Jvm.MethodName) ({ cls := "DomeNightsModel", name := "fault", desc := "()I" } : Jvm.MethodName)) ∈ lw_all := lw_g (lw_at lw_m10 53 rfl) rfl
theorem q2290 : (Jvm.Cond.code ({ cls := "DomeNightsModel", name := "fault", desc := "()I" } : Jvm.MethodName) prog_12_method_78_code (1 : Nat) (Option.some Jvm.ClassFile.FieldType.int)) ∈ lw_all := lw_g (lw_at lw_m10 54 rfl) rfl
theorem q2291 : (Jvm.Cond.methodLink "DomeNightsModel" (211 : Nat) ({ cls := "DomeNightsModel", name := "faultOf", desc := "()I" } : Jvm.MethodName)) ∈ lw_all := lw_g (lw_at lw_m10 55 rfl) rfl
theorem q2292 : (Jvm.Cond.privateMethod ({ cls := "DomeNightsModel", name := "faultOf", desc := "()I" } : Jvm.MethodName)) ∈ lw_tbl := lw_at lw_m10 56 rfl
theorem q2293 : (Jvm.Cond.instanceMethod ({ cls := "DomeNightsModel", name := "faultOf", desc := "()I" } : Jvm.MethodName)) ∈ lw_all := lw_g (lw_at lw_m10 57 rfl) rfl
theorem q2294 : (Jvm.Cond.code ({ cls := "DomeNightsModel", name := "faultOf", desc := "()I" } : Jvm.MethodName) prog_12_method_75_code (1 : Nat) (Option.some Jvm.ClassFile.FieldType.int)) ∈ lw_all := lw_g (lw_at lw_m10 58 rfl) rfl
theorem q2295 : (Jvm.Cond.methodLink "DomeNightsModel" (206 : Nat) ({ cls := "DomeNightsModel", name := "readOne", desc := "()V" } : Jvm.MethodName)) ∈ lw_all := lw_g (lw_at lw_m10 59 rfl) rfl
theorem q2296 : (Jvm.Cond.privateMethod ({ cls := "DomeNightsModel", name := "readOne", desc := "()V" } : Jvm.MethodName)) ∈ lw_tbl := lw_at lw_m10 60 rfl
theorem q2297 : (Jvm.Cond.instanceMethod ({ cls := "DomeNightsModel", name := "readOne", desc := "()V" } : Jvm.MethodName)) ∈ lw_all := lw_g (lw_at lw_m10 61 rfl) rfl
theorem q2298 : (Jvm.Cond.code ({ cls := "DomeNightsModel", name := "readOne", desc := "()V" } : Jvm.MethodName) prog_12_method_74_code (3 : Nat) (Option.none : Option Jvm.ClassFile.FieldType)) ∈ lw_all := lw_g (lw_at lw_m10 62 rfl) rfl
theorem q2299 : (Jvm.Cond.methodLink "DomeNightsModel" (191 : Nat) ({ cls := "DomeNightsModel", name := "sign", desc := "()I" } : Jvm.MethodName)) ∈ lw_all := lw_g (lw_at lw_m10 63 rfl) rfl
theorem q2300 : (Jvm.Cond.privateMethod ({ cls := "DomeNightsModel", name := "sign", desc := "()I" } : Jvm.MethodName)) ∈ lw_tbl := lw_at lw_m10 64 rfl
theorem q2301 : (Jvm.Cond.instanceMethod ({ cls := "DomeNightsModel", name := "sign", desc := "()I" } : Jvm.MethodName)) ∈ lw_all := lw_g (lw_at lw_m10 65 rfl) rfl
theorem q2302 : (Jvm.Cond.code ({ cls := "DomeNightsModel", name := "sign", desc := "()I" } : Jvm.MethodName) prog_12_method_70_code (1 : Nat) (Option.some Jvm.ClassFile.FieldType.int)) ∈ lw_all := lw_g (lw_at lw_m10 66 rfl) rfl
theorem q2303 : (Jvm.Cond.methodLink "DomeNightsModel" (200 : Nat) ({ cls := "DomeNightsModel", name := "number", desc := "()I" } : Jvm.MethodName)) ∈ lw_all := lw_g (lw_at lw_m10 67 rfl) rfl
theorem q2304 : (Jvm.Cond.privateMethod ({ cls := "DomeNightsModel", name := "number", desc := "()I" } : Jvm.MethodName)) ∈ lw_tbl := lw_at lw_m10 68 rfl
theorem q2305 : (Jvm.Cond.instanceMethod ({ cls := "DomeNightsModel", name := "number", desc := "()I" } : Jvm.MethodName)) ∈ lw_all := lw_g (lw_at lw_m10 69 rfl) rfl
theorem q2306 : (Jvm.Cond.code ({ cls := "DomeNightsModel", name := "number", desc := "()I" } : Jvm.MethodName) prog_12_method_73_code (2 : Nat) (Option.some Jvm.ClassFile.FieldType.int)) ∈ lw_all := lw_g (lw_at lw_m10 70 rfl) rfl
theorem q2307 : (Jvm.Cond.methodLink "DomeNightsModel" (194 : Nat) ({ cls := "DomeNightsModel", name := "digit", desc := "(II)I" } : Jvm.MethodName)) ∈ lw_all := lw_g (lw_at lw_m10 71 rfl) rfl
theorem q2308 : (Jvm.Cond.privateMethod ({ cls := "DomeNightsModel", name := "digit", desc := "(II)I" } : Jvm.MethodName)) ∈ lw_tbl := lw_at lw_m10 72 rfl
theorem q2309 : (Jvm.Cond.instanceMethod ({ cls := "DomeNightsModel", name := "digit", desc := "(II)I" } : Jvm.MethodName)) ∈ lw_all := lw_g (lw_at lw_m10 73 rfl) rfl
theorem q2310 : (Jvm.Cond.code ({ cls := "DomeNightsModel", name := "digit", desc := "(II)I" } : Jvm.MethodName) prog_12_method_72_code (4 : Nat) (Option.some Jvm.ClassFile.FieldType.int)) ∈ lw_all := lw_g (lw_at lw_m10 74 rfl) rfl
theorem q2311 : (Jvm.Cond.methodLink "DomeNightsModel" (203 : Nat) ({ cls := "DomeNightsModel", name := "need", desc := "(I)V" } : Jvm.MethodName)) ∈ lw_all := lw_g (lw_at lw_m10 75 rfl) rfl
theorem q2312 : (Jvm.Cond.privateMethod ({ cls := "DomeNightsModel", name := "need", desc := "(I)V" } : Jvm.MethodName)) ∈ lw_tbl := lw_at lw_m10 76 rfl
theorem q2313 : (Jvm.Cond.instanceMethod ({ cls := "DomeNightsModel", name := "need", desc := "(I)V" } : Jvm.MethodName)) ∈ lw_all := lw_g (lw_at lw_m10 77 rfl) rfl
theorem q2314 : (Jvm.Cond.code ({ cls := "DomeNightsModel", name := "need", desc := "(I)V" } : Jvm.MethodName) prog_12_method_71_code (2 : Nat) (Option.none : Option Jvm.ClassFile.FieldType)) ∈ lw_all := lw_g (lw_at lw_m10 78 rfl) rfl
theorem q2316 : (Jvm.Cond.instanceMethod ({ cls := "DomeNightsModel", name := "carryOut", desc := "()I" } : Jvm.MethodName)) ∈ lw_all := lw_g (lw_at lw_m10 80 rfl) rfl
theorem q2317 : (Jvm.Cond.selects "DomeNightsModel" ({ cls := "DomeNightsModel", name := "carryOut", desc := "()I" } : Jvm.MethodName) ({ cls := "DomeNightsModel", name := "carryOut", desc := "()I" } : Jvm.MethodName)) ∈ lw_all := lw_g (lw_at lw_m10 81 rfl) rfl
theorem q2318 : (Jvm.Cond.code ({ cls := "DomeNightsModel", name := "carryOut", desc := "()I" } : Jvm.MethodName) prog_12_method_80_code (2 : Nat) (Option.some Jvm.ClassFile.FieldType.int)) ∈ lw_all := lw_g (lw_at lw_m10 82 rfl) rfl
theorem q2319 : (Jvm.Cond.methodLink "DomeNightsModel" (224 : Nat) ({ cls := "DomeNightsModel", name := "carry", desc := "(I)I" } : Jvm.MethodName)) ∈ lw_all := lw_g (lw_at lw_m10 83 rfl) rfl
theorem q2320 : (Jvm.Cond.privateMethod ({ cls := "DomeNightsModel", name := "carry", desc := "(I)I" } : Jvm.MethodName)) ∈ lw_tbl := lw_at lw_m10 84 rfl
theorem q2321 : (Jvm.Cond.instanceMethod ({ cls := "DomeNightsModel", name := "carry", desc := "(I)I" } : Jvm.MethodName)) ∈ lw_all := lw_g (lw_at lw_m10 85 rfl) rfl
theorem q2322 : (Jvm.Cond.code ({ cls := "DomeNightsModel", name := "carry", desc := "(I)I" } : Jvm.MethodName) prog_12_method_79_code (2 : Nat) (Option.some Jvm.ClassFile.FieldType.int)) ∈ lw_all := lw_g (lw_at lw_m10 86 rfl) rfl
theorem q2323 : (Jvm.Cond.methodLink "DomeNightsModel" (214 : Nat) ({ cls := "DomeNightsModel", name := "plan", desc := "(III)I" } : Jvm.MethodName)) ∈ lw_all := lw_g (lw_at lw_m10 87 rfl) rfl
theorem q2324 : (Jvm.Cond.methodLink "DomeNightsModel" (217 : Nat) ({ cls := "DomeNightsModel", name := "event", desc := "(III)I" } : Jvm.MethodName)) ∈ lw_all := lw_g (lw_at lw_m10 88 rfl) rfl
theorem q2325 : (Jvm.Cond.methodLink "DomeNightsModel" (220 : Nat) ({ cls := "DomeNightsModel", name := "book", desc := "(IIII)I" } : Jvm.MethodName)) ∈ lw_all := lw_g (lw_at lw_m10 89 rfl) rfl
theorem q2327 : (Jvm.Cond.instanceMethod ({ cls := "DomeNightsModel", name := "undo", desc := "()I" } : Jvm.MethodName)) ∈ lw_all := lw_g (lw_at lw_m10 91 rfl) rfl
theorem q2328 : (Jvm.Cond.selects "DomeNightsModel" ({ cls := "DomeNightsModel", name := "undo", desc := "()I" } : Jvm.MethodName) ({ cls := "DomeNightsModel", name := "undo", desc := "()I" } : Jvm.MethodName)) ∈ lw_all := lw_g (lw_at lw_m10 92 rfl) rfl
theorem q2329 : (Jvm.Cond.code ({ cls := "DomeNightsModel", name := "undo", desc := "()I" } : Jvm.MethodName) prog_12_method_81_code (2 : Nat) (Option.some Jvm.ClassFile.FieldType.int)) ∈ lw_all := lw_g (lw_at lw_m10 93 rfl) rfl
theorem q2331 : (Jvm.Cond.instanceMethod ({ cls := "DomeNightsModel", name := "save", desc := "(I)I" } : Jvm.MethodName)) ∈ lw_all := lw_g (lw_at lw_m10 95 rfl) rfl
theorem q2332 : (Jvm.Cond.selects "DomeNightsModel" ({ cls := "DomeNightsModel", name := "save", desc := "(I)I" } : Jvm.MethodName) ({ cls := "DomeNightsModel", name := "save", desc := "(I)I" } : Jvm.MethodName)) ∈ lw_all := lw_g (lw_at lw_m10 96 rfl) rfl
theorem q2333 : (Jvm.Cond.code ({ cls := "DomeNightsModel", name := "save", desc := "(I)I" } : Jvm.MethodName) prog_12_method_82_code (3 : Nat) (Option.some Jvm.ClassFile.FieldType.int)) ∈ lw_all := lw_g (lw_at lw_m10 97 rfl) rfl
theorem q2335 : (Jvm.Cond.instanceMethod ({ cls := "DomeNightsModel", name := "restore", desc := "(I)I" } : Jvm.MethodName)) ∈ lw_all := lw_g (lw_at lw_m10 99 rfl) rfl
theorem q2336 : (Jvm.Cond.selects "DomeNightsModel" ({ cls := "DomeNightsModel", name := "restore", desc := "(I)I" } : Jvm.MethodName) ({ cls := "DomeNightsModel", name := "restore", desc := "(I)I" } : Jvm.MethodName)) ∈ lw_all := lw_g (lw_at lw_m10 100 rfl) rfl
theorem q2337 : (Jvm.Cond.code ({ cls := "DomeNightsModel", name := "restore", desc := "(I)I" } : Jvm.MethodName) prog_12_method_83_code (3 : Nat) (Option.some Jvm.ClassFile.FieldType.int)) ∈ lw_all := lw_g (lw_at lw_m10 101 rfl) rfl
theorem q2354 : (Jvm.Cond.castable "DomeNightsModel" "java/lang/Object") ∈ lw_tbl := lw_at lw_m10 118 rfl
theorem in_X2 : ∀ w ∈ wsX20, w ∈ lw_all := lw_in wsX20 [1972, 1974, 1976, 1978, 1980, 1982, 1984, 1986, 1988, 1990, 1992, 1994, 1996, 1998, 2000, 2002, 2004] (by decide +kernel) (by decide +kernel)
/-! the law's own entry -/
set_option maxRecDepth 100000
abbrev cL_law : ByteArray := code
def dkwL_law_48 : List UInt8 := [159, 0, 5, 3, 172, 132, 3, 5, 167, 251, 42, 4, 172]
abbrev dktL_law_48 : List UInt8 := dkwL_law_48 ++ []
def dkwL_law_47 : List UInt8 := [159, 0, 28, 3, 172, 43, 42, 29, 4, 96, 46, 182, 0, 157, 44, 42, 29, 4, 96, 46, 182, 0, 160]
abbrev dktL_law_47 : List UInt8 := dkwL_law_47 ++ dktL_law_48
def dkwL_law_46 : List UInt8 := [159, 0, 51, 3, 172, 43, 42, 29, 4, 96, 46, 182, 0, 153, 44, 42, 29, 4, 96, 46, 182, 0, 156]
abbrev dktL_law_46 : List UInt8 := dkwL_law_46 ++ dktL_law_47
def dkwL_law_45 : List UInt8 := [172, 43, 182, 0, 145, 44, 182, 0, 148, 159, 0, 64, 3, 172, 43, 182, 0, 149, 44, 182, 0, 152]
abbrev dktL_law_45 : List UInt8 := dkwL_law_45 ++ dktL_law_46
def dkwL_law_44 : List UInt8 := [182, 0, 137, 44, 182, 0, 140, 159, 0, 90, 3, 172, 43, 182, 0, 141, 44, 182, 0, 144, 159, 0, 77, 3]
abbrev dktL_law_44 : List UInt8 := dkwL_law_44 ++ dktL_law_45
def dkwL_law_43 : List UInt8 := [16, 32, 121, 42, 29, 5, 96, 46, 133, 20, 0, 130, 127, 129, 182, 0, 136, 159, 0, 103, 3, 172, 43]
abbrev dktL_law_43 : List UInt8 := dkwL_law_43 ++ dktL_law_44
def dkwL_law_42 : List UInt8 := [16, 32, 121, 42, 29, 5, 96, 46, 133, 20, 0, 130, 127, 129, 182, 0, 132, 44, 42, 29, 4, 96, 46, 133]
abbrev dktL_law_42 : List UInt8 := dkwL_law_42 ++ dktL_law_43
def dkwL_law_41 : List UInt8 := [29, 4, 96, 46, 42, 29, 5, 96, 46, 182, 0, 129, 159, 0, 156, 3, 172, 43, 42, 29, 4, 96, 46, 133]
abbrev dktL_law_41 : List UInt8 := dkwL_law_41 ++ dktL_law_42
def dkwL_law_40 : List UInt8 := [182, 0, 125, 159, 0, 189, 3, 172, 43, 42, 29, 4, 96, 46, 42, 29, 5, 96, 46, 182, 0, 126, 44, 42]
abbrev dktL_law_40 : List UInt8 := dkwL_law_40 ++ dktL_law_41
def dkwL_law_39 : List UInt8 := [4, 96, 46, 42, 29, 5, 96, 46, 182, 0, 122, 44, 42, 29, 4, 96, 46, 42, 29, 5, 96, 46]
abbrev dktL_law_39 : List UInt8 := dkwL_law_39 ++ dktL_law_40
def dkwL_law_38 : List UInt8 := [182, 0, 116, 159, 0, 235, 3, 172, 43, 182, 0, 117, 44, 182, 0, 121, 159, 0, 222, 3, 172, 43, 42, 29]
abbrev dktL_law_38 : List UInt8 := dkwL_law_38 ++ dktL_law_39
def dkwL_law_37 : List UInt8 := [182, 0, 113, 44, 42, 29, 4, 96, 46, 42, 29, 5, 96, 46, 42, 29, 6, 96, 46, 42, 29, 7, 96, 46]
abbrev dktL_law_37 : List UInt8 := dkwL_law_37 ++ dktL_law_38
def dkwL_law_36 : List UInt8 := [3, 172, 43, 42, 29, 4, 96, 46, 42, 29, 5, 96, 46, 42, 29, 6, 96, 46, 42, 29, 7, 96, 46]
abbrev dktL_law_36 : List UInt8 := dkwL_law_36 ++ dktL_law_37
def dkwL_law_35 : List UInt8 := [29, 5, 96, 46, 182, 0, 109, 44, 42, 29, 4, 96, 46, 42, 29, 5, 96, 46, 182, 0, 112, 159, 1, 32]
abbrev dktL_law_35 : List UInt8 := dkwL_law_35 ++ dktL_law_36
def dkwL_law_34 : List UInt8 := [29, 4, 96, 46, 42, 29, 5, 96, 46, 182, 0, 108, 159, 1, 65, 3, 172, 43, 42, 29, 4, 96, 46, 42]
abbrev dktL_law_34 : List UInt8 := dkwL_law_34 ++ dktL_law_35
def dkwL_law_33 : List UInt8 := [182, 0, 104, 159, 1, 98, 3, 172, 43, 42, 29, 4, 96, 46, 42, 29, 5, 96, 46, 182, 0, 105, 44, 42]
abbrev dktL_law_33 : List UInt8 := dkwL_law_33 ++ dktL_law_34
def dkwL_law_32 : List UInt8 := [182, 0, 100, 159, 1, 121, 3, 172, 43, 42, 29, 4, 96, 46, 182, 0, 101, 44, 42, 29, 4, 96, 46]
abbrev dktL_law_32 : List UInt8 := dkwL_law_32 ++ dktL_law_33
def dkwL_law_31 : List UInt8 := [182, 0, 96, 159, 1, 144, 3, 172, 43, 42, 29, 4, 96, 46, 182, 0, 97, 44, 42, 29, 4, 96, 46]
abbrev dktL_law_31 : List UInt8 := dkwL_law_31 ++ dktL_law_32
def dkwL_law_30 : List UInt8 := [182, 0, 92, 159, 1, 167, 3, 172, 43, 42, 29, 4, 96, 46, 182, 0, 93, 44, 42, 29, 4, 96, 46]
abbrev dktL_law_30 : List UInt8 := dkwL_law_30 ++ dktL_law_31
def dkwL_law_29 : List UInt8 := [4, 96, 46, 42, 29, 5, 96, 46, 182, 0, 89, 44, 42, 29, 4, 96, 46, 42, 29, 5, 96, 46]
abbrev dktL_law_29 : List UInt8 := dkwL_law_29 ++ dktL_law_30
def dkwL_law_28 : List UInt8 := [29, 4, 96, 46, 182, 0, 85, 44, 42, 29, 4, 96, 46, 182, 0, 88, 159, 1, 200, 3, 172, 43, 42, 29]
abbrev dktL_law_28 : List UInt8 := dkwL_law_28 ++ dktL_law_29
def dkwL_law_27 : List UInt8 := [182, 0, 81, 44, 42, 29, 4, 96, 46, 42, 29, 5, 96, 46, 182, 0, 84, 159, 1, 223, 3, 172, 43, 42]
abbrev dktL_law_27 : List UInt8 := dkwL_law_27 ++ dktL_law_28
def dkwL_law_26 : List UInt8 := [5, 96, 46, 182, 0, 80, 159, 2, 0, 3, 172, 43, 42, 29, 4, 96, 46, 42, 29, 5, 96, 46]
abbrev dktL_law_26 : List UInt8 := dkwL_law_26 ++ dktL_law_27
def dkwL_law_25 : List UInt8 := [3, 172, 43, 42, 29, 4, 96, 46, 42, 29, 5, 96, 46, 182, 0, 77, 44, 42, 29, 4, 96, 46, 42, 29]
abbrev dktL_law_25 : List UInt8 := dkwL_law_25 ++ dktL_law_26
def dkwL_law_24 : List UInt8 := [29, 5, 96, 46, 182, 0, 73, 44, 42, 29, 4, 96, 46, 42, 29, 5, 96, 46, 182, 0, 76, 159, 2, 33]
abbrev dktL_law_24 : List UInt8 := dkwL_law_24 ++ dktL_law_25
def dkwL_law_23 : List UInt8 := [29, 4, 96, 46, 42, 29, 5, 96, 46, 182, 0, 72, 159, 2, 66, 3, 172, 43, 42, 29, 4, 96, 46, 42]
abbrev dktL_law_23 : List UInt8 := dkwL_law_23 ++ dktL_law_24
def dkwL_law_22 : List UInt8 := [182, 0, 68, 159, 2, 99, 3, 172, 43, 42, 29, 4, 96, 46, 42, 29, 5, 96, 46, 182, 0, 69, 44, 42]
abbrev dktL_law_22 : List UInt8 := dkwL_law_22 ++ dktL_law_23
def dkwL_law_21 : List UInt8 := [29, 4, 96, 46, 42, 29, 5, 96, 46, 182, 0, 65, 44, 42, 29, 4, 96, 46, 42, 29, 5, 96, 46]
abbrev dktL_law_21 : List UInt8 := dkwL_law_21 ++ dktL_law_22
def dkwL_law_20 : List UInt8 := [182, 0, 61, 44, 42, 29, 4, 96, 46, 42, 29, 5, 96, 46, 182, 0, 64, 159, 2, 132, 3, 172, 43, 42]
abbrev dktL_law_20 : List UInt8 := dkwL_law_20 ++ dktL_law_21
def dkwL_law_19 : List UInt8 := [42, 29, 4, 96, 46, 182, 0, 60, 159, 2, 165, 3, 172, 43, 42, 29, 4, 96, 46, 42, 29, 5, 96, 46]
abbrev dktL_law_19 : List UInt8 := dkwL_law_19 ++ dktL_law_20
def dkwL_law_18 : List UInt8 := [46, 42, 29, 7, 96, 46, 182, 0, 56, 159, 2, 188, 3, 172, 43, 42, 29, 4, 96, 46, 182, 0, 57, 44]
abbrev dktL_law_18 : List UInt8 := dkwL_law_18 ++ dktL_law_19
def dkwL_law_17 : List UInt8 := [46, 42, 29, 7, 96, 46, 182, 0, 53, 44, 42, 29, 4, 96, 46, 42, 29, 5, 96, 46, 42, 29, 6, 96]
abbrev dktL_law_17 : List UInt8 := dkwL_law_17 ++ dktL_law_18
def dkwL_law_16 : List UInt8 := [46, 182, 0, 52, 159, 2, 241, 3, 172, 43, 42, 29, 4, 96, 46, 42, 29, 5, 96, 46, 42, 29, 6, 96]
abbrev dktL_law_16 : List UInt8 := dkwL_law_16 ++ dktL_law_17
def dkwL_law_15 : List UInt8 := [96, 46, 182, 0, 48, 159, 3, 8, 3, 172, 43, 42, 29, 4, 96, 46, 182, 0, 49, 44, 42, 29, 4, 96]
abbrev dktL_law_15 : List UInt8 := dkwL_law_15 ++ dktL_law_16
def dkwL_law_14 : List UInt8 := [96, 46, 182, 0, 44, 44, 42, 29, 4, 96, 46, 42, 29, 5, 96, 46, 42, 29, 6, 96, 46, 42, 29, 7]
abbrev dktL_law_14 : List UInt8 := dkwL_law_14 ++ dktL_law_15
def dkwL_law_13 : List UInt8 := [159, 3, 61, 3, 172, 43, 42, 29, 4, 96, 46, 42, 29, 5, 96, 46, 42, 29, 6, 96, 46, 42, 29, 7]
abbrev dktL_law_13 : List UInt8 := dkwL_law_13 ++ dktL_law_14
def dkwL_law_12 : List UInt8 := [182, 0, 40, 44, 42, 29, 4, 96, 46, 42, 29, 5, 96, 46, 42, 29, 6, 96, 46, 182, 0, 43]
abbrev dktL_law_12 : List UInt8 := dkwL_law_12 ++ dktL_law_13
def dkwL_law_11 : List UInt8 := [182, 0, 39, 159, 3, 104, 3, 172, 43, 42, 29, 4, 96, 46, 42, 29, 5, 96, 46, 42, 29, 6, 96, 46]
abbrev dktL_law_11 : List UInt8 := dkwL_law_11 ++ dktL_law_12
def dkwL_law_10 : List UInt8 := [29, 6, 96, 46, 182, 0, 36, 44, 42, 29, 4, 96, 46, 42, 29, 5, 96, 46, 42, 29, 6, 96, 46]
abbrev dktL_law_10 : List UInt8 := dkwL_law_10 ++ dktL_law_11
def dkwL_law_9 : List UInt8 := [29, 4, 96, 46, 182, 0, 35, 159, 3, 147, 3, 172, 43, 42, 29, 4, 96, 46, 42, 29, 5, 96, 46, 42]
abbrev dktL_law_9 : List UInt8 := dkwL_law_9 ++ dktL_law_10
def dkwL_law_8 : List UInt8 := [42, 29, 4, 96, 46, 182, 0, 31, 159, 3, 170, 3, 172, 43, 42, 29, 4, 96, 46, 182, 0, 32, 44, 42]
abbrev dktL_law_8 : List UInt8 := dkwL_law_8 ++ dktL_law_9
def dkwL_law_7 : List UInt8 := [46, 42, 29, 5, 96, 46, 182, 0, 26, 159, 3, 193, 3, 172, 43, 42, 29, 4, 96, 46, 182, 0, 27, 44]
abbrev dktL_law_7 : List UInt8 := dkwL_law_7 ++ dktL_law_8
def dkwL_law_6 : List UInt8 := [159, 3, 226, 3, 172, 43, 42, 29, 4, 96, 46, 42, 29, 5, 96, 46, 182, 0, 23, 44, 42, 29, 4, 96]
abbrev dktL_law_6 : List UInt8 := dkwL_law_6 ++ dktL_law_7
def dkwL_law_5 : List UInt8 := [46, 182, 0, 18, 44, 42, 29, 4, 96, 46, 42, 29, 5, 96, 46, 42, 29, 6, 96, 46, 182, 0, 22]
abbrev dktL_law_5 : List UInt8 := dkwL_law_5 ++ dktL_law_6
def dkwL_law_4 : List UInt8 := [46, 182, 0, 17, 159, 4, 13, 3, 172, 43, 42, 29, 4, 96, 46, 42, 29, 5, 96, 46, 42, 29, 6, 96]
abbrev dktL_law_4 : List UInt8 := dkwL_law_4 ++ dktL_law_5
def dkwL_law_3 : List UInt8 := [43, 42, 29, 4, 96, 46, 42, 29, 5, 96, 46, 182, 0, 13, 44, 42, 29, 4, 96, 46, 42, 29, 5, 96]
abbrev dktL_law_3 : List UInt8 := dkwL_law_3 ++ dktL_law_4
def dkwL_law_2 : List UInt8 := [170, 0, 0, 0, 0, 0, 4, 197, 0, 0, 0, 0, 0, 0, 0, 34, 0, 0, 0, 156, 0, 0, 0, 189, 0, 0, 0, 232, 0, 0, 1, 9, 0, 0, 1, 32, 0, 0, 1, 55, 0, 0, 1, 98, 0, 0, 1, 141, 0, 0, 1, 194, 0, 0, 1, 217, 0, 0, 2, 14, 0, 0, 2, 37, 0, 0, 2, 70, 0, 0, 2, 103, 0, 0, 2, 136, 0, 0, 2, 169, 0, 0, 2, 202, 0, 0, 2, 235, 0, 0, 3, 2, 0, 0, 3, 35, 0, 0, 3, 58, 0, 0, 3, 81, 0, 0, 3, 104, 0, 0, 3, 137, 0, 0, 3, 170, 0, 0, 3, 223, 0, 0, 3, 236, 0, 0, 4, 13, 0, 0, 4, 46, 0, 0, 4, 99, 0, 0, 4, 112, 0, 0, 4, 125, 0, 0, 4, 138, 0, 0, 4, 151, 0, 0, 4, 174]
abbrev dktL_law_2 : List UInt8 := dkwL_law_2 ++ dktL_law_3
def dkwL_law_1 : List UInt8 := [163, 4, 212, 42, 29, 46, 16, 63, 126]
abbrev dktL_law_1 : List UInt8 := dkwL_law_1 ++ dktL_law_2
def dkwL_law_0 : List UInt8 := [187, 0, 7, 89, 183, 0, 9, 76, 187, 0, 10, 89, 183, 0, 12, 77, 3, 62, 29, 42, 190, 8, 100]
abbrev dktL_law_0 : List UInt8 := dkwL_law_0 ++ dktL_law_1
theorem dksL_law_0 : cL_law.data.toList.drop 0 = dktL_law_0 := by decide +kernel
theorem dksL_law_1 : cL_law.data.toList.drop 23 = dktL_law_1 := dk_seg dksL_law_0 23 rfl rfl
theorem dksL_law_2 : cL_law.data.toList.drop 32 = dktL_law_2 := dk_seg dksL_law_1 9 rfl rfl
theorem dksL_law_3 : cL_law.data.toList.drop 188 = dktL_law_3 := dk_seg dksL_law_2 156 rfl rfl
theorem dksL_law_4 : cL_law.data.toList.drop 212 = dktL_law_4 := dk_seg dksL_law_3 24 rfl rfl
theorem dksL_law_5 : cL_law.data.toList.drop 236 = dktL_law_5 := dk_seg dksL_law_4 24 rfl rfl
theorem dksL_law_6 : cL_law.data.toList.drop 259 = dktL_law_6 := dk_seg dksL_law_5 23 rfl rfl
theorem dksL_law_7 : cL_law.data.toList.drop 283 = dktL_law_7 := dk_seg dksL_law_6 24 rfl rfl
theorem dksL_law_8 : cL_law.data.toList.drop 307 = dktL_law_8 := dk_seg dksL_law_7 24 rfl rfl
theorem dksL_law_9 : cL_law.data.toList.drop 331 = dktL_law_9 := dk_seg dksL_law_8 24 rfl rfl
theorem dksL_law_10 : cL_law.data.toList.drop 355 = dktL_law_10 := dk_seg dksL_law_9 24 rfl rfl
theorem dksL_law_11 : cL_law.data.toList.drop 378 = dktL_law_11 := dk_seg dksL_law_10 23 rfl rfl
theorem dksL_law_12 : cL_law.data.toList.drop 402 = dktL_law_12 := dk_seg dksL_law_11 24 rfl rfl
theorem dksL_law_13 : cL_law.data.toList.drop 424 = dktL_law_13 := dk_seg dksL_law_12 22 rfl rfl
theorem dksL_law_14 : cL_law.data.toList.drop 448 = dktL_law_14 := dk_seg dksL_law_13 24 rfl rfl
theorem dksL_law_15 : cL_law.data.toList.drop 472 = dktL_law_15 := dk_seg dksL_law_14 24 rfl rfl
theorem dksL_law_16 : cL_law.data.toList.drop 496 = dktL_law_16 := dk_seg dksL_law_15 24 rfl rfl
theorem dksL_law_17 : cL_law.data.toList.drop 520 = dktL_law_17 := dk_seg dksL_law_16 24 rfl rfl
theorem dksL_law_18 : cL_law.data.toList.drop 544 = dktL_law_18 := dk_seg dksL_law_17 24 rfl rfl
theorem dksL_law_19 : cL_law.data.toList.drop 568 = dktL_law_19 := dk_seg dksL_law_18 24 rfl rfl
theorem dksL_law_20 : cL_law.data.toList.drop 592 = dktL_law_20 := dk_seg dksL_law_19 24 rfl rfl
theorem dksL_law_21 : cL_law.data.toList.drop 616 = dktL_law_21 := dk_seg dksL_law_20 24 rfl rfl
theorem dksL_law_22 : cL_law.data.toList.drop 639 = dktL_law_22 := dk_seg dksL_law_21 23 rfl rfl
theorem dksL_law_23 : cL_law.data.toList.drop 663 = dktL_law_23 := dk_seg dksL_law_22 24 rfl rfl
theorem dksL_law_24 : cL_law.data.toList.drop 687 = dktL_law_24 := dk_seg dksL_law_23 24 rfl rfl
theorem dksL_law_25 : cL_law.data.toList.drop 711 = dktL_law_25 := dk_seg dksL_law_24 24 rfl rfl
theorem dksL_law_26 : cL_law.data.toList.drop 735 = dktL_law_26 := dk_seg dksL_law_25 24 rfl rfl
theorem dksL_law_27 : cL_law.data.toList.drop 757 = dktL_law_27 := dk_seg dksL_law_26 22 rfl rfl
theorem dksL_law_28 : cL_law.data.toList.drop 781 = dktL_law_28 := dk_seg dksL_law_27 24 rfl rfl
theorem dksL_law_29 : cL_law.data.toList.drop 805 = dktL_law_29 := dk_seg dksL_law_28 24 rfl rfl
theorem dksL_law_30 : cL_law.data.toList.drop 827 = dktL_law_30 := dk_seg dksL_law_29 22 rfl rfl
theorem dksL_law_31 : cL_law.data.toList.drop 850 = dktL_law_31 := dk_seg dksL_law_30 23 rfl rfl
theorem dksL_law_32 : cL_law.data.toList.drop 873 = dktL_law_32 := dk_seg dksL_law_31 23 rfl rfl
theorem dksL_law_33 : cL_law.data.toList.drop 896 = dktL_law_33 := dk_seg dksL_law_32 23 rfl rfl
theorem dksL_law_34 : cL_law.data.toList.drop 920 = dktL_law_34 := dk_seg dksL_law_33 24 rfl rfl
theorem dksL_law_35 : cL_law.data.toList.drop 944 = dktL_law_35 := dk_seg dksL_law_34 24 rfl rfl
theorem dksL_law_36 : cL_law.data.toList.drop 968 = dktL_law_36 := dk_seg dksL_law_35 24 rfl rfl
theorem dksL_law_37 : cL_law.data.toList.drop 991 = dktL_law_37 := dk_seg dksL_law_36 23 rfl rfl
theorem dksL_law_38 : cL_law.data.toList.drop 1015 = dktL_law_38 := dk_seg dksL_law_37 24 rfl rfl
theorem dksL_law_39 : cL_law.data.toList.drop 1039 = dktL_law_39 := dk_seg dksL_law_38 24 rfl rfl
theorem dksL_law_40 : cL_law.data.toList.drop 1061 = dktL_law_40 := dk_seg dksL_law_39 22 rfl rfl
theorem dksL_law_41 : cL_law.data.toList.drop 1085 = dktL_law_41 := dk_seg dksL_law_40 24 rfl rfl
theorem dksL_law_42 : cL_law.data.toList.drop 1109 = dktL_law_42 := dk_seg dksL_law_41 24 rfl rfl
theorem dksL_law_43 : cL_law.data.toList.drop 1133 = dktL_law_43 := dk_seg dksL_law_42 24 rfl rfl
theorem dksL_law_44 : cL_law.data.toList.drop 1156 = dktL_law_44 := dk_seg dksL_law_43 23 rfl rfl
theorem dksL_law_45 : cL_law.data.toList.drop 1180 = dktL_law_45 := dk_seg dksL_law_44 24 rfl rfl
theorem dksL_law_46 : cL_law.data.toList.drop 1202 = dktL_law_46 := dk_seg dksL_law_45 22 rfl rfl
theorem dksL_law_47 : cL_law.data.toList.drop 1225 = dktL_law_47 := dk_seg dksL_law_46 23 rfl rfl
theorem dksL_law_48 : cL_law.data.toList.drop 1248 = dktL_law_48 := dk_seg dksL_law_47 23 rfl rfl
theorem dL_law_0 : decode cL_law 0 = .ok (.new 7, 3) := dk_187 0 7 (dk_at dksL_law_0 0 rfl rfl)
theorem dL_law_3 : decode cL_law 3 = .ok (.dup, 1) := dk_89 (dk_at dksL_law_0 3 rfl rfl)
theorem dL_law_4 : decode cL_law 4 = .ok (.invokespecial 9, 3) := dk_183 0 9 (dk_at dksL_law_0 4 rfl rfl)
theorem dL_law_7 : decode cL_law 7 = .ok (.astore_n 1, 1) := dk_76 (dk_at dksL_law_0 7 rfl rfl)
theorem dL_law_8 : decode cL_law 8 = .ok (.new 10, 3) := dk_187 0 10 (dk_at dksL_law_0 8 rfl rfl)
theorem dL_law_11 : decode cL_law 11 = .ok (.dup, 1) := dk_89 (dk_at dksL_law_0 11 rfl rfl)
theorem dL_law_12 : decode cL_law 12 = .ok (.invokespecial 12, 3) := dk_183 0 12 (dk_at dksL_law_0 12 rfl rfl)
theorem dL_law_15 : decode cL_law 15 = .ok (.astore_n 2, 1) := dk_77 (dk_at dksL_law_0 15 rfl rfl)
theorem dL_law_16 : decode cL_law 16 = .ok (.iconst 0, 1) := dk_3 (dk_at dksL_law_0 16 rfl rfl)
theorem dL_law_17 : decode cL_law 17 = .ok (.istore_n 3, 1) := dk_62 (dk_at dksL_law_0 17 rfl rfl)
theorem dL_law_18 : decode cL_law 18 = .ok (.iload_n 3, 1) := dk_29 (dk_at dksL_law_0 18 rfl rfl)
theorem dL_law_19 : decode cL_law 19 = .ok (.aload_n 0, 1) := dk_42 (dk_at dksL_law_0 19 rfl rfl)
theorem dL_law_20 : decode cL_law 20 = .ok (.arraylength, 1) := dk_190 (dk_at dksL_law_0 20 rfl rfl)
theorem dL_law_21 : decode cL_law 21 = .ok (.iconst 5, 1) := dk_8 (dk_at dksL_law_0 21 rfl rfl)
theorem dL_law_22 : decode cL_law 22 = .ok (.isub, 1) := dk_100 (dk_at dksL_law_0 22 rfl rfl)
theorem dL_law_23 : decode cL_law 23 = .ok (.if_icmp .gt 1236, 3) := dk_163 4 212 (dk_at dksL_law_1 0 rfl rfl)
theorem dL_law_26 : decode cL_law 26 = .ok (.aload_n 0, 1) := dk_42 (dk_at dksL_law_1 3 rfl rfl)
theorem dL_law_27 : decode cL_law 27 = .ok (.iload_n 3, 1) := dk_29 (dk_at dksL_law_1 4 rfl rfl)
theorem dL_law_28 : decode cL_law 28 = .ok (.iaload, 1) := dk_46 (dk_at dksL_law_1 5 rfl rfl)
theorem dL_law_29 : decode cL_law 29 = .ok (.bipush 63, 2) := dk_16 63 (dk_at dksL_law_1 6 rfl rfl)
theorem dL_law_31 : decode cL_law 31 = .ok (.iand, 1) := dk_126 (dk_at dksL_law_1 8 rfl rfl)
theorem dL_law_32 : decode cL_law 32 = .ok (.tableswitch 1221 0 34 #[156, 189, 232, 265, 288, 311, 354, 397, 450, 473, 526, 549, 582, 615, 648, 681, 714, 747, 770, 803, 826, 849, 872, 905, 938, 991, 1004, 1037, 1070, 1123, 1136, 1149, 1162, 1175, 1198], 156) := by decide +kernel
theorem dL_law_188 : decode cL_law 188 = .ok (.aload_n 1, 1) := dk_43 (dk_at dksL_law_3 0 rfl rfl)
theorem dL_law_189 : decode cL_law 189 = .ok (.aload_n 0, 1) := dk_42 (dk_at dksL_law_3 1 rfl rfl)
theorem dL_law_190 : decode cL_law 190 = .ok (.iload_n 3, 1) := dk_29 (dk_at dksL_law_3 2 rfl rfl)
theorem dL_law_191 : decode cL_law 191 = .ok (.iconst 1, 1) := dk_4 (dk_at dksL_law_3 3 rfl rfl)
theorem dL_law_192 : decode cL_law 192 = .ok (.iadd, 1) := dk_96 (dk_at dksL_law_3 4 rfl rfl)
theorem dL_law_193 : decode cL_law 193 = .ok (.iaload, 1) := dk_46 (dk_at dksL_law_3 5 rfl rfl)
theorem dL_law_194 : decode cL_law 194 = .ok (.aload_n 0, 1) := dk_42 (dk_at dksL_law_3 6 rfl rfl)
theorem dL_law_195 : decode cL_law 195 = .ok (.iload_n 3, 1) := dk_29 (dk_at dksL_law_3 7 rfl rfl)
theorem dL_law_196 : decode cL_law 196 = .ok (.iconst 2, 1) := dk_5 (dk_at dksL_law_3 8 rfl rfl)
theorem dL_law_197 : decode cL_law 197 = .ok (.iadd, 1) := dk_96 (dk_at dksL_law_3 9 rfl rfl)
theorem dL_law_198 : decode cL_law 198 = .ok (.iaload, 1) := dk_46 (dk_at dksL_law_3 10 rfl rfl)
theorem dL_law_199 : decode cL_law 199 = .ok (.invokevirtual 13, 3) := dk_182 0 13 (dk_at dksL_law_3 11 rfl rfl)
theorem dL_law_202 : decode cL_law 202 = .ok (.aload_n 2, 1) := dk_44 (dk_at dksL_law_3 14 rfl rfl)
theorem dL_law_203 : decode cL_law 203 = .ok (.aload_n 0, 1) := dk_42 (dk_at dksL_law_3 15 rfl rfl)
theorem dL_law_204 : decode cL_law 204 = .ok (.iload_n 3, 1) := dk_29 (dk_at dksL_law_3 16 rfl rfl)
theorem dL_law_205 : decode cL_law 205 = .ok (.iconst 1, 1) := dk_4 (dk_at dksL_law_3 17 rfl rfl)
theorem dL_law_206 : decode cL_law 206 = .ok (.iadd, 1) := dk_96 (dk_at dksL_law_3 18 rfl rfl)
theorem dL_law_207 : decode cL_law 207 = .ok (.iaload, 1) := dk_46 (dk_at dksL_law_3 19 rfl rfl)
theorem dL_law_208 : decode cL_law 208 = .ok (.aload_n 0, 1) := dk_42 (dk_at dksL_law_3 20 rfl rfl)
theorem dL_law_209 : decode cL_law 209 = .ok (.iload_n 3, 1) := dk_29 (dk_at dksL_law_3 21 rfl rfl)
theorem dL_law_210 : decode cL_law 210 = .ok (.iconst 2, 1) := dk_5 (dk_at dksL_law_3 22 rfl rfl)
theorem dL_law_211 : decode cL_law 211 = .ok (.iadd, 1) := dk_96 (dk_at dksL_law_3 23 rfl rfl)
theorem dL_law_212 : decode cL_law 212 = .ok (.iaload, 1) := dk_46 (dk_at dksL_law_4 0 rfl rfl)
theorem dL_law_213 : decode cL_law 213 = .ok (.invokevirtual 17, 3) := dk_182 0 17 (dk_at dksL_law_4 1 rfl rfl)
theorem dL_law_216 : decode cL_law 216 = .ok (.if_icmp .eq 1037, 3) := dk_159 4 13 (dk_at dksL_law_4 4 rfl rfl)
theorem dL_law_219 : decode cL_law 219 = .ok (.iconst 0, 1) := dk_3 (dk_at dksL_law_4 7 rfl rfl)
theorem dL_law_220 : decode cL_law 220 = .ok (.ireturn, 1) := dk_172 (dk_at dksL_law_4 8 rfl rfl)
theorem dL_law_221 : decode cL_law 221 = .ok (.aload_n 1, 1) := dk_43 (dk_at dksL_law_4 9 rfl rfl)
theorem dL_law_222 : decode cL_law 222 = .ok (.aload_n 0, 1) := dk_42 (dk_at dksL_law_4 10 rfl rfl)
theorem dL_law_223 : decode cL_law 223 = .ok (.iload_n 3, 1) := dk_29 (dk_at dksL_law_4 11 rfl rfl)
theorem dL_law_224 : decode cL_law 224 = .ok (.iconst 1, 1) := dk_4 (dk_at dksL_law_4 12 rfl rfl)
theorem dL_law_225 : decode cL_law 225 = .ok (.iadd, 1) := dk_96 (dk_at dksL_law_4 13 rfl rfl)
theorem dL_law_226 : decode cL_law 226 = .ok (.iaload, 1) := dk_46 (dk_at dksL_law_4 14 rfl rfl)
theorem dL_law_227 : decode cL_law 227 = .ok (.aload_n 0, 1) := dk_42 (dk_at dksL_law_4 15 rfl rfl)
theorem dL_law_228 : decode cL_law 228 = .ok (.iload_n 3, 1) := dk_29 (dk_at dksL_law_4 16 rfl rfl)
theorem dL_law_229 : decode cL_law 229 = .ok (.iconst 2, 1) := dk_5 (dk_at dksL_law_4 17 rfl rfl)
theorem dL_law_230 : decode cL_law 230 = .ok (.iadd, 1) := dk_96 (dk_at dksL_law_4 18 rfl rfl)
theorem dL_law_231 : decode cL_law 231 = .ok (.iaload, 1) := dk_46 (dk_at dksL_law_4 19 rfl rfl)
theorem dL_law_232 : decode cL_law 232 = .ok (.aload_n 0, 1) := dk_42 (dk_at dksL_law_4 20 rfl rfl)
theorem dL_law_233 : decode cL_law 233 = .ok (.iload_n 3, 1) := dk_29 (dk_at dksL_law_4 21 rfl rfl)
theorem dL_law_234 : decode cL_law 234 = .ok (.iconst 3, 1) := dk_6 (dk_at dksL_law_4 22 rfl rfl)
theorem dL_law_235 : decode cL_law 235 = .ok (.iadd, 1) := dk_96 (dk_at dksL_law_4 23 rfl rfl)
theorem dL_law_236 : decode cL_law 236 = .ok (.iaload, 1) := dk_46 (dk_at dksL_law_5 0 rfl rfl)
theorem dL_law_237 : decode cL_law 237 = .ok (.invokevirtual 18, 3) := dk_182 0 18 (dk_at dksL_law_5 1 rfl rfl)
theorem dL_law_240 : decode cL_law 240 = .ok (.aload_n 2, 1) := dk_44 (dk_at dksL_law_5 4 rfl rfl)
theorem dL_law_241 : decode cL_law 241 = .ok (.aload_n 0, 1) := dk_42 (dk_at dksL_law_5 5 rfl rfl)
theorem dL_law_242 : decode cL_law 242 = .ok (.iload_n 3, 1) := dk_29 (dk_at dksL_law_5 6 rfl rfl)
theorem dL_law_243 : decode cL_law 243 = .ok (.iconst 1, 1) := dk_4 (dk_at dksL_law_5 7 rfl rfl)
theorem dL_law_244 : decode cL_law 244 = .ok (.iadd, 1) := dk_96 (dk_at dksL_law_5 8 rfl rfl)
theorem dL_law_245 : decode cL_law 245 = .ok (.iaload, 1) := dk_46 (dk_at dksL_law_5 9 rfl rfl)
theorem dL_law_246 : decode cL_law 246 = .ok (.aload_n 0, 1) := dk_42 (dk_at dksL_law_5 10 rfl rfl)
theorem dL_law_247 : decode cL_law 247 = .ok (.iload_n 3, 1) := dk_29 (dk_at dksL_law_5 11 rfl rfl)
theorem dL_law_248 : decode cL_law 248 = .ok (.iconst 2, 1) := dk_5 (dk_at dksL_law_5 12 rfl rfl)
theorem dL_law_249 : decode cL_law 249 = .ok (.iadd, 1) := dk_96 (dk_at dksL_law_5 13 rfl rfl)
theorem dL_law_250 : decode cL_law 250 = .ok (.iaload, 1) := dk_46 (dk_at dksL_law_5 14 rfl rfl)
theorem dL_law_251 : decode cL_law 251 = .ok (.aload_n 0, 1) := dk_42 (dk_at dksL_law_5 15 rfl rfl)
theorem dL_law_252 : decode cL_law 252 = .ok (.iload_n 3, 1) := dk_29 (dk_at dksL_law_5 16 rfl rfl)
theorem dL_law_253 : decode cL_law 253 = .ok (.iconst 3, 1) := dk_6 (dk_at dksL_law_5 17 rfl rfl)
theorem dL_law_254 : decode cL_law 254 = .ok (.iadd, 1) := dk_96 (dk_at dksL_law_5 18 rfl rfl)
theorem dL_law_255 : decode cL_law 255 = .ok (.iaload, 1) := dk_46 (dk_at dksL_law_5 19 rfl rfl)
theorem dL_law_256 : decode cL_law 256 = .ok (.invokevirtual 22, 3) := dk_182 0 22 (dk_at dksL_law_5 20 rfl rfl)
theorem dL_law_259 : decode cL_law 259 = .ok (.if_icmp .eq 994, 3) := dk_159 3 226 (dk_at dksL_law_6 0 rfl rfl)
theorem dL_law_262 : decode cL_law 262 = .ok (.iconst 0, 1) := dk_3 (dk_at dksL_law_6 3 rfl rfl)
theorem dL_law_263 : decode cL_law 263 = .ok (.ireturn, 1) := dk_172 (dk_at dksL_law_6 4 rfl rfl)
theorem dL_law_264 : decode cL_law 264 = .ok (.aload_n 1, 1) := dk_43 (dk_at dksL_law_6 5 rfl rfl)
theorem dL_law_265 : decode cL_law 265 = .ok (.aload_n 0, 1) := dk_42 (dk_at dksL_law_6 6 rfl rfl)
theorem dL_law_266 : decode cL_law 266 = .ok (.iload_n 3, 1) := dk_29 (dk_at dksL_law_6 7 rfl rfl)
theorem dL_law_267 : decode cL_law 267 = .ok (.iconst 1, 1) := dk_4 (dk_at dksL_law_6 8 rfl rfl)
theorem dL_law_268 : decode cL_law 268 = .ok (.iadd, 1) := dk_96 (dk_at dksL_law_6 9 rfl rfl)
theorem dL_law_269 : decode cL_law 269 = .ok (.iaload, 1) := dk_46 (dk_at dksL_law_6 10 rfl rfl)
theorem dL_law_270 : decode cL_law 270 = .ok (.aload_n 0, 1) := dk_42 (dk_at dksL_law_6 11 rfl rfl)
theorem dL_law_271 : decode cL_law 271 = .ok (.iload_n 3, 1) := dk_29 (dk_at dksL_law_6 12 rfl rfl)
theorem dL_law_272 : decode cL_law 272 = .ok (.iconst 2, 1) := dk_5 (dk_at dksL_law_6 13 rfl rfl)
theorem dL_law_273 : decode cL_law 273 = .ok (.iadd, 1) := dk_96 (dk_at dksL_law_6 14 rfl rfl)
theorem dL_law_274 : decode cL_law 274 = .ok (.iaload, 1) := dk_46 (dk_at dksL_law_6 15 rfl rfl)
theorem dL_law_275 : decode cL_law 275 = .ok (.invokevirtual 23, 3) := dk_182 0 23 (dk_at dksL_law_6 16 rfl rfl)
theorem dL_law_278 : decode cL_law 278 = .ok (.aload_n 2, 1) := dk_44 (dk_at dksL_law_6 19 rfl rfl)
theorem dL_law_279 : decode cL_law 279 = .ok (.aload_n 0, 1) := dk_42 (dk_at dksL_law_6 20 rfl rfl)
theorem dL_law_280 : decode cL_law 280 = .ok (.iload_n 3, 1) := dk_29 (dk_at dksL_law_6 21 rfl rfl)
theorem dL_law_281 : decode cL_law 281 = .ok (.iconst 1, 1) := dk_4 (dk_at dksL_law_6 22 rfl rfl)
theorem dL_law_282 : decode cL_law 282 = .ok (.iadd, 1) := dk_96 (dk_at dksL_law_6 23 rfl rfl)
theorem dL_law_283 : decode cL_law 283 = .ok (.iaload, 1) := dk_46 (dk_at dksL_law_7 0 rfl rfl)
theorem dL_law_284 : decode cL_law 284 = .ok (.aload_n 0, 1) := dk_42 (dk_at dksL_law_7 1 rfl rfl)
theorem dL_law_285 : decode cL_law 285 = .ok (.iload_n 3, 1) := dk_29 (dk_at dksL_law_7 2 rfl rfl)
theorem dL_law_286 : decode cL_law 286 = .ok (.iconst 2, 1) := dk_5 (dk_at dksL_law_7 3 rfl rfl)
theorem dL_law_287 : decode cL_law 287 = .ok (.iadd, 1) := dk_96 (dk_at dksL_law_7 4 rfl rfl)
theorem dL_law_288 : decode cL_law 288 = .ok (.iaload, 1) := dk_46 (dk_at dksL_law_7 5 rfl rfl)
theorem dL_law_289 : decode cL_law 289 = .ok (.invokevirtual 26, 3) := dk_182 0 26 (dk_at dksL_law_7 6 rfl rfl)
theorem dL_law_292 : decode cL_law 292 = .ok (.if_icmp .eq 961, 3) := dk_159 3 193 (dk_at dksL_law_7 9 rfl rfl)
theorem dL_law_295 : decode cL_law 295 = .ok (.iconst 0, 1) := dk_3 (dk_at dksL_law_7 12 rfl rfl)
theorem dL_law_296 : decode cL_law 296 = .ok (.ireturn, 1) := dk_172 (dk_at dksL_law_7 13 rfl rfl)
theorem dL_law_297 : decode cL_law 297 = .ok (.aload_n 1, 1) := dk_43 (dk_at dksL_law_7 14 rfl rfl)
theorem dL_law_298 : decode cL_law 298 = .ok (.aload_n 0, 1) := dk_42 (dk_at dksL_law_7 15 rfl rfl)
theorem dL_law_299 : decode cL_law 299 = .ok (.iload_n 3, 1) := dk_29 (dk_at dksL_law_7 16 rfl rfl)
theorem dL_law_300 : decode cL_law 300 = .ok (.iconst 1, 1) := dk_4 (dk_at dksL_law_7 17 rfl rfl)
theorem dL_law_301 : decode cL_law 301 = .ok (.iadd, 1) := dk_96 (dk_at dksL_law_7 18 rfl rfl)
theorem dL_law_302 : decode cL_law 302 = .ok (.iaload, 1) := dk_46 (dk_at dksL_law_7 19 rfl rfl)
theorem dL_law_303 : decode cL_law 303 = .ok (.invokevirtual 27, 3) := dk_182 0 27 (dk_at dksL_law_7 20 rfl rfl)
theorem dL_law_306 : decode cL_law 306 = .ok (.aload_n 2, 1) := dk_44 (dk_at dksL_law_7 23 rfl rfl)
theorem dL_law_307 : decode cL_law 307 = .ok (.aload_n 0, 1) := dk_42 (dk_at dksL_law_8 0 rfl rfl)
theorem dL_law_308 : decode cL_law 308 = .ok (.iload_n 3, 1) := dk_29 (dk_at dksL_law_8 1 rfl rfl)
theorem dL_law_309 : decode cL_law 309 = .ok (.iconst 1, 1) := dk_4 (dk_at dksL_law_8 2 rfl rfl)
theorem dL_law_310 : decode cL_law 310 = .ok (.iadd, 1) := dk_96 (dk_at dksL_law_8 3 rfl rfl)
theorem dL_law_311 : decode cL_law 311 = .ok (.iaload, 1) := dk_46 (dk_at dksL_law_8 4 rfl rfl)
theorem dL_law_312 : decode cL_law 312 = .ok (.invokevirtual 31, 3) := dk_182 0 31 (dk_at dksL_law_8 5 rfl rfl)
theorem dL_law_315 : decode cL_law 315 = .ok (.if_icmp .eq 938, 3) := dk_159 3 170 (dk_at dksL_law_8 8 rfl rfl)
theorem dL_law_318 : decode cL_law 318 = .ok (.iconst 0, 1) := dk_3 (dk_at dksL_law_8 11 rfl rfl)
theorem dL_law_319 : decode cL_law 319 = .ok (.ireturn, 1) := dk_172 (dk_at dksL_law_8 12 rfl rfl)
theorem dL_law_320 : decode cL_law 320 = .ok (.aload_n 1, 1) := dk_43 (dk_at dksL_law_8 13 rfl rfl)
theorem dL_law_321 : decode cL_law 321 = .ok (.aload_n 0, 1) := dk_42 (dk_at dksL_law_8 14 rfl rfl)
theorem dL_law_322 : decode cL_law 322 = .ok (.iload_n 3, 1) := dk_29 (dk_at dksL_law_8 15 rfl rfl)
theorem dL_law_323 : decode cL_law 323 = .ok (.iconst 1, 1) := dk_4 (dk_at dksL_law_8 16 rfl rfl)
theorem dL_law_324 : decode cL_law 324 = .ok (.iadd, 1) := dk_96 (dk_at dksL_law_8 17 rfl rfl)
theorem dL_law_325 : decode cL_law 325 = .ok (.iaload, 1) := dk_46 (dk_at dksL_law_8 18 rfl rfl)
theorem dL_law_326 : decode cL_law 326 = .ok (.invokevirtual 32, 3) := dk_182 0 32 (dk_at dksL_law_8 19 rfl rfl)
theorem dL_law_329 : decode cL_law 329 = .ok (.aload_n 2, 1) := dk_44 (dk_at dksL_law_8 22 rfl rfl)
theorem dL_law_330 : decode cL_law 330 = .ok (.aload_n 0, 1) := dk_42 (dk_at dksL_law_8 23 rfl rfl)
theorem dL_law_331 : decode cL_law 331 = .ok (.iload_n 3, 1) := dk_29 (dk_at dksL_law_9 0 rfl rfl)
theorem dL_law_332 : decode cL_law 332 = .ok (.iconst 1, 1) := dk_4 (dk_at dksL_law_9 1 rfl rfl)
theorem dL_law_333 : decode cL_law 333 = .ok (.iadd, 1) := dk_96 (dk_at dksL_law_9 2 rfl rfl)
theorem dL_law_334 : decode cL_law 334 = .ok (.iaload, 1) := dk_46 (dk_at dksL_law_9 3 rfl rfl)
theorem dL_law_335 : decode cL_law 335 = .ok (.invokevirtual 35, 3) := dk_182 0 35 (dk_at dksL_law_9 4 rfl rfl)
theorem dL_law_338 : decode cL_law 338 = .ok (.if_icmp .eq 915, 3) := dk_159 3 147 (dk_at dksL_law_9 7 rfl rfl)
theorem dL_law_341 : decode cL_law 341 = .ok (.iconst 0, 1) := dk_3 (dk_at dksL_law_9 10 rfl rfl)
theorem dL_law_342 : decode cL_law 342 = .ok (.ireturn, 1) := dk_172 (dk_at dksL_law_9 11 rfl rfl)
theorem dL_law_343 : decode cL_law 343 = .ok (.aload_n 1, 1) := dk_43 (dk_at dksL_law_9 12 rfl rfl)
theorem dL_law_344 : decode cL_law 344 = .ok (.aload_n 0, 1) := dk_42 (dk_at dksL_law_9 13 rfl rfl)
theorem dL_law_345 : decode cL_law 345 = .ok (.iload_n 3, 1) := dk_29 (dk_at dksL_law_9 14 rfl rfl)
theorem dL_law_346 : decode cL_law 346 = .ok (.iconst 1, 1) := dk_4 (dk_at dksL_law_9 15 rfl rfl)
theorem dL_law_347 : decode cL_law 347 = .ok (.iadd, 1) := dk_96 (dk_at dksL_law_9 16 rfl rfl)
theorem dL_law_348 : decode cL_law 348 = .ok (.iaload, 1) := dk_46 (dk_at dksL_law_9 17 rfl rfl)
theorem dL_law_349 : decode cL_law 349 = .ok (.aload_n 0, 1) := dk_42 (dk_at dksL_law_9 18 rfl rfl)
theorem dL_law_350 : decode cL_law 350 = .ok (.iload_n 3, 1) := dk_29 (dk_at dksL_law_9 19 rfl rfl)
theorem dL_law_351 : decode cL_law 351 = .ok (.iconst 2, 1) := dk_5 (dk_at dksL_law_9 20 rfl rfl)
theorem dL_law_352 : decode cL_law 352 = .ok (.iadd, 1) := dk_96 (dk_at dksL_law_9 21 rfl rfl)
theorem dL_law_353 : decode cL_law 353 = .ok (.iaload, 1) := dk_46 (dk_at dksL_law_9 22 rfl rfl)
theorem dL_law_354 : decode cL_law 354 = .ok (.aload_n 0, 1) := dk_42 (dk_at dksL_law_9 23 rfl rfl)
theorem dL_law_355 : decode cL_law 355 = .ok (.iload_n 3, 1) := dk_29 (dk_at dksL_law_10 0 rfl rfl)
theorem dL_law_356 : decode cL_law 356 = .ok (.iconst 3, 1) := dk_6 (dk_at dksL_law_10 1 rfl rfl)
theorem dL_law_357 : decode cL_law 357 = .ok (.iadd, 1) := dk_96 (dk_at dksL_law_10 2 rfl rfl)
theorem dL_law_358 : decode cL_law 358 = .ok (.iaload, 1) := dk_46 (dk_at dksL_law_10 3 rfl rfl)
theorem dL_law_359 : decode cL_law 359 = .ok (.invokevirtual 36, 3) := dk_182 0 36 (dk_at dksL_law_10 4 rfl rfl)
theorem dL_law_362 : decode cL_law 362 = .ok (.aload_n 2, 1) := dk_44 (dk_at dksL_law_10 7 rfl rfl)
theorem dL_law_363 : decode cL_law 363 = .ok (.aload_n 0, 1) := dk_42 (dk_at dksL_law_10 8 rfl rfl)
theorem dL_law_364 : decode cL_law 364 = .ok (.iload_n 3, 1) := dk_29 (dk_at dksL_law_10 9 rfl rfl)
theorem dL_law_365 : decode cL_law 365 = .ok (.iconst 1, 1) := dk_4 (dk_at dksL_law_10 10 rfl rfl)
theorem dL_law_366 : decode cL_law 366 = .ok (.iadd, 1) := dk_96 (dk_at dksL_law_10 11 rfl rfl)
theorem dL_law_367 : decode cL_law 367 = .ok (.iaload, 1) := dk_46 (dk_at dksL_law_10 12 rfl rfl)
theorem dL_law_368 : decode cL_law 368 = .ok (.aload_n 0, 1) := dk_42 (dk_at dksL_law_10 13 rfl rfl)
theorem dL_law_369 : decode cL_law 369 = .ok (.iload_n 3, 1) := dk_29 (dk_at dksL_law_10 14 rfl rfl)
theorem dL_law_370 : decode cL_law 370 = .ok (.iconst 2, 1) := dk_5 (dk_at dksL_law_10 15 rfl rfl)
theorem dL_law_371 : decode cL_law 371 = .ok (.iadd, 1) := dk_96 (dk_at dksL_law_10 16 rfl rfl)
theorem dL_law_372 : decode cL_law 372 = .ok (.iaload, 1) := dk_46 (dk_at dksL_law_10 17 rfl rfl)
theorem dL_law_373 : decode cL_law 373 = .ok (.aload_n 0, 1) := dk_42 (dk_at dksL_law_10 18 rfl rfl)
theorem dL_law_374 : decode cL_law 374 = .ok (.iload_n 3, 1) := dk_29 (dk_at dksL_law_10 19 rfl rfl)
theorem dL_law_375 : decode cL_law 375 = .ok (.iconst 3, 1) := dk_6 (dk_at dksL_law_10 20 rfl rfl)
theorem dL_law_376 : decode cL_law 376 = .ok (.iadd, 1) := dk_96 (dk_at dksL_law_10 21 rfl rfl)
theorem dL_law_377 : decode cL_law 377 = .ok (.iaload, 1) := dk_46 (dk_at dksL_law_10 22 rfl rfl)
theorem dL_law_378 : decode cL_law 378 = .ok (.invokevirtual 39, 3) := dk_182 0 39 (dk_at dksL_law_11 0 rfl rfl)
theorem dL_law_381 : decode cL_law 381 = .ok (.if_icmp .eq 872, 3) := dk_159 3 104 (dk_at dksL_law_11 3 rfl rfl)
theorem dL_law_384 : decode cL_law 384 = .ok (.iconst 0, 1) := dk_3 (dk_at dksL_law_11 6 rfl rfl)
theorem dL_law_385 : decode cL_law 385 = .ok (.ireturn, 1) := dk_172 (dk_at dksL_law_11 7 rfl rfl)
theorem dL_law_386 : decode cL_law 386 = .ok (.aload_n 1, 1) := dk_43 (dk_at dksL_law_11 8 rfl rfl)
theorem dL_law_387 : decode cL_law 387 = .ok (.aload_n 0, 1) := dk_42 (dk_at dksL_law_11 9 rfl rfl)
theorem dL_law_388 : decode cL_law 388 = .ok (.iload_n 3, 1) := dk_29 (dk_at dksL_law_11 10 rfl rfl)
theorem dL_law_389 : decode cL_law 389 = .ok (.iconst 1, 1) := dk_4 (dk_at dksL_law_11 11 rfl rfl)
theorem dL_law_390 : decode cL_law 390 = .ok (.iadd, 1) := dk_96 (dk_at dksL_law_11 12 rfl rfl)
theorem dL_law_391 : decode cL_law 391 = .ok (.iaload, 1) := dk_46 (dk_at dksL_law_11 13 rfl rfl)
theorem dL_law_392 : decode cL_law 392 = .ok (.aload_n 0, 1) := dk_42 (dk_at dksL_law_11 14 rfl rfl)
theorem dL_law_393 : decode cL_law 393 = .ok (.iload_n 3, 1) := dk_29 (dk_at dksL_law_11 15 rfl rfl)
theorem dL_law_394 : decode cL_law 394 = .ok (.iconst 2, 1) := dk_5 (dk_at dksL_law_11 16 rfl rfl)
theorem dL_law_395 : decode cL_law 395 = .ok (.iadd, 1) := dk_96 (dk_at dksL_law_11 17 rfl rfl)
theorem dL_law_396 : decode cL_law 396 = .ok (.iaload, 1) := dk_46 (dk_at dksL_law_11 18 rfl rfl)
theorem dL_law_397 : decode cL_law 397 = .ok (.aload_n 0, 1) := dk_42 (dk_at dksL_law_11 19 rfl rfl)
theorem dL_law_398 : decode cL_law 398 = .ok (.iload_n 3, 1) := dk_29 (dk_at dksL_law_11 20 rfl rfl)
theorem dL_law_399 : decode cL_law 399 = .ok (.iconst 3, 1) := dk_6 (dk_at dksL_law_11 21 rfl rfl)
theorem dL_law_400 : decode cL_law 400 = .ok (.iadd, 1) := dk_96 (dk_at dksL_law_11 22 rfl rfl)
theorem dL_law_401 : decode cL_law 401 = .ok (.iaload, 1) := dk_46 (dk_at dksL_law_11 23 rfl rfl)
theorem dL_law_402 : decode cL_law 402 = .ok (.invokevirtual 40, 3) := dk_182 0 40 (dk_at dksL_law_12 0 rfl rfl)
theorem dL_law_405 : decode cL_law 405 = .ok (.aload_n 2, 1) := dk_44 (dk_at dksL_law_12 3 rfl rfl)
theorem dL_law_406 : decode cL_law 406 = .ok (.aload_n 0, 1) := dk_42 (dk_at dksL_law_12 4 rfl rfl)
theorem dL_law_407 : decode cL_law 407 = .ok (.iload_n 3, 1) := dk_29 (dk_at dksL_law_12 5 rfl rfl)
theorem dL_law_408 : decode cL_law 408 = .ok (.iconst 1, 1) := dk_4 (dk_at dksL_law_12 6 rfl rfl)
theorem dL_law_409 : decode cL_law 409 = .ok (.iadd, 1) := dk_96 (dk_at dksL_law_12 7 rfl rfl)
theorem dL_law_410 : decode cL_law 410 = .ok (.iaload, 1) := dk_46 (dk_at dksL_law_12 8 rfl rfl)
theorem dL_law_411 : decode cL_law 411 = .ok (.aload_n 0, 1) := dk_42 (dk_at dksL_law_12 9 rfl rfl)
theorem dL_law_412 : decode cL_law 412 = .ok (.iload_n 3, 1) := dk_29 (dk_at dksL_law_12 10 rfl rfl)
theorem dL_law_413 : decode cL_law 413 = .ok (.iconst 2, 1) := dk_5 (dk_at dksL_law_12 11 rfl rfl)
theorem dL_law_414 : decode cL_law 414 = .ok (.iadd, 1) := dk_96 (dk_at dksL_law_12 12 rfl rfl)
theorem dL_law_415 : decode cL_law 415 = .ok (.iaload, 1) := dk_46 (dk_at dksL_law_12 13 rfl rfl)
theorem dL_law_416 : decode cL_law 416 = .ok (.aload_n 0, 1) := dk_42 (dk_at dksL_law_12 14 rfl rfl)
theorem dL_law_417 : decode cL_law 417 = .ok (.iload_n 3, 1) := dk_29 (dk_at dksL_law_12 15 rfl rfl)
theorem dL_law_418 : decode cL_law 418 = .ok (.iconst 3, 1) := dk_6 (dk_at dksL_law_12 16 rfl rfl)
theorem dL_law_419 : decode cL_law 419 = .ok (.iadd, 1) := dk_96 (dk_at dksL_law_12 17 rfl rfl)
theorem dL_law_420 : decode cL_law 420 = .ok (.iaload, 1) := dk_46 (dk_at dksL_law_12 18 rfl rfl)
theorem dL_law_421 : decode cL_law 421 = .ok (.invokevirtual 43, 3) := dk_182 0 43 (dk_at dksL_law_12 19 rfl rfl)
theorem dL_law_424 : decode cL_law 424 = .ok (.if_icmp .eq 829, 3) := dk_159 3 61 (dk_at dksL_law_13 0 rfl rfl)
theorem dL_law_427 : decode cL_law 427 = .ok (.iconst 0, 1) := dk_3 (dk_at dksL_law_13 3 rfl rfl)
theorem dL_law_428 : decode cL_law 428 = .ok (.ireturn, 1) := dk_172 (dk_at dksL_law_13 4 rfl rfl)
theorem dL_law_429 : decode cL_law 429 = .ok (.aload_n 1, 1) := dk_43 (dk_at dksL_law_13 5 rfl rfl)
theorem dL_law_430 : decode cL_law 430 = .ok (.aload_n 0, 1) := dk_42 (dk_at dksL_law_13 6 rfl rfl)
theorem dL_law_431 : decode cL_law 431 = .ok (.iload_n 3, 1) := dk_29 (dk_at dksL_law_13 7 rfl rfl)
theorem dL_law_432 : decode cL_law 432 = .ok (.iconst 1, 1) := dk_4 (dk_at dksL_law_13 8 rfl rfl)
theorem dL_law_433 : decode cL_law 433 = .ok (.iadd, 1) := dk_96 (dk_at dksL_law_13 9 rfl rfl)
theorem dL_law_434 : decode cL_law 434 = .ok (.iaload, 1) := dk_46 (dk_at dksL_law_13 10 rfl rfl)
theorem dL_law_435 : decode cL_law 435 = .ok (.aload_n 0, 1) := dk_42 (dk_at dksL_law_13 11 rfl rfl)
theorem dL_law_436 : decode cL_law 436 = .ok (.iload_n 3, 1) := dk_29 (dk_at dksL_law_13 12 rfl rfl)
theorem dL_law_437 : decode cL_law 437 = .ok (.iconst 2, 1) := dk_5 (dk_at dksL_law_13 13 rfl rfl)
theorem dL_law_438 : decode cL_law 438 = .ok (.iadd, 1) := dk_96 (dk_at dksL_law_13 14 rfl rfl)
theorem dL_law_439 : decode cL_law 439 = .ok (.iaload, 1) := dk_46 (dk_at dksL_law_13 15 rfl rfl)
theorem dL_law_440 : decode cL_law 440 = .ok (.aload_n 0, 1) := dk_42 (dk_at dksL_law_13 16 rfl rfl)
theorem dL_law_441 : decode cL_law 441 = .ok (.iload_n 3, 1) := dk_29 (dk_at dksL_law_13 17 rfl rfl)
theorem dL_law_442 : decode cL_law 442 = .ok (.iconst 3, 1) := dk_6 (dk_at dksL_law_13 18 rfl rfl)
theorem dL_law_443 : decode cL_law 443 = .ok (.iadd, 1) := dk_96 (dk_at dksL_law_13 19 rfl rfl)
theorem dL_law_444 : decode cL_law 444 = .ok (.iaload, 1) := dk_46 (dk_at dksL_law_13 20 rfl rfl)
theorem dL_law_445 : decode cL_law 445 = .ok (.aload_n 0, 1) := dk_42 (dk_at dksL_law_13 21 rfl rfl)
theorem dL_law_446 : decode cL_law 446 = .ok (.iload_n 3, 1) := dk_29 (dk_at dksL_law_13 22 rfl rfl)
theorem dL_law_447 : decode cL_law 447 = .ok (.iconst 4, 1) := dk_7 (dk_at dksL_law_13 23 rfl rfl)
theorem dL_law_448 : decode cL_law 448 = .ok (.iadd, 1) := dk_96 (dk_at dksL_law_14 0 rfl rfl)
theorem dL_law_449 : decode cL_law 449 = .ok (.iaload, 1) := dk_46 (dk_at dksL_law_14 1 rfl rfl)
theorem dL_law_450 : decode cL_law 450 = .ok (.invokevirtual 44, 3) := dk_182 0 44 (dk_at dksL_law_14 2 rfl rfl)
theorem dL_law_453 : decode cL_law 453 = .ok (.aload_n 2, 1) := dk_44 (dk_at dksL_law_14 5 rfl rfl)
theorem dL_law_454 : decode cL_law 454 = .ok (.aload_n 0, 1) := dk_42 (dk_at dksL_law_14 6 rfl rfl)
theorem dL_law_455 : decode cL_law 455 = .ok (.iload_n 3, 1) := dk_29 (dk_at dksL_law_14 7 rfl rfl)
theorem dL_law_456 : decode cL_law 456 = .ok (.iconst 1, 1) := dk_4 (dk_at dksL_law_14 8 rfl rfl)
theorem dL_law_457 : decode cL_law 457 = .ok (.iadd, 1) := dk_96 (dk_at dksL_law_14 9 rfl rfl)
theorem dL_law_458 : decode cL_law 458 = .ok (.iaload, 1) := dk_46 (dk_at dksL_law_14 10 rfl rfl)
theorem dL_law_459 : decode cL_law 459 = .ok (.aload_n 0, 1) := dk_42 (dk_at dksL_law_14 11 rfl rfl)
theorem dL_law_460 : decode cL_law 460 = .ok (.iload_n 3, 1) := dk_29 (dk_at dksL_law_14 12 rfl rfl)
theorem dL_law_461 : decode cL_law 461 = .ok (.iconst 2, 1) := dk_5 (dk_at dksL_law_14 13 rfl rfl)
theorem dL_law_462 : decode cL_law 462 = .ok (.iadd, 1) := dk_96 (dk_at dksL_law_14 14 rfl rfl)
theorem dL_law_463 : decode cL_law 463 = .ok (.iaload, 1) := dk_46 (dk_at dksL_law_14 15 rfl rfl)
theorem dL_law_464 : decode cL_law 464 = .ok (.aload_n 0, 1) := dk_42 (dk_at dksL_law_14 16 rfl rfl)
theorem dL_law_465 : decode cL_law 465 = .ok (.iload_n 3, 1) := dk_29 (dk_at dksL_law_14 17 rfl rfl)
theorem dL_law_466 : decode cL_law 466 = .ok (.iconst 3, 1) := dk_6 (dk_at dksL_law_14 18 rfl rfl)
theorem dL_law_467 : decode cL_law 467 = .ok (.iadd, 1) := dk_96 (dk_at dksL_law_14 19 rfl rfl)
theorem dL_law_468 : decode cL_law 468 = .ok (.iaload, 1) := dk_46 (dk_at dksL_law_14 20 rfl rfl)
theorem dL_law_469 : decode cL_law 469 = .ok (.aload_n 0, 1) := dk_42 (dk_at dksL_law_14 21 rfl rfl)
theorem dL_law_470 : decode cL_law 470 = .ok (.iload_n 3, 1) := dk_29 (dk_at dksL_law_14 22 rfl rfl)
theorem dL_law_471 : decode cL_law 471 = .ok (.iconst 4, 1) := dk_7 (dk_at dksL_law_14 23 rfl rfl)
theorem dL_law_472 : decode cL_law 472 = .ok (.iadd, 1) := dk_96 (dk_at dksL_law_15 0 rfl rfl)
theorem dL_law_473 : decode cL_law 473 = .ok (.iaload, 1) := dk_46 (dk_at dksL_law_15 1 rfl rfl)
theorem dL_law_474 : decode cL_law 474 = .ok (.invokevirtual 48, 3) := dk_182 0 48 (dk_at dksL_law_15 2 rfl rfl)
theorem dL_law_477 : decode cL_law 477 = .ok (.if_icmp .eq 776, 3) := dk_159 3 8 (dk_at dksL_law_15 5 rfl rfl)
theorem dL_law_480 : decode cL_law 480 = .ok (.iconst 0, 1) := dk_3 (dk_at dksL_law_15 8 rfl rfl)
theorem dL_law_481 : decode cL_law 481 = .ok (.ireturn, 1) := dk_172 (dk_at dksL_law_15 9 rfl rfl)
theorem dL_law_482 : decode cL_law 482 = .ok (.aload_n 1, 1) := dk_43 (dk_at dksL_law_15 10 rfl rfl)
theorem dL_law_483 : decode cL_law 483 = .ok (.aload_n 0, 1) := dk_42 (dk_at dksL_law_15 11 rfl rfl)
theorem dL_law_484 : decode cL_law 484 = .ok (.iload_n 3, 1) := dk_29 (dk_at dksL_law_15 12 rfl rfl)
theorem dL_law_485 : decode cL_law 485 = .ok (.iconst 1, 1) := dk_4 (dk_at dksL_law_15 13 rfl rfl)
theorem dL_law_486 : decode cL_law 486 = .ok (.iadd, 1) := dk_96 (dk_at dksL_law_15 14 rfl rfl)
theorem dL_law_487 : decode cL_law 487 = .ok (.iaload, 1) := dk_46 (dk_at dksL_law_15 15 rfl rfl)
theorem dL_law_488 : decode cL_law 488 = .ok (.invokevirtual 49, 3) := dk_182 0 49 (dk_at dksL_law_15 16 rfl rfl)
theorem dL_law_491 : decode cL_law 491 = .ok (.aload_n 2, 1) := dk_44 (dk_at dksL_law_15 19 rfl rfl)
theorem dL_law_492 : decode cL_law 492 = .ok (.aload_n 0, 1) := dk_42 (dk_at dksL_law_15 20 rfl rfl)
theorem dL_law_493 : decode cL_law 493 = .ok (.iload_n 3, 1) := dk_29 (dk_at dksL_law_15 21 rfl rfl)
theorem dL_law_494 : decode cL_law 494 = .ok (.iconst 1, 1) := dk_4 (dk_at dksL_law_15 22 rfl rfl)
theorem dL_law_495 : decode cL_law 495 = .ok (.iadd, 1) := dk_96 (dk_at dksL_law_15 23 rfl rfl)
theorem dL_law_496 : decode cL_law 496 = .ok (.iaload, 1) := dk_46 (dk_at dksL_law_16 0 rfl rfl)
theorem dL_law_497 : decode cL_law 497 = .ok (.invokevirtual 52, 3) := dk_182 0 52 (dk_at dksL_law_16 1 rfl rfl)
theorem dL_law_500 : decode cL_law 500 = .ok (.if_icmp .eq 753, 3) := dk_159 2 241 (dk_at dksL_law_16 4 rfl rfl)
theorem dL_law_503 : decode cL_law 503 = .ok (.iconst 0, 1) := dk_3 (dk_at dksL_law_16 7 rfl rfl)
theorem dL_law_504 : decode cL_law 504 = .ok (.ireturn, 1) := dk_172 (dk_at dksL_law_16 8 rfl rfl)
theorem dL_law_505 : decode cL_law 505 = .ok (.aload_n 1, 1) := dk_43 (dk_at dksL_law_16 9 rfl rfl)
theorem dL_law_506 : decode cL_law 506 = .ok (.aload_n 0, 1) := dk_42 (dk_at dksL_law_16 10 rfl rfl)
theorem dL_law_507 : decode cL_law 507 = .ok (.iload_n 3, 1) := dk_29 (dk_at dksL_law_16 11 rfl rfl)
theorem dL_law_508 : decode cL_law 508 = .ok (.iconst 1, 1) := dk_4 (dk_at dksL_law_16 12 rfl rfl)
theorem dL_law_509 : decode cL_law 509 = .ok (.iadd, 1) := dk_96 (dk_at dksL_law_16 13 rfl rfl)
theorem dL_law_510 : decode cL_law 510 = .ok (.iaload, 1) := dk_46 (dk_at dksL_law_16 14 rfl rfl)
theorem dL_law_511 : decode cL_law 511 = .ok (.aload_n 0, 1) := dk_42 (dk_at dksL_law_16 15 rfl rfl)
theorem dL_law_512 : decode cL_law 512 = .ok (.iload_n 3, 1) := dk_29 (dk_at dksL_law_16 16 rfl rfl)
theorem dL_law_513 : decode cL_law 513 = .ok (.iconst 2, 1) := dk_5 (dk_at dksL_law_16 17 rfl rfl)
theorem dL_law_514 : decode cL_law 514 = .ok (.iadd, 1) := dk_96 (dk_at dksL_law_16 18 rfl rfl)
theorem dL_law_515 : decode cL_law 515 = .ok (.iaload, 1) := dk_46 (dk_at dksL_law_16 19 rfl rfl)
theorem dL_law_516 : decode cL_law 516 = .ok (.aload_n 0, 1) := dk_42 (dk_at dksL_law_16 20 rfl rfl)
theorem dL_law_517 : decode cL_law 517 = .ok (.iload_n 3, 1) := dk_29 (dk_at dksL_law_16 21 rfl rfl)
theorem dL_law_518 : decode cL_law 518 = .ok (.iconst 3, 1) := dk_6 (dk_at dksL_law_16 22 rfl rfl)
theorem dL_law_519 : decode cL_law 519 = .ok (.iadd, 1) := dk_96 (dk_at dksL_law_16 23 rfl rfl)
theorem dL_law_520 : decode cL_law 520 = .ok (.iaload, 1) := dk_46 (dk_at dksL_law_17 0 rfl rfl)
theorem dL_law_521 : decode cL_law 521 = .ok (.aload_n 0, 1) := dk_42 (dk_at dksL_law_17 1 rfl rfl)
theorem dL_law_522 : decode cL_law 522 = .ok (.iload_n 3, 1) := dk_29 (dk_at dksL_law_17 2 rfl rfl)
theorem dL_law_523 : decode cL_law 523 = .ok (.iconst 4, 1) := dk_7 (dk_at dksL_law_17 3 rfl rfl)
theorem dL_law_524 : decode cL_law 524 = .ok (.iadd, 1) := dk_96 (dk_at dksL_law_17 4 rfl rfl)
theorem dL_law_525 : decode cL_law 525 = .ok (.iaload, 1) := dk_46 (dk_at dksL_law_17 5 rfl rfl)
theorem dL_law_526 : decode cL_law 526 = .ok (.invokevirtual 53, 3) := dk_182 0 53 (dk_at dksL_law_17 6 rfl rfl)
theorem dL_law_529 : decode cL_law 529 = .ok (.aload_n 2, 1) := dk_44 (dk_at dksL_law_17 9 rfl rfl)
theorem dL_law_530 : decode cL_law 530 = .ok (.aload_n 0, 1) := dk_42 (dk_at dksL_law_17 10 rfl rfl)
theorem dL_law_531 : decode cL_law 531 = .ok (.iload_n 3, 1) := dk_29 (dk_at dksL_law_17 11 rfl rfl)
theorem dL_law_532 : decode cL_law 532 = .ok (.iconst 1, 1) := dk_4 (dk_at dksL_law_17 12 rfl rfl)
theorem dL_law_533 : decode cL_law 533 = .ok (.iadd, 1) := dk_96 (dk_at dksL_law_17 13 rfl rfl)
theorem dL_law_534 : decode cL_law 534 = .ok (.iaload, 1) := dk_46 (dk_at dksL_law_17 14 rfl rfl)
theorem dL_law_535 : decode cL_law 535 = .ok (.aload_n 0, 1) := dk_42 (dk_at dksL_law_17 15 rfl rfl)
theorem dL_law_536 : decode cL_law 536 = .ok (.iload_n 3, 1) := dk_29 (dk_at dksL_law_17 16 rfl rfl)
theorem dL_law_537 : decode cL_law 537 = .ok (.iconst 2, 1) := dk_5 (dk_at dksL_law_17 17 rfl rfl)
theorem dL_law_538 : decode cL_law 538 = .ok (.iadd, 1) := dk_96 (dk_at dksL_law_17 18 rfl rfl)
theorem dL_law_539 : decode cL_law 539 = .ok (.iaload, 1) := dk_46 (dk_at dksL_law_17 19 rfl rfl)
theorem dL_law_540 : decode cL_law 540 = .ok (.aload_n 0, 1) := dk_42 (dk_at dksL_law_17 20 rfl rfl)
theorem dL_law_541 : decode cL_law 541 = .ok (.iload_n 3, 1) := dk_29 (dk_at dksL_law_17 21 rfl rfl)
theorem dL_law_542 : decode cL_law 542 = .ok (.iconst 3, 1) := dk_6 (dk_at dksL_law_17 22 rfl rfl)
theorem dL_law_543 : decode cL_law 543 = .ok (.iadd, 1) := dk_96 (dk_at dksL_law_17 23 rfl rfl)
theorem dL_law_544 : decode cL_law 544 = .ok (.iaload, 1) := dk_46 (dk_at dksL_law_18 0 rfl rfl)
theorem dL_law_545 : decode cL_law 545 = .ok (.aload_n 0, 1) := dk_42 (dk_at dksL_law_18 1 rfl rfl)
theorem dL_law_546 : decode cL_law 546 = .ok (.iload_n 3, 1) := dk_29 (dk_at dksL_law_18 2 rfl rfl)
theorem dL_law_547 : decode cL_law 547 = .ok (.iconst 4, 1) := dk_7 (dk_at dksL_law_18 3 rfl rfl)
theorem dL_law_548 : decode cL_law 548 = .ok (.iadd, 1) := dk_96 (dk_at dksL_law_18 4 rfl rfl)
theorem dL_law_549 : decode cL_law 549 = .ok (.iaload, 1) := dk_46 (dk_at dksL_law_18 5 rfl rfl)
theorem dL_law_550 : decode cL_law 550 = .ok (.invokevirtual 56, 3) := dk_182 0 56 (dk_at dksL_law_18 6 rfl rfl)
theorem dL_law_553 : decode cL_law 553 = .ok (.if_icmp .eq 700, 3) := dk_159 2 188 (dk_at dksL_law_18 9 rfl rfl)
theorem dL_law_556 : decode cL_law 556 = .ok (.iconst 0, 1) := dk_3 (dk_at dksL_law_18 12 rfl rfl)
theorem dL_law_557 : decode cL_law 557 = .ok (.ireturn, 1) := dk_172 (dk_at dksL_law_18 13 rfl rfl)
theorem dL_law_558 : decode cL_law 558 = .ok (.aload_n 1, 1) := dk_43 (dk_at dksL_law_18 14 rfl rfl)
theorem dL_law_559 : decode cL_law 559 = .ok (.aload_n 0, 1) := dk_42 (dk_at dksL_law_18 15 rfl rfl)
theorem dL_law_560 : decode cL_law 560 = .ok (.iload_n 3, 1) := dk_29 (dk_at dksL_law_18 16 rfl rfl)
theorem dL_law_561 : decode cL_law 561 = .ok (.iconst 1, 1) := dk_4 (dk_at dksL_law_18 17 rfl rfl)
theorem dL_law_562 : decode cL_law 562 = .ok (.iadd, 1) := dk_96 (dk_at dksL_law_18 18 rfl rfl)
theorem dL_law_563 : decode cL_law 563 = .ok (.iaload, 1) := dk_46 (dk_at dksL_law_18 19 rfl rfl)
theorem dL_law_564 : decode cL_law 564 = .ok (.invokevirtual 57, 3) := dk_182 0 57 (dk_at dksL_law_18 20 rfl rfl)
theorem dL_law_567 : decode cL_law 567 = .ok (.aload_n 2, 1) := dk_44 (dk_at dksL_law_18 23 rfl rfl)
theorem dL_law_568 : decode cL_law 568 = .ok (.aload_n 0, 1) := dk_42 (dk_at dksL_law_19 0 rfl rfl)
theorem dL_law_569 : decode cL_law 569 = .ok (.iload_n 3, 1) := dk_29 (dk_at dksL_law_19 1 rfl rfl)
theorem dL_law_570 : decode cL_law 570 = .ok (.iconst 1, 1) := dk_4 (dk_at dksL_law_19 2 rfl rfl)
theorem dL_law_571 : decode cL_law 571 = .ok (.iadd, 1) := dk_96 (dk_at dksL_law_19 3 rfl rfl)
theorem dL_law_572 : decode cL_law 572 = .ok (.iaload, 1) := dk_46 (dk_at dksL_law_19 4 rfl rfl)
theorem dL_law_573 : decode cL_law 573 = .ok (.invokevirtual 60, 3) := dk_182 0 60 (dk_at dksL_law_19 5 rfl rfl)
theorem dL_law_576 : decode cL_law 576 = .ok (.if_icmp .eq 677, 3) := dk_159 2 165 (dk_at dksL_law_19 8 rfl rfl)
theorem dL_law_579 : decode cL_law 579 = .ok (.iconst 0, 1) := dk_3 (dk_at dksL_law_19 11 rfl rfl)
theorem dL_law_580 : decode cL_law 580 = .ok (.ireturn, 1) := dk_172 (dk_at dksL_law_19 12 rfl rfl)
theorem dL_law_581 : decode cL_law 581 = .ok (.aload_n 1, 1) := dk_43 (dk_at dksL_law_19 13 rfl rfl)
theorem dL_law_582 : decode cL_law 582 = .ok (.aload_n 0, 1) := dk_42 (dk_at dksL_law_19 14 rfl rfl)
theorem dL_law_583 : decode cL_law 583 = .ok (.iload_n 3, 1) := dk_29 (dk_at dksL_law_19 15 rfl rfl)
theorem dL_law_584 : decode cL_law 584 = .ok (.iconst 1, 1) := dk_4 (dk_at dksL_law_19 16 rfl rfl)
theorem dL_law_585 : decode cL_law 585 = .ok (.iadd, 1) := dk_96 (dk_at dksL_law_19 17 rfl rfl)
theorem dL_law_586 : decode cL_law 586 = .ok (.iaload, 1) := dk_46 (dk_at dksL_law_19 18 rfl rfl)
theorem dL_law_587 : decode cL_law 587 = .ok (.aload_n 0, 1) := dk_42 (dk_at dksL_law_19 19 rfl rfl)
theorem dL_law_588 : decode cL_law 588 = .ok (.iload_n 3, 1) := dk_29 (dk_at dksL_law_19 20 rfl rfl)
theorem dL_law_589 : decode cL_law 589 = .ok (.iconst 2, 1) := dk_5 (dk_at dksL_law_19 21 rfl rfl)
theorem dL_law_590 : decode cL_law 590 = .ok (.iadd, 1) := dk_96 (dk_at dksL_law_19 22 rfl rfl)
theorem dL_law_591 : decode cL_law 591 = .ok (.iaload, 1) := dk_46 (dk_at dksL_law_19 23 rfl rfl)
theorem dL_law_592 : decode cL_law 592 = .ok (.invokevirtual 61, 3) := dk_182 0 61 (dk_at dksL_law_20 0 rfl rfl)
theorem dL_law_595 : decode cL_law 595 = .ok (.aload_n 2, 1) := dk_44 (dk_at dksL_law_20 3 rfl rfl)
theorem dL_law_596 : decode cL_law 596 = .ok (.aload_n 0, 1) := dk_42 (dk_at dksL_law_20 4 rfl rfl)
theorem dL_law_597 : decode cL_law 597 = .ok (.iload_n 3, 1) := dk_29 (dk_at dksL_law_20 5 rfl rfl)
theorem dL_law_598 : decode cL_law 598 = .ok (.iconst 1, 1) := dk_4 (dk_at dksL_law_20 6 rfl rfl)
theorem dL_law_599 : decode cL_law 599 = .ok (.iadd, 1) := dk_96 (dk_at dksL_law_20 7 rfl rfl)
theorem dL_law_600 : decode cL_law 600 = .ok (.iaload, 1) := dk_46 (dk_at dksL_law_20 8 rfl rfl)
theorem dL_law_601 : decode cL_law 601 = .ok (.aload_n 0, 1) := dk_42 (dk_at dksL_law_20 9 rfl rfl)
theorem dL_law_602 : decode cL_law 602 = .ok (.iload_n 3, 1) := dk_29 (dk_at dksL_law_20 10 rfl rfl)
theorem dL_law_603 : decode cL_law 603 = .ok (.iconst 2, 1) := dk_5 (dk_at dksL_law_20 11 rfl rfl)
theorem dL_law_604 : decode cL_law 604 = .ok (.iadd, 1) := dk_96 (dk_at dksL_law_20 12 rfl rfl)
theorem dL_law_605 : decode cL_law 605 = .ok (.iaload, 1) := dk_46 (dk_at dksL_law_20 13 rfl rfl)
theorem dL_law_606 : decode cL_law 606 = .ok (.invokevirtual 64, 3) := dk_182 0 64 (dk_at dksL_law_20 14 rfl rfl)
theorem dL_law_609 : decode cL_law 609 = .ok (.if_icmp .eq 644, 3) := dk_159 2 132 (dk_at dksL_law_20 17 rfl rfl)
theorem dL_law_612 : decode cL_law 612 = .ok (.iconst 0, 1) := dk_3 (dk_at dksL_law_20 20 rfl rfl)
theorem dL_law_613 : decode cL_law 613 = .ok (.ireturn, 1) := dk_172 (dk_at dksL_law_20 21 rfl rfl)
theorem dL_law_614 : decode cL_law 614 = .ok (.aload_n 1, 1) := dk_43 (dk_at dksL_law_20 22 rfl rfl)
theorem dL_law_615 : decode cL_law 615 = .ok (.aload_n 0, 1) := dk_42 (dk_at dksL_law_20 23 rfl rfl)
theorem dL_law_616 : decode cL_law 616 = .ok (.iload_n 3, 1) := dk_29 (dk_at dksL_law_21 0 rfl rfl)
theorem dL_law_617 : decode cL_law 617 = .ok (.iconst 1, 1) := dk_4 (dk_at dksL_law_21 1 rfl rfl)
theorem dL_law_618 : decode cL_law 618 = .ok (.iadd, 1) := dk_96 (dk_at dksL_law_21 2 rfl rfl)
theorem dL_law_619 : decode cL_law 619 = .ok (.iaload, 1) := dk_46 (dk_at dksL_law_21 3 rfl rfl)
theorem dL_law_620 : decode cL_law 620 = .ok (.aload_n 0, 1) := dk_42 (dk_at dksL_law_21 4 rfl rfl)
theorem dL_law_621 : decode cL_law 621 = .ok (.iload_n 3, 1) := dk_29 (dk_at dksL_law_21 5 rfl rfl)
theorem dL_law_622 : decode cL_law 622 = .ok (.iconst 2, 1) := dk_5 (dk_at dksL_law_21 6 rfl rfl)
theorem dL_law_623 : decode cL_law 623 = .ok (.iadd, 1) := dk_96 (dk_at dksL_law_21 7 rfl rfl)
theorem dL_law_624 : decode cL_law 624 = .ok (.iaload, 1) := dk_46 (dk_at dksL_law_21 8 rfl rfl)
theorem dL_law_625 : decode cL_law 625 = .ok (.invokevirtual 65, 3) := dk_182 0 65 (dk_at dksL_law_21 9 rfl rfl)
theorem dL_law_628 : decode cL_law 628 = .ok (.aload_n 2, 1) := dk_44 (dk_at dksL_law_21 12 rfl rfl)
theorem dL_law_629 : decode cL_law 629 = .ok (.aload_n 0, 1) := dk_42 (dk_at dksL_law_21 13 rfl rfl)
theorem dL_law_630 : decode cL_law 630 = .ok (.iload_n 3, 1) := dk_29 (dk_at dksL_law_21 14 rfl rfl)
theorem dL_law_631 : decode cL_law 631 = .ok (.iconst 1, 1) := dk_4 (dk_at dksL_law_21 15 rfl rfl)
theorem dL_law_632 : decode cL_law 632 = .ok (.iadd, 1) := dk_96 (dk_at dksL_law_21 16 rfl rfl)
theorem dL_law_633 : decode cL_law 633 = .ok (.iaload, 1) := dk_46 (dk_at dksL_law_21 17 rfl rfl)
theorem dL_law_634 : decode cL_law 634 = .ok (.aload_n 0, 1) := dk_42 (dk_at dksL_law_21 18 rfl rfl)
theorem dL_law_635 : decode cL_law 635 = .ok (.iload_n 3, 1) := dk_29 (dk_at dksL_law_21 19 rfl rfl)
theorem dL_law_636 : decode cL_law 636 = .ok (.iconst 2, 1) := dk_5 (dk_at dksL_law_21 20 rfl rfl)
theorem dL_law_637 : decode cL_law 637 = .ok (.iadd, 1) := dk_96 (dk_at dksL_law_21 21 rfl rfl)
theorem dL_law_638 : decode cL_law 638 = .ok (.iaload, 1) := dk_46 (dk_at dksL_law_21 22 rfl rfl)
theorem dL_law_639 : decode cL_law 639 = .ok (.invokevirtual 68, 3) := dk_182 0 68 (dk_at dksL_law_22 0 rfl rfl)
theorem dL_law_642 : decode cL_law 642 = .ok (.if_icmp .eq 611, 3) := dk_159 2 99 (dk_at dksL_law_22 3 rfl rfl)
theorem dL_law_645 : decode cL_law 645 = .ok (.iconst 0, 1) := dk_3 (dk_at dksL_law_22 6 rfl rfl)
theorem dL_law_646 : decode cL_law 646 = .ok (.ireturn, 1) := dk_172 (dk_at dksL_law_22 7 rfl rfl)
theorem dL_law_647 : decode cL_law 647 = .ok (.aload_n 1, 1) := dk_43 (dk_at dksL_law_22 8 rfl rfl)
theorem dL_law_648 : decode cL_law 648 = .ok (.aload_n 0, 1) := dk_42 (dk_at dksL_law_22 9 rfl rfl)
theorem dL_law_649 : decode cL_law 649 = .ok (.iload_n 3, 1) := dk_29 (dk_at dksL_law_22 10 rfl rfl)
theorem dL_law_650 : decode cL_law 650 = .ok (.iconst 1, 1) := dk_4 (dk_at dksL_law_22 11 rfl rfl)
theorem dL_law_651 : decode cL_law 651 = .ok (.iadd, 1) := dk_96 (dk_at dksL_law_22 12 rfl rfl)
theorem dL_law_652 : decode cL_law 652 = .ok (.iaload, 1) := dk_46 (dk_at dksL_law_22 13 rfl rfl)
theorem dL_law_653 : decode cL_law 653 = .ok (.aload_n 0, 1) := dk_42 (dk_at dksL_law_22 14 rfl rfl)
theorem dL_law_654 : decode cL_law 654 = .ok (.iload_n 3, 1) := dk_29 (dk_at dksL_law_22 15 rfl rfl)
theorem dL_law_655 : decode cL_law 655 = .ok (.iconst 2, 1) := dk_5 (dk_at dksL_law_22 16 rfl rfl)
theorem dL_law_656 : decode cL_law 656 = .ok (.iadd, 1) := dk_96 (dk_at dksL_law_22 17 rfl rfl)
theorem dL_law_657 : decode cL_law 657 = .ok (.iaload, 1) := dk_46 (dk_at dksL_law_22 18 rfl rfl)
theorem dL_law_658 : decode cL_law 658 = .ok (.invokevirtual 69, 3) := dk_182 0 69 (dk_at dksL_law_22 19 rfl rfl)
theorem dL_law_661 : decode cL_law 661 = .ok (.aload_n 2, 1) := dk_44 (dk_at dksL_law_22 22 rfl rfl)
theorem dL_law_662 : decode cL_law 662 = .ok (.aload_n 0, 1) := dk_42 (dk_at dksL_law_22 23 rfl rfl)
theorem dL_law_663 : decode cL_law 663 = .ok (.iload_n 3, 1) := dk_29 (dk_at dksL_law_23 0 rfl rfl)
theorem dL_law_664 : decode cL_law 664 = .ok (.iconst 1, 1) := dk_4 (dk_at dksL_law_23 1 rfl rfl)
theorem dL_law_665 : decode cL_law 665 = .ok (.iadd, 1) := dk_96 (dk_at dksL_law_23 2 rfl rfl)
theorem dL_law_666 : decode cL_law 666 = .ok (.iaload, 1) := dk_46 (dk_at dksL_law_23 3 rfl rfl)
theorem dL_law_667 : decode cL_law 667 = .ok (.aload_n 0, 1) := dk_42 (dk_at dksL_law_23 4 rfl rfl)
theorem dL_law_668 : decode cL_law 668 = .ok (.iload_n 3, 1) := dk_29 (dk_at dksL_law_23 5 rfl rfl)
theorem dL_law_669 : decode cL_law 669 = .ok (.iconst 2, 1) := dk_5 (dk_at dksL_law_23 6 rfl rfl)
theorem dL_law_670 : decode cL_law 670 = .ok (.iadd, 1) := dk_96 (dk_at dksL_law_23 7 rfl rfl)
theorem dL_law_671 : decode cL_law 671 = .ok (.iaload, 1) := dk_46 (dk_at dksL_law_23 8 rfl rfl)
theorem dL_law_672 : decode cL_law 672 = .ok (.invokevirtual 72, 3) := dk_182 0 72 (dk_at dksL_law_23 9 rfl rfl)
theorem dL_law_675 : decode cL_law 675 = .ok (.if_icmp .eq 578, 3) := dk_159 2 66 (dk_at dksL_law_23 12 rfl rfl)
theorem dL_law_678 : decode cL_law 678 = .ok (.iconst 0, 1) := dk_3 (dk_at dksL_law_23 15 rfl rfl)
theorem dL_law_679 : decode cL_law 679 = .ok (.ireturn, 1) := dk_172 (dk_at dksL_law_23 16 rfl rfl)
theorem dL_law_680 : decode cL_law 680 = .ok (.aload_n 1, 1) := dk_43 (dk_at dksL_law_23 17 rfl rfl)
theorem dL_law_681 : decode cL_law 681 = .ok (.aload_n 0, 1) := dk_42 (dk_at dksL_law_23 18 rfl rfl)
theorem dL_law_682 : decode cL_law 682 = .ok (.iload_n 3, 1) := dk_29 (dk_at dksL_law_23 19 rfl rfl)
theorem dL_law_683 : decode cL_law 683 = .ok (.iconst 1, 1) := dk_4 (dk_at dksL_law_23 20 rfl rfl)
theorem dL_law_684 : decode cL_law 684 = .ok (.iadd, 1) := dk_96 (dk_at dksL_law_23 21 rfl rfl)
theorem dL_law_685 : decode cL_law 685 = .ok (.iaload, 1) := dk_46 (dk_at dksL_law_23 22 rfl rfl)
theorem dL_law_686 : decode cL_law 686 = .ok (.aload_n 0, 1) := dk_42 (dk_at dksL_law_23 23 rfl rfl)
theorem dL_law_687 : decode cL_law 687 = .ok (.iload_n 3, 1) := dk_29 (dk_at dksL_law_24 0 rfl rfl)
theorem dL_law_688 : decode cL_law 688 = .ok (.iconst 2, 1) := dk_5 (dk_at dksL_law_24 1 rfl rfl)
theorem dL_law_689 : decode cL_law 689 = .ok (.iadd, 1) := dk_96 (dk_at dksL_law_24 2 rfl rfl)
theorem dL_law_690 : decode cL_law 690 = .ok (.iaload, 1) := dk_46 (dk_at dksL_law_24 3 rfl rfl)
theorem dL_law_691 : decode cL_law 691 = .ok (.invokevirtual 73, 3) := dk_182 0 73 (dk_at dksL_law_24 4 rfl rfl)
theorem dL_law_694 : decode cL_law 694 = .ok (.aload_n 2, 1) := dk_44 (dk_at dksL_law_24 7 rfl rfl)
theorem dL_law_695 : decode cL_law 695 = .ok (.aload_n 0, 1) := dk_42 (dk_at dksL_law_24 8 rfl rfl)
theorem dL_law_696 : decode cL_law 696 = .ok (.iload_n 3, 1) := dk_29 (dk_at dksL_law_24 9 rfl rfl)
theorem dL_law_697 : decode cL_law 697 = .ok (.iconst 1, 1) := dk_4 (dk_at dksL_law_24 10 rfl rfl)
theorem dL_law_698 : decode cL_law 698 = .ok (.iadd, 1) := dk_96 (dk_at dksL_law_24 11 rfl rfl)
theorem dL_law_699 : decode cL_law 699 = .ok (.iaload, 1) := dk_46 (dk_at dksL_law_24 12 rfl rfl)
theorem dL_law_700 : decode cL_law 700 = .ok (.aload_n 0, 1) := dk_42 (dk_at dksL_law_24 13 rfl rfl)
theorem dL_law_701 : decode cL_law 701 = .ok (.iload_n 3, 1) := dk_29 (dk_at dksL_law_24 14 rfl rfl)
theorem dL_law_702 : decode cL_law 702 = .ok (.iconst 2, 1) := dk_5 (dk_at dksL_law_24 15 rfl rfl)
theorem dL_law_703 : decode cL_law 703 = .ok (.iadd, 1) := dk_96 (dk_at dksL_law_24 16 rfl rfl)
theorem dL_law_704 : decode cL_law 704 = .ok (.iaload, 1) := dk_46 (dk_at dksL_law_24 17 rfl rfl)
theorem dL_law_705 : decode cL_law 705 = .ok (.invokevirtual 76, 3) := dk_182 0 76 (dk_at dksL_law_24 18 rfl rfl)
theorem dL_law_708 : decode cL_law 708 = .ok (.if_icmp .eq 545, 3) := dk_159 2 33 (dk_at dksL_law_24 21 rfl rfl)
theorem dL_law_711 : decode cL_law 711 = .ok (.iconst 0, 1) := dk_3 (dk_at dksL_law_25 0 rfl rfl)
theorem dL_law_712 : decode cL_law 712 = .ok (.ireturn, 1) := dk_172 (dk_at dksL_law_25 1 rfl rfl)
theorem dL_law_713 : decode cL_law 713 = .ok (.aload_n 1, 1) := dk_43 (dk_at dksL_law_25 2 rfl rfl)
theorem dL_law_714 : decode cL_law 714 = .ok (.aload_n 0, 1) := dk_42 (dk_at dksL_law_25 3 rfl rfl)
theorem dL_law_715 : decode cL_law 715 = .ok (.iload_n 3, 1) := dk_29 (dk_at dksL_law_25 4 rfl rfl)
theorem dL_law_716 : decode cL_law 716 = .ok (.iconst 1, 1) := dk_4 (dk_at dksL_law_25 5 rfl rfl)
theorem dL_law_717 : decode cL_law 717 = .ok (.iadd, 1) := dk_96 (dk_at dksL_law_25 6 rfl rfl)
theorem dL_law_718 : decode cL_law 718 = .ok (.iaload, 1) := dk_46 (dk_at dksL_law_25 7 rfl rfl)
theorem dL_law_719 : decode cL_law 719 = .ok (.aload_n 0, 1) := dk_42 (dk_at dksL_law_25 8 rfl rfl)
theorem dL_law_720 : decode cL_law 720 = .ok (.iload_n 3, 1) := dk_29 (dk_at dksL_law_25 9 rfl rfl)
theorem dL_law_721 : decode cL_law 721 = .ok (.iconst 2, 1) := dk_5 (dk_at dksL_law_25 10 rfl rfl)
theorem dL_law_722 : decode cL_law 722 = .ok (.iadd, 1) := dk_96 (dk_at dksL_law_25 11 rfl rfl)
theorem dL_law_723 : decode cL_law 723 = .ok (.iaload, 1) := dk_46 (dk_at dksL_law_25 12 rfl rfl)
theorem dL_law_724 : decode cL_law 724 = .ok (.invokevirtual 77, 3) := dk_182 0 77 (dk_at dksL_law_25 13 rfl rfl)
theorem dL_law_727 : decode cL_law 727 = .ok (.aload_n 2, 1) := dk_44 (dk_at dksL_law_25 16 rfl rfl)
theorem dL_law_728 : decode cL_law 728 = .ok (.aload_n 0, 1) := dk_42 (dk_at dksL_law_25 17 rfl rfl)
theorem dL_law_729 : decode cL_law 729 = .ok (.iload_n 3, 1) := dk_29 (dk_at dksL_law_25 18 rfl rfl)
theorem dL_law_730 : decode cL_law 730 = .ok (.iconst 1, 1) := dk_4 (dk_at dksL_law_25 19 rfl rfl)
theorem dL_law_731 : decode cL_law 731 = .ok (.iadd, 1) := dk_96 (dk_at dksL_law_25 20 rfl rfl)
theorem dL_law_732 : decode cL_law 732 = .ok (.iaload, 1) := dk_46 (dk_at dksL_law_25 21 rfl rfl)
theorem dL_law_733 : decode cL_law 733 = .ok (.aload_n 0, 1) := dk_42 (dk_at dksL_law_25 22 rfl rfl)
theorem dL_law_734 : decode cL_law 734 = .ok (.iload_n 3, 1) := dk_29 (dk_at dksL_law_25 23 rfl rfl)
theorem dL_law_735 : decode cL_law 735 = .ok (.iconst 2, 1) := dk_5 (dk_at dksL_law_26 0 rfl rfl)
theorem dL_law_736 : decode cL_law 736 = .ok (.iadd, 1) := dk_96 (dk_at dksL_law_26 1 rfl rfl)
theorem dL_law_737 : decode cL_law 737 = .ok (.iaload, 1) := dk_46 (dk_at dksL_law_26 2 rfl rfl)
theorem dL_law_738 : decode cL_law 738 = .ok (.invokevirtual 80, 3) := dk_182 0 80 (dk_at dksL_law_26 3 rfl rfl)
theorem dL_law_741 : decode cL_law 741 = .ok (.if_icmp .eq 512, 3) := dk_159 2 0 (dk_at dksL_law_26 6 rfl rfl)
theorem dL_law_744 : decode cL_law 744 = .ok (.iconst 0, 1) := dk_3 (dk_at dksL_law_26 9 rfl rfl)
theorem dL_law_745 : decode cL_law 745 = .ok (.ireturn, 1) := dk_172 (dk_at dksL_law_26 10 rfl rfl)
theorem dL_law_746 : decode cL_law 746 = .ok (.aload_n 1, 1) := dk_43 (dk_at dksL_law_26 11 rfl rfl)
theorem dL_law_747 : decode cL_law 747 = .ok (.aload_n 0, 1) := dk_42 (dk_at dksL_law_26 12 rfl rfl)
theorem dL_law_748 : decode cL_law 748 = .ok (.iload_n 3, 1) := dk_29 (dk_at dksL_law_26 13 rfl rfl)
theorem dL_law_749 : decode cL_law 749 = .ok (.iconst 1, 1) := dk_4 (dk_at dksL_law_26 14 rfl rfl)
theorem dL_law_750 : decode cL_law 750 = .ok (.iadd, 1) := dk_96 (dk_at dksL_law_26 15 rfl rfl)
theorem dL_law_751 : decode cL_law 751 = .ok (.iaload, 1) := dk_46 (dk_at dksL_law_26 16 rfl rfl)
theorem dL_law_752 : decode cL_law 752 = .ok (.aload_n 0, 1) := dk_42 (dk_at dksL_law_26 17 rfl rfl)
theorem dL_law_753 : decode cL_law 753 = .ok (.iload_n 3, 1) := dk_29 (dk_at dksL_law_26 18 rfl rfl)
theorem dL_law_754 : decode cL_law 754 = .ok (.iconst 2, 1) := dk_5 (dk_at dksL_law_26 19 rfl rfl)
theorem dL_law_755 : decode cL_law 755 = .ok (.iadd, 1) := dk_96 (dk_at dksL_law_26 20 rfl rfl)
theorem dL_law_756 : decode cL_law 756 = .ok (.iaload, 1) := dk_46 (dk_at dksL_law_26 21 rfl rfl)
theorem dL_law_757 : decode cL_law 757 = .ok (.invokevirtual 81, 3) := dk_182 0 81 (dk_at dksL_law_27 0 rfl rfl)
theorem dL_law_760 : decode cL_law 760 = .ok (.aload_n 2, 1) := dk_44 (dk_at dksL_law_27 3 rfl rfl)
theorem dL_law_761 : decode cL_law 761 = .ok (.aload_n 0, 1) := dk_42 (dk_at dksL_law_27 4 rfl rfl)
theorem dL_law_762 : decode cL_law 762 = .ok (.iload_n 3, 1) := dk_29 (dk_at dksL_law_27 5 rfl rfl)
theorem dL_law_763 : decode cL_law 763 = .ok (.iconst 1, 1) := dk_4 (dk_at dksL_law_27 6 rfl rfl)
theorem dL_law_764 : decode cL_law 764 = .ok (.iadd, 1) := dk_96 (dk_at dksL_law_27 7 rfl rfl)
theorem dL_law_765 : decode cL_law 765 = .ok (.iaload, 1) := dk_46 (dk_at dksL_law_27 8 rfl rfl)
theorem dL_law_766 : decode cL_law 766 = .ok (.aload_n 0, 1) := dk_42 (dk_at dksL_law_27 9 rfl rfl)
theorem dL_law_767 : decode cL_law 767 = .ok (.iload_n 3, 1) := dk_29 (dk_at dksL_law_27 10 rfl rfl)
theorem dL_law_768 : decode cL_law 768 = .ok (.iconst 2, 1) := dk_5 (dk_at dksL_law_27 11 rfl rfl)
theorem dL_law_769 : decode cL_law 769 = .ok (.iadd, 1) := dk_96 (dk_at dksL_law_27 12 rfl rfl)
theorem dL_law_770 : decode cL_law 770 = .ok (.iaload, 1) := dk_46 (dk_at dksL_law_27 13 rfl rfl)
theorem dL_law_771 : decode cL_law 771 = .ok (.invokevirtual 84, 3) := dk_182 0 84 (dk_at dksL_law_27 14 rfl rfl)
theorem dL_law_774 : decode cL_law 774 = .ok (.if_icmp .eq 479, 3) := dk_159 1 223 (dk_at dksL_law_27 17 rfl rfl)
theorem dL_law_777 : decode cL_law 777 = .ok (.iconst 0, 1) := dk_3 (dk_at dksL_law_27 20 rfl rfl)
theorem dL_law_778 : decode cL_law 778 = .ok (.ireturn, 1) := dk_172 (dk_at dksL_law_27 21 rfl rfl)
theorem dL_law_779 : decode cL_law 779 = .ok (.aload_n 1, 1) := dk_43 (dk_at dksL_law_27 22 rfl rfl)
theorem dL_law_780 : decode cL_law 780 = .ok (.aload_n 0, 1) := dk_42 (dk_at dksL_law_27 23 rfl rfl)
theorem dL_law_781 : decode cL_law 781 = .ok (.iload_n 3, 1) := dk_29 (dk_at dksL_law_28 0 rfl rfl)
theorem dL_law_782 : decode cL_law 782 = .ok (.iconst 1, 1) := dk_4 (dk_at dksL_law_28 1 rfl rfl)
theorem dL_law_783 : decode cL_law 783 = .ok (.iadd, 1) := dk_96 (dk_at dksL_law_28 2 rfl rfl)
theorem dL_law_784 : decode cL_law 784 = .ok (.iaload, 1) := dk_46 (dk_at dksL_law_28 3 rfl rfl)
theorem dL_law_785 : decode cL_law 785 = .ok (.invokevirtual 85, 3) := dk_182 0 85 (dk_at dksL_law_28 4 rfl rfl)
theorem dL_law_788 : decode cL_law 788 = .ok (.aload_n 2, 1) := dk_44 (dk_at dksL_law_28 7 rfl rfl)
theorem dL_law_789 : decode cL_law 789 = .ok (.aload_n 0, 1) := dk_42 (dk_at dksL_law_28 8 rfl rfl)
theorem dL_law_790 : decode cL_law 790 = .ok (.iload_n 3, 1) := dk_29 (dk_at dksL_law_28 9 rfl rfl)
theorem dL_law_791 : decode cL_law 791 = .ok (.iconst 1, 1) := dk_4 (dk_at dksL_law_28 10 rfl rfl)
theorem dL_law_792 : decode cL_law 792 = .ok (.iadd, 1) := dk_96 (dk_at dksL_law_28 11 rfl rfl)
theorem dL_law_793 : decode cL_law 793 = .ok (.iaload, 1) := dk_46 (dk_at dksL_law_28 12 rfl rfl)
theorem dL_law_794 : decode cL_law 794 = .ok (.invokevirtual 88, 3) := dk_182 0 88 (dk_at dksL_law_28 13 rfl rfl)
theorem dL_law_797 : decode cL_law 797 = .ok (.if_icmp .eq 456, 3) := dk_159 1 200 (dk_at dksL_law_28 16 rfl rfl)
theorem dL_law_800 : decode cL_law 800 = .ok (.iconst 0, 1) := dk_3 (dk_at dksL_law_28 19 rfl rfl)
theorem dL_law_801 : decode cL_law 801 = .ok (.ireturn, 1) := dk_172 (dk_at dksL_law_28 20 rfl rfl)
theorem dL_law_802 : decode cL_law 802 = .ok (.aload_n 1, 1) := dk_43 (dk_at dksL_law_28 21 rfl rfl)
theorem dL_law_803 : decode cL_law 803 = .ok (.aload_n 0, 1) := dk_42 (dk_at dksL_law_28 22 rfl rfl)
theorem dL_law_804 : decode cL_law 804 = .ok (.iload_n 3, 1) := dk_29 (dk_at dksL_law_28 23 rfl rfl)
theorem dL_law_805 : decode cL_law 805 = .ok (.iconst 1, 1) := dk_4 (dk_at dksL_law_29 0 rfl rfl)
theorem dL_law_806 : decode cL_law 806 = .ok (.iadd, 1) := dk_96 (dk_at dksL_law_29 1 rfl rfl)
theorem dL_law_807 : decode cL_law 807 = .ok (.iaload, 1) := dk_46 (dk_at dksL_law_29 2 rfl rfl)
theorem dL_law_808 : decode cL_law 808 = .ok (.aload_n 0, 1) := dk_42 (dk_at dksL_law_29 3 rfl rfl)
theorem dL_law_809 : decode cL_law 809 = .ok (.iload_n 3, 1) := dk_29 (dk_at dksL_law_29 4 rfl rfl)
theorem dL_law_810 : decode cL_law 810 = .ok (.iconst 2, 1) := dk_5 (dk_at dksL_law_29 5 rfl rfl)
theorem dL_law_811 : decode cL_law 811 = .ok (.iadd, 1) := dk_96 (dk_at dksL_law_29 6 rfl rfl)
theorem dL_law_812 : decode cL_law 812 = .ok (.iaload, 1) := dk_46 (dk_at dksL_law_29 7 rfl rfl)
theorem dL_law_813 : decode cL_law 813 = .ok (.invokevirtual 89, 3) := dk_182 0 89 (dk_at dksL_law_29 8 rfl rfl)
theorem dL_law_816 : decode cL_law 816 = .ok (.aload_n 2, 1) := dk_44 (dk_at dksL_law_29 11 rfl rfl)
theorem dL_law_817 : decode cL_law 817 = .ok (.aload_n 0, 1) := dk_42 (dk_at dksL_law_29 12 rfl rfl)
theorem dL_law_818 : decode cL_law 818 = .ok (.iload_n 3, 1) := dk_29 (dk_at dksL_law_29 13 rfl rfl)
theorem dL_law_819 : decode cL_law 819 = .ok (.iconst 1, 1) := dk_4 (dk_at dksL_law_29 14 rfl rfl)
theorem dL_law_820 : decode cL_law 820 = .ok (.iadd, 1) := dk_96 (dk_at dksL_law_29 15 rfl rfl)
theorem dL_law_821 : decode cL_law 821 = .ok (.iaload, 1) := dk_46 (dk_at dksL_law_29 16 rfl rfl)
theorem dL_law_822 : decode cL_law 822 = .ok (.aload_n 0, 1) := dk_42 (dk_at dksL_law_29 17 rfl rfl)
theorem dL_law_823 : decode cL_law 823 = .ok (.iload_n 3, 1) := dk_29 (dk_at dksL_law_29 18 rfl rfl)
theorem dL_law_824 : decode cL_law 824 = .ok (.iconst 2, 1) := dk_5 (dk_at dksL_law_29 19 rfl rfl)
theorem dL_law_825 : decode cL_law 825 = .ok (.iadd, 1) := dk_96 (dk_at dksL_law_29 20 rfl rfl)
theorem dL_law_826 : decode cL_law 826 = .ok (.iaload, 1) := dk_46 (dk_at dksL_law_29 21 rfl rfl)
theorem dL_law_827 : decode cL_law 827 = .ok (.invokevirtual 92, 3) := dk_182 0 92 (dk_at dksL_law_30 0 rfl rfl)
theorem dL_law_830 : decode cL_law 830 = .ok (.if_icmp .eq 423, 3) := dk_159 1 167 (dk_at dksL_law_30 3 rfl rfl)
theorem dL_law_833 : decode cL_law 833 = .ok (.iconst 0, 1) := dk_3 (dk_at dksL_law_30 6 rfl rfl)
theorem dL_law_834 : decode cL_law 834 = .ok (.ireturn, 1) := dk_172 (dk_at dksL_law_30 7 rfl rfl)
theorem dL_law_835 : decode cL_law 835 = .ok (.aload_n 1, 1) := dk_43 (dk_at dksL_law_30 8 rfl rfl)
theorem dL_law_836 : decode cL_law 836 = .ok (.aload_n 0, 1) := dk_42 (dk_at dksL_law_30 9 rfl rfl)
theorem dL_law_837 : decode cL_law 837 = .ok (.iload_n 3, 1) := dk_29 (dk_at dksL_law_30 10 rfl rfl)
theorem dL_law_838 : decode cL_law 838 = .ok (.iconst 1, 1) := dk_4 (dk_at dksL_law_30 11 rfl rfl)
theorem dL_law_839 : decode cL_law 839 = .ok (.iadd, 1) := dk_96 (dk_at dksL_law_30 12 rfl rfl)
theorem dL_law_840 : decode cL_law 840 = .ok (.iaload, 1) := dk_46 (dk_at dksL_law_30 13 rfl rfl)
theorem dL_law_841 : decode cL_law 841 = .ok (.invokevirtual 93, 3) := dk_182 0 93 (dk_at dksL_law_30 14 rfl rfl)
theorem dL_law_844 : decode cL_law 844 = .ok (.aload_n 2, 1) := dk_44 (dk_at dksL_law_30 17 rfl rfl)
theorem dL_law_845 : decode cL_law 845 = .ok (.aload_n 0, 1) := dk_42 (dk_at dksL_law_30 18 rfl rfl)
theorem dL_law_846 : decode cL_law 846 = .ok (.iload_n 3, 1) := dk_29 (dk_at dksL_law_30 19 rfl rfl)
theorem dL_law_847 : decode cL_law 847 = .ok (.iconst 1, 1) := dk_4 (dk_at dksL_law_30 20 rfl rfl)
theorem dL_law_848 : decode cL_law 848 = .ok (.iadd, 1) := dk_96 (dk_at dksL_law_30 21 rfl rfl)
theorem dL_law_849 : decode cL_law 849 = .ok (.iaload, 1) := dk_46 (dk_at dksL_law_30 22 rfl rfl)
theorem dL_law_850 : decode cL_law 850 = .ok (.invokevirtual 96, 3) := dk_182 0 96 (dk_at dksL_law_31 0 rfl rfl)
theorem dL_law_853 : decode cL_law 853 = .ok (.if_icmp .eq 400, 3) := dk_159 1 144 (dk_at dksL_law_31 3 rfl rfl)
theorem dL_law_856 : decode cL_law 856 = .ok (.iconst 0, 1) := dk_3 (dk_at dksL_law_31 6 rfl rfl)
theorem dL_law_857 : decode cL_law 857 = .ok (.ireturn, 1) := dk_172 (dk_at dksL_law_31 7 rfl rfl)
theorem dL_law_858 : decode cL_law 858 = .ok (.aload_n 1, 1) := dk_43 (dk_at dksL_law_31 8 rfl rfl)
theorem dL_law_859 : decode cL_law 859 = .ok (.aload_n 0, 1) := dk_42 (dk_at dksL_law_31 9 rfl rfl)
theorem dL_law_860 : decode cL_law 860 = .ok (.iload_n 3, 1) := dk_29 (dk_at dksL_law_31 10 rfl rfl)
theorem dL_law_861 : decode cL_law 861 = .ok (.iconst 1, 1) := dk_4 (dk_at dksL_law_31 11 rfl rfl)
theorem dL_law_862 : decode cL_law 862 = .ok (.iadd, 1) := dk_96 (dk_at dksL_law_31 12 rfl rfl)
theorem dL_law_863 : decode cL_law 863 = .ok (.iaload, 1) := dk_46 (dk_at dksL_law_31 13 rfl rfl)
theorem dL_law_864 : decode cL_law 864 = .ok (.invokevirtual 97, 3) := dk_182 0 97 (dk_at dksL_law_31 14 rfl rfl)
theorem dL_law_867 : decode cL_law 867 = .ok (.aload_n 2, 1) := dk_44 (dk_at dksL_law_31 17 rfl rfl)
theorem dL_law_868 : decode cL_law 868 = .ok (.aload_n 0, 1) := dk_42 (dk_at dksL_law_31 18 rfl rfl)
theorem dL_law_869 : decode cL_law 869 = .ok (.iload_n 3, 1) := dk_29 (dk_at dksL_law_31 19 rfl rfl)
theorem dL_law_870 : decode cL_law 870 = .ok (.iconst 1, 1) := dk_4 (dk_at dksL_law_31 20 rfl rfl)
theorem dL_law_871 : decode cL_law 871 = .ok (.iadd, 1) := dk_96 (dk_at dksL_law_31 21 rfl rfl)
theorem dL_law_872 : decode cL_law 872 = .ok (.iaload, 1) := dk_46 (dk_at dksL_law_31 22 rfl rfl)
theorem dL_law_873 : decode cL_law 873 = .ok (.invokevirtual 100, 3) := dk_182 0 100 (dk_at dksL_law_32 0 rfl rfl)
theorem dL_law_876 : decode cL_law 876 = .ok (.if_icmp .eq 377, 3) := dk_159 1 121 (dk_at dksL_law_32 3 rfl rfl)
theorem dL_law_879 : decode cL_law 879 = .ok (.iconst 0, 1) := dk_3 (dk_at dksL_law_32 6 rfl rfl)
theorem dL_law_880 : decode cL_law 880 = .ok (.ireturn, 1) := dk_172 (dk_at dksL_law_32 7 rfl rfl)
theorem dL_law_881 : decode cL_law 881 = .ok (.aload_n 1, 1) := dk_43 (dk_at dksL_law_32 8 rfl rfl)
theorem dL_law_882 : decode cL_law 882 = .ok (.aload_n 0, 1) := dk_42 (dk_at dksL_law_32 9 rfl rfl)
theorem dL_law_883 : decode cL_law 883 = .ok (.iload_n 3, 1) := dk_29 (dk_at dksL_law_32 10 rfl rfl)
theorem dL_law_884 : decode cL_law 884 = .ok (.iconst 1, 1) := dk_4 (dk_at dksL_law_32 11 rfl rfl)
theorem dL_law_885 : decode cL_law 885 = .ok (.iadd, 1) := dk_96 (dk_at dksL_law_32 12 rfl rfl)
theorem dL_law_886 : decode cL_law 886 = .ok (.iaload, 1) := dk_46 (dk_at dksL_law_32 13 rfl rfl)
theorem dL_law_887 : decode cL_law 887 = .ok (.invokevirtual 101, 3) := dk_182 0 101 (dk_at dksL_law_32 14 rfl rfl)
theorem dL_law_890 : decode cL_law 890 = .ok (.aload_n 2, 1) := dk_44 (dk_at dksL_law_32 17 rfl rfl)
theorem dL_law_891 : decode cL_law 891 = .ok (.aload_n 0, 1) := dk_42 (dk_at dksL_law_32 18 rfl rfl)
theorem dL_law_892 : decode cL_law 892 = .ok (.iload_n 3, 1) := dk_29 (dk_at dksL_law_32 19 rfl rfl)
theorem dL_law_893 : decode cL_law 893 = .ok (.iconst 1, 1) := dk_4 (dk_at dksL_law_32 20 rfl rfl)
theorem dL_law_894 : decode cL_law 894 = .ok (.iadd, 1) := dk_96 (dk_at dksL_law_32 21 rfl rfl)
theorem dL_law_895 : decode cL_law 895 = .ok (.iaload, 1) := dk_46 (dk_at dksL_law_32 22 rfl rfl)
theorem dL_law_896 : decode cL_law 896 = .ok (.invokevirtual 104, 3) := dk_182 0 104 (dk_at dksL_law_33 0 rfl rfl)
theorem dL_law_899 : decode cL_law 899 = .ok (.if_icmp .eq 354, 3) := dk_159 1 98 (dk_at dksL_law_33 3 rfl rfl)
theorem dL_law_902 : decode cL_law 902 = .ok (.iconst 0, 1) := dk_3 (dk_at dksL_law_33 6 rfl rfl)
theorem dL_law_903 : decode cL_law 903 = .ok (.ireturn, 1) := dk_172 (dk_at dksL_law_33 7 rfl rfl)
theorem dL_law_904 : decode cL_law 904 = .ok (.aload_n 1, 1) := dk_43 (dk_at dksL_law_33 8 rfl rfl)
theorem dL_law_905 : decode cL_law 905 = .ok (.aload_n 0, 1) := dk_42 (dk_at dksL_law_33 9 rfl rfl)
theorem dL_law_906 : decode cL_law 906 = .ok (.iload_n 3, 1) := dk_29 (dk_at dksL_law_33 10 rfl rfl)
theorem dL_law_907 : decode cL_law 907 = .ok (.iconst 1, 1) := dk_4 (dk_at dksL_law_33 11 rfl rfl)
theorem dL_law_908 : decode cL_law 908 = .ok (.iadd, 1) := dk_96 (dk_at dksL_law_33 12 rfl rfl)
theorem dL_law_909 : decode cL_law 909 = .ok (.iaload, 1) := dk_46 (dk_at dksL_law_33 13 rfl rfl)
theorem dL_law_910 : decode cL_law 910 = .ok (.aload_n 0, 1) := dk_42 (dk_at dksL_law_33 14 rfl rfl)
theorem dL_law_911 : decode cL_law 911 = .ok (.iload_n 3, 1) := dk_29 (dk_at dksL_law_33 15 rfl rfl)
theorem dL_law_912 : decode cL_law 912 = .ok (.iconst 2, 1) := dk_5 (dk_at dksL_law_33 16 rfl rfl)
theorem dL_law_913 : decode cL_law 913 = .ok (.iadd, 1) := dk_96 (dk_at dksL_law_33 17 rfl rfl)
theorem dL_law_914 : decode cL_law 914 = .ok (.iaload, 1) := dk_46 (dk_at dksL_law_33 18 rfl rfl)
theorem dL_law_915 : decode cL_law 915 = .ok (.invokevirtual 105, 3) := dk_182 0 105 (dk_at dksL_law_33 19 rfl rfl)
theorem dL_law_918 : decode cL_law 918 = .ok (.aload_n 2, 1) := dk_44 (dk_at dksL_law_33 22 rfl rfl)
theorem dL_law_919 : decode cL_law 919 = .ok (.aload_n 0, 1) := dk_42 (dk_at dksL_law_33 23 rfl rfl)
theorem dL_law_920 : decode cL_law 920 = .ok (.iload_n 3, 1) := dk_29 (dk_at dksL_law_34 0 rfl rfl)
theorem dL_law_921 : decode cL_law 921 = .ok (.iconst 1, 1) := dk_4 (dk_at dksL_law_34 1 rfl rfl)
theorem dL_law_922 : decode cL_law 922 = .ok (.iadd, 1) := dk_96 (dk_at dksL_law_34 2 rfl rfl)
theorem dL_law_923 : decode cL_law 923 = .ok (.iaload, 1) := dk_46 (dk_at dksL_law_34 3 rfl rfl)
theorem dL_law_924 : decode cL_law 924 = .ok (.aload_n 0, 1) := dk_42 (dk_at dksL_law_34 4 rfl rfl)
theorem dL_law_925 : decode cL_law 925 = .ok (.iload_n 3, 1) := dk_29 (dk_at dksL_law_34 5 rfl rfl)
theorem dL_law_926 : decode cL_law 926 = .ok (.iconst 2, 1) := dk_5 (dk_at dksL_law_34 6 rfl rfl)
theorem dL_law_927 : decode cL_law 927 = .ok (.iadd, 1) := dk_96 (dk_at dksL_law_34 7 rfl rfl)
theorem dL_law_928 : decode cL_law 928 = .ok (.iaload, 1) := dk_46 (dk_at dksL_law_34 8 rfl rfl)
theorem dL_law_929 : decode cL_law 929 = .ok (.invokevirtual 108, 3) := dk_182 0 108 (dk_at dksL_law_34 9 rfl rfl)
theorem dL_law_932 : decode cL_law 932 = .ok (.if_icmp .eq 321, 3) := dk_159 1 65 (dk_at dksL_law_34 12 rfl rfl)
theorem dL_law_935 : decode cL_law 935 = .ok (.iconst 0, 1) := dk_3 (dk_at dksL_law_34 15 rfl rfl)
theorem dL_law_936 : decode cL_law 936 = .ok (.ireturn, 1) := dk_172 (dk_at dksL_law_34 16 rfl rfl)
theorem dL_law_937 : decode cL_law 937 = .ok (.aload_n 1, 1) := dk_43 (dk_at dksL_law_34 17 rfl rfl)
theorem dL_law_938 : decode cL_law 938 = .ok (.aload_n 0, 1) := dk_42 (dk_at dksL_law_34 18 rfl rfl)
theorem dL_law_939 : decode cL_law 939 = .ok (.iload_n 3, 1) := dk_29 (dk_at dksL_law_34 19 rfl rfl)
theorem dL_law_940 : decode cL_law 940 = .ok (.iconst 1, 1) := dk_4 (dk_at dksL_law_34 20 rfl rfl)
theorem dL_law_941 : decode cL_law 941 = .ok (.iadd, 1) := dk_96 (dk_at dksL_law_34 21 rfl rfl)
theorem dL_law_942 : decode cL_law 942 = .ok (.iaload, 1) := dk_46 (dk_at dksL_law_34 22 rfl rfl)
theorem dL_law_943 : decode cL_law 943 = .ok (.aload_n 0, 1) := dk_42 (dk_at dksL_law_34 23 rfl rfl)
theorem dL_law_944 : decode cL_law 944 = .ok (.iload_n 3, 1) := dk_29 (dk_at dksL_law_35 0 rfl rfl)
theorem dL_law_945 : decode cL_law 945 = .ok (.iconst 2, 1) := dk_5 (dk_at dksL_law_35 1 rfl rfl)
theorem dL_law_946 : decode cL_law 946 = .ok (.iadd, 1) := dk_96 (dk_at dksL_law_35 2 rfl rfl)
theorem dL_law_947 : decode cL_law 947 = .ok (.iaload, 1) := dk_46 (dk_at dksL_law_35 3 rfl rfl)
theorem dL_law_948 : decode cL_law 948 = .ok (.invokevirtual 109, 3) := dk_182 0 109 (dk_at dksL_law_35 4 rfl rfl)
theorem dL_law_951 : decode cL_law 951 = .ok (.aload_n 2, 1) := dk_44 (dk_at dksL_law_35 7 rfl rfl)
theorem dL_law_952 : decode cL_law 952 = .ok (.aload_n 0, 1) := dk_42 (dk_at dksL_law_35 8 rfl rfl)
theorem dL_law_953 : decode cL_law 953 = .ok (.iload_n 3, 1) := dk_29 (dk_at dksL_law_35 9 rfl rfl)
theorem dL_law_954 : decode cL_law 954 = .ok (.iconst 1, 1) := dk_4 (dk_at dksL_law_35 10 rfl rfl)
theorem dL_law_955 : decode cL_law 955 = .ok (.iadd, 1) := dk_96 (dk_at dksL_law_35 11 rfl rfl)
theorem dL_law_956 : decode cL_law 956 = .ok (.iaload, 1) := dk_46 (dk_at dksL_law_35 12 rfl rfl)
theorem dL_law_957 : decode cL_law 957 = .ok (.aload_n 0, 1) := dk_42 (dk_at dksL_law_35 13 rfl rfl)
theorem dL_law_958 : decode cL_law 958 = .ok (.iload_n 3, 1) := dk_29 (dk_at dksL_law_35 14 rfl rfl)
theorem dL_law_959 : decode cL_law 959 = .ok (.iconst 2, 1) := dk_5 (dk_at dksL_law_35 15 rfl rfl)
theorem dL_law_960 : decode cL_law 960 = .ok (.iadd, 1) := dk_96 (dk_at dksL_law_35 16 rfl rfl)
theorem dL_law_961 : decode cL_law 961 = .ok (.iaload, 1) := dk_46 (dk_at dksL_law_35 17 rfl rfl)
theorem dL_law_962 : decode cL_law 962 = .ok (.invokevirtual 112, 3) := dk_182 0 112 (dk_at dksL_law_35 18 rfl rfl)
theorem dL_law_965 : decode cL_law 965 = .ok (.if_icmp .eq 288, 3) := dk_159 1 32 (dk_at dksL_law_35 21 rfl rfl)
theorem dL_law_968 : decode cL_law 968 = .ok (.iconst 0, 1) := dk_3 (dk_at dksL_law_36 0 rfl rfl)
theorem dL_law_969 : decode cL_law 969 = .ok (.ireturn, 1) := dk_172 (dk_at dksL_law_36 1 rfl rfl)
theorem dL_law_970 : decode cL_law 970 = .ok (.aload_n 1, 1) := dk_43 (dk_at dksL_law_36 2 rfl rfl)
theorem dL_law_971 : decode cL_law 971 = .ok (.aload_n 0, 1) := dk_42 (dk_at dksL_law_36 3 rfl rfl)
theorem dL_law_972 : decode cL_law 972 = .ok (.iload_n 3, 1) := dk_29 (dk_at dksL_law_36 4 rfl rfl)
theorem dL_law_973 : decode cL_law 973 = .ok (.iconst 1, 1) := dk_4 (dk_at dksL_law_36 5 rfl rfl)
theorem dL_law_974 : decode cL_law 974 = .ok (.iadd, 1) := dk_96 (dk_at dksL_law_36 6 rfl rfl)
theorem dL_law_975 : decode cL_law 975 = .ok (.iaload, 1) := dk_46 (dk_at dksL_law_36 7 rfl rfl)
theorem dL_law_976 : decode cL_law 976 = .ok (.aload_n 0, 1) := dk_42 (dk_at dksL_law_36 8 rfl rfl)
theorem dL_law_977 : decode cL_law 977 = .ok (.iload_n 3, 1) := dk_29 (dk_at dksL_law_36 9 rfl rfl)
theorem dL_law_978 : decode cL_law 978 = .ok (.iconst 2, 1) := dk_5 (dk_at dksL_law_36 10 rfl rfl)
theorem dL_law_979 : decode cL_law 979 = .ok (.iadd, 1) := dk_96 (dk_at dksL_law_36 11 rfl rfl)
theorem dL_law_980 : decode cL_law 980 = .ok (.iaload, 1) := dk_46 (dk_at dksL_law_36 12 rfl rfl)
theorem dL_law_981 : decode cL_law 981 = .ok (.aload_n 0, 1) := dk_42 (dk_at dksL_law_36 13 rfl rfl)
theorem dL_law_982 : decode cL_law 982 = .ok (.iload_n 3, 1) := dk_29 (dk_at dksL_law_36 14 rfl rfl)
theorem dL_law_983 : decode cL_law 983 = .ok (.iconst 3, 1) := dk_6 (dk_at dksL_law_36 15 rfl rfl)
theorem dL_law_984 : decode cL_law 984 = .ok (.iadd, 1) := dk_96 (dk_at dksL_law_36 16 rfl rfl)
theorem dL_law_985 : decode cL_law 985 = .ok (.iaload, 1) := dk_46 (dk_at dksL_law_36 17 rfl rfl)
theorem dL_law_986 : decode cL_law 986 = .ok (.aload_n 0, 1) := dk_42 (dk_at dksL_law_36 18 rfl rfl)
theorem dL_law_987 : decode cL_law 987 = .ok (.iload_n 3, 1) := dk_29 (dk_at dksL_law_36 19 rfl rfl)
theorem dL_law_988 : decode cL_law 988 = .ok (.iconst 4, 1) := dk_7 (dk_at dksL_law_36 20 rfl rfl)
theorem dL_law_989 : decode cL_law 989 = .ok (.iadd, 1) := dk_96 (dk_at dksL_law_36 21 rfl rfl)
theorem dL_law_990 : decode cL_law 990 = .ok (.iaload, 1) := dk_46 (dk_at dksL_law_36 22 rfl rfl)
theorem dL_law_991 : decode cL_law 991 = .ok (.invokevirtual 113, 3) := dk_182 0 113 (dk_at dksL_law_37 0 rfl rfl)
theorem dL_law_994 : decode cL_law 994 = .ok (.aload_n 2, 1) := dk_44 (dk_at dksL_law_37 3 rfl rfl)
theorem dL_law_995 : decode cL_law 995 = .ok (.aload_n 0, 1) := dk_42 (dk_at dksL_law_37 4 rfl rfl)
theorem dL_law_996 : decode cL_law 996 = .ok (.iload_n 3, 1) := dk_29 (dk_at dksL_law_37 5 rfl rfl)
theorem dL_law_997 : decode cL_law 997 = .ok (.iconst 1, 1) := dk_4 (dk_at dksL_law_37 6 rfl rfl)
theorem dL_law_998 : decode cL_law 998 = .ok (.iadd, 1) := dk_96 (dk_at dksL_law_37 7 rfl rfl)
theorem dL_law_999 : decode cL_law 999 = .ok (.iaload, 1) := dk_46 (dk_at dksL_law_37 8 rfl rfl)
theorem dL_law_1000 : decode cL_law 1000 = .ok (.aload_n 0, 1) := dk_42 (dk_at dksL_law_37 9 rfl rfl)
theorem dL_law_1001 : decode cL_law 1001 = .ok (.iload_n 3, 1) := dk_29 (dk_at dksL_law_37 10 rfl rfl)
theorem dL_law_1002 : decode cL_law 1002 = .ok (.iconst 2, 1) := dk_5 (dk_at dksL_law_37 11 rfl rfl)
theorem dL_law_1003 : decode cL_law 1003 = .ok (.iadd, 1) := dk_96 (dk_at dksL_law_37 12 rfl rfl)
theorem dL_law_1004 : decode cL_law 1004 = .ok (.iaload, 1) := dk_46 (dk_at dksL_law_37 13 rfl rfl)
theorem dL_law_1005 : decode cL_law 1005 = .ok (.aload_n 0, 1) := dk_42 (dk_at dksL_law_37 14 rfl rfl)
theorem dL_law_1006 : decode cL_law 1006 = .ok (.iload_n 3, 1) := dk_29 (dk_at dksL_law_37 15 rfl rfl)
theorem dL_law_1007 : decode cL_law 1007 = .ok (.iconst 3, 1) := dk_6 (dk_at dksL_law_37 16 rfl rfl)
theorem dL_law_1008 : decode cL_law 1008 = .ok (.iadd, 1) := dk_96 (dk_at dksL_law_37 17 rfl rfl)
theorem dL_law_1009 : decode cL_law 1009 = .ok (.iaload, 1) := dk_46 (dk_at dksL_law_37 18 rfl rfl)
theorem dL_law_1010 : decode cL_law 1010 = .ok (.aload_n 0, 1) := dk_42 (dk_at dksL_law_37 19 rfl rfl)
theorem dL_law_1011 : decode cL_law 1011 = .ok (.iload_n 3, 1) := dk_29 (dk_at dksL_law_37 20 rfl rfl)
theorem dL_law_1012 : decode cL_law 1012 = .ok (.iconst 4, 1) := dk_7 (dk_at dksL_law_37 21 rfl rfl)
theorem dL_law_1013 : decode cL_law 1013 = .ok (.iadd, 1) := dk_96 (dk_at dksL_law_37 22 rfl rfl)
theorem dL_law_1014 : decode cL_law 1014 = .ok (.iaload, 1) := dk_46 (dk_at dksL_law_37 23 rfl rfl)
theorem dL_law_1015 : decode cL_law 1015 = .ok (.invokevirtual 116, 3) := dk_182 0 116 (dk_at dksL_law_38 0 rfl rfl)
theorem dL_law_1018 : decode cL_law 1018 = .ok (.if_icmp .eq 235, 3) := dk_159 0 235 (dk_at dksL_law_38 3 rfl rfl)
theorem dL_law_1021 : decode cL_law 1021 = .ok (.iconst 0, 1) := dk_3 (dk_at dksL_law_38 6 rfl rfl)
theorem dL_law_1022 : decode cL_law 1022 = .ok (.ireturn, 1) := dk_172 (dk_at dksL_law_38 7 rfl rfl)
theorem dL_law_1023 : decode cL_law 1023 = .ok (.aload_n 1, 1) := dk_43 (dk_at dksL_law_38 8 rfl rfl)
theorem dL_law_1024 : decode cL_law 1024 = .ok (.invokevirtual 117, 3) := dk_182 0 117 (dk_at dksL_law_38 9 rfl rfl)
theorem dL_law_1027 : decode cL_law 1027 = .ok (.aload_n 2, 1) := dk_44 (dk_at dksL_law_38 12 rfl rfl)
theorem dL_law_1028 : decode cL_law 1028 = .ok (.invokevirtual 121, 3) := dk_182 0 121 (dk_at dksL_law_38 13 rfl rfl)
theorem dL_law_1031 : decode cL_law 1031 = .ok (.if_icmp .eq 222, 3) := dk_159 0 222 (dk_at dksL_law_38 16 rfl rfl)
theorem dL_law_1034 : decode cL_law 1034 = .ok (.iconst 0, 1) := dk_3 (dk_at dksL_law_38 19 rfl rfl)
theorem dL_law_1035 : decode cL_law 1035 = .ok (.ireturn, 1) := dk_172 (dk_at dksL_law_38 20 rfl rfl)
theorem dL_law_1036 : decode cL_law 1036 = .ok (.aload_n 1, 1) := dk_43 (dk_at dksL_law_38 21 rfl rfl)
theorem dL_law_1037 : decode cL_law 1037 = .ok (.aload_n 0, 1) := dk_42 (dk_at dksL_law_38 22 rfl rfl)
theorem dL_law_1038 : decode cL_law 1038 = .ok (.iload_n 3, 1) := dk_29 (dk_at dksL_law_38 23 rfl rfl)
theorem dL_law_1039 : decode cL_law 1039 = .ok (.iconst 1, 1) := dk_4 (dk_at dksL_law_39 0 rfl rfl)
theorem dL_law_1040 : decode cL_law 1040 = .ok (.iadd, 1) := dk_96 (dk_at dksL_law_39 1 rfl rfl)
theorem dL_law_1041 : decode cL_law 1041 = .ok (.iaload, 1) := dk_46 (dk_at dksL_law_39 2 rfl rfl)
theorem dL_law_1042 : decode cL_law 1042 = .ok (.aload_n 0, 1) := dk_42 (dk_at dksL_law_39 3 rfl rfl)
theorem dL_law_1043 : decode cL_law 1043 = .ok (.iload_n 3, 1) := dk_29 (dk_at dksL_law_39 4 rfl rfl)
theorem dL_law_1044 : decode cL_law 1044 = .ok (.iconst 2, 1) := dk_5 (dk_at dksL_law_39 5 rfl rfl)
theorem dL_law_1045 : decode cL_law 1045 = .ok (.iadd, 1) := dk_96 (dk_at dksL_law_39 6 rfl rfl)
theorem dL_law_1046 : decode cL_law 1046 = .ok (.iaload, 1) := dk_46 (dk_at dksL_law_39 7 rfl rfl)
theorem dL_law_1047 : decode cL_law 1047 = .ok (.invokevirtual 122, 3) := dk_182 0 122 (dk_at dksL_law_39 8 rfl rfl)
theorem dL_law_1050 : decode cL_law 1050 = .ok (.aload_n 2, 1) := dk_44 (dk_at dksL_law_39 11 rfl rfl)
theorem dL_law_1051 : decode cL_law 1051 = .ok (.aload_n 0, 1) := dk_42 (dk_at dksL_law_39 12 rfl rfl)
theorem dL_law_1052 : decode cL_law 1052 = .ok (.iload_n 3, 1) := dk_29 (dk_at dksL_law_39 13 rfl rfl)
theorem dL_law_1053 : decode cL_law 1053 = .ok (.iconst 1, 1) := dk_4 (dk_at dksL_law_39 14 rfl rfl)
theorem dL_law_1054 : decode cL_law 1054 = .ok (.iadd, 1) := dk_96 (dk_at dksL_law_39 15 rfl rfl)
theorem dL_law_1055 : decode cL_law 1055 = .ok (.iaload, 1) := dk_46 (dk_at dksL_law_39 16 rfl rfl)
theorem dL_law_1056 : decode cL_law 1056 = .ok (.aload_n 0, 1) := dk_42 (dk_at dksL_law_39 17 rfl rfl)
theorem dL_law_1057 : decode cL_law 1057 = .ok (.iload_n 3, 1) := dk_29 (dk_at dksL_law_39 18 rfl rfl)
theorem dL_law_1058 : decode cL_law 1058 = .ok (.iconst 2, 1) := dk_5 (dk_at dksL_law_39 19 rfl rfl)
theorem dL_law_1059 : decode cL_law 1059 = .ok (.iadd, 1) := dk_96 (dk_at dksL_law_39 20 rfl rfl)
theorem dL_law_1060 : decode cL_law 1060 = .ok (.iaload, 1) := dk_46 (dk_at dksL_law_39 21 rfl rfl)
theorem dL_law_1061 : decode cL_law 1061 = .ok (.invokevirtual 125, 3) := dk_182 0 125 (dk_at dksL_law_40 0 rfl rfl)
theorem dL_law_1064 : decode cL_law 1064 = .ok (.if_icmp .eq 189, 3) := dk_159 0 189 (dk_at dksL_law_40 3 rfl rfl)
theorem dL_law_1067 : decode cL_law 1067 = .ok (.iconst 0, 1) := dk_3 (dk_at dksL_law_40 6 rfl rfl)
theorem dL_law_1068 : decode cL_law 1068 = .ok (.ireturn, 1) := dk_172 (dk_at dksL_law_40 7 rfl rfl)
theorem dL_law_1069 : decode cL_law 1069 = .ok (.aload_n 1, 1) := dk_43 (dk_at dksL_law_40 8 rfl rfl)
theorem dL_law_1070 : decode cL_law 1070 = .ok (.aload_n 0, 1) := dk_42 (dk_at dksL_law_40 9 rfl rfl)
theorem dL_law_1071 : decode cL_law 1071 = .ok (.iload_n 3, 1) := dk_29 (dk_at dksL_law_40 10 rfl rfl)
theorem dL_law_1072 : decode cL_law 1072 = .ok (.iconst 1, 1) := dk_4 (dk_at dksL_law_40 11 rfl rfl)
theorem dL_law_1073 : decode cL_law 1073 = .ok (.iadd, 1) := dk_96 (dk_at dksL_law_40 12 rfl rfl)
theorem dL_law_1074 : decode cL_law 1074 = .ok (.iaload, 1) := dk_46 (dk_at dksL_law_40 13 rfl rfl)
theorem dL_law_1075 : decode cL_law 1075 = .ok (.aload_n 0, 1) := dk_42 (dk_at dksL_law_40 14 rfl rfl)
theorem dL_law_1076 : decode cL_law 1076 = .ok (.iload_n 3, 1) := dk_29 (dk_at dksL_law_40 15 rfl rfl)
theorem dL_law_1077 : decode cL_law 1077 = .ok (.iconst 2, 1) := dk_5 (dk_at dksL_law_40 16 rfl rfl)
theorem dL_law_1078 : decode cL_law 1078 = .ok (.iadd, 1) := dk_96 (dk_at dksL_law_40 17 rfl rfl)
theorem dL_law_1079 : decode cL_law 1079 = .ok (.iaload, 1) := dk_46 (dk_at dksL_law_40 18 rfl rfl)
theorem dL_law_1080 : decode cL_law 1080 = .ok (.invokevirtual 126, 3) := dk_182 0 126 (dk_at dksL_law_40 19 rfl rfl)
theorem dL_law_1083 : decode cL_law 1083 = .ok (.aload_n 2, 1) := dk_44 (dk_at dksL_law_40 22 rfl rfl)
theorem dL_law_1084 : decode cL_law 1084 = .ok (.aload_n 0, 1) := dk_42 (dk_at dksL_law_40 23 rfl rfl)
theorem dL_law_1085 : decode cL_law 1085 = .ok (.iload_n 3, 1) := dk_29 (dk_at dksL_law_41 0 rfl rfl)
theorem dL_law_1086 : decode cL_law 1086 = .ok (.iconst 1, 1) := dk_4 (dk_at dksL_law_41 1 rfl rfl)
theorem dL_law_1087 : decode cL_law 1087 = .ok (.iadd, 1) := dk_96 (dk_at dksL_law_41 2 rfl rfl)
theorem dL_law_1088 : decode cL_law 1088 = .ok (.iaload, 1) := dk_46 (dk_at dksL_law_41 3 rfl rfl)
theorem dL_law_1089 : decode cL_law 1089 = .ok (.aload_n 0, 1) := dk_42 (dk_at dksL_law_41 4 rfl rfl)
theorem dL_law_1090 : decode cL_law 1090 = .ok (.iload_n 3, 1) := dk_29 (dk_at dksL_law_41 5 rfl rfl)
theorem dL_law_1091 : decode cL_law 1091 = .ok (.iconst 2, 1) := dk_5 (dk_at dksL_law_41 6 rfl rfl)
theorem dL_law_1092 : decode cL_law 1092 = .ok (.iadd, 1) := dk_96 (dk_at dksL_law_41 7 rfl rfl)
theorem dL_law_1093 : decode cL_law 1093 = .ok (.iaload, 1) := dk_46 (dk_at dksL_law_41 8 rfl rfl)
theorem dL_law_1094 : decode cL_law 1094 = .ok (.invokevirtual 129, 3) := dk_182 0 129 (dk_at dksL_law_41 9 rfl rfl)
theorem dL_law_1097 : decode cL_law 1097 = .ok (.if_icmp .eq 156, 3) := dk_159 0 156 (dk_at dksL_law_41 12 rfl rfl)
theorem dL_law_1100 : decode cL_law 1100 = .ok (.iconst 0, 1) := dk_3 (dk_at dksL_law_41 15 rfl rfl)
theorem dL_law_1101 : decode cL_law 1101 = .ok (.ireturn, 1) := dk_172 (dk_at dksL_law_41 16 rfl rfl)
theorem dL_law_1102 : decode cL_law 1102 = .ok (.aload_n 1, 1) := dk_43 (dk_at dksL_law_41 17 rfl rfl)
theorem dL_law_1103 : decode cL_law 1103 = .ok (.aload_n 0, 1) := dk_42 (dk_at dksL_law_41 18 rfl rfl)
theorem dL_law_1104 : decode cL_law 1104 = .ok (.iload_n 3, 1) := dk_29 (dk_at dksL_law_41 19 rfl rfl)
theorem dL_law_1105 : decode cL_law 1105 = .ok (.iconst 1, 1) := dk_4 (dk_at dksL_law_41 20 rfl rfl)
theorem dL_law_1106 : decode cL_law 1106 = .ok (.iadd, 1) := dk_96 (dk_at dksL_law_41 21 rfl rfl)
theorem dL_law_1107 : decode cL_law 1107 = .ok (.iaload, 1) := dk_46 (dk_at dksL_law_41 22 rfl rfl)
theorem dL_law_1108 : decode cL_law 1108 = .ok (.i2l, 1) := dk_133 (dk_at dksL_law_41 23 rfl rfl)
theorem dL_law_1109 : decode cL_law 1109 = .ok (.bipush 32, 2) := dk_16 32 (dk_at dksL_law_42 0 rfl rfl)
theorem dL_law_1111 : decode cL_law 1111 = .ok (.lshl, 1) := dk_121 (dk_at dksL_law_42 2 rfl rfl)
theorem dL_law_1112 : decode cL_law 1112 = .ok (.aload_n 0, 1) := dk_42 (dk_at dksL_law_42 3 rfl rfl)
theorem dL_law_1113 : decode cL_law 1113 = .ok (.iload_n 3, 1) := dk_29 (dk_at dksL_law_42 4 rfl rfl)
theorem dL_law_1114 : decode cL_law 1114 = .ok (.iconst 2, 1) := dk_5 (dk_at dksL_law_42 5 rfl rfl)
theorem dL_law_1115 : decode cL_law 1115 = .ok (.iadd, 1) := dk_96 (dk_at dksL_law_42 6 rfl rfl)
theorem dL_law_1116 : decode cL_law 1116 = .ok (.iaload, 1) := dk_46 (dk_at dksL_law_42 7 rfl rfl)
theorem dL_law_1117 : decode cL_law 1117 = .ok (.i2l, 1) := dk_133 (dk_at dksL_law_42 8 rfl rfl)
theorem dL_law_1118 : decode cL_law 1118 = .ok (.ldc2_w 130, 3) := dk_20 0 130 (dk_at dksL_law_42 9 rfl rfl)
theorem dL_law_1121 : decode cL_law 1121 = .ok (.land, 1) := dk_127 (dk_at dksL_law_42 12 rfl rfl)
theorem dL_law_1122 : decode cL_law 1122 = .ok (.lor, 1) := dk_129 (dk_at dksL_law_42 13 rfl rfl)
theorem dL_law_1123 : decode cL_law 1123 = .ok (.invokevirtual 132, 3) := dk_182 0 132 (dk_at dksL_law_42 14 rfl rfl)
theorem dL_law_1126 : decode cL_law 1126 = .ok (.aload_n 2, 1) := dk_44 (dk_at dksL_law_42 17 rfl rfl)
theorem dL_law_1127 : decode cL_law 1127 = .ok (.aload_n 0, 1) := dk_42 (dk_at dksL_law_42 18 rfl rfl)
theorem dL_law_1128 : decode cL_law 1128 = .ok (.iload_n 3, 1) := dk_29 (dk_at dksL_law_42 19 rfl rfl)
theorem dL_law_1129 : decode cL_law 1129 = .ok (.iconst 1, 1) := dk_4 (dk_at dksL_law_42 20 rfl rfl)
theorem dL_law_1130 : decode cL_law 1130 = .ok (.iadd, 1) := dk_96 (dk_at dksL_law_42 21 rfl rfl)
theorem dL_law_1131 : decode cL_law 1131 = .ok (.iaload, 1) := dk_46 (dk_at dksL_law_42 22 rfl rfl)
theorem dL_law_1132 : decode cL_law 1132 = .ok (.i2l, 1) := dk_133 (dk_at dksL_law_42 23 rfl rfl)
theorem dL_law_1133 : decode cL_law 1133 = .ok (.bipush 32, 2) := dk_16 32 (dk_at dksL_law_43 0 rfl rfl)
theorem dL_law_1135 : decode cL_law 1135 = .ok (.lshl, 1) := dk_121 (dk_at dksL_law_43 2 rfl rfl)
theorem dL_law_1136 : decode cL_law 1136 = .ok (.aload_n 0, 1) := dk_42 (dk_at dksL_law_43 3 rfl rfl)
theorem dL_law_1137 : decode cL_law 1137 = .ok (.iload_n 3, 1) := dk_29 (dk_at dksL_law_43 4 rfl rfl)
theorem dL_law_1138 : decode cL_law 1138 = .ok (.iconst 2, 1) := dk_5 (dk_at dksL_law_43 5 rfl rfl)
theorem dL_law_1139 : decode cL_law 1139 = .ok (.iadd, 1) := dk_96 (dk_at dksL_law_43 6 rfl rfl)
theorem dL_law_1140 : decode cL_law 1140 = .ok (.iaload, 1) := dk_46 (dk_at dksL_law_43 7 rfl rfl)
theorem dL_law_1141 : decode cL_law 1141 = .ok (.i2l, 1) := dk_133 (dk_at dksL_law_43 8 rfl rfl)
theorem dL_law_1142 : decode cL_law 1142 = .ok (.ldc2_w 130, 3) := dk_20 0 130 (dk_at dksL_law_43 9 rfl rfl)
theorem dL_law_1145 : decode cL_law 1145 = .ok (.land, 1) := dk_127 (dk_at dksL_law_43 12 rfl rfl)
theorem dL_law_1146 : decode cL_law 1146 = .ok (.lor, 1) := dk_129 (dk_at dksL_law_43 13 rfl rfl)
theorem dL_law_1147 : decode cL_law 1147 = .ok (.invokevirtual 136, 3) := dk_182 0 136 (dk_at dksL_law_43 14 rfl rfl)
theorem dL_law_1150 : decode cL_law 1150 = .ok (.if_icmp .eq 103, 3) := dk_159 0 103 (dk_at dksL_law_43 17 rfl rfl)
theorem dL_law_1153 : decode cL_law 1153 = .ok (.iconst 0, 1) := dk_3 (dk_at dksL_law_43 20 rfl rfl)
theorem dL_law_1154 : decode cL_law 1154 = .ok (.ireturn, 1) := dk_172 (dk_at dksL_law_43 21 rfl rfl)
theorem dL_law_1155 : decode cL_law 1155 = .ok (.aload_n 1, 1) := dk_43 (dk_at dksL_law_43 22 rfl rfl)
theorem dL_law_1156 : decode cL_law 1156 = .ok (.invokevirtual 137, 3) := dk_182 0 137 (dk_at dksL_law_44 0 rfl rfl)
theorem dL_law_1159 : decode cL_law 1159 = .ok (.aload_n 2, 1) := dk_44 (dk_at dksL_law_44 3 rfl rfl)
theorem dL_law_1160 : decode cL_law 1160 = .ok (.invokevirtual 140, 3) := dk_182 0 140 (dk_at dksL_law_44 4 rfl rfl)
theorem dL_law_1163 : decode cL_law 1163 = .ok (.if_icmp .eq 90, 3) := dk_159 0 90 (dk_at dksL_law_44 7 rfl rfl)
theorem dL_law_1166 : decode cL_law 1166 = .ok (.iconst 0, 1) := dk_3 (dk_at dksL_law_44 10 rfl rfl)
theorem dL_law_1167 : decode cL_law 1167 = .ok (.ireturn, 1) := dk_172 (dk_at dksL_law_44 11 rfl rfl)
theorem dL_law_1168 : decode cL_law 1168 = .ok (.aload_n 1, 1) := dk_43 (dk_at dksL_law_44 12 rfl rfl)
theorem dL_law_1169 : decode cL_law 1169 = .ok (.invokevirtual 141, 3) := dk_182 0 141 (dk_at dksL_law_44 13 rfl rfl)
theorem dL_law_1172 : decode cL_law 1172 = .ok (.aload_n 2, 1) := dk_44 (dk_at dksL_law_44 16 rfl rfl)
theorem dL_law_1173 : decode cL_law 1173 = .ok (.invokevirtual 144, 3) := dk_182 0 144 (dk_at dksL_law_44 17 rfl rfl)
theorem dL_law_1176 : decode cL_law 1176 = .ok (.if_icmp .eq 77, 3) := dk_159 0 77 (dk_at dksL_law_44 20 rfl rfl)
theorem dL_law_1179 : decode cL_law 1179 = .ok (.iconst 0, 1) := dk_3 (dk_at dksL_law_44 23 rfl rfl)
theorem dL_law_1180 : decode cL_law 1180 = .ok (.ireturn, 1) := dk_172 (dk_at dksL_law_45 0 rfl rfl)
theorem dL_law_1181 : decode cL_law 1181 = .ok (.aload_n 1, 1) := dk_43 (dk_at dksL_law_45 1 rfl rfl)
theorem dL_law_1182 : decode cL_law 1182 = .ok (.invokevirtual 145, 3) := dk_182 0 145 (dk_at dksL_law_45 2 rfl rfl)
theorem dL_law_1185 : decode cL_law 1185 = .ok (.aload_n 2, 1) := dk_44 (dk_at dksL_law_45 5 rfl rfl)
theorem dL_law_1186 : decode cL_law 1186 = .ok (.invokevirtual 148, 3) := dk_182 0 148 (dk_at dksL_law_45 6 rfl rfl)
theorem dL_law_1189 : decode cL_law 1189 = .ok (.if_icmp .eq 64, 3) := dk_159 0 64 (dk_at dksL_law_45 9 rfl rfl)
theorem dL_law_1192 : decode cL_law 1192 = .ok (.iconst 0, 1) := dk_3 (dk_at dksL_law_45 12 rfl rfl)
theorem dL_law_1193 : decode cL_law 1193 = .ok (.ireturn, 1) := dk_172 (dk_at dksL_law_45 13 rfl rfl)
theorem dL_law_1194 : decode cL_law 1194 = .ok (.aload_n 1, 1) := dk_43 (dk_at dksL_law_45 14 rfl rfl)
theorem dL_law_1195 : decode cL_law 1195 = .ok (.invokevirtual 149, 3) := dk_182 0 149 (dk_at dksL_law_45 15 rfl rfl)
theorem dL_law_1198 : decode cL_law 1198 = .ok (.aload_n 2, 1) := dk_44 (dk_at dksL_law_45 18 rfl rfl)
theorem dL_law_1199 : decode cL_law 1199 = .ok (.invokevirtual 152, 3) := dk_182 0 152 (dk_at dksL_law_45 19 rfl rfl)
theorem dL_law_1202 : decode cL_law 1202 = .ok (.if_icmp .eq 51, 3) := dk_159 0 51 (dk_at dksL_law_46 0 rfl rfl)
theorem dL_law_1205 : decode cL_law 1205 = .ok (.iconst 0, 1) := dk_3 (dk_at dksL_law_46 3 rfl rfl)
theorem dL_law_1206 : decode cL_law 1206 = .ok (.ireturn, 1) := dk_172 (dk_at dksL_law_46 4 rfl rfl)
theorem dL_law_1207 : decode cL_law 1207 = .ok (.aload_n 1, 1) := dk_43 (dk_at dksL_law_46 5 rfl rfl)
theorem dL_law_1208 : decode cL_law 1208 = .ok (.aload_n 0, 1) := dk_42 (dk_at dksL_law_46 6 rfl rfl)
theorem dL_law_1209 : decode cL_law 1209 = .ok (.iload_n 3, 1) := dk_29 (dk_at dksL_law_46 7 rfl rfl)
theorem dL_law_1210 : decode cL_law 1210 = .ok (.iconst 1, 1) := dk_4 (dk_at dksL_law_46 8 rfl rfl)
theorem dL_law_1211 : decode cL_law 1211 = .ok (.iadd, 1) := dk_96 (dk_at dksL_law_46 9 rfl rfl)
theorem dL_law_1212 : decode cL_law 1212 = .ok (.iaload, 1) := dk_46 (dk_at dksL_law_46 10 rfl rfl)
theorem dL_law_1213 : decode cL_law 1213 = .ok (.invokevirtual 153, 3) := dk_182 0 153 (dk_at dksL_law_46 11 rfl rfl)
theorem dL_law_1216 : decode cL_law 1216 = .ok (.aload_n 2, 1) := dk_44 (dk_at dksL_law_46 14 rfl rfl)
theorem dL_law_1217 : decode cL_law 1217 = .ok (.aload_n 0, 1) := dk_42 (dk_at dksL_law_46 15 rfl rfl)
theorem dL_law_1218 : decode cL_law 1218 = .ok (.iload_n 3, 1) := dk_29 (dk_at dksL_law_46 16 rfl rfl)
theorem dL_law_1219 : decode cL_law 1219 = .ok (.iconst 1, 1) := dk_4 (dk_at dksL_law_46 17 rfl rfl)
theorem dL_law_1220 : decode cL_law 1220 = .ok (.iadd, 1) := dk_96 (dk_at dksL_law_46 18 rfl rfl)
theorem dL_law_1221 : decode cL_law 1221 = .ok (.iaload, 1) := dk_46 (dk_at dksL_law_46 19 rfl rfl)
theorem dL_law_1222 : decode cL_law 1222 = .ok (.invokevirtual 156, 3) := dk_182 0 156 (dk_at dksL_law_46 20 rfl rfl)
theorem dL_law_1225 : decode cL_law 1225 = .ok (.if_icmp .eq 28, 3) := dk_159 0 28 (dk_at dksL_law_47 0 rfl rfl)
theorem dL_law_1228 : decode cL_law 1228 = .ok (.iconst 0, 1) := dk_3 (dk_at dksL_law_47 3 rfl rfl)
theorem dL_law_1229 : decode cL_law 1229 = .ok (.ireturn, 1) := dk_172 (dk_at dksL_law_47 4 rfl rfl)
theorem dL_law_1230 : decode cL_law 1230 = .ok (.aload_n 1, 1) := dk_43 (dk_at dksL_law_47 5 rfl rfl)
theorem dL_law_1231 : decode cL_law 1231 = .ok (.aload_n 0, 1) := dk_42 (dk_at dksL_law_47 6 rfl rfl)
theorem dL_law_1232 : decode cL_law 1232 = .ok (.iload_n 3, 1) := dk_29 (dk_at dksL_law_47 7 rfl rfl)
theorem dL_law_1233 : decode cL_law 1233 = .ok (.iconst 1, 1) := dk_4 (dk_at dksL_law_47 8 rfl rfl)
theorem dL_law_1234 : decode cL_law 1234 = .ok (.iadd, 1) := dk_96 (dk_at dksL_law_47 9 rfl rfl)
theorem dL_law_1235 : decode cL_law 1235 = .ok (.iaload, 1) := dk_46 (dk_at dksL_law_47 10 rfl rfl)
theorem dL_law_1236 : decode cL_law 1236 = .ok (.invokevirtual 157, 3) := dk_182 0 157 (dk_at dksL_law_47 11 rfl rfl)
theorem dL_law_1239 : decode cL_law 1239 = .ok (.aload_n 2, 1) := dk_44 (dk_at dksL_law_47 14 rfl rfl)
theorem dL_law_1240 : decode cL_law 1240 = .ok (.aload_n 0, 1) := dk_42 (dk_at dksL_law_47 15 rfl rfl)
theorem dL_law_1241 : decode cL_law 1241 = .ok (.iload_n 3, 1) := dk_29 (dk_at dksL_law_47 16 rfl rfl)
theorem dL_law_1242 : decode cL_law 1242 = .ok (.iconst 1, 1) := dk_4 (dk_at dksL_law_47 17 rfl rfl)
theorem dL_law_1243 : decode cL_law 1243 = .ok (.iadd, 1) := dk_96 (dk_at dksL_law_47 18 rfl rfl)
theorem dL_law_1244 : decode cL_law 1244 = .ok (.iaload, 1) := dk_46 (dk_at dksL_law_47 19 rfl rfl)
theorem dL_law_1245 : decode cL_law 1245 = .ok (.invokevirtual 160, 3) := dk_182 0 160 (dk_at dksL_law_47 20 rfl rfl)
theorem dL_law_1248 : decode cL_law 1248 = .ok (.if_icmp .eq 5, 3) := dk_159 0 5 (dk_at dksL_law_48 0 rfl rfl)
theorem dL_law_1251 : decode cL_law 1251 = .ok (.iconst 0, 1) := dk_3 (dk_at dksL_law_48 3 rfl rfl)
theorem dL_law_1252 : decode cL_law 1252 = .ok (.ireturn, 1) := dk_172 (dk_at dksL_law_48 4 rfl rfl)
theorem dL_law_1253 : decode cL_law 1253 = .ok (.iinc 3 5, 3) := dk_132 3 5 (dk_at dksL_law_48 5 rfl rfl)
theorem dL_law_1256 : decode cL_law 1256 = .ok (.goto (-1238), 3) := dk_167 251 42 (dk_at dksL_law_48 8 rfl rfl)
theorem dL_law_1259 : decode cL_law 1259 = .ok (.iconst 1, 1) := dk_4 (dk_at dksL_law_48 11 rfl rfl)
theorem dL_law_1260 : decode cL_law 1260 = .ok (.ireturn, 1) := dk_172 (dk_at dksL_law_48 12 rfl rfl)
