/-! java/util/HashMap -/
set_option maxRecDepth 100000
def RJ4 : String := "java/util/HashMap"
def TJ4 : u_T := fun k => match k with
  | 0 => ("java/util/AbstractMap", "keySet", "Ljava/util/Set;", false)
  | 1 => ("java/util/AbstractMap", "values", "Ljava/util/Collection;", false)
  | 2 => ("java/util/HashMap", "table", "[Ljava/util/HashMap$Node;", false)
  | 3 => ("java/util/HashMap", "entrySet", "Ljava/util/Set;", false)
  | 4 => ("java/util/HashMap", "size", "I", false)
  | 5 => ("java/util/HashMap", "modCount", "I", false)
  | 6 => ("java/util/HashMap", "threshold", "I", false)
  | _ => ("java/util/HashMap", "loadFactor", "F", true)
def tyJ4 : Nat → FieldType := fun k => match k with
  | 0 => .object "java/util/Set"
  | 1 => .object "java/util/Collection"
  | 2 => .array (.object "java/util/HashMap$Node")
  | 3 => .object "java/util/Set"
  | 4 => .int
  | 5 => .int
  | 6 => .int
  | _ => .float
abbrev wsJ40 : List Cond := u_ws RJ4 TJ4 8
theorem nmJ4 : ∀ a, a < 8 → ∀ b, b < 8 → a ≠ b → (TJ4 a).2.1 ≠ (TJ4 b).2.1 := by decide +kernel
theorem tyJ4_ok : ∀ k, k < 8 → parseFieldDescriptor (TJ4 k).2.2.1 = some (tyJ4 k) := by decide +kernel
abbrev cJ4_init : ByteArray := prog_42_method_7_code
def yJ4_init : MethodName := ⟨RJ4, "<init>", "()V"⟩
def dkwJ4_init_0 : List UInt8 := [42, 183, 0, 43, 42, 18, 92, 181, 0, 81, 177]
abbrev dktJ4_init_0 : List UInt8 := dkwJ4_init_0 ++ []
theorem dksJ4_init_0 : cJ4_init.data.toList.drop 0 = dktJ4_init_0 := by decide +kernel
theorem dJ4_init_0 : decode cJ4_init 0 = .ok (.aload_n 0, 1) := dk_42 (dk_at dksJ4_init_0 0 rfl rfl)
theorem dJ4_init_1 : decode cJ4_init 1 = .ok (.invokespecial 43, 3) := dk_183 0 43 (dk_at dksJ4_init_0 1 rfl rfl)
theorem dJ4_init_4 : decode cJ4_init 4 = .ok (.aload_n 0, 1) := dk_42 (dk_at dksJ4_init_0 4 rfl rfl)
theorem dJ4_init_5 : decode cJ4_init 5 = .ok (.ldc 92, 2) := dk_18 92 (dk_at dksJ4_init_0 5 rfl rfl)
theorem dJ4_init_7 : decode cJ4_init 7 = .ok (.putfield 81, 3) := dk_181 0 81 (dk_at dksJ4_init_0 7 rfl rfl)
theorem dJ4_init_10 : decode cJ4_init 10 = .ok (.return_, 1) := dk_177 (dk_at dksJ4_init_0 10 rfl rfl)
abbrev cJ4_putAll : ByteArray := prog_42_method_19_code
def yJ4_putAll : MethodName := ⟨RJ4, "putAll", "(Ljava/util/Map;)V"⟩
def dkwJ4_putAll_0 : List UInt8 := [42, 43, 4, 182, 0, 96, 177]
abbrev dktJ4_putAll_0 : List UInt8 := dkwJ4_putAll_0 ++ []
theorem dksJ4_putAll_0 : cJ4_putAll.data.toList.drop 0 = dktJ4_putAll_0 := by decide +kernel
theorem dJ4_putAll_0 : decode cJ4_putAll 0 = .ok (.aload_n 0, 1) := dk_42 (dk_at dksJ4_putAll_0 0 rfl rfl)
theorem dJ4_putAll_1 : decode cJ4_putAll 1 = .ok (.aload_n 1, 1) := dk_43 (dk_at dksJ4_putAll_0 1 rfl rfl)
theorem dJ4_putAll_2 : decode cJ4_putAll 2 = .ok (.iconst 1, 1) := dk_4 (dk_at dksJ4_putAll_0 2 rfl rfl)
theorem dJ4_putAll_3 : decode cJ4_putAll 3 = .ok (.invokevirtual 96, 3) := dk_182 0 96 (dk_at dksJ4_putAll_0 3 rfl rfl)
theorem dJ4_putAll_6 : decode cJ4_putAll 6 = .ok (.return_, 1) := dk_177 (dk_at dksJ4_putAll_0 6 rfl rfl)
abbrev cJ4_putMapEntries : ByteArray := prog_42_method_9_code
def yJ4_putMapEntries : MethodName := ⟨RJ4, "putMapEntries", "(Ljava/util/Map;Z)V"⟩
def dkwJ4_putMapEntries_7 : List UInt8 := [87, 167, 255, 200, 177]
abbrev dktJ4_putMapEntries_7 : List UInt8 := dkwJ4_putMapEntries_7 ++ []
def dkwJ4_putMapEntries_6 : List UInt8 := [25, 5, 185, 0, 146, 1, 0, 58, 7, 42, 25, 6, 184, 0, 149, 25, 6, 25, 7, 3, 28, 182, 0, 152]
abbrev dktJ4_putMapEntries_6 : List UInt8 := dkwJ4_putMapEntries_6 ++ dktJ4_putMapEntries_7
def dkwJ4_putMapEntries_5 : List UInt8 := [153, 0, 52, 25, 4, 185, 0, 137, 1, 0, 192, 0, 141, 58, 5, 25, 5, 185, 0, 143, 1, 0, 58, 6]
abbrev dktJ4_putMapEntries_5 : List UInt8 := dkwJ4_putMapEntries_5 ++ dktJ4_putMapEntries_6
def dkwJ4_putMapEntries_4 : List UInt8 := [167, 255, 233, 43, 185, 0, 121, 1, 0, 185, 0, 125, 1, 0, 58, 4, 25, 4, 185, 0, 131, 1, 0]
abbrev dktJ4_putMapEntries_4 : List UInt8 := dkwJ4_putMapEntries_4 ++ dktJ4_putMapEntries_5
def dkwJ4_putMapEntries_3 : List UInt8 := [42, 180, 0, 88, 164, 0, 21, 42, 180, 0, 105, 190, 18, 42, 162, 0, 11, 42, 182, 0, 117, 87]
abbrev dktJ4_putMapEntries_3 : List UInt8 := dkwJ4_putMapEntries_3 ++ dktJ4_putMapEntries_4
def dkwJ4_putMapEntries_2 : List UInt8 := [54, 6, 21, 6, 42, 180, 0, 88, 164, 0, 12, 42, 21, 6, 184, 0, 85, 181, 0, 88, 167, 0, 29, 29]
abbrev dktJ4_putMapEntries_2 : List UInt8 := dkwJ4_putMapEntries_2 ++ dktJ4_putMapEntries_3
def dkwJ4_putMapEntries_1 : List UInt8 := [141, 111, 184, 0, 109, 57, 4, 24, 4, 20, 0, 115, 152, 156, 0, 9, 24, 4, 142, 167, 0, 5, 18, 42]
abbrev dktJ4_putMapEntries_1 : List UInt8 := dkwJ4_putMapEntries_1 ++ dktJ4_putMapEntries_2
def dkwJ4_putMapEntries_0 : List UInt8 := [43, 185, 0, 100, 1, 0, 62, 29, 158, 0, 161, 42, 180, 0, 105, 199, 0, 56, 29, 135, 42, 180, 0, 81]
abbrev dktJ4_putMapEntries_0 : List UInt8 := dkwJ4_putMapEntries_0 ++ dktJ4_putMapEntries_1
theorem dksJ4_putMapEntries_0 : cJ4_putMapEntries.data.toList.drop 0 = dktJ4_putMapEntries_0 := by decide +kernel
theorem dksJ4_putMapEntries_1 : cJ4_putMapEntries.data.toList.drop 24 = dktJ4_putMapEntries_1 := dk_seg dksJ4_putMapEntries_0 24 rfl rfl
theorem dksJ4_putMapEntries_2 : cJ4_putMapEntries.data.toList.drop 48 = dktJ4_putMapEntries_2 := dk_seg dksJ4_putMapEntries_1 24 rfl rfl
theorem dksJ4_putMapEntries_3 : cJ4_putMapEntries.data.toList.drop 72 = dktJ4_putMapEntries_3 := dk_seg dksJ4_putMapEntries_2 24 rfl rfl
theorem dksJ4_putMapEntries_4 : cJ4_putMapEntries.data.toList.drop 94 = dktJ4_putMapEntries_4 := dk_seg dksJ4_putMapEntries_3 22 rfl rfl
theorem dksJ4_putMapEntries_5 : cJ4_putMapEntries.data.toList.drop 117 = dktJ4_putMapEntries_5 := dk_seg dksJ4_putMapEntries_4 23 rfl rfl
theorem dksJ4_putMapEntries_6 : cJ4_putMapEntries.data.toList.drop 141 = dktJ4_putMapEntries_6 := dk_seg dksJ4_putMapEntries_5 24 rfl rfl
theorem dksJ4_putMapEntries_7 : cJ4_putMapEntries.data.toList.drop 165 = dktJ4_putMapEntries_7 := dk_seg dksJ4_putMapEntries_6 24 rfl rfl
theorem dJ4_putMapEntries_0 : decode cJ4_putMapEntries 0 = .ok (.aload_n 1, 1) := dk_43 (dk_at dksJ4_putMapEntries_0 0 rfl rfl)
theorem dJ4_putMapEntries_1 : decode cJ4_putMapEntries 1 = .ok (.invokeinterface 100 1, 5) := by decide +kernel
theorem dJ4_putMapEntries_6 : decode cJ4_putMapEntries 6 = .ok (.istore_n 3, 1) := dk_62 (dk_at dksJ4_putMapEntries_0 6 rfl rfl)
theorem dJ4_putMapEntries_7 : decode cJ4_putMapEntries 7 = .ok (.iload_n 3, 1) := dk_29 (dk_at dksJ4_putMapEntries_0 7 rfl rfl)
theorem dJ4_putMapEntries_8 : decode cJ4_putMapEntries 8 = .ok (.ifCond .le 161, 3) := dk_158 0 161 (dk_at dksJ4_putMapEntries_0 8 rfl rfl)
theorem dJ4_putMapEntries_11 : decode cJ4_putMapEntries 11 = .ok (.aload_n 0, 1) := dk_42 (dk_at dksJ4_putMapEntries_0 11 rfl rfl)
theorem dJ4_putMapEntries_12 : decode cJ4_putMapEntries 12 = .ok (.getfield 105, 3) := dk_180 0 105 (dk_at dksJ4_putMapEntries_0 12 rfl rfl)
theorem dJ4_putMapEntries_15 : decode cJ4_putMapEntries 15 = .ok (.ifnonnull 56, 3) := dk_199 0 56 (dk_at dksJ4_putMapEntries_0 15 rfl rfl)
theorem dJ4_putMapEntries_18 : decode cJ4_putMapEntries 18 = .ok (.iload_n 3, 1) := dk_29 (dk_at dksJ4_putMapEntries_0 18 rfl rfl)
theorem dJ4_putMapEntries_19 : decode cJ4_putMapEntries 19 = .ok (.i2d, 1) := dk_135 (dk_at dksJ4_putMapEntries_0 19 rfl rfl)
theorem dJ4_putMapEntries_20 : decode cJ4_putMapEntries 20 = .ok (.aload_n 0, 1) := dk_42 (dk_at dksJ4_putMapEntries_0 20 rfl rfl)
theorem dJ4_putMapEntries_21 : decode cJ4_putMapEntries 21 = .ok (.getfield 81, 3) := dk_180 0 81 (dk_at dksJ4_putMapEntries_0 21 rfl rfl)
theorem dJ4_putMapEntries_24 : decode cJ4_putMapEntries 24 = .ok (.f2d, 1) := dk_141 (dk_at dksJ4_putMapEntries_1 0 rfl rfl)
theorem dJ4_putMapEntries_25 : decode cJ4_putMapEntries 25 = .ok (.ddiv, 1) := dk_111 (dk_at dksJ4_putMapEntries_1 1 rfl rfl)
theorem dJ4_putMapEntries_26 : decode cJ4_putMapEntries 26 = .ok (.invokestatic 109, 3) := dk_184 0 109 (dk_at dksJ4_putMapEntries_1 2 rfl rfl)
theorem dJ4_putMapEntries_29 : decode cJ4_putMapEntries 29 = .ok (.dstore 4, 2) := dk_57 4 (dk_at dksJ4_putMapEntries_1 5 rfl rfl)
theorem dJ4_putMapEntries_31 : decode cJ4_putMapEntries 31 = .ok (.dload 4, 2) := dk_24 4 (dk_at dksJ4_putMapEntries_1 7 rfl rfl)
theorem dJ4_putMapEntries_33 : decode cJ4_putMapEntries 33 = .ok (.ldc2_w 115, 3) := dk_20 0 115 (dk_at dksJ4_putMapEntries_1 9 rfl rfl)
theorem dJ4_putMapEntries_36 : decode cJ4_putMapEntries 36 = .ok (.dcmp .g, 1) := dk_152 (dk_at dksJ4_putMapEntries_1 12 rfl rfl)
theorem dJ4_putMapEntries_37 : decode cJ4_putMapEntries 37 = .ok (.ifCond .ge 9, 3) := dk_156 0 9 (dk_at dksJ4_putMapEntries_1 13 rfl rfl)
theorem dJ4_putMapEntries_40 : decode cJ4_putMapEntries 40 = .ok (.dload 4, 2) := dk_24 4 (dk_at dksJ4_putMapEntries_1 16 rfl rfl)
theorem dJ4_putMapEntries_42 : decode cJ4_putMapEntries 42 = .ok (.d2i, 1) := dk_142 (dk_at dksJ4_putMapEntries_1 18 rfl rfl)
theorem dJ4_putMapEntries_43 : decode cJ4_putMapEntries 43 = .ok (.goto 5, 3) := dk_167 0 5 (dk_at dksJ4_putMapEntries_1 19 rfl rfl)
theorem dJ4_putMapEntries_46 : decode cJ4_putMapEntries 46 = .ok (.ldc 42, 2) := dk_18 42 (dk_at dksJ4_putMapEntries_1 22 rfl rfl)
theorem dJ4_putMapEntries_48 : decode cJ4_putMapEntries 48 = .ok (.istore 6, 2) := dk_54 6 (dk_at dksJ4_putMapEntries_2 0 rfl rfl)
theorem dJ4_putMapEntries_50 : decode cJ4_putMapEntries 50 = .ok (.iload 6, 2) := dk_21 6 (dk_at dksJ4_putMapEntries_2 2 rfl rfl)
theorem dJ4_putMapEntries_52 : decode cJ4_putMapEntries 52 = .ok (.aload_n 0, 1) := dk_42 (dk_at dksJ4_putMapEntries_2 4 rfl rfl)
theorem dJ4_putMapEntries_53 : decode cJ4_putMapEntries 53 = .ok (.getfield 88, 3) := dk_180 0 88 (dk_at dksJ4_putMapEntries_2 5 rfl rfl)
theorem dJ4_putMapEntries_56 : decode cJ4_putMapEntries 56 = .ok (.if_icmp .le 12, 3) := dk_164 0 12 (dk_at dksJ4_putMapEntries_2 8 rfl rfl)
theorem dJ4_putMapEntries_59 : decode cJ4_putMapEntries 59 = .ok (.aload_n 0, 1) := dk_42 (dk_at dksJ4_putMapEntries_2 11 rfl rfl)
theorem dJ4_putMapEntries_60 : decode cJ4_putMapEntries 60 = .ok (.iload 6, 2) := dk_21 6 (dk_at dksJ4_putMapEntries_2 12 rfl rfl)
theorem dJ4_putMapEntries_62 : decode cJ4_putMapEntries 62 = .ok (.invokestatic 85, 3) := dk_184 0 85 (dk_at dksJ4_putMapEntries_2 14 rfl rfl)
theorem dJ4_putMapEntries_65 : decode cJ4_putMapEntries 65 = .ok (.putfield 88, 3) := dk_181 0 88 (dk_at dksJ4_putMapEntries_2 17 rfl rfl)
theorem dJ4_putMapEntries_68 : decode cJ4_putMapEntries 68 = .ok (.goto 29, 3) := dk_167 0 29 (dk_at dksJ4_putMapEntries_2 20 rfl rfl)
theorem dJ4_putMapEntries_71 : decode cJ4_putMapEntries 71 = .ok (.iload_n 3, 1) := dk_29 (dk_at dksJ4_putMapEntries_2 23 rfl rfl)
theorem dJ4_putMapEntries_72 : decode cJ4_putMapEntries 72 = .ok (.aload_n 0, 1) := dk_42 (dk_at dksJ4_putMapEntries_3 0 rfl rfl)
theorem dJ4_putMapEntries_73 : decode cJ4_putMapEntries 73 = .ok (.getfield 88, 3) := dk_180 0 88 (dk_at dksJ4_putMapEntries_3 1 rfl rfl)
theorem dJ4_putMapEntries_76 : decode cJ4_putMapEntries 76 = .ok (.if_icmp .le 21, 3) := dk_164 0 21 (dk_at dksJ4_putMapEntries_3 4 rfl rfl)
theorem dJ4_putMapEntries_79 : decode cJ4_putMapEntries 79 = .ok (.aload_n 0, 1) := dk_42 (dk_at dksJ4_putMapEntries_3 7 rfl rfl)
theorem dJ4_putMapEntries_80 : decode cJ4_putMapEntries 80 = .ok (.getfield 105, 3) := dk_180 0 105 (dk_at dksJ4_putMapEntries_3 8 rfl rfl)
theorem dJ4_putMapEntries_83 : decode cJ4_putMapEntries 83 = .ok (.arraylength, 1) := dk_190 (dk_at dksJ4_putMapEntries_3 11 rfl rfl)
theorem dJ4_putMapEntries_84 : decode cJ4_putMapEntries 84 = .ok (.ldc 42, 2) := dk_18 42 (dk_at dksJ4_putMapEntries_3 12 rfl rfl)
theorem dJ4_putMapEntries_86 : decode cJ4_putMapEntries 86 = .ok (.if_icmp .ge 11, 3) := dk_162 0 11 (dk_at dksJ4_putMapEntries_3 14 rfl rfl)
theorem dJ4_putMapEntries_89 : decode cJ4_putMapEntries 89 = .ok (.aload_n 0, 1) := dk_42 (dk_at dksJ4_putMapEntries_3 17 rfl rfl)
theorem dJ4_putMapEntries_90 : decode cJ4_putMapEntries 90 = .ok (.invokevirtual 117, 3) := dk_182 0 117 (dk_at dksJ4_putMapEntries_3 18 rfl rfl)
theorem dJ4_putMapEntries_93 : decode cJ4_putMapEntries 93 = .ok (.pop, 1) := dk_87 (dk_at dksJ4_putMapEntries_3 21 rfl rfl)
theorem dJ4_putMapEntries_94 : decode cJ4_putMapEntries 94 = .ok (.goto (-23), 3) := dk_167 255 233 (dk_at dksJ4_putMapEntries_4 0 rfl rfl)
theorem dJ4_putMapEntries_97 : decode cJ4_putMapEntries 97 = .ok (.aload_n 1, 1) := dk_43 (dk_at dksJ4_putMapEntries_4 3 rfl rfl)
theorem dJ4_putMapEntries_98 : decode cJ4_putMapEntries 98 = .ok (.invokeinterface 121 1, 5) := by decide +kernel
theorem dJ4_putMapEntries_103 : decode cJ4_putMapEntries 103 = .ok (.invokeinterface 125 1, 5) := by decide +kernel
theorem dJ4_putMapEntries_108 : decode cJ4_putMapEntries 108 = .ok (.astore 4, 2) := dk_58 4 (dk_at dksJ4_putMapEntries_4 14 rfl rfl)
theorem dJ4_putMapEntries_110 : decode cJ4_putMapEntries 110 = .ok (.aload 4, 2) := dk_25 4 (dk_at dksJ4_putMapEntries_4 16 rfl rfl)
theorem dJ4_putMapEntries_112 : decode cJ4_putMapEntries 112 = .ok (.invokeinterface 131 1, 5) := by decide +kernel
theorem dJ4_putMapEntries_117 : decode cJ4_putMapEntries 117 = .ok (.ifCond .eq 52, 3) := dk_153 0 52 (dk_at dksJ4_putMapEntries_5 0 rfl rfl)
theorem dJ4_putMapEntries_120 : decode cJ4_putMapEntries 120 = .ok (.aload 4, 2) := dk_25 4 (dk_at dksJ4_putMapEntries_5 3 rfl rfl)
theorem dJ4_putMapEntries_122 : decode cJ4_putMapEntries 122 = .ok (.invokeinterface 137 1, 5) := by decide +kernel
theorem dJ4_putMapEntries_127 : decode cJ4_putMapEntries 127 = .ok (.checkcast 141, 3) := dk_192 0 141 (dk_at dksJ4_putMapEntries_5 10 rfl rfl)
theorem dJ4_putMapEntries_130 : decode cJ4_putMapEntries 130 = .ok (.astore 5, 2) := dk_58 5 (dk_at dksJ4_putMapEntries_5 13 rfl rfl)
theorem dJ4_putMapEntries_132 : decode cJ4_putMapEntries 132 = .ok (.aload 5, 2) := dk_25 5 (dk_at dksJ4_putMapEntries_5 15 rfl rfl)
theorem dJ4_putMapEntries_134 : decode cJ4_putMapEntries 134 = .ok (.invokeinterface 143 1, 5) := by decide +kernel
theorem dJ4_putMapEntries_139 : decode cJ4_putMapEntries 139 = .ok (.astore 6, 2) := dk_58 6 (dk_at dksJ4_putMapEntries_5 22 rfl rfl)
theorem dJ4_putMapEntries_141 : decode cJ4_putMapEntries 141 = .ok (.aload 5, 2) := dk_25 5 (dk_at dksJ4_putMapEntries_6 0 rfl rfl)
theorem dJ4_putMapEntries_143 : decode cJ4_putMapEntries 143 = .ok (.invokeinterface 146 1, 5) := by decide +kernel
theorem dJ4_putMapEntries_148 : decode cJ4_putMapEntries 148 = .ok (.astore 7, 2) := dk_58 7 (dk_at dksJ4_putMapEntries_6 7 rfl rfl)
theorem dJ4_putMapEntries_150 : decode cJ4_putMapEntries 150 = .ok (.aload_n 0, 1) := dk_42 (dk_at dksJ4_putMapEntries_6 9 rfl rfl)
theorem dJ4_putMapEntries_151 : decode cJ4_putMapEntries 151 = .ok (.aload 6, 2) := dk_25 6 (dk_at dksJ4_putMapEntries_6 10 rfl rfl)
theorem dJ4_putMapEntries_153 : decode cJ4_putMapEntries 153 = .ok (.invokestatic 149, 3) := dk_184 0 149 (dk_at dksJ4_putMapEntries_6 12 rfl rfl)
theorem dJ4_putMapEntries_156 : decode cJ4_putMapEntries 156 = .ok (.aload 6, 2) := dk_25 6 (dk_at dksJ4_putMapEntries_6 15 rfl rfl)
theorem dJ4_putMapEntries_158 : decode cJ4_putMapEntries 158 = .ok (.aload 7, 2) := dk_25 7 (dk_at dksJ4_putMapEntries_6 17 rfl rfl)
theorem dJ4_putMapEntries_160 : decode cJ4_putMapEntries 160 = .ok (.iconst 0, 1) := dk_3 (dk_at dksJ4_putMapEntries_6 19 rfl rfl)
theorem dJ4_putMapEntries_161 : decode cJ4_putMapEntries 161 = .ok (.iload_n 2, 1) := dk_28 (dk_at dksJ4_putMapEntries_6 20 rfl rfl)
theorem dJ4_putMapEntries_162 : decode cJ4_putMapEntries 162 = .ok (.invokevirtual 152, 3) := dk_182 0 152 (dk_at dksJ4_putMapEntries_6 21 rfl rfl)
theorem dJ4_putMapEntries_165 : decode cJ4_putMapEntries 165 = .ok (.pop, 1) := dk_87 (dk_at dksJ4_putMapEntries_7 0 rfl rfl)
theorem dJ4_putMapEntries_166 : decode cJ4_putMapEntries 166 = .ok (.goto (-56), 3) := dk_167 255 200 (dk_at dksJ4_putMapEntries_7 1 rfl rfl)
theorem dJ4_putMapEntries_169 : decode cJ4_putMapEntries 169 = .ok (.return_, 1) := dk_177 (dk_at dksJ4_putMapEntries_7 4 rfl rfl)
abbrev cJ4_size : ByteArray := prog_42_method_10_code
def yJ4_size : MethodName := ⟨RJ4, "size", "()I"⟩
theorem dJ4_size_0 : decode cJ4_size 0 = .ok (.aload_n 0, 1) := by decide +kernel
theorem dJ4_size_1 : decode cJ4_size 1 = .ok (.getfield 156, 3) := by decide +kernel
theorem dJ4_size_4 : decode cJ4_size 4 = .ok (.ireturn, 1) := by decide +kernel
abbrev cJ4_tableSizeFor : ByteArray := prog_42_method_4_code
def yJ4_tableSizeFor : MethodName := ⟨RJ4, "tableSizeFor", "(I)I"⟩
def dkwJ4_tableSizeFor_1 : List UInt8 := [18, 42, 167, 0, 6, 27, 4, 96, 172]
abbrev dktJ4_tableSizeFor_1 : List UInt8 := dkwJ4_tableSizeFor_1 ++ []
def dkwJ4_tableSizeFor_0 : List UInt8 := [2, 26, 4, 100, 184, 0, 34, 124, 60, 27, 156, 0, 7, 4, 167, 0, 17, 27, 18, 42, 161, 0, 8]
abbrev dktJ4_tableSizeFor_0 : List UInt8 := dkwJ4_tableSizeFor_0 ++ dktJ4_tableSizeFor_1
theorem dksJ4_tableSizeFor_0 : cJ4_tableSizeFor.data.toList.drop 0 = dktJ4_tableSizeFor_0 := by decide +kernel
theorem dksJ4_tableSizeFor_1 : cJ4_tableSizeFor.data.toList.drop 23 = dktJ4_tableSizeFor_1 := dk_seg dksJ4_tableSizeFor_0 23 rfl rfl
theorem dJ4_tableSizeFor_0 : decode cJ4_tableSizeFor 0 = .ok (.iconst (-1), 1) := dk_2 (dk_at dksJ4_tableSizeFor_0 0 rfl rfl)
theorem dJ4_tableSizeFor_1 : decode cJ4_tableSizeFor 1 = .ok (.iload_n 0, 1) := dk_26 (dk_at dksJ4_tableSizeFor_0 1 rfl rfl)
theorem dJ4_tableSizeFor_2 : decode cJ4_tableSizeFor 2 = .ok (.iconst 1, 1) := dk_4 (dk_at dksJ4_tableSizeFor_0 2 rfl rfl)
theorem dJ4_tableSizeFor_3 : decode cJ4_tableSizeFor 3 = .ok (.isub, 1) := dk_100 (dk_at dksJ4_tableSizeFor_0 3 rfl rfl)
theorem dJ4_tableSizeFor_4 : decode cJ4_tableSizeFor 4 = .ok (.invokestatic 34, 3) := dk_184 0 34 (dk_at dksJ4_tableSizeFor_0 4 rfl rfl)
theorem dJ4_tableSizeFor_7 : decode cJ4_tableSizeFor 7 = .ok (.iushr, 1) := dk_124 (dk_at dksJ4_tableSizeFor_0 7 rfl rfl)
theorem dJ4_tableSizeFor_8 : decode cJ4_tableSizeFor 8 = .ok (.istore_n 1, 1) := dk_60 (dk_at dksJ4_tableSizeFor_0 8 rfl rfl)
theorem dJ4_tableSizeFor_9 : decode cJ4_tableSizeFor 9 = .ok (.iload_n 1, 1) := dk_27 (dk_at dksJ4_tableSizeFor_0 9 rfl rfl)
theorem dJ4_tableSizeFor_10 : decode cJ4_tableSizeFor 10 = .ok (.ifCond .ge 7, 3) := dk_156 0 7 (dk_at dksJ4_tableSizeFor_0 10 rfl rfl)
theorem dJ4_tableSizeFor_13 : decode cJ4_tableSizeFor 13 = .ok (.iconst 1, 1) := dk_4 (dk_at dksJ4_tableSizeFor_0 13 rfl rfl)
theorem dJ4_tableSizeFor_14 : decode cJ4_tableSizeFor 14 = .ok (.goto 17, 3) := dk_167 0 17 (dk_at dksJ4_tableSizeFor_0 14 rfl rfl)
theorem dJ4_tableSizeFor_17 : decode cJ4_tableSizeFor 17 = .ok (.iload_n 1, 1) := dk_27 (dk_at dksJ4_tableSizeFor_0 17 rfl rfl)
theorem dJ4_tableSizeFor_18 : decode cJ4_tableSizeFor 18 = .ok (.ldc 42, 2) := dk_18 42 (dk_at dksJ4_tableSizeFor_0 18 rfl rfl)
theorem dJ4_tableSizeFor_20 : decode cJ4_tableSizeFor 20 = .ok (.if_icmp .lt 8, 3) := dk_161 0 8 (dk_at dksJ4_tableSizeFor_0 20 rfl rfl)
theorem dJ4_tableSizeFor_23 : decode cJ4_tableSizeFor 23 = .ok (.ldc 42, 2) := dk_18 42 (dk_at dksJ4_tableSizeFor_1 0 rfl rfl)
theorem dJ4_tableSizeFor_25 : decode cJ4_tableSizeFor 25 = .ok (.goto 6, 3) := dk_167 0 6 (dk_at dksJ4_tableSizeFor_1 2 rfl rfl)
theorem dJ4_tableSizeFor_28 : decode cJ4_tableSizeFor 28 = .ok (.iload_n 1, 1) := dk_27 (dk_at dksJ4_tableSizeFor_1 5 rfl rfl)
theorem dJ4_tableSizeFor_29 : decode cJ4_tableSizeFor 29 = .ok (.iconst 1, 1) := dk_4 (dk_at dksJ4_tableSizeFor_1 6 rfl rfl)
theorem dJ4_tableSizeFor_30 : decode cJ4_tableSizeFor 30 = .ok (.iadd, 1) := dk_96 (dk_at dksJ4_tableSizeFor_1 7 rfl rfl)
theorem dJ4_tableSizeFor_31 : decode cJ4_tableSizeFor 31 = .ok (.ireturn, 1) := dk_172 (dk_at dksJ4_tableSizeFor_1 8 rfl rfl)
abbrev cJ4_resize : ByteArray := prog_42_method_17_code
def yJ4_resize : MethodName := ⟨RJ4, "resize", "()[Ljava/util/HashMap$Node;"⟩
def dkwJ4_resize_15 : List UInt8 := [25, 6, 176]
abbrev dktJ4_resize_15 : List UInt8 := dkwJ4_resize_15 ++ []
def dkwJ4_resize_14 : List UInt8 := [198, 0, 18, 25, 12, 1, 181, 0, 177, 25, 6, 21, 7, 28, 96, 25, 11, 83, 132, 7, 1, 167, 255, 57]
abbrev dktJ4_resize_14 : List UInt8 := dkwJ4_resize_14 ++ dktJ4_resize_15
def dkwJ4_resize_13 : List UInt8 := [199, 255, 185, 25, 10, 198, 0, 16, 25, 10, 1, 181, 0, 177, 25, 6, 21, 7, 25, 9, 83, 25, 12]
abbrev dktJ4_resize_13 : List UInt8 := dkwJ4_resize_13 ++ dktJ4_resize_14
def dkwJ4_resize_12 : List UInt8 := [25, 8, 58, 11, 167, 0, 10, 25, 12, 25, 8, 181, 0, 177, 25, 8, 58, 12, 25, 13, 89, 58, 8]
abbrev dktJ4_resize_12 : List UInt8 := dkwJ4_resize_12 ++ dktJ4_resize_13
def dkwJ4_resize_11 : List UInt8 := [58, 9, 167, 0, 10, 25, 10, 25, 8, 181, 0, 177, 25, 8, 58, 10, 167, 0, 26, 25, 12, 199, 0, 10]
abbrev dktJ4_resize_11 : List UInt8 := dkwJ4_resize_11 ++ dktJ4_resize_12
def dkwJ4_resize_10 : List UInt8 := [25, 8, 180, 0, 177, 58, 13, 25, 8, 180, 0, 168, 28, 126, 154, 0, 29, 25, 10, 199, 0, 10, 25, 8]
abbrev dktJ4_resize_10 : List UInt8 := dkwJ4_resize_10 ++ dktJ4_resize_11
def dkwJ4_resize_9 : List UInt8 := [42, 25, 6, 21, 7, 28, 182, 0, 211, 167, 0, 127, 1, 58, 9, 1, 58, 10, 1, 58, 11, 1, 58, 12]
abbrev dktJ4_resize_9 : List UInt8 := dkwJ4_resize_9 ++ dktJ4_resize_10
def dkwJ4_resize_8 : List UInt8 := [21, 4, 4, 100, 126, 25, 8, 83, 167, 0, 152, 25, 8, 193, 0, 180, 153, 0, 20, 25, 8, 192, 0, 180]
abbrev dktJ4_resize_8 : List UInt8 := dkwJ4_resize_8 ++ dktJ4_resize_9
def dkwJ4_resize_7 : List UInt8 := [198, 0, 183, 43, 21, 7, 1, 83, 25, 8, 180, 0, 177, 199, 0, 21, 25, 6, 25, 8, 180, 0, 168]
abbrev dktJ4_resize_7 : List UInt8 := dkwJ4_resize_7 ++ dktJ4_resize_8
def dkwJ4_resize_6 : List UInt8 := [181, 0, 105, 43, 198, 0, 208, 3, 54, 7, 21, 7, 28, 162, 0, 199, 43, 21, 7, 50, 89, 58, 8]
abbrev dktJ4_resize_6 : List UInt8 := dkwJ4_resize_6 ++ dktJ4_resize_7
def dkwJ4_resize_5 : List UInt8 := [167, 0, 5, 18, 209, 54, 5, 42, 21, 5, 181, 0, 88, 21, 4, 189, 0, 163, 58, 6, 42, 25, 6]
abbrev dktJ4_resize_5 : List UInt8 := dkwJ4_resize_5 ++ dktJ4_resize_6
def dkwJ4_resize_4 : List UInt8 := [180, 0, 81, 106, 56, 6, 21, 4, 18, 42, 162, 0, 17, 23, 6, 18, 210, 150, 156, 0, 9, 23, 6, 139]
abbrev dktJ4_resize_4 : List UInt8 := dkwJ4_resize_4 ++ dktJ4_resize_5
def dkwJ4_resize_3 : List UInt8 := [54, 4, 167, 0, 11, 16, 16, 54, 4, 16, 12, 54, 5, 21, 5, 154, 0, 38, 21, 4, 134, 42]
abbrev dktJ4_resize_3 : List UInt8 := dkwJ4_resize_3 ++ dktJ4_resize_4
def dkwJ4_resize_2 : List UInt8 := [18, 42, 162, 0, 35, 28, 16, 16, 161, 0, 29, 29, 4, 120, 54, 5, 167, 0, 21, 29, 158, 0, 9, 29]
abbrev dktJ4_resize_2 : List UInt8 := dkwJ4_resize_2 ++ dktJ4_resize_3
def dkwJ4_resize_1 : List UInt8 := [28, 158, 0, 42, 28, 18, 42, 161, 0, 11, 42, 18, 209, 181, 0, 88, 43, 176, 28, 4, 120, 89, 54, 4]
abbrev dktJ4_resize_1 : List UInt8 := dkwJ4_resize_1 ++ dktJ4_resize_2
def dkwJ4_resize_0 : List UInt8 := [42, 180, 0, 105, 76, 43, 199, 0, 7, 3, 167, 0, 5, 43, 190, 61, 42, 180, 0, 88, 62, 3, 54, 5]
abbrev dktJ4_resize_0 : List UInt8 := dkwJ4_resize_0 ++ dktJ4_resize_1
theorem dksJ4_resize_0 : cJ4_resize.data.toList.drop 0 = dktJ4_resize_0 := by decide +kernel
theorem dksJ4_resize_1 : cJ4_resize.data.toList.drop 24 = dktJ4_resize_1 := dk_seg dksJ4_resize_0 24 rfl rfl
theorem dksJ4_resize_2 : cJ4_resize.data.toList.drop 48 = dktJ4_resize_2 := dk_seg dksJ4_resize_1 24 rfl rfl
theorem dksJ4_resize_3 : cJ4_resize.data.toList.drop 72 = dktJ4_resize_3 := dk_seg dksJ4_resize_2 24 rfl rfl
theorem dksJ4_resize_4 : cJ4_resize.data.toList.drop 94 = dktJ4_resize_4 := dk_seg dksJ4_resize_3 22 rfl rfl
theorem dksJ4_resize_5 : cJ4_resize.data.toList.drop 118 = dktJ4_resize_5 := dk_seg dksJ4_resize_4 24 rfl rfl
theorem dksJ4_resize_6 : cJ4_resize.data.toList.drop 141 = dktJ4_resize_6 := dk_seg dksJ4_resize_5 23 rfl rfl
theorem dksJ4_resize_7 : cJ4_resize.data.toList.drop 164 = dktJ4_resize_7 := dk_seg dksJ4_resize_6 23 rfl rfl
theorem dksJ4_resize_8 : cJ4_resize.data.toList.drop 187 = dktJ4_resize_8 := dk_seg dksJ4_resize_7 23 rfl rfl
theorem dksJ4_resize_9 : cJ4_resize.data.toList.drop 211 = dktJ4_resize_9 := dk_seg dksJ4_resize_8 24 rfl rfl
theorem dksJ4_resize_10 : cJ4_resize.data.toList.drop 235 = dktJ4_resize_10 := dk_seg dksJ4_resize_9 24 rfl rfl
theorem dksJ4_resize_11 : cJ4_resize.data.toList.drop 259 = dktJ4_resize_11 := dk_seg dksJ4_resize_10 24 rfl rfl
theorem dksJ4_resize_12 : cJ4_resize.data.toList.drop 283 = dktJ4_resize_12 := dk_seg dksJ4_resize_11 24 rfl rfl
theorem dksJ4_resize_13 : cJ4_resize.data.toList.drop 306 = dktJ4_resize_13 := dk_seg dksJ4_resize_12 23 rfl rfl
theorem dksJ4_resize_14 : cJ4_resize.data.toList.drop 329 = dktJ4_resize_14 := dk_seg dksJ4_resize_13 23 rfl rfl
theorem dksJ4_resize_15 : cJ4_resize.data.toList.drop 353 = dktJ4_resize_15 := dk_seg dksJ4_resize_14 24 rfl rfl
theorem dJ4_resize_0 : decode cJ4_resize 0 = .ok (.aload_n 0, 1) := dk_42 (dk_at dksJ4_resize_0 0 rfl rfl)
theorem dJ4_resize_1 : decode cJ4_resize 1 = .ok (.getfield 105, 3) := dk_180 0 105 (dk_at dksJ4_resize_0 1 rfl rfl)
theorem dJ4_resize_4 : decode cJ4_resize 4 = .ok (.astore_n 1, 1) := dk_76 (dk_at dksJ4_resize_0 4 rfl rfl)
theorem dJ4_resize_5 : decode cJ4_resize 5 = .ok (.aload_n 1, 1) := dk_43 (dk_at dksJ4_resize_0 5 rfl rfl)
theorem dJ4_resize_6 : decode cJ4_resize 6 = .ok (.ifnonnull 7, 3) := dk_199 0 7 (dk_at dksJ4_resize_0 6 rfl rfl)
theorem dJ4_resize_9 : decode cJ4_resize 9 = .ok (.iconst 0, 1) := dk_3 (dk_at dksJ4_resize_0 9 rfl rfl)
theorem dJ4_resize_10 : decode cJ4_resize 10 = .ok (.goto 5, 3) := dk_167 0 5 (dk_at dksJ4_resize_0 10 rfl rfl)
theorem dJ4_resize_13 : decode cJ4_resize 13 = .ok (.aload_n 1, 1) := dk_43 (dk_at dksJ4_resize_0 13 rfl rfl)
theorem dJ4_resize_14 : decode cJ4_resize 14 = .ok (.arraylength, 1) := dk_190 (dk_at dksJ4_resize_0 14 rfl rfl)
theorem dJ4_resize_15 : decode cJ4_resize 15 = .ok (.istore_n 2, 1) := dk_61 (dk_at dksJ4_resize_0 15 rfl rfl)
theorem dJ4_resize_16 : decode cJ4_resize 16 = .ok (.aload_n 0, 1) := dk_42 (dk_at dksJ4_resize_0 16 rfl rfl)
theorem dJ4_resize_17 : decode cJ4_resize 17 = .ok (.getfield 88, 3) := dk_180 0 88 (dk_at dksJ4_resize_0 17 rfl rfl)
theorem dJ4_resize_20 : decode cJ4_resize 20 = .ok (.istore_n 3, 1) := dk_62 (dk_at dksJ4_resize_0 20 rfl rfl)
theorem dJ4_resize_21 : decode cJ4_resize 21 = .ok (.iconst 0, 1) := dk_3 (dk_at dksJ4_resize_0 21 rfl rfl)
theorem dJ4_resize_22 : decode cJ4_resize 22 = .ok (.istore 5, 2) := dk_54 5 (dk_at dksJ4_resize_0 22 rfl rfl)
theorem dJ4_resize_24 : decode cJ4_resize 24 = .ok (.iload_n 2, 1) := dk_28 (dk_at dksJ4_resize_1 0 rfl rfl)
theorem dJ4_resize_25 : decode cJ4_resize 25 = .ok (.ifCond .le 42, 3) := dk_158 0 42 (dk_at dksJ4_resize_1 1 rfl rfl)
theorem dJ4_resize_28 : decode cJ4_resize 28 = .ok (.iload_n 2, 1) := dk_28 (dk_at dksJ4_resize_1 4 rfl rfl)
theorem dJ4_resize_29 : decode cJ4_resize 29 = .ok (.ldc 42, 2) := dk_18 42 (dk_at dksJ4_resize_1 5 rfl rfl)
theorem dJ4_resize_31 : decode cJ4_resize 31 = .ok (.if_icmp .lt 11, 3) := dk_161 0 11 (dk_at dksJ4_resize_1 7 rfl rfl)
theorem dJ4_resize_34 : decode cJ4_resize 34 = .ok (.aload_n 0, 1) := dk_42 (dk_at dksJ4_resize_1 10 rfl rfl)
theorem dJ4_resize_35 : decode cJ4_resize 35 = .ok (.ldc 209, 2) := dk_18 209 (dk_at dksJ4_resize_1 11 rfl rfl)
theorem dJ4_resize_37 : decode cJ4_resize 37 = .ok (.putfield 88, 3) := dk_181 0 88 (dk_at dksJ4_resize_1 13 rfl rfl)
theorem dJ4_resize_40 : decode cJ4_resize 40 = .ok (.aload_n 1, 1) := dk_43 (dk_at dksJ4_resize_1 16 rfl rfl)
theorem dJ4_resize_41 : decode cJ4_resize 41 = .ok (.areturn, 1) := dk_176 (dk_at dksJ4_resize_1 17 rfl rfl)
theorem dJ4_resize_42 : decode cJ4_resize 42 = .ok (.iload_n 2, 1) := dk_28 (dk_at dksJ4_resize_1 18 rfl rfl)
theorem dJ4_resize_43 : decode cJ4_resize 43 = .ok (.iconst 1, 1) := dk_4 (dk_at dksJ4_resize_1 19 rfl rfl)
theorem dJ4_resize_44 : decode cJ4_resize 44 = .ok (.ishl, 1) := dk_120 (dk_at dksJ4_resize_1 20 rfl rfl)
theorem dJ4_resize_45 : decode cJ4_resize 45 = .ok (.dup, 1) := dk_89 (dk_at dksJ4_resize_1 21 rfl rfl)
theorem dJ4_resize_46 : decode cJ4_resize 46 = .ok (.istore 4, 2) := dk_54 4 (dk_at dksJ4_resize_1 22 rfl rfl)
theorem dJ4_resize_48 : decode cJ4_resize 48 = .ok (.ldc 42, 2) := dk_18 42 (dk_at dksJ4_resize_2 0 rfl rfl)
theorem dJ4_resize_50 : decode cJ4_resize 50 = .ok (.if_icmp .ge 35, 3) := dk_162 0 35 (dk_at dksJ4_resize_2 2 rfl rfl)
theorem dJ4_resize_53 : decode cJ4_resize 53 = .ok (.iload_n 2, 1) := dk_28 (dk_at dksJ4_resize_2 5 rfl rfl)
theorem dJ4_resize_54 : decode cJ4_resize 54 = .ok (.bipush 16, 2) := dk_16 16 (dk_at dksJ4_resize_2 6 rfl rfl)
theorem dJ4_resize_56 : decode cJ4_resize 56 = .ok (.if_icmp .lt 29, 3) := dk_161 0 29 (dk_at dksJ4_resize_2 8 rfl rfl)
theorem dJ4_resize_59 : decode cJ4_resize 59 = .ok (.iload_n 3, 1) := dk_29 (dk_at dksJ4_resize_2 11 rfl rfl)
theorem dJ4_resize_60 : decode cJ4_resize 60 = .ok (.iconst 1, 1) := dk_4 (dk_at dksJ4_resize_2 12 rfl rfl)
theorem dJ4_resize_61 : decode cJ4_resize 61 = .ok (.ishl, 1) := dk_120 (dk_at dksJ4_resize_2 13 rfl rfl)
theorem dJ4_resize_62 : decode cJ4_resize 62 = .ok (.istore 5, 2) := dk_54 5 (dk_at dksJ4_resize_2 14 rfl rfl)
theorem dJ4_resize_64 : decode cJ4_resize 64 = .ok (.goto 21, 3) := dk_167 0 21 (dk_at dksJ4_resize_2 16 rfl rfl)
theorem dJ4_resize_67 : decode cJ4_resize 67 = .ok (.iload_n 3, 1) := dk_29 (dk_at dksJ4_resize_2 19 rfl rfl)
theorem dJ4_resize_68 : decode cJ4_resize 68 = .ok (.ifCond .le 9, 3) := dk_158 0 9 (dk_at dksJ4_resize_2 20 rfl rfl)
theorem dJ4_resize_71 : decode cJ4_resize 71 = .ok (.iload_n 3, 1) := dk_29 (dk_at dksJ4_resize_2 23 rfl rfl)
theorem dJ4_resize_72 : decode cJ4_resize 72 = .ok (.istore 4, 2) := dk_54 4 (dk_at dksJ4_resize_3 0 rfl rfl)
theorem dJ4_resize_74 : decode cJ4_resize 74 = .ok (.goto 11, 3) := dk_167 0 11 (dk_at dksJ4_resize_3 2 rfl rfl)
theorem dJ4_resize_77 : decode cJ4_resize 77 = .ok (.bipush 16, 2) := dk_16 16 (dk_at dksJ4_resize_3 5 rfl rfl)
theorem dJ4_resize_79 : decode cJ4_resize 79 = .ok (.istore 4, 2) := dk_54 4 (dk_at dksJ4_resize_3 7 rfl rfl)
theorem dJ4_resize_81 : decode cJ4_resize 81 = .ok (.bipush 12, 2) := dk_16 12 (dk_at dksJ4_resize_3 9 rfl rfl)
theorem dJ4_resize_83 : decode cJ4_resize 83 = .ok (.istore 5, 2) := dk_54 5 (dk_at dksJ4_resize_3 11 rfl rfl)
theorem dJ4_resize_85 : decode cJ4_resize 85 = .ok (.iload 5, 2) := dk_21 5 (dk_at dksJ4_resize_3 13 rfl rfl)
theorem dJ4_resize_87 : decode cJ4_resize 87 = .ok (.ifCond .ne 38, 3) := dk_154 0 38 (dk_at dksJ4_resize_3 15 rfl rfl)
theorem dJ4_resize_90 : decode cJ4_resize 90 = .ok (.iload 4, 2) := dk_21 4 (dk_at dksJ4_resize_3 18 rfl rfl)
theorem dJ4_resize_92 : decode cJ4_resize 92 = .ok (.i2f, 1) := dk_134 (dk_at dksJ4_resize_3 20 rfl rfl)
theorem dJ4_resize_93 : decode cJ4_resize 93 = .ok (.aload_n 0, 1) := dk_42 (dk_at dksJ4_resize_3 21 rfl rfl)
theorem dJ4_resize_94 : decode cJ4_resize 94 = .ok (.getfield 81, 3) := dk_180 0 81 (dk_at dksJ4_resize_4 0 rfl rfl)
theorem dJ4_resize_97 : decode cJ4_resize 97 = .ok (.fmul, 1) := dk_106 (dk_at dksJ4_resize_4 3 rfl rfl)
theorem dJ4_resize_98 : decode cJ4_resize 98 = .ok (.fstore 6, 2) := dk_56 6 (dk_at dksJ4_resize_4 4 rfl rfl)
theorem dJ4_resize_100 : decode cJ4_resize 100 = .ok (.iload 4, 2) := dk_21 4 (dk_at dksJ4_resize_4 6 rfl rfl)
theorem dJ4_resize_102 : decode cJ4_resize 102 = .ok (.ldc 42, 2) := dk_18 42 (dk_at dksJ4_resize_4 8 rfl rfl)
theorem dJ4_resize_104 : decode cJ4_resize 104 = .ok (.if_icmp .ge 17, 3) := dk_162 0 17 (dk_at dksJ4_resize_4 10 rfl rfl)
theorem dJ4_resize_107 : decode cJ4_resize 107 = .ok (.fload 6, 2) := dk_23 6 (dk_at dksJ4_resize_4 13 rfl rfl)
theorem dJ4_resize_109 : decode cJ4_resize 109 = .ok (.ldc 210, 2) := dk_18 210 (dk_at dksJ4_resize_4 15 rfl rfl)
theorem dJ4_resize_111 : decode cJ4_resize 111 = .ok (.fcmp .g, 1) := dk_150 (dk_at dksJ4_resize_4 17 rfl rfl)
theorem dJ4_resize_112 : decode cJ4_resize 112 = .ok (.ifCond .ge 9, 3) := dk_156 0 9 (dk_at dksJ4_resize_4 18 rfl rfl)
theorem dJ4_resize_115 : decode cJ4_resize 115 = .ok (.fload 6, 2) := dk_23 6 (dk_at dksJ4_resize_4 21 rfl rfl)
theorem dJ4_resize_117 : decode cJ4_resize 117 = .ok (.f2i, 1) := dk_139 (dk_at dksJ4_resize_4 23 rfl rfl)
theorem dJ4_resize_118 : decode cJ4_resize 118 = .ok (.goto 5, 3) := dk_167 0 5 (dk_at dksJ4_resize_5 0 rfl rfl)
theorem dJ4_resize_121 : decode cJ4_resize 121 = .ok (.ldc 209, 2) := dk_18 209 (dk_at dksJ4_resize_5 3 rfl rfl)
theorem dJ4_resize_123 : decode cJ4_resize 123 = .ok (.istore 5, 2) := dk_54 5 (dk_at dksJ4_resize_5 5 rfl rfl)
theorem dJ4_resize_125 : decode cJ4_resize 125 = .ok (.aload_n 0, 1) := dk_42 (dk_at dksJ4_resize_5 7 rfl rfl)
theorem dJ4_resize_126 : decode cJ4_resize 126 = .ok (.iload 5, 2) := dk_21 5 (dk_at dksJ4_resize_5 8 rfl rfl)
theorem dJ4_resize_128 : decode cJ4_resize 128 = .ok (.putfield 88, 3) := dk_181 0 88 (dk_at dksJ4_resize_5 10 rfl rfl)
theorem dJ4_resize_131 : decode cJ4_resize 131 = .ok (.iload 4, 2) := dk_21 4 (dk_at dksJ4_resize_5 13 rfl rfl)
theorem dJ4_resize_133 : decode cJ4_resize 133 = .ok (.anewarray 163, 3) := dk_189 0 163 (dk_at dksJ4_resize_5 15 rfl rfl)
theorem dJ4_resize_136 : decode cJ4_resize 136 = .ok (.astore 6, 2) := dk_58 6 (dk_at dksJ4_resize_5 18 rfl rfl)
theorem dJ4_resize_138 : decode cJ4_resize 138 = .ok (.aload_n 0, 1) := dk_42 (dk_at dksJ4_resize_5 20 rfl rfl)
theorem dJ4_resize_139 : decode cJ4_resize 139 = .ok (.aload 6, 2) := dk_25 6 (dk_at dksJ4_resize_5 21 rfl rfl)
theorem dJ4_resize_141 : decode cJ4_resize 141 = .ok (.putfield 105, 3) := dk_181 0 105 (dk_at dksJ4_resize_6 0 rfl rfl)
theorem dJ4_resize_144 : decode cJ4_resize 144 = .ok (.aload_n 1, 1) := dk_43 (dk_at dksJ4_resize_6 3 rfl rfl)
theorem dJ4_resize_145 : decode cJ4_resize 145 = .ok (.ifnull 208, 3) := dk_198 0 208 (dk_at dksJ4_resize_6 4 rfl rfl)
theorem dJ4_resize_148 : decode cJ4_resize 148 = .ok (.iconst 0, 1) := dk_3 (dk_at dksJ4_resize_6 7 rfl rfl)
theorem dJ4_resize_149 : decode cJ4_resize 149 = .ok (.istore 7, 2) := dk_54 7 (dk_at dksJ4_resize_6 8 rfl rfl)
theorem dJ4_resize_151 : decode cJ4_resize 151 = .ok (.iload 7, 2) := dk_21 7 (dk_at dksJ4_resize_6 10 rfl rfl)
theorem dJ4_resize_153 : decode cJ4_resize 153 = .ok (.iload_n 2, 1) := dk_28 (dk_at dksJ4_resize_6 12 rfl rfl)
theorem dJ4_resize_154 : decode cJ4_resize 154 = .ok (.if_icmp .ge 199, 3) := dk_162 0 199 (dk_at dksJ4_resize_6 13 rfl rfl)
theorem dJ4_resize_157 : decode cJ4_resize 157 = .ok (.aload_n 1, 1) := dk_43 (dk_at dksJ4_resize_6 16 rfl rfl)
theorem dJ4_resize_158 : decode cJ4_resize 158 = .ok (.iload 7, 2) := dk_21 7 (dk_at dksJ4_resize_6 17 rfl rfl)
theorem dJ4_resize_160 : decode cJ4_resize 160 = .ok (.aaload, 1) := dk_50 (dk_at dksJ4_resize_6 19 rfl rfl)
theorem dJ4_resize_161 : decode cJ4_resize 161 = .ok (.dup, 1) := dk_89 (dk_at dksJ4_resize_6 20 rfl rfl)
theorem dJ4_resize_162 : decode cJ4_resize 162 = .ok (.astore 8, 2) := dk_58 8 (dk_at dksJ4_resize_6 21 rfl rfl)
theorem dJ4_resize_164 : decode cJ4_resize 164 = .ok (.ifnull 183, 3) := dk_198 0 183 (dk_at dksJ4_resize_7 0 rfl rfl)
theorem dJ4_resize_167 : decode cJ4_resize 167 = .ok (.aload_n 1, 1) := dk_43 (dk_at dksJ4_resize_7 3 rfl rfl)
theorem dJ4_resize_168 : decode cJ4_resize 168 = .ok (.iload 7, 2) := dk_21 7 (dk_at dksJ4_resize_7 4 rfl rfl)
theorem dJ4_resize_170 : decode cJ4_resize 170 = .ok (.aconst_null, 1) := dk_1 (dk_at dksJ4_resize_7 6 rfl rfl)
theorem dJ4_resize_171 : decode cJ4_resize 171 = .ok (.aastore, 1) := dk_83 (dk_at dksJ4_resize_7 7 rfl rfl)
theorem dJ4_resize_172 : decode cJ4_resize 172 = .ok (.aload 8, 2) := dk_25 8 (dk_at dksJ4_resize_7 8 rfl rfl)
theorem dJ4_resize_174 : decode cJ4_resize 174 = .ok (.getfield 177, 3) := dk_180 0 177 (dk_at dksJ4_resize_7 10 rfl rfl)
theorem dJ4_resize_177 : decode cJ4_resize 177 = .ok (.ifnonnull 21, 3) := dk_199 0 21 (dk_at dksJ4_resize_7 13 rfl rfl)
theorem dJ4_resize_180 : decode cJ4_resize 180 = .ok (.aload 6, 2) := dk_25 6 (dk_at dksJ4_resize_7 16 rfl rfl)
theorem dJ4_resize_182 : decode cJ4_resize 182 = .ok (.aload 8, 2) := dk_25 8 (dk_at dksJ4_resize_7 18 rfl rfl)
theorem dJ4_resize_184 : decode cJ4_resize 184 = .ok (.getfield 168, 3) := dk_180 0 168 (dk_at dksJ4_resize_7 20 rfl rfl)
theorem dJ4_resize_187 : decode cJ4_resize 187 = .ok (.iload 4, 2) := dk_21 4 (dk_at dksJ4_resize_8 0 rfl rfl)
theorem dJ4_resize_189 : decode cJ4_resize 189 = .ok (.iconst 1, 1) := dk_4 (dk_at dksJ4_resize_8 2 rfl rfl)
theorem dJ4_resize_190 : decode cJ4_resize 190 = .ok (.isub, 1) := dk_100 (dk_at dksJ4_resize_8 3 rfl rfl)
theorem dJ4_resize_191 : decode cJ4_resize 191 = .ok (.iand, 1) := dk_126 (dk_at dksJ4_resize_8 4 rfl rfl)
theorem dJ4_resize_192 : decode cJ4_resize 192 = .ok (.aload 8, 2) := dk_25 8 (dk_at dksJ4_resize_8 5 rfl rfl)
theorem dJ4_resize_194 : decode cJ4_resize 194 = .ok (.aastore, 1) := dk_83 (dk_at dksJ4_resize_8 7 rfl rfl)
theorem dJ4_resize_195 : decode cJ4_resize 195 = .ok (.goto 152, 3) := dk_167 0 152 (dk_at dksJ4_resize_8 8 rfl rfl)
theorem dJ4_resize_198 : decode cJ4_resize 198 = .ok (.aload 8, 2) := dk_25 8 (dk_at dksJ4_resize_8 11 rfl rfl)
theorem dJ4_resize_200 : decode cJ4_resize 200 = .ok (.instanceof 180, 3) := dk_193 0 180 (dk_at dksJ4_resize_8 13 rfl rfl)
theorem dJ4_resize_203 : decode cJ4_resize 203 = .ok (.ifCond .eq 20, 3) := dk_153 0 20 (dk_at dksJ4_resize_8 16 rfl rfl)
theorem dJ4_resize_206 : decode cJ4_resize 206 = .ok (.aload 8, 2) := dk_25 8 (dk_at dksJ4_resize_8 19 rfl rfl)
theorem dJ4_resize_208 : decode cJ4_resize 208 = .ok (.checkcast 180, 3) := dk_192 0 180 (dk_at dksJ4_resize_8 21 rfl rfl)
theorem dJ4_resize_211 : decode cJ4_resize 211 = .ok (.aload_n 0, 1) := dk_42 (dk_at dksJ4_resize_9 0 rfl rfl)
theorem dJ4_resize_212 : decode cJ4_resize 212 = .ok (.aload 6, 2) := dk_25 6 (dk_at dksJ4_resize_9 1 rfl rfl)
theorem dJ4_resize_214 : decode cJ4_resize 214 = .ok (.iload 7, 2) := dk_21 7 (dk_at dksJ4_resize_9 3 rfl rfl)
theorem dJ4_resize_216 : decode cJ4_resize 216 = .ok (.iload_n 2, 1) := dk_28 (dk_at dksJ4_resize_9 5 rfl rfl)
theorem dJ4_resize_217 : decode cJ4_resize 217 = .ok (.invokevirtual 211, 3) := dk_182 0 211 (dk_at dksJ4_resize_9 6 rfl rfl)
theorem dJ4_resize_220 : decode cJ4_resize 220 = .ok (.goto 127, 3) := dk_167 0 127 (dk_at dksJ4_resize_9 9 rfl rfl)
theorem dJ4_resize_223 : decode cJ4_resize 223 = .ok (.aconst_null, 1) := dk_1 (dk_at dksJ4_resize_9 12 rfl rfl)
theorem dJ4_resize_224 : decode cJ4_resize 224 = .ok (.astore 9, 2) := dk_58 9 (dk_at dksJ4_resize_9 13 rfl rfl)
theorem dJ4_resize_226 : decode cJ4_resize 226 = .ok (.aconst_null, 1) := dk_1 (dk_at dksJ4_resize_9 15 rfl rfl)
theorem dJ4_resize_227 : decode cJ4_resize 227 = .ok (.astore 10, 2) := dk_58 10 (dk_at dksJ4_resize_9 16 rfl rfl)
theorem dJ4_resize_229 : decode cJ4_resize 229 = .ok (.aconst_null, 1) := dk_1 (dk_at dksJ4_resize_9 18 rfl rfl)
theorem dJ4_resize_230 : decode cJ4_resize 230 = .ok (.astore 11, 2) := dk_58 11 (dk_at dksJ4_resize_9 19 rfl rfl)
theorem dJ4_resize_232 : decode cJ4_resize 232 = .ok (.aconst_null, 1) := dk_1 (dk_at dksJ4_resize_9 21 rfl rfl)
theorem dJ4_resize_233 : decode cJ4_resize 233 = .ok (.astore 12, 2) := dk_58 12 (dk_at dksJ4_resize_9 22 rfl rfl)
theorem dJ4_resize_235 : decode cJ4_resize 235 = .ok (.aload 8, 2) := dk_25 8 (dk_at dksJ4_resize_10 0 rfl rfl)
theorem dJ4_resize_237 : decode cJ4_resize 237 = .ok (.getfield 177, 3) := dk_180 0 177 (dk_at dksJ4_resize_10 2 rfl rfl)
theorem dJ4_resize_240 : decode cJ4_resize 240 = .ok (.astore 13, 2) := dk_58 13 (dk_at dksJ4_resize_10 5 rfl rfl)
theorem dJ4_resize_242 : decode cJ4_resize 242 = .ok (.aload 8, 2) := dk_25 8 (dk_at dksJ4_resize_10 7 rfl rfl)
theorem dJ4_resize_244 : decode cJ4_resize 244 = .ok (.getfield 168, 3) := dk_180 0 168 (dk_at dksJ4_resize_10 9 rfl rfl)
theorem dJ4_resize_247 : decode cJ4_resize 247 = .ok (.iload_n 2, 1) := dk_28 (dk_at dksJ4_resize_10 12 rfl rfl)
theorem dJ4_resize_248 : decode cJ4_resize 248 = .ok (.iand, 1) := dk_126 (dk_at dksJ4_resize_10 13 rfl rfl)
theorem dJ4_resize_249 : decode cJ4_resize 249 = .ok (.ifCond .ne 29, 3) := dk_154 0 29 (dk_at dksJ4_resize_10 14 rfl rfl)
theorem dJ4_resize_252 : decode cJ4_resize 252 = .ok (.aload 10, 2) := dk_25 10 (dk_at dksJ4_resize_10 17 rfl rfl)
theorem dJ4_resize_254 : decode cJ4_resize 254 = .ok (.ifnonnull 10, 3) := dk_199 0 10 (dk_at dksJ4_resize_10 19 rfl rfl)
theorem dJ4_resize_257 : decode cJ4_resize 257 = .ok (.aload 8, 2) := dk_25 8 (dk_at dksJ4_resize_10 22 rfl rfl)
theorem dJ4_resize_259 : decode cJ4_resize 259 = .ok (.astore 9, 2) := dk_58 9 (dk_at dksJ4_resize_11 0 rfl rfl)
theorem dJ4_resize_261 : decode cJ4_resize 261 = .ok (.goto 10, 3) := dk_167 0 10 (dk_at dksJ4_resize_11 2 rfl rfl)
theorem dJ4_resize_264 : decode cJ4_resize 264 = .ok (.aload 10, 2) := dk_25 10 (dk_at dksJ4_resize_11 5 rfl rfl)
theorem dJ4_resize_266 : decode cJ4_resize 266 = .ok (.aload 8, 2) := dk_25 8 (dk_at dksJ4_resize_11 7 rfl rfl)
theorem dJ4_resize_268 : decode cJ4_resize 268 = .ok (.putfield 177, 3) := dk_181 0 177 (dk_at dksJ4_resize_11 9 rfl rfl)
theorem dJ4_resize_271 : decode cJ4_resize 271 = .ok (.aload 8, 2) := dk_25 8 (dk_at dksJ4_resize_11 12 rfl rfl)
theorem dJ4_resize_273 : decode cJ4_resize 273 = .ok (.astore 10, 2) := dk_58 10 (dk_at dksJ4_resize_11 14 rfl rfl)
theorem dJ4_resize_275 : decode cJ4_resize 275 = .ok (.goto 26, 3) := dk_167 0 26 (dk_at dksJ4_resize_11 16 rfl rfl)
theorem dJ4_resize_278 : decode cJ4_resize 278 = .ok (.aload 12, 2) := dk_25 12 (dk_at dksJ4_resize_11 19 rfl rfl)
theorem dJ4_resize_280 : decode cJ4_resize 280 = .ok (.ifnonnull 10, 3) := dk_199 0 10 (dk_at dksJ4_resize_11 21 rfl rfl)
theorem dJ4_resize_283 : decode cJ4_resize 283 = .ok (.aload 8, 2) := dk_25 8 (dk_at dksJ4_resize_12 0 rfl rfl)
theorem dJ4_resize_285 : decode cJ4_resize 285 = .ok (.astore 11, 2) := dk_58 11 (dk_at dksJ4_resize_12 2 rfl rfl)
theorem dJ4_resize_287 : decode cJ4_resize 287 = .ok (.goto 10, 3) := dk_167 0 10 (dk_at dksJ4_resize_12 4 rfl rfl)
theorem dJ4_resize_290 : decode cJ4_resize 290 = .ok (.aload 12, 2) := dk_25 12 (dk_at dksJ4_resize_12 7 rfl rfl)
theorem dJ4_resize_292 : decode cJ4_resize 292 = .ok (.aload 8, 2) := dk_25 8 (dk_at dksJ4_resize_12 9 rfl rfl)
theorem dJ4_resize_294 : decode cJ4_resize 294 = .ok (.putfield 177, 3) := dk_181 0 177 (dk_at dksJ4_resize_12 11 rfl rfl)
theorem dJ4_resize_297 : decode cJ4_resize 297 = .ok (.aload 8, 2) := dk_25 8 (dk_at dksJ4_resize_12 14 rfl rfl)
theorem dJ4_resize_299 : decode cJ4_resize 299 = .ok (.astore 12, 2) := dk_58 12 (dk_at dksJ4_resize_12 16 rfl rfl)
theorem dJ4_resize_301 : decode cJ4_resize 301 = .ok (.aload 13, 2) := dk_25 13 (dk_at dksJ4_resize_12 18 rfl rfl)
theorem dJ4_resize_303 : decode cJ4_resize 303 = .ok (.dup, 1) := dk_89 (dk_at dksJ4_resize_12 20 rfl rfl)
theorem dJ4_resize_304 : decode cJ4_resize 304 = .ok (.astore 8, 2) := dk_58 8 (dk_at dksJ4_resize_12 21 rfl rfl)
theorem dJ4_resize_306 : decode cJ4_resize 306 = .ok (.ifnonnull (-71), 3) := dk_199 255 185 (dk_at dksJ4_resize_13 0 rfl rfl)
theorem dJ4_resize_309 : decode cJ4_resize 309 = .ok (.aload 10, 2) := dk_25 10 (dk_at dksJ4_resize_13 3 rfl rfl)
theorem dJ4_resize_311 : decode cJ4_resize 311 = .ok (.ifnull 16, 3) := dk_198 0 16 (dk_at dksJ4_resize_13 5 rfl rfl)
theorem dJ4_resize_314 : decode cJ4_resize 314 = .ok (.aload 10, 2) := dk_25 10 (dk_at dksJ4_resize_13 8 rfl rfl)
theorem dJ4_resize_316 : decode cJ4_resize 316 = .ok (.aconst_null, 1) := dk_1 (dk_at dksJ4_resize_13 10 rfl rfl)
theorem dJ4_resize_317 : decode cJ4_resize 317 = .ok (.putfield 177, 3) := dk_181 0 177 (dk_at dksJ4_resize_13 11 rfl rfl)
theorem dJ4_resize_320 : decode cJ4_resize 320 = .ok (.aload 6, 2) := dk_25 6 (dk_at dksJ4_resize_13 14 rfl rfl)
theorem dJ4_resize_322 : decode cJ4_resize 322 = .ok (.iload 7, 2) := dk_21 7 (dk_at dksJ4_resize_13 16 rfl rfl)
theorem dJ4_resize_324 : decode cJ4_resize 324 = .ok (.aload 9, 2) := dk_25 9 (dk_at dksJ4_resize_13 18 rfl rfl)
theorem dJ4_resize_326 : decode cJ4_resize 326 = .ok (.aastore, 1) := dk_83 (dk_at dksJ4_resize_13 20 rfl rfl)
theorem dJ4_resize_327 : decode cJ4_resize 327 = .ok (.aload 12, 2) := dk_25 12 (dk_at dksJ4_resize_13 21 rfl rfl)
theorem dJ4_resize_329 : decode cJ4_resize 329 = .ok (.ifnull 18, 3) := dk_198 0 18 (dk_at dksJ4_resize_14 0 rfl rfl)
theorem dJ4_resize_332 : decode cJ4_resize 332 = .ok (.aload 12, 2) := dk_25 12 (dk_at dksJ4_resize_14 3 rfl rfl)
theorem dJ4_resize_334 : decode cJ4_resize 334 = .ok (.aconst_null, 1) := dk_1 (dk_at dksJ4_resize_14 5 rfl rfl)
theorem dJ4_resize_335 : decode cJ4_resize 335 = .ok (.putfield 177, 3) := dk_181 0 177 (dk_at dksJ4_resize_14 6 rfl rfl)
theorem dJ4_resize_338 : decode cJ4_resize 338 = .ok (.aload 6, 2) := dk_25 6 (dk_at dksJ4_resize_14 9 rfl rfl)
theorem dJ4_resize_340 : decode cJ4_resize 340 = .ok (.iload 7, 2) := dk_21 7 (dk_at dksJ4_resize_14 11 rfl rfl)
theorem dJ4_resize_342 : decode cJ4_resize 342 = .ok (.iload_n 2, 1) := dk_28 (dk_at dksJ4_resize_14 13 rfl rfl)
theorem dJ4_resize_343 : decode cJ4_resize 343 = .ok (.iadd, 1) := dk_96 (dk_at dksJ4_resize_14 14 rfl rfl)
theorem dJ4_resize_344 : decode cJ4_resize 344 = .ok (.aload 11, 2) := dk_25 11 (dk_at dksJ4_resize_14 15 rfl rfl)
theorem dJ4_resize_346 : decode cJ4_resize 346 = .ok (.aastore, 1) := dk_83 (dk_at dksJ4_resize_14 17 rfl rfl)
theorem dJ4_resize_347 : decode cJ4_resize 347 = .ok (.iinc 7 1, 3) := dk_132 7 1 (dk_at dksJ4_resize_14 18 rfl rfl)
theorem dJ4_resize_350 : decode cJ4_resize 350 = .ok (.goto (-199), 3) := dk_167 255 57 (dk_at dksJ4_resize_14 21 rfl rfl)
theorem dJ4_resize_353 : decode cJ4_resize 353 = .ok (.aload 6, 2) := dk_25 6 (dk_at dksJ4_resize_15 0 rfl rfl)
theorem dJ4_resize_355 : decode cJ4_resize 355 = .ok (.areturn, 1) := dk_176 (dk_at dksJ4_resize_15 2 rfl rfl)
abbrev cJ4_replacementNode : ByteArray := prog_42_method_47_code
def yJ4_replacementNode : MethodName := ⟨RJ4, "replacementNode", "(Ljava/util/HashMap$Node;Ljava/util/HashMap$Node;)Ljava/util/HashMap$Node;"⟩
def dkwJ4_replacementNode_0 : List UInt8 := [187, 0, 163, 89, 43, 180, 0, 168, 43, 180, 0, 170, 43, 180, 0, 162, 44, 183, 1, 119, 176]
abbrev dktJ4_replacementNode_0 : List UInt8 := dkwJ4_replacementNode_0 ++ []
theorem dksJ4_replacementNode_0 : cJ4_replacementNode.data.toList.drop 0 = dktJ4_replacementNode_0 := by decide +kernel
theorem dJ4_replacementNode_0 : decode cJ4_replacementNode 0 = .ok (.new 163, 3) := dk_187 0 163 (dk_at dksJ4_replacementNode_0 0 rfl rfl)
theorem dJ4_replacementNode_3 : decode cJ4_replacementNode 3 = .ok (.dup, 1) := dk_89 (dk_at dksJ4_replacementNode_0 3 rfl rfl)
theorem dJ4_replacementNode_4 : decode cJ4_replacementNode 4 = .ok (.aload_n 1, 1) := dk_43 (dk_at dksJ4_replacementNode_0 4 rfl rfl)
theorem dJ4_replacementNode_5 : decode cJ4_replacementNode 5 = .ok (.getfield 168, 3) := dk_180 0 168 (dk_at dksJ4_replacementNode_0 5 rfl rfl)
theorem dJ4_replacementNode_8 : decode cJ4_replacementNode 8 = .ok (.aload_n 1, 1) := dk_43 (dk_at dksJ4_replacementNode_0 8 rfl rfl)
theorem dJ4_replacementNode_9 : decode cJ4_replacementNode 9 = .ok (.getfield 170, 3) := dk_180 0 170 (dk_at dksJ4_replacementNode_0 9 rfl rfl)
theorem dJ4_replacementNode_12 : decode cJ4_replacementNode 12 = .ok (.aload_n 1, 1) := dk_43 (dk_at dksJ4_replacementNode_0 12 rfl rfl)
theorem dJ4_replacementNode_13 : decode cJ4_replacementNode 13 = .ok (.getfield 162, 3) := dk_180 0 162 (dk_at dksJ4_replacementNode_0 13 rfl rfl)
theorem dJ4_replacementNode_16 : decode cJ4_replacementNode 16 = .ok (.aload_n 2, 1) := dk_44 (dk_at dksJ4_replacementNode_0 16 rfl rfl)
theorem dJ4_replacementNode_17 : decode cJ4_replacementNode 17 = .ok (.invokespecial 375, 3) := dk_183 1 119 (dk_at dksJ4_replacementNode_0 17 rfl rfl)
theorem dJ4_replacementNode_20 : decode cJ4_replacementNode 20 = .ok (.areturn, 1) := dk_176 (dk_at dksJ4_replacementNode_0 20 rfl rfl)
abbrev cJ4_comparableClassFor : ByteArray := prog_42_method_2_code
def yJ4_comparableClassFor : MethodName := ⟨RJ4, "comparableClassFor", "(Ljava/lang/Object;)Ljava/lang/Class;"⟩
def dkwJ4_comparableClassFor_4 : List UInt8 := [4, 160, 0, 12, 45, 3, 50, 43, 166, 0, 5, 43, 176, 132, 7, 1, 167, 255, 186, 1, 176]
abbrev dktJ4_comparableClassFor_4 : List UInt8 := dkwJ4_comparableClassFor_4 ++ []
def dkwJ4_comparableClassFor_3 : List UInt8 := [185, 0, 23, 1, 0, 18, 7, 166, 0, 30, 25, 4, 185, 0, 27, 1, 0, 89, 78, 198, 0, 18, 45, 190]
abbrev dktJ4_comparableClassFor_3 : List UInt8 := dkwJ4_comparableClassFor_3 ++ dktJ4_comparableClassFor_4
def dkwJ4_comparableClassFor_2 : List UInt8 := [25, 5, 21, 7, 50, 58, 8, 25, 8, 193, 0, 21, 153, 0, 48, 25, 8, 192, 0, 21, 89, 58, 4]
abbrev dktJ4_comparableClassFor_2 : List UInt8 := dkwJ4_comparableClassFor_2 ++ dktJ4_comparableClassFor_3
def dkwJ4_comparableClassFor_1 : List UInt8 := [89, 77, 198, 0, 87, 44, 58, 5, 25, 5, 190, 54, 6, 3, 54, 7, 21, 7, 21, 6, 162, 0, 69]
abbrev dktJ4_comparableClassFor_1 : List UInt8 := dkwJ4_comparableClassFor_1 ++ dktJ4_comparableClassFor_2
def dkwJ4_comparableClassFor_0 : List UInt8 := [42, 193, 0, 7, 153, 0, 109, 42, 182, 0, 9, 89, 76, 18, 13, 166, 0, 5, 43, 176, 43, 182, 0, 15]
abbrev dktJ4_comparableClassFor_0 : List UInt8 := dkwJ4_comparableClassFor_0 ++ dktJ4_comparableClassFor_1
theorem dksJ4_comparableClassFor_0 : cJ4_comparableClassFor.data.toList.drop 0 = dktJ4_comparableClassFor_0 := by decide +kernel
theorem dksJ4_comparableClassFor_1 : cJ4_comparableClassFor.data.toList.drop 24 = dktJ4_comparableClassFor_1 := dk_seg dksJ4_comparableClassFor_0 24 rfl rfl
theorem dksJ4_comparableClassFor_2 : cJ4_comparableClassFor.data.toList.drop 47 = dktJ4_comparableClassFor_2 := dk_seg dksJ4_comparableClassFor_1 23 rfl rfl
theorem dksJ4_comparableClassFor_3 : cJ4_comparableClassFor.data.toList.drop 70 = dktJ4_comparableClassFor_3 := dk_seg dksJ4_comparableClassFor_2 23 rfl rfl
theorem dksJ4_comparableClassFor_4 : cJ4_comparableClassFor.data.toList.drop 94 = dktJ4_comparableClassFor_4 := dk_seg dksJ4_comparableClassFor_3 24 rfl rfl
theorem dJ4_comparableClassFor_0 : decode cJ4_comparableClassFor 0 = .ok (.aload_n 0, 1) := dk_42 (dk_at dksJ4_comparableClassFor_0 0 rfl rfl)
theorem dJ4_comparableClassFor_1 : decode cJ4_comparableClassFor 1 = .ok (.instanceof 7, 3) := dk_193 0 7 (dk_at dksJ4_comparableClassFor_0 1 rfl rfl)
theorem dJ4_comparableClassFor_4 : decode cJ4_comparableClassFor 4 = .ok (.ifCond .eq 109, 3) := dk_153 0 109 (dk_at dksJ4_comparableClassFor_0 4 rfl rfl)
theorem dJ4_comparableClassFor_7 : decode cJ4_comparableClassFor 7 = .ok (.aload_n 0, 1) := dk_42 (dk_at dksJ4_comparableClassFor_0 7 rfl rfl)
theorem dJ4_comparableClassFor_8 : decode cJ4_comparableClassFor 8 = .ok (.invokevirtual 9, 3) := dk_182 0 9 (dk_at dksJ4_comparableClassFor_0 8 rfl rfl)
theorem dJ4_comparableClassFor_11 : decode cJ4_comparableClassFor 11 = .ok (.dup, 1) := dk_89 (dk_at dksJ4_comparableClassFor_0 11 rfl rfl)
theorem dJ4_comparableClassFor_12 : decode cJ4_comparableClassFor 12 = .ok (.astore_n 1, 1) := dk_76 (dk_at dksJ4_comparableClassFor_0 12 rfl rfl)
theorem dJ4_comparableClassFor_13 : decode cJ4_comparableClassFor 13 = .ok (.ldc 13, 2) := dk_18 13 (dk_at dksJ4_comparableClassFor_0 13 rfl rfl)
theorem dJ4_comparableClassFor_15 : decode cJ4_comparableClassFor 15 = .ok (.if_acmp .ne 5, 3) := dk_166 0 5 (dk_at dksJ4_comparableClassFor_0 15 rfl rfl)
theorem dJ4_comparableClassFor_18 : decode cJ4_comparableClassFor 18 = .ok (.aload_n 1, 1) := dk_43 (dk_at dksJ4_comparableClassFor_0 18 rfl rfl)
theorem dJ4_comparableClassFor_19 : decode cJ4_comparableClassFor 19 = .ok (.areturn, 1) := dk_176 (dk_at dksJ4_comparableClassFor_0 19 rfl rfl)
theorem dJ4_comparableClassFor_20 : decode cJ4_comparableClassFor 20 = .ok (.aload_n 1, 1) := dk_43 (dk_at dksJ4_comparableClassFor_0 20 rfl rfl)
theorem dJ4_comparableClassFor_21 : decode cJ4_comparableClassFor 21 = .ok (.invokevirtual 15, 3) := dk_182 0 15 (dk_at dksJ4_comparableClassFor_0 21 rfl rfl)
theorem dJ4_comparableClassFor_24 : decode cJ4_comparableClassFor 24 = .ok (.dup, 1) := dk_89 (dk_at dksJ4_comparableClassFor_1 0 rfl rfl)
theorem dJ4_comparableClassFor_25 : decode cJ4_comparableClassFor 25 = .ok (.astore_n 2, 1) := dk_77 (dk_at dksJ4_comparableClassFor_1 1 rfl rfl)
theorem dJ4_comparableClassFor_26 : decode cJ4_comparableClassFor 26 = .ok (.ifnull 87, 3) := dk_198 0 87 (dk_at dksJ4_comparableClassFor_1 2 rfl rfl)
theorem dJ4_comparableClassFor_29 : decode cJ4_comparableClassFor 29 = .ok (.aload_n 2, 1) := dk_44 (dk_at dksJ4_comparableClassFor_1 5 rfl rfl)
theorem dJ4_comparableClassFor_30 : decode cJ4_comparableClassFor 30 = .ok (.astore 5, 2) := dk_58 5 (dk_at dksJ4_comparableClassFor_1 6 rfl rfl)
theorem dJ4_comparableClassFor_32 : decode cJ4_comparableClassFor 32 = .ok (.aload 5, 2) := dk_25 5 (dk_at dksJ4_comparableClassFor_1 8 rfl rfl)
theorem dJ4_comparableClassFor_34 : decode cJ4_comparableClassFor 34 = .ok (.arraylength, 1) := dk_190 (dk_at dksJ4_comparableClassFor_1 10 rfl rfl)
theorem dJ4_comparableClassFor_35 : decode cJ4_comparableClassFor 35 = .ok (.istore 6, 2) := dk_54 6 (dk_at dksJ4_comparableClassFor_1 11 rfl rfl)
theorem dJ4_comparableClassFor_37 : decode cJ4_comparableClassFor 37 = .ok (.iconst 0, 1) := dk_3 (dk_at dksJ4_comparableClassFor_1 13 rfl rfl)
theorem dJ4_comparableClassFor_38 : decode cJ4_comparableClassFor 38 = .ok (.istore 7, 2) := dk_54 7 (dk_at dksJ4_comparableClassFor_1 14 rfl rfl)
theorem dJ4_comparableClassFor_40 : decode cJ4_comparableClassFor 40 = .ok (.iload 7, 2) := dk_21 7 (dk_at dksJ4_comparableClassFor_1 16 rfl rfl)
theorem dJ4_comparableClassFor_42 : decode cJ4_comparableClassFor 42 = .ok (.iload 6, 2) := dk_21 6 (dk_at dksJ4_comparableClassFor_1 18 rfl rfl)
theorem dJ4_comparableClassFor_44 : decode cJ4_comparableClassFor 44 = .ok (.if_icmp .ge 69, 3) := dk_162 0 69 (dk_at dksJ4_comparableClassFor_1 20 rfl rfl)
theorem dJ4_comparableClassFor_47 : decode cJ4_comparableClassFor 47 = .ok (.aload 5, 2) := dk_25 5 (dk_at dksJ4_comparableClassFor_2 0 rfl rfl)
theorem dJ4_comparableClassFor_49 : decode cJ4_comparableClassFor 49 = .ok (.iload 7, 2) := dk_21 7 (dk_at dksJ4_comparableClassFor_2 2 rfl rfl)
theorem dJ4_comparableClassFor_51 : decode cJ4_comparableClassFor 51 = .ok (.aaload, 1) := dk_50 (dk_at dksJ4_comparableClassFor_2 4 rfl rfl)
theorem dJ4_comparableClassFor_52 : decode cJ4_comparableClassFor 52 = .ok (.astore 8, 2) := dk_58 8 (dk_at dksJ4_comparableClassFor_2 5 rfl rfl)
theorem dJ4_comparableClassFor_54 : decode cJ4_comparableClassFor 54 = .ok (.aload 8, 2) := dk_25 8 (dk_at dksJ4_comparableClassFor_2 7 rfl rfl)
theorem dJ4_comparableClassFor_56 : decode cJ4_comparableClassFor 56 = .ok (.instanceof 21, 3) := dk_193 0 21 (dk_at dksJ4_comparableClassFor_2 9 rfl rfl)
theorem dJ4_comparableClassFor_59 : decode cJ4_comparableClassFor 59 = .ok (.ifCond .eq 48, 3) := dk_153 0 48 (dk_at dksJ4_comparableClassFor_2 12 rfl rfl)
theorem dJ4_comparableClassFor_62 : decode cJ4_comparableClassFor 62 = .ok (.aload 8, 2) := dk_25 8 (dk_at dksJ4_comparableClassFor_2 15 rfl rfl)
theorem dJ4_comparableClassFor_64 : decode cJ4_comparableClassFor 64 = .ok (.checkcast 21, 3) := dk_192 0 21 (dk_at dksJ4_comparableClassFor_2 17 rfl rfl)
theorem dJ4_comparableClassFor_67 : decode cJ4_comparableClassFor 67 = .ok (.dup, 1) := dk_89 (dk_at dksJ4_comparableClassFor_2 20 rfl rfl)
theorem dJ4_comparableClassFor_68 : decode cJ4_comparableClassFor 68 = .ok (.astore 4, 2) := dk_58 4 (dk_at dksJ4_comparableClassFor_2 21 rfl rfl)
theorem dJ4_comparableClassFor_70 : decode cJ4_comparableClassFor 70 = .ok (.invokeinterface 23 1, 5) := by decide +kernel
theorem dJ4_comparableClassFor_75 : decode cJ4_comparableClassFor 75 = .ok (.ldc 7, 2) := dk_18 7 (dk_at dksJ4_comparableClassFor_3 5 rfl rfl)
theorem dJ4_comparableClassFor_77 : decode cJ4_comparableClassFor 77 = .ok (.if_acmp .ne 30, 3) := dk_166 0 30 (dk_at dksJ4_comparableClassFor_3 7 rfl rfl)
theorem dJ4_comparableClassFor_80 : decode cJ4_comparableClassFor 80 = .ok (.aload 4, 2) := dk_25 4 (dk_at dksJ4_comparableClassFor_3 10 rfl rfl)
theorem dJ4_comparableClassFor_82 : decode cJ4_comparableClassFor 82 = .ok (.invokeinterface 27 1, 5) := by decide +kernel
theorem dJ4_comparableClassFor_87 : decode cJ4_comparableClassFor 87 = .ok (.dup, 1) := dk_89 (dk_at dksJ4_comparableClassFor_3 17 rfl rfl)
theorem dJ4_comparableClassFor_88 : decode cJ4_comparableClassFor 88 = .ok (.astore_n 3, 1) := dk_78 (dk_at dksJ4_comparableClassFor_3 18 rfl rfl)
theorem dJ4_comparableClassFor_89 : decode cJ4_comparableClassFor 89 = .ok (.ifnull 18, 3) := dk_198 0 18 (dk_at dksJ4_comparableClassFor_3 19 rfl rfl)
theorem dJ4_comparableClassFor_92 : decode cJ4_comparableClassFor 92 = .ok (.aload_n 3, 1) := dk_45 (dk_at dksJ4_comparableClassFor_3 22 rfl rfl)
theorem dJ4_comparableClassFor_93 : decode cJ4_comparableClassFor 93 = .ok (.arraylength, 1) := dk_190 (dk_at dksJ4_comparableClassFor_3 23 rfl rfl)
theorem dJ4_comparableClassFor_94 : decode cJ4_comparableClassFor 94 = .ok (.iconst 1, 1) := dk_4 (dk_at dksJ4_comparableClassFor_4 0 rfl rfl)
theorem dJ4_comparableClassFor_95 : decode cJ4_comparableClassFor 95 = .ok (.if_icmp .ne 12, 3) := dk_160 0 12 (dk_at dksJ4_comparableClassFor_4 1 rfl rfl)
theorem dJ4_comparableClassFor_98 : decode cJ4_comparableClassFor 98 = .ok (.aload_n 3, 1) := dk_45 (dk_at dksJ4_comparableClassFor_4 4 rfl rfl)
theorem dJ4_comparableClassFor_99 : decode cJ4_comparableClassFor 99 = .ok (.iconst 0, 1) := dk_3 (dk_at dksJ4_comparableClassFor_4 5 rfl rfl)
theorem dJ4_comparableClassFor_100 : decode cJ4_comparableClassFor 100 = .ok (.aaload, 1) := dk_50 (dk_at dksJ4_comparableClassFor_4 6 rfl rfl)
theorem dJ4_comparableClassFor_101 : decode cJ4_comparableClassFor 101 = .ok (.aload_n 1, 1) := dk_43 (dk_at dksJ4_comparableClassFor_4 7 rfl rfl)
theorem dJ4_comparableClassFor_102 : decode cJ4_comparableClassFor 102 = .ok (.if_acmp .ne 5, 3) := dk_166 0 5 (dk_at dksJ4_comparableClassFor_4 8 rfl rfl)
theorem dJ4_comparableClassFor_105 : decode cJ4_comparableClassFor 105 = .ok (.aload_n 1, 1) := dk_43 (dk_at dksJ4_comparableClassFor_4 11 rfl rfl)
theorem dJ4_comparableClassFor_106 : decode cJ4_comparableClassFor 106 = .ok (.areturn, 1) := dk_176 (dk_at dksJ4_comparableClassFor_4 12 rfl rfl)
theorem dJ4_comparableClassFor_107 : decode cJ4_comparableClassFor 107 = .ok (.iinc 7 1, 3) := dk_132 7 1 (dk_at dksJ4_comparableClassFor_4 13 rfl rfl)
theorem dJ4_comparableClassFor_110 : decode cJ4_comparableClassFor 110 = .ok (.goto (-70), 3) := dk_167 255 186 (dk_at dksJ4_comparableClassFor_4 16 rfl rfl)
theorem dJ4_comparableClassFor_113 : decode cJ4_comparableClassFor 113 = .ok (.aconst_null, 1) := dk_1 (dk_at dksJ4_comparableClassFor_4 19 rfl rfl)
theorem dJ4_comparableClassFor_114 : decode cJ4_comparableClassFor 114 = .ok (.areturn, 1) := dk_176 (dk_at dksJ4_comparableClassFor_4 20 rfl rfl)
abbrev cJ4_compareComparables : ByteArray := prog_42_method_3_code
def yJ4_compareComparables : MethodName := ⟨RJ4, "compareComparables", "(Ljava/lang/Class;Ljava/lang/Object;Ljava/lang/Object;)I"⟩
def dkwJ4_compareComparables_1 : List UInt8 := [185, 0, 30, 2, 0, 172]
abbrev dktJ4_compareComparables_1 : List UInt8 := dkwJ4_compareComparables_1 ++ []
def dkwJ4_compareComparables_0 : List UInt8 := [44, 198, 0, 11, 44, 182, 0, 9, 42, 165, 0, 7, 3, 167, 0, 13, 43, 192, 0, 7, 44]
abbrev dktJ4_compareComparables_0 : List UInt8 := dkwJ4_compareComparables_0 ++ dktJ4_compareComparables_1
theorem dksJ4_compareComparables_0 : cJ4_compareComparables.data.toList.drop 0 = dktJ4_compareComparables_0 := by decide +kernel
theorem dksJ4_compareComparables_1 : cJ4_compareComparables.data.toList.drop 21 = dktJ4_compareComparables_1 := dk_seg dksJ4_compareComparables_0 21 rfl rfl
theorem dJ4_compareComparables_0 : decode cJ4_compareComparables 0 = .ok (.aload_n 2, 1) := dk_44 (dk_at dksJ4_compareComparables_0 0 rfl rfl)
theorem dJ4_compareComparables_1 : decode cJ4_compareComparables 1 = .ok (.ifnull 11, 3) := dk_198 0 11 (dk_at dksJ4_compareComparables_0 1 rfl rfl)
theorem dJ4_compareComparables_4 : decode cJ4_compareComparables 4 = .ok (.aload_n 2, 1) := dk_44 (dk_at dksJ4_compareComparables_0 4 rfl rfl)
theorem dJ4_compareComparables_5 : decode cJ4_compareComparables 5 = .ok (.invokevirtual 9, 3) := dk_182 0 9 (dk_at dksJ4_compareComparables_0 5 rfl rfl)
theorem dJ4_compareComparables_8 : decode cJ4_compareComparables 8 = .ok (.aload_n 0, 1) := dk_42 (dk_at dksJ4_compareComparables_0 8 rfl rfl)
theorem dJ4_compareComparables_9 : decode cJ4_compareComparables 9 = .ok (.if_acmp .eq 7, 3) := dk_165 0 7 (dk_at dksJ4_compareComparables_0 9 rfl rfl)
theorem dJ4_compareComparables_12 : decode cJ4_compareComparables 12 = .ok (.iconst 0, 1) := dk_3 (dk_at dksJ4_compareComparables_0 12 rfl rfl)
theorem dJ4_compareComparables_13 : decode cJ4_compareComparables 13 = .ok (.goto 13, 3) := dk_167 0 13 (dk_at dksJ4_compareComparables_0 13 rfl rfl)
theorem dJ4_compareComparables_16 : decode cJ4_compareComparables 16 = .ok (.aload_n 1, 1) := dk_43 (dk_at dksJ4_compareComparables_0 16 rfl rfl)
theorem dJ4_compareComparables_17 : decode cJ4_compareComparables 17 = .ok (.checkcast 7, 3) := dk_192 0 7 (dk_at dksJ4_compareComparables_0 17 rfl rfl)
theorem dJ4_compareComparables_20 : decode cJ4_compareComparables 20 = .ok (.aload_n 2, 1) := dk_44 (dk_at dksJ4_compareComparables_0 20 rfl rfl)
theorem dJ4_compareComparables_21 : decode cJ4_compareComparables 21 = .ok (.invokeinterface 30 2, 5) := by decide +kernel
theorem dJ4_compareComparables_26 : decode cJ4_compareComparables 26 = .ok (.ireturn, 1) := dk_172 (dk_at dksJ4_compareComparables_1 5 rfl rfl)
abbrev cJ4_entrySet : ByteArray := prog_42_method_29_code
def yJ4_entrySet : MethodName := ⟨RJ4, "entrySet", "()Ljava/util/Set;"⟩
def dkwJ4_entrySet_1 : List UInt8 := [167, 0, 4, 43, 176]
abbrev dktJ4_entrySet_1 : List UInt8 := dkwJ4_entrySet_1 ++ []
def dkwJ4_entrySet_0 : List UInt8 := [42, 180, 1, 10, 89, 76, 199, 0, 19, 42, 187, 1, 12, 89, 42, 183, 1, 14, 90, 181, 1, 10]
abbrev dktJ4_entrySet_0 : List UInt8 := dkwJ4_entrySet_0 ++ dktJ4_entrySet_1
theorem dksJ4_entrySet_0 : cJ4_entrySet.data.toList.drop 0 = dktJ4_entrySet_0 := by decide +kernel
theorem dksJ4_entrySet_1 : cJ4_entrySet.data.toList.drop 22 = dktJ4_entrySet_1 := dk_seg dksJ4_entrySet_0 22 rfl rfl
theorem dJ4_entrySet_0 : decode cJ4_entrySet 0 = .ok (.aload_n 0, 1) := dk_42 (dk_at dksJ4_entrySet_0 0 rfl rfl)
theorem dJ4_entrySet_1 : decode cJ4_entrySet 1 = .ok (.getfield 266, 3) := dk_180 1 10 (dk_at dksJ4_entrySet_0 1 rfl rfl)
theorem dJ4_entrySet_4 : decode cJ4_entrySet 4 = .ok (.dup, 1) := dk_89 (dk_at dksJ4_entrySet_0 4 rfl rfl)
theorem dJ4_entrySet_5 : decode cJ4_entrySet 5 = .ok (.astore_n 1, 1) := dk_76 (dk_at dksJ4_entrySet_0 5 rfl rfl)
theorem dJ4_entrySet_6 : decode cJ4_entrySet 6 = .ok (.ifnonnull 19, 3) := dk_199 0 19 (dk_at dksJ4_entrySet_0 6 rfl rfl)
theorem dJ4_entrySet_9 : decode cJ4_entrySet 9 = .ok (.aload_n 0, 1) := dk_42 (dk_at dksJ4_entrySet_0 9 rfl rfl)
theorem dJ4_entrySet_10 : decode cJ4_entrySet 10 = .ok (.new 268, 3) := dk_187 1 12 (dk_at dksJ4_entrySet_0 10 rfl rfl)
theorem dJ4_entrySet_13 : decode cJ4_entrySet 13 = .ok (.dup, 1) := dk_89 (dk_at dksJ4_entrySet_0 13 rfl rfl)
theorem dJ4_entrySet_14 : decode cJ4_entrySet 14 = .ok (.aload_n 0, 1) := dk_42 (dk_at dksJ4_entrySet_0 14 rfl rfl)
theorem dJ4_entrySet_15 : decode cJ4_entrySet 15 = .ok (.invokespecial 270, 3) := dk_183 1 14 (dk_at dksJ4_entrySet_0 15 rfl rfl)
theorem dJ4_entrySet_18 : decode cJ4_entrySet 18 = .ok (.dup_x1, 1) := dk_90 (dk_at dksJ4_entrySet_0 18 rfl rfl)
theorem dJ4_entrySet_19 : decode cJ4_entrySet 19 = .ok (.putfield 266, 3) := dk_181 1 10 (dk_at dksJ4_entrySet_0 19 rfl rfl)
theorem dJ4_entrySet_22 : decode cJ4_entrySet 22 = .ok (.goto 4, 3) := dk_167 0 4 (dk_at dksJ4_entrySet_1 0 rfl rfl)
theorem dJ4_entrySet_25 : decode cJ4_entrySet 25 = .ok (.aload_n 1, 1) := dk_43 (dk_at dksJ4_entrySet_1 3 rfl rfl)
theorem dJ4_entrySet_26 : decode cJ4_entrySet 26 = .ok (.areturn, 1) := dk_176 (dk_at dksJ4_entrySet_1 4 rfl rfl)
abbrev cJ4_hash : ByteArray := prog_42_method_1_code
def yJ4_hash : MethodName := ⟨RJ4, "hash", "(Ljava/lang/Object;)I"⟩
def dkwJ4_hash_0 : List UInt8 := [42, 199, 0, 7, 3, 167, 0, 14, 42, 182, 0, 1, 89, 60, 27, 16, 16, 124, 130, 172]
abbrev dktJ4_hash_0 : List UInt8 := dkwJ4_hash_0 ++ []
theorem dksJ4_hash_0 : cJ4_hash.data.toList.drop 0 = dktJ4_hash_0 := by decide +kernel
theorem dJ4_hash_0 : decode cJ4_hash 0 = .ok (.aload_n 0, 1) := dk_42 (dk_at dksJ4_hash_0 0 rfl rfl)
theorem dJ4_hash_1 : decode cJ4_hash 1 = .ok (.ifnonnull 7, 3) := dk_199 0 7 (dk_at dksJ4_hash_0 1 rfl rfl)
theorem dJ4_hash_4 : decode cJ4_hash 4 = .ok (.iconst 0, 1) := dk_3 (dk_at dksJ4_hash_0 4 rfl rfl)
theorem dJ4_hash_5 : decode cJ4_hash 5 = .ok (.goto 14, 3) := dk_167 0 14 (dk_at dksJ4_hash_0 5 rfl rfl)
theorem dJ4_hash_8 : decode cJ4_hash 8 = .ok (.aload_n 0, 1) := dk_42 (dk_at dksJ4_hash_0 8 rfl rfl)
theorem dJ4_hash_9 : decode cJ4_hash 9 = .ok (.invokevirtual 1, 3) := dk_182 0 1 (dk_at dksJ4_hash_0 9 rfl rfl)
theorem dJ4_hash_12 : decode cJ4_hash 12 = .ok (.dup, 1) := dk_89 (dk_at dksJ4_hash_0 12 rfl rfl)
theorem dJ4_hash_13 : decode cJ4_hash 13 = .ok (.istore_n 1, 1) := dk_60 (dk_at dksJ4_hash_0 13 rfl rfl)
theorem dJ4_hash_14 : decode cJ4_hash 14 = .ok (.iload_n 1, 1) := dk_27 (dk_at dksJ4_hash_0 14 rfl rfl)
theorem dJ4_hash_15 : decode cJ4_hash 15 = .ok (.bipush 16, 2) := dk_16 16 (dk_at dksJ4_hash_0 15 rfl rfl)
theorem dJ4_hash_17 : decode cJ4_hash 17 = .ok (.iushr, 1) := dk_124 (dk_at dksJ4_hash_0 17 rfl rfl)
theorem dJ4_hash_18 : decode cJ4_hash 18 = .ok (.ixor, 1) := dk_130 (dk_at dksJ4_hash_0 18 rfl rfl)
theorem dJ4_hash_19 : decode cJ4_hash 19 = .ok (.ireturn, 1) := dk_172 (dk_at dksJ4_hash_0 19 rfl rfl)
abbrev cJ4_putVal : ByteArray := prog_42_method_16_code
def yJ4_putVal : MethodName := ⟨RJ4, "putVal", "(ILjava/lang/Object;Ljava/lang/Object;ZZ)Ljava/lang/Object;"⟩
def dkwJ4_putVal_12 : List UInt8 := [181, 0, 156, 42, 180, 0, 88, 164, 0, 8, 42, 182, 0, 117, 87, 42, 21, 5, 182, 0, 205, 1, 176]
abbrev dktJ4_putVal_12 : List UInt8 := dkwJ4_putVal_12 ++ []
def dkwJ4_putVal_11 : List UInt8 := [182, 0, 198, 25, 12, 176, 42, 89, 180, 0, 202, 4, 96, 181, 0, 202, 42, 89, 180, 0, 156, 4, 96, 90]
abbrev dktJ4_putVal_11 : List UInt8 := dkwJ4_putVal_11 ++ dktJ4_putVal_12
def dkwJ4_putVal_10 : List UInt8 := [180, 0, 162, 58, 12, 21, 4, 153, 0, 8, 25, 12, 199, 0, 9, 25, 10, 45, 181, 0, 162, 42, 25, 10]
abbrev dktJ4_putVal_10 : List UInt8 := dkwJ4_putVal_10 ++ dktJ4_putVal_11
def dkwJ4_putVal_9 : List UInt8 := [153, 0, 6, 167, 0, 13, 25, 10, 58, 7, 132, 12, 1, 167, 255, 171, 25, 10, 198, 0, 35, 25, 10]
abbrev dktJ4_putVal_9 : List UInt8 := dkwJ4_putVal_9 ++ dktJ4_putVal_10
def dkwJ4_putVal_8 : List UInt8 := [25, 10, 180, 0, 170, 89, 58, 11, 44, 165, 0, 29, 44, 198, 0, 15, 44, 25, 11, 182, 0, 173]
abbrev dktJ4_putVal_8 : List UInt8 := dkwJ4_putVal_8 ++ dktJ4_putVal_9
def dkwJ4_putVal_7 : List UInt8 := [16, 7, 161, 0, 60, 42, 25, 6, 27, 182, 0, 194, 167, 0, 50, 25, 10, 180, 0, 168, 27, 160, 0, 31]
abbrev dktJ4_putVal_7 : List UInt8 := dkwJ4_putVal_7 ++ dktJ4_putVal_8
def dkwJ4_putVal_6 : List UInt8 := [180, 0, 177, 89, 58, 10, 199, 0, 33, 25, 7, 42, 27, 44, 45, 1, 182, 0, 186, 181, 0, 177, 21, 12]
abbrev dktJ4_putVal_6 : List UInt8 := dkwJ4_putVal_6 ++ dktJ4_putVal_7
def dkwJ4_putVal_5 : List UInt8 := [192, 0, 180, 42, 25, 6, 27, 44, 45, 182, 0, 190, 58, 10, 167, 0, 94, 3, 54, 12, 25, 7]
abbrev dktJ4_putVal_5 : List UInt8 := dkwJ4_putVal_5 ++ dktJ4_putVal_6
def dkwJ4_putVal_4 : List UInt8 := [182, 0, 173, 153, 0, 10, 25, 7, 58, 10, 167, 0, 121, 25, 7, 193, 0, 180, 153, 0, 22, 25, 7]
abbrev dktJ4_putVal_4 : List UInt8 := dkwJ4_putVal_4 ++ dktJ4_putVal_5
def dkwJ4_putVal_3 : List UInt8 := [160, 0, 35, 25, 7, 180, 0, 170, 89, 58, 11, 44, 165, 0, 16, 44, 198, 0, 19, 44, 25, 11]
abbrev dktJ4_putVal_3 : List UInt8 := dkwJ4_putVal_3 ++ dktJ4_putVal_4
def dkwJ4_putVal_2 : List UInt8 := [25, 6, 21, 9, 42, 27, 44, 45, 1, 182, 0, 186, 83, 167, 0, 199, 25, 7, 180, 0, 168, 27]
abbrev dktJ4_putVal_2 : List UInt8 := dkwJ4_putVal_2 ++ dktJ4_putVal_3
def dkwJ4_putVal_1 : List UInt8 := [58, 6, 190, 54, 8, 25, 6, 21, 8, 4, 100, 27, 126, 89, 54, 9, 50, 89, 58, 7, 199, 0, 19]
abbrev dktJ4_putVal_1 : List UInt8 := dkwJ4_putVal_1 ++ dktJ4_putVal_2
def dkwJ4_putVal_0 : List UInt8 := [42, 180, 0, 105, 89, 58, 6, 198, 0, 12, 25, 6, 190, 89, 54, 8, 154, 0, 13, 42, 182, 0, 117, 89]
abbrev dktJ4_putVal_0 : List UInt8 := dkwJ4_putVal_0 ++ dktJ4_putVal_1
theorem dksJ4_putVal_0 : cJ4_putVal.data.toList.drop 0 = dktJ4_putVal_0 := by decide +kernel
theorem dksJ4_putVal_1 : cJ4_putVal.data.toList.drop 24 = dktJ4_putVal_1 := dk_seg dksJ4_putVal_0 24 rfl rfl
theorem dksJ4_putVal_2 : cJ4_putVal.data.toList.drop 47 = dktJ4_putVal_2 := dk_seg dksJ4_putVal_1 23 rfl rfl
theorem dksJ4_putVal_3 : cJ4_putVal.data.toList.drop 69 = dktJ4_putVal_3 := dk_seg dksJ4_putVal_2 22 rfl rfl
theorem dksJ4_putVal_4 : cJ4_putVal.data.toList.drop 91 = dktJ4_putVal_4 := dk_seg dksJ4_putVal_3 22 rfl rfl
theorem dksJ4_putVal_5 : cJ4_putVal.data.toList.drop 114 = dktJ4_putVal_5 := dk_seg dksJ4_putVal_4 23 rfl rfl
theorem dksJ4_putVal_6 : cJ4_putVal.data.toList.drop 136 = dktJ4_putVal_6 := dk_seg dksJ4_putVal_5 22 rfl rfl
theorem dksJ4_putVal_7 : cJ4_putVal.data.toList.drop 160 = dktJ4_putVal_7 := dk_seg dksJ4_putVal_6 24 rfl rfl
theorem dksJ4_putVal_8 : cJ4_putVal.data.toList.drop 184 = dktJ4_putVal_8 := dk_seg dksJ4_putVal_7 24 rfl rfl
theorem dksJ4_putVal_9 : cJ4_putVal.data.toList.drop 206 = dktJ4_putVal_9 := dk_seg dksJ4_putVal_8 22 rfl rfl
theorem dksJ4_putVal_10 : cJ4_putVal.data.toList.drop 229 = dktJ4_putVal_10 := dk_seg dksJ4_putVal_9 23 rfl rfl
theorem dksJ4_putVal_11 : cJ4_putVal.data.toList.drop 253 = dktJ4_putVal_11 := dk_seg dksJ4_putVal_10 24 rfl rfl
theorem dksJ4_putVal_12 : cJ4_putVal.data.toList.drop 277 = dktJ4_putVal_12 := dk_seg dksJ4_putVal_11 24 rfl rfl
theorem dJ4_putVal_0 : decode cJ4_putVal 0 = .ok (.aload_n 0, 1) := dk_42 (dk_at dksJ4_putVal_0 0 rfl rfl)
theorem dJ4_putVal_1 : decode cJ4_putVal 1 = .ok (.getfield 105, 3) := dk_180 0 105 (dk_at dksJ4_putVal_0 1 rfl rfl)
theorem dJ4_putVal_4 : decode cJ4_putVal 4 = .ok (.dup, 1) := dk_89 (dk_at dksJ4_putVal_0 4 rfl rfl)
theorem dJ4_putVal_5 : decode cJ4_putVal 5 = .ok (.astore 6, 2) := dk_58 6 (dk_at dksJ4_putVal_0 5 rfl rfl)
theorem dJ4_putVal_7 : decode cJ4_putVal 7 = .ok (.ifnull 12, 3) := dk_198 0 12 (dk_at dksJ4_putVal_0 7 rfl rfl)
theorem dJ4_putVal_10 : decode cJ4_putVal 10 = .ok (.aload 6, 2) := dk_25 6 (dk_at dksJ4_putVal_0 10 rfl rfl)
theorem dJ4_putVal_12 : decode cJ4_putVal 12 = .ok (.arraylength, 1) := dk_190 (dk_at dksJ4_putVal_0 12 rfl rfl)
theorem dJ4_putVal_13 : decode cJ4_putVal 13 = .ok (.dup, 1) := dk_89 (dk_at dksJ4_putVal_0 13 rfl rfl)
theorem dJ4_putVal_14 : decode cJ4_putVal 14 = .ok (.istore 8, 2) := dk_54 8 (dk_at dksJ4_putVal_0 14 rfl rfl)
theorem dJ4_putVal_16 : decode cJ4_putVal 16 = .ok (.ifCond .ne 13, 3) := dk_154 0 13 (dk_at dksJ4_putVal_0 16 rfl rfl)
theorem dJ4_putVal_19 : decode cJ4_putVal 19 = .ok (.aload_n 0, 1) := dk_42 (dk_at dksJ4_putVal_0 19 rfl rfl)
theorem dJ4_putVal_20 : decode cJ4_putVal 20 = .ok (.invokevirtual 117, 3) := dk_182 0 117 (dk_at dksJ4_putVal_0 20 rfl rfl)
theorem dJ4_putVal_23 : decode cJ4_putVal 23 = .ok (.dup, 1) := dk_89 (dk_at dksJ4_putVal_0 23 rfl rfl)
theorem dJ4_putVal_24 : decode cJ4_putVal 24 = .ok (.astore 6, 2) := dk_58 6 (dk_at dksJ4_putVal_1 0 rfl rfl)
theorem dJ4_putVal_26 : decode cJ4_putVal 26 = .ok (.arraylength, 1) := dk_190 (dk_at dksJ4_putVal_1 2 rfl rfl)
theorem dJ4_putVal_27 : decode cJ4_putVal 27 = .ok (.istore 8, 2) := dk_54 8 (dk_at dksJ4_putVal_1 3 rfl rfl)
theorem dJ4_putVal_29 : decode cJ4_putVal 29 = .ok (.aload 6, 2) := dk_25 6 (dk_at dksJ4_putVal_1 5 rfl rfl)
theorem dJ4_putVal_31 : decode cJ4_putVal 31 = .ok (.iload 8, 2) := dk_21 8 (dk_at dksJ4_putVal_1 7 rfl rfl)
theorem dJ4_putVal_33 : decode cJ4_putVal 33 = .ok (.iconst 1, 1) := dk_4 (dk_at dksJ4_putVal_1 9 rfl rfl)
theorem dJ4_putVal_34 : decode cJ4_putVal 34 = .ok (.isub, 1) := dk_100 (dk_at dksJ4_putVal_1 10 rfl rfl)
theorem dJ4_putVal_35 : decode cJ4_putVal 35 = .ok (.iload_n 1, 1) := dk_27 (dk_at dksJ4_putVal_1 11 rfl rfl)
theorem dJ4_putVal_36 : decode cJ4_putVal 36 = .ok (.iand, 1) := dk_126 (dk_at dksJ4_putVal_1 12 rfl rfl)
theorem dJ4_putVal_37 : decode cJ4_putVal 37 = .ok (.dup, 1) := dk_89 (dk_at dksJ4_putVal_1 13 rfl rfl)
theorem dJ4_putVal_38 : decode cJ4_putVal 38 = .ok (.istore 9, 2) := dk_54 9 (dk_at dksJ4_putVal_1 14 rfl rfl)
theorem dJ4_putVal_40 : decode cJ4_putVal 40 = .ok (.aaload, 1) := dk_50 (dk_at dksJ4_putVal_1 16 rfl rfl)
theorem dJ4_putVal_41 : decode cJ4_putVal 41 = .ok (.dup, 1) := dk_89 (dk_at dksJ4_putVal_1 17 rfl rfl)
theorem dJ4_putVal_42 : decode cJ4_putVal 42 = .ok (.astore 7, 2) := dk_58 7 (dk_at dksJ4_putVal_1 18 rfl rfl)
theorem dJ4_putVal_44 : decode cJ4_putVal 44 = .ok (.ifnonnull 19, 3) := dk_199 0 19 (dk_at dksJ4_putVal_1 20 rfl rfl)
theorem dJ4_putVal_47 : decode cJ4_putVal 47 = .ok (.aload 6, 2) := dk_25 6 (dk_at dksJ4_putVal_2 0 rfl rfl)
theorem dJ4_putVal_49 : decode cJ4_putVal 49 = .ok (.iload 9, 2) := dk_21 9 (dk_at dksJ4_putVal_2 2 rfl rfl)
theorem dJ4_putVal_51 : decode cJ4_putVal 51 = .ok (.aload_n 0, 1) := dk_42 (dk_at dksJ4_putVal_2 4 rfl rfl)
theorem dJ4_putVal_52 : decode cJ4_putVal 52 = .ok (.iload_n 1, 1) := dk_27 (dk_at dksJ4_putVal_2 5 rfl rfl)
theorem dJ4_putVal_53 : decode cJ4_putVal 53 = .ok (.aload_n 2, 1) := dk_44 (dk_at dksJ4_putVal_2 6 rfl rfl)
theorem dJ4_putVal_54 : decode cJ4_putVal 54 = .ok (.aload_n 3, 1) := dk_45 (dk_at dksJ4_putVal_2 7 rfl rfl)
theorem dJ4_putVal_55 : decode cJ4_putVal 55 = .ok (.aconst_null, 1) := dk_1 (dk_at dksJ4_putVal_2 8 rfl rfl)
theorem dJ4_putVal_56 : decode cJ4_putVal 56 = .ok (.invokevirtual 186, 3) := dk_182 0 186 (dk_at dksJ4_putVal_2 9 rfl rfl)
theorem dJ4_putVal_59 : decode cJ4_putVal 59 = .ok (.aastore, 1) := dk_83 (dk_at dksJ4_putVal_2 12 rfl rfl)
theorem dJ4_putVal_60 : decode cJ4_putVal 60 = .ok (.goto 199, 3) := dk_167 0 199 (dk_at dksJ4_putVal_2 13 rfl rfl)
theorem dJ4_putVal_63 : decode cJ4_putVal 63 = .ok (.aload 7, 2) := dk_25 7 (dk_at dksJ4_putVal_2 16 rfl rfl)
theorem dJ4_putVal_65 : decode cJ4_putVal 65 = .ok (.getfield 168, 3) := dk_180 0 168 (dk_at dksJ4_putVal_2 18 rfl rfl)
theorem dJ4_putVal_68 : decode cJ4_putVal 68 = .ok (.iload_n 1, 1) := dk_27 (dk_at dksJ4_putVal_2 21 rfl rfl)
theorem dJ4_putVal_69 : decode cJ4_putVal 69 = .ok (.if_icmp .ne 35, 3) := dk_160 0 35 (dk_at dksJ4_putVal_3 0 rfl rfl)
theorem dJ4_putVal_72 : decode cJ4_putVal 72 = .ok (.aload 7, 2) := dk_25 7 (dk_at dksJ4_putVal_3 3 rfl rfl)
theorem dJ4_putVal_74 : decode cJ4_putVal 74 = .ok (.getfield 170, 3) := dk_180 0 170 (dk_at dksJ4_putVal_3 5 rfl rfl)
theorem dJ4_putVal_77 : decode cJ4_putVal 77 = .ok (.dup, 1) := dk_89 (dk_at dksJ4_putVal_3 8 rfl rfl)
theorem dJ4_putVal_78 : decode cJ4_putVal 78 = .ok (.astore 11, 2) := dk_58 11 (dk_at dksJ4_putVal_3 9 rfl rfl)
theorem dJ4_putVal_80 : decode cJ4_putVal 80 = .ok (.aload_n 2, 1) := dk_44 (dk_at dksJ4_putVal_3 11 rfl rfl)
theorem dJ4_putVal_81 : decode cJ4_putVal 81 = .ok (.if_acmp .eq 16, 3) := dk_165 0 16 (dk_at dksJ4_putVal_3 12 rfl rfl)
theorem dJ4_putVal_84 : decode cJ4_putVal 84 = .ok (.aload_n 2, 1) := dk_44 (dk_at dksJ4_putVal_3 15 rfl rfl)
theorem dJ4_putVal_85 : decode cJ4_putVal 85 = .ok (.ifnull 19, 3) := dk_198 0 19 (dk_at dksJ4_putVal_3 16 rfl rfl)
theorem dJ4_putVal_88 : decode cJ4_putVal 88 = .ok (.aload_n 2, 1) := dk_44 (dk_at dksJ4_putVal_3 19 rfl rfl)
theorem dJ4_putVal_89 : decode cJ4_putVal 89 = .ok (.aload 11, 2) := dk_25 11 (dk_at dksJ4_putVal_3 20 rfl rfl)
theorem dJ4_putVal_91 : decode cJ4_putVal 91 = .ok (.invokevirtual 173, 3) := dk_182 0 173 (dk_at dksJ4_putVal_4 0 rfl rfl)
theorem dJ4_putVal_94 : decode cJ4_putVal 94 = .ok (.ifCond .eq 10, 3) := dk_153 0 10 (dk_at dksJ4_putVal_4 3 rfl rfl)
theorem dJ4_putVal_97 : decode cJ4_putVal 97 = .ok (.aload 7, 2) := dk_25 7 (dk_at dksJ4_putVal_4 6 rfl rfl)
theorem dJ4_putVal_99 : decode cJ4_putVal 99 = .ok (.astore 10, 2) := dk_58 10 (dk_at dksJ4_putVal_4 8 rfl rfl)
theorem dJ4_putVal_101 : decode cJ4_putVal 101 = .ok (.goto 121, 3) := dk_167 0 121 (dk_at dksJ4_putVal_4 10 rfl rfl)
theorem dJ4_putVal_104 : decode cJ4_putVal 104 = .ok (.aload 7, 2) := dk_25 7 (dk_at dksJ4_putVal_4 13 rfl rfl)
theorem dJ4_putVal_106 : decode cJ4_putVal 106 = .ok (.instanceof 180, 3) := dk_193 0 180 (dk_at dksJ4_putVal_4 15 rfl rfl)
theorem dJ4_putVal_109 : decode cJ4_putVal 109 = .ok (.ifCond .eq 22, 3) := dk_153 0 22 (dk_at dksJ4_putVal_4 18 rfl rfl)
theorem dJ4_putVal_112 : decode cJ4_putVal 112 = .ok (.aload 7, 2) := dk_25 7 (dk_at dksJ4_putVal_4 21 rfl rfl)
theorem dJ4_putVal_114 : decode cJ4_putVal 114 = .ok (.checkcast 180, 3) := dk_192 0 180 (dk_at dksJ4_putVal_5 0 rfl rfl)
theorem dJ4_putVal_117 : decode cJ4_putVal 117 = .ok (.aload_n 0, 1) := dk_42 (dk_at dksJ4_putVal_5 3 rfl rfl)
theorem dJ4_putVal_118 : decode cJ4_putVal 118 = .ok (.aload 6, 2) := dk_25 6 (dk_at dksJ4_putVal_5 4 rfl rfl)
theorem dJ4_putVal_120 : decode cJ4_putVal 120 = .ok (.iload_n 1, 1) := dk_27 (dk_at dksJ4_putVal_5 6 rfl rfl)
theorem dJ4_putVal_121 : decode cJ4_putVal 121 = .ok (.aload_n 2, 1) := dk_44 (dk_at dksJ4_putVal_5 7 rfl rfl)
theorem dJ4_putVal_122 : decode cJ4_putVal 122 = .ok (.aload_n 3, 1) := dk_45 (dk_at dksJ4_putVal_5 8 rfl rfl)
theorem dJ4_putVal_123 : decode cJ4_putVal 123 = .ok (.invokevirtual 190, 3) := dk_182 0 190 (dk_at dksJ4_putVal_5 9 rfl rfl)
theorem dJ4_putVal_126 : decode cJ4_putVal 126 = .ok (.astore 10, 2) := dk_58 10 (dk_at dksJ4_putVal_5 12 rfl rfl)
theorem dJ4_putVal_128 : decode cJ4_putVal 128 = .ok (.goto 94, 3) := dk_167 0 94 (dk_at dksJ4_putVal_5 14 rfl rfl)
theorem dJ4_putVal_131 : decode cJ4_putVal 131 = .ok (.iconst 0, 1) := dk_3 (dk_at dksJ4_putVal_5 17 rfl rfl)
theorem dJ4_putVal_132 : decode cJ4_putVal 132 = .ok (.istore 12, 2) := dk_54 12 (dk_at dksJ4_putVal_5 18 rfl rfl)
theorem dJ4_putVal_134 : decode cJ4_putVal 134 = .ok (.aload 7, 2) := dk_25 7 (dk_at dksJ4_putVal_5 20 rfl rfl)
theorem dJ4_putVal_136 : decode cJ4_putVal 136 = .ok (.getfield 177, 3) := dk_180 0 177 (dk_at dksJ4_putVal_6 0 rfl rfl)
theorem dJ4_putVal_139 : decode cJ4_putVal 139 = .ok (.dup, 1) := dk_89 (dk_at dksJ4_putVal_6 3 rfl rfl)
theorem dJ4_putVal_140 : decode cJ4_putVal 140 = .ok (.astore 10, 2) := dk_58 10 (dk_at dksJ4_putVal_6 4 rfl rfl)
theorem dJ4_putVal_142 : decode cJ4_putVal 142 = .ok (.ifnonnull 33, 3) := dk_199 0 33 (dk_at dksJ4_putVal_6 6 rfl rfl)
theorem dJ4_putVal_145 : decode cJ4_putVal 145 = .ok (.aload 7, 2) := dk_25 7 (dk_at dksJ4_putVal_6 9 rfl rfl)
theorem dJ4_putVal_147 : decode cJ4_putVal 147 = .ok (.aload_n 0, 1) := dk_42 (dk_at dksJ4_putVal_6 11 rfl rfl)
theorem dJ4_putVal_148 : decode cJ4_putVal 148 = .ok (.iload_n 1, 1) := dk_27 (dk_at dksJ4_putVal_6 12 rfl rfl)
theorem dJ4_putVal_149 : decode cJ4_putVal 149 = .ok (.aload_n 2, 1) := dk_44 (dk_at dksJ4_putVal_6 13 rfl rfl)
theorem dJ4_putVal_150 : decode cJ4_putVal 150 = .ok (.aload_n 3, 1) := dk_45 (dk_at dksJ4_putVal_6 14 rfl rfl)
theorem dJ4_putVal_151 : decode cJ4_putVal 151 = .ok (.aconst_null, 1) := dk_1 (dk_at dksJ4_putVal_6 15 rfl rfl)
theorem dJ4_putVal_152 : decode cJ4_putVal 152 = .ok (.invokevirtual 186, 3) := dk_182 0 186 (dk_at dksJ4_putVal_6 16 rfl rfl)
theorem dJ4_putVal_155 : decode cJ4_putVal 155 = .ok (.putfield 177, 3) := dk_181 0 177 (dk_at dksJ4_putVal_6 19 rfl rfl)
theorem dJ4_putVal_158 : decode cJ4_putVal 158 = .ok (.iload 12, 2) := dk_21 12 (dk_at dksJ4_putVal_6 22 rfl rfl)
theorem dJ4_putVal_160 : decode cJ4_putVal 160 = .ok (.bipush 7, 2) := dk_16 7 (dk_at dksJ4_putVal_7 0 rfl rfl)
theorem dJ4_putVal_162 : decode cJ4_putVal 162 = .ok (.if_icmp .lt 60, 3) := dk_161 0 60 (dk_at dksJ4_putVal_7 2 rfl rfl)
theorem dJ4_putVal_165 : decode cJ4_putVal 165 = .ok (.aload_n 0, 1) := dk_42 (dk_at dksJ4_putVal_7 5 rfl rfl)
theorem dJ4_putVal_166 : decode cJ4_putVal 166 = .ok (.aload 6, 2) := dk_25 6 (dk_at dksJ4_putVal_7 6 rfl rfl)
theorem dJ4_putVal_168 : decode cJ4_putVal 168 = .ok (.iload_n 1, 1) := dk_27 (dk_at dksJ4_putVal_7 8 rfl rfl)
theorem dJ4_putVal_169 : decode cJ4_putVal 169 = .ok (.invokevirtual 194, 3) := dk_182 0 194 (dk_at dksJ4_putVal_7 9 rfl rfl)
theorem dJ4_putVal_172 : decode cJ4_putVal 172 = .ok (.goto 50, 3) := dk_167 0 50 (dk_at dksJ4_putVal_7 12 rfl rfl)
theorem dJ4_putVal_175 : decode cJ4_putVal 175 = .ok (.aload 10, 2) := dk_25 10 (dk_at dksJ4_putVal_7 15 rfl rfl)
theorem dJ4_putVal_177 : decode cJ4_putVal 177 = .ok (.getfield 168, 3) := dk_180 0 168 (dk_at dksJ4_putVal_7 17 rfl rfl)
theorem dJ4_putVal_180 : decode cJ4_putVal 180 = .ok (.iload_n 1, 1) := dk_27 (dk_at dksJ4_putVal_7 20 rfl rfl)
theorem dJ4_putVal_181 : decode cJ4_putVal 181 = .ok (.if_icmp .ne 31, 3) := dk_160 0 31 (dk_at dksJ4_putVal_7 21 rfl rfl)
theorem dJ4_putVal_184 : decode cJ4_putVal 184 = .ok (.aload 10, 2) := dk_25 10 (dk_at dksJ4_putVal_8 0 rfl rfl)
theorem dJ4_putVal_186 : decode cJ4_putVal 186 = .ok (.getfield 170, 3) := dk_180 0 170 (dk_at dksJ4_putVal_8 2 rfl rfl)
theorem dJ4_putVal_189 : decode cJ4_putVal 189 = .ok (.dup, 1) := dk_89 (dk_at dksJ4_putVal_8 5 rfl rfl)
theorem dJ4_putVal_190 : decode cJ4_putVal 190 = .ok (.astore 11, 2) := dk_58 11 (dk_at dksJ4_putVal_8 6 rfl rfl)
theorem dJ4_putVal_192 : decode cJ4_putVal 192 = .ok (.aload_n 2, 1) := dk_44 (dk_at dksJ4_putVal_8 8 rfl rfl)
theorem dJ4_putVal_193 : decode cJ4_putVal 193 = .ok (.if_acmp .eq 29, 3) := dk_165 0 29 (dk_at dksJ4_putVal_8 9 rfl rfl)
theorem dJ4_putVal_196 : decode cJ4_putVal 196 = .ok (.aload_n 2, 1) := dk_44 (dk_at dksJ4_putVal_8 12 rfl rfl)
theorem dJ4_putVal_197 : decode cJ4_putVal 197 = .ok (.ifnull 15, 3) := dk_198 0 15 (dk_at dksJ4_putVal_8 13 rfl rfl)
theorem dJ4_putVal_200 : decode cJ4_putVal 200 = .ok (.aload_n 2, 1) := dk_44 (dk_at dksJ4_putVal_8 16 rfl rfl)
theorem dJ4_putVal_201 : decode cJ4_putVal 201 = .ok (.aload 11, 2) := dk_25 11 (dk_at dksJ4_putVal_8 17 rfl rfl)
theorem dJ4_putVal_203 : decode cJ4_putVal 203 = .ok (.invokevirtual 173, 3) := dk_182 0 173 (dk_at dksJ4_putVal_8 19 rfl rfl)
theorem dJ4_putVal_206 : decode cJ4_putVal 206 = .ok (.ifCond .eq 6, 3) := dk_153 0 6 (dk_at dksJ4_putVal_9 0 rfl rfl)
theorem dJ4_putVal_209 : decode cJ4_putVal 209 = .ok (.goto 13, 3) := dk_167 0 13 (dk_at dksJ4_putVal_9 3 rfl rfl)
theorem dJ4_putVal_212 : decode cJ4_putVal 212 = .ok (.aload 10, 2) := dk_25 10 (dk_at dksJ4_putVal_9 6 rfl rfl)
theorem dJ4_putVal_214 : decode cJ4_putVal 214 = .ok (.astore 7, 2) := dk_58 7 (dk_at dksJ4_putVal_9 8 rfl rfl)
theorem dJ4_putVal_216 : decode cJ4_putVal 216 = .ok (.iinc 12 1, 3) := dk_132 12 1 (dk_at dksJ4_putVal_9 10 rfl rfl)
theorem dJ4_putVal_219 : decode cJ4_putVal 219 = .ok (.goto (-85), 3) := dk_167 255 171 (dk_at dksJ4_putVal_9 13 rfl rfl)
theorem dJ4_putVal_222 : decode cJ4_putVal 222 = .ok (.aload 10, 2) := dk_25 10 (dk_at dksJ4_putVal_9 16 rfl rfl)
theorem dJ4_putVal_224 : decode cJ4_putVal 224 = .ok (.ifnull 35, 3) := dk_198 0 35 (dk_at dksJ4_putVal_9 18 rfl rfl)
theorem dJ4_putVal_227 : decode cJ4_putVal 227 = .ok (.aload 10, 2) := dk_25 10 (dk_at dksJ4_putVal_9 21 rfl rfl)
theorem dJ4_putVal_229 : decode cJ4_putVal 229 = .ok (.getfield 162, 3) := dk_180 0 162 (dk_at dksJ4_putVal_10 0 rfl rfl)
theorem dJ4_putVal_232 : decode cJ4_putVal 232 = .ok (.astore 12, 2) := dk_58 12 (dk_at dksJ4_putVal_10 3 rfl rfl)
theorem dJ4_putVal_234 : decode cJ4_putVal 234 = .ok (.iload 4, 2) := dk_21 4 (dk_at dksJ4_putVal_10 5 rfl rfl)
theorem dJ4_putVal_236 : decode cJ4_putVal 236 = .ok (.ifCond .eq 8, 3) := dk_153 0 8 (dk_at dksJ4_putVal_10 7 rfl rfl)
theorem dJ4_putVal_239 : decode cJ4_putVal 239 = .ok (.aload 12, 2) := dk_25 12 (dk_at dksJ4_putVal_10 10 rfl rfl)
theorem dJ4_putVal_241 : decode cJ4_putVal 241 = .ok (.ifnonnull 9, 3) := dk_199 0 9 (dk_at dksJ4_putVal_10 12 rfl rfl)
theorem dJ4_putVal_244 : decode cJ4_putVal 244 = .ok (.aload 10, 2) := dk_25 10 (dk_at dksJ4_putVal_10 15 rfl rfl)
theorem dJ4_putVal_246 : decode cJ4_putVal 246 = .ok (.aload_n 3, 1) := dk_45 (dk_at dksJ4_putVal_10 17 rfl rfl)
theorem dJ4_putVal_247 : decode cJ4_putVal 247 = .ok (.putfield 162, 3) := dk_181 0 162 (dk_at dksJ4_putVal_10 18 rfl rfl)
theorem dJ4_putVal_250 : decode cJ4_putVal 250 = .ok (.aload_n 0, 1) := dk_42 (dk_at dksJ4_putVal_10 21 rfl rfl)
theorem dJ4_putVal_251 : decode cJ4_putVal 251 = .ok (.aload 10, 2) := dk_25 10 (dk_at dksJ4_putVal_10 22 rfl rfl)
theorem dJ4_putVal_253 : decode cJ4_putVal 253 = .ok (.invokevirtual 198, 3) := dk_182 0 198 (dk_at dksJ4_putVal_11 0 rfl rfl)
theorem dJ4_putVal_256 : decode cJ4_putVal 256 = .ok (.aload 12, 2) := dk_25 12 (dk_at dksJ4_putVal_11 3 rfl rfl)
theorem dJ4_putVal_258 : decode cJ4_putVal 258 = .ok (.areturn, 1) := dk_176 (dk_at dksJ4_putVal_11 5 rfl rfl)
theorem dJ4_putVal_259 : decode cJ4_putVal 259 = .ok (.aload_n 0, 1) := dk_42 (dk_at dksJ4_putVal_11 6 rfl rfl)
theorem dJ4_putVal_260 : decode cJ4_putVal 260 = .ok (.dup, 1) := dk_89 (dk_at dksJ4_putVal_11 7 rfl rfl)
theorem dJ4_putVal_261 : decode cJ4_putVal 261 = .ok (.getfield 202, 3) := dk_180 0 202 (dk_at dksJ4_putVal_11 8 rfl rfl)
theorem dJ4_putVal_264 : decode cJ4_putVal 264 = .ok (.iconst 1, 1) := dk_4 (dk_at dksJ4_putVal_11 11 rfl rfl)
theorem dJ4_putVal_265 : decode cJ4_putVal 265 = .ok (.iadd, 1) := dk_96 (dk_at dksJ4_putVal_11 12 rfl rfl)
theorem dJ4_putVal_266 : decode cJ4_putVal 266 = .ok (.putfield 202, 3) := dk_181 0 202 (dk_at dksJ4_putVal_11 13 rfl rfl)
theorem dJ4_putVal_269 : decode cJ4_putVal 269 = .ok (.aload_n 0, 1) := dk_42 (dk_at dksJ4_putVal_11 16 rfl rfl)
theorem dJ4_putVal_270 : decode cJ4_putVal 270 = .ok (.dup, 1) := dk_89 (dk_at dksJ4_putVal_11 17 rfl rfl)
theorem dJ4_putVal_271 : decode cJ4_putVal 271 = .ok (.getfield 156, 3) := dk_180 0 156 (dk_at dksJ4_putVal_11 18 rfl rfl)
theorem dJ4_putVal_274 : decode cJ4_putVal 274 = .ok (.iconst 1, 1) := dk_4 (dk_at dksJ4_putVal_11 21 rfl rfl)
theorem dJ4_putVal_275 : decode cJ4_putVal 275 = .ok (.iadd, 1) := dk_96 (dk_at dksJ4_putVal_11 22 rfl rfl)
theorem dJ4_putVal_276 : decode cJ4_putVal 276 = .ok (.dup_x1, 1) := dk_90 (dk_at dksJ4_putVal_11 23 rfl rfl)
theorem dJ4_putVal_277 : decode cJ4_putVal 277 = .ok (.putfield 156, 3) := dk_181 0 156 (dk_at dksJ4_putVal_12 0 rfl rfl)
theorem dJ4_putVal_280 : decode cJ4_putVal 280 = .ok (.aload_n 0, 1) := dk_42 (dk_at dksJ4_putVal_12 3 rfl rfl)
theorem dJ4_putVal_281 : decode cJ4_putVal 281 = .ok (.getfield 88, 3) := dk_180 0 88 (dk_at dksJ4_putVal_12 4 rfl rfl)
theorem dJ4_putVal_284 : decode cJ4_putVal 284 = .ok (.if_icmp .le 8, 3) := dk_164 0 8 (dk_at dksJ4_putVal_12 7 rfl rfl)
theorem dJ4_putVal_287 : decode cJ4_putVal 287 = .ok (.aload_n 0, 1) := dk_42 (dk_at dksJ4_putVal_12 10 rfl rfl)
theorem dJ4_putVal_288 : decode cJ4_putVal 288 = .ok (.invokevirtual 117, 3) := dk_182 0 117 (dk_at dksJ4_putVal_12 11 rfl rfl)
theorem dJ4_putVal_291 : decode cJ4_putVal 291 = .ok (.pop, 1) := dk_87 (dk_at dksJ4_putVal_12 14 rfl rfl)
theorem dJ4_putVal_292 : decode cJ4_putVal 292 = .ok (.aload_n 0, 1) := dk_42 (dk_at dksJ4_putVal_12 15 rfl rfl)
theorem dJ4_putVal_293 : decode cJ4_putVal 293 = .ok (.iload 5, 2) := dk_21 5 (dk_at dksJ4_putVal_12 16 rfl rfl)
theorem dJ4_putVal_295 : decode cJ4_putVal 295 = .ok (.invokevirtual 205, 3) := dk_182 0 205 (dk_at dksJ4_putVal_12 18 rfl rfl)
theorem dJ4_putVal_298 : decode cJ4_putVal 298 = .ok (.aconst_null, 1) := dk_1 (dk_at dksJ4_putVal_12 21 rfl rfl)
theorem dJ4_putVal_299 : decode cJ4_putVal 299 = .ok (.areturn, 1) := dk_176 (dk_at dksJ4_putVal_12 22 rfl rfl)
abbrev cJ4_newNode : ByteArray := prog_42_method_46_code
def yJ4_newNode : MethodName := ⟨RJ4, "newNode", "(ILjava/lang/Object;Ljava/lang/Object;Ljava/util/HashMap$Node;)Ljava/util/HashMap$Node;"⟩
def dkwJ4_newNode_0 : List UInt8 := [187, 0, 163, 89, 27, 44, 45, 25, 4, 183, 1, 119, 176]
abbrev dktJ4_newNode_0 : List UInt8 := dkwJ4_newNode_0 ++ []
theorem dksJ4_newNode_0 : cJ4_newNode.data.toList.drop 0 = dktJ4_newNode_0 := by decide +kernel
theorem dJ4_newNode_0 : decode cJ4_newNode 0 = .ok (.new 163, 3) := dk_187 0 163 (dk_at dksJ4_newNode_0 0 rfl rfl)
theorem dJ4_newNode_3 : decode cJ4_newNode 3 = .ok (.dup, 1) := dk_89 (dk_at dksJ4_newNode_0 3 rfl rfl)
theorem dJ4_newNode_4 : decode cJ4_newNode 4 = .ok (.iload_n 1, 1) := dk_27 (dk_at dksJ4_newNode_0 4 rfl rfl)
theorem dJ4_newNode_5 : decode cJ4_newNode 5 = .ok (.aload_n 2, 1) := dk_44 (dk_at dksJ4_newNode_0 5 rfl rfl)
theorem dJ4_newNode_6 : decode cJ4_newNode 6 = .ok (.aload_n 3, 1) := dk_45 (dk_at dksJ4_newNode_0 6 rfl rfl)
theorem dJ4_newNode_7 : decode cJ4_newNode 7 = .ok (.aload 4, 2) := dk_25 4 (dk_at dksJ4_newNode_0 7 rfl rfl)
theorem dJ4_newNode_9 : decode cJ4_newNode 9 = .ok (.invokespecial 375, 3) := dk_183 1 119 (dk_at dksJ4_newNode_0 9 rfl rfl)
theorem dJ4_newNode_12 : decode cJ4_newNode 12 = .ok (.areturn, 1) := dk_176 (dk_at dksJ4_newNode_0 12 rfl rfl)
abbrev cJ4_newTreeNode : ByteArray := prog_42_method_48_code
def yJ4_newTreeNode : MethodName := ⟨RJ4, "newTreeNode", "(ILjava/lang/Object;Ljava/lang/Object;Ljava/util/HashMap$Node;)Ljava/util/HashMap$TreeNode;"⟩
def dkwJ4_newTreeNode_0 : List UInt8 := [187, 0, 180, 89, 27, 44, 45, 25, 4, 183, 1, 122, 176]
abbrev dktJ4_newTreeNode_0 : List UInt8 := dkwJ4_newTreeNode_0 ++ []
theorem dksJ4_newTreeNode_0 : cJ4_newTreeNode.data.toList.drop 0 = dktJ4_newTreeNode_0 := by decide +kernel
theorem dJ4_newTreeNode_0 : decode cJ4_newTreeNode 0 = .ok (.new 180, 3) := dk_187 0 180 (dk_at dksJ4_newTreeNode_0 0 rfl rfl)
theorem dJ4_newTreeNode_3 : decode cJ4_newTreeNode 3 = .ok (.dup, 1) := dk_89 (dk_at dksJ4_newTreeNode_0 3 rfl rfl)
theorem dJ4_newTreeNode_4 : decode cJ4_newTreeNode 4 = .ok (.iload_n 1, 1) := dk_27 (dk_at dksJ4_newTreeNode_0 4 rfl rfl)
theorem dJ4_newTreeNode_5 : decode cJ4_newTreeNode 5 = .ok (.aload_n 2, 1) := dk_44 (dk_at dksJ4_newTreeNode_0 5 rfl rfl)
theorem dJ4_newTreeNode_6 : decode cJ4_newTreeNode 6 = .ok (.aload_n 3, 1) := dk_45 (dk_at dksJ4_newTreeNode_0 6 rfl rfl)
theorem dJ4_newTreeNode_7 : decode cJ4_newTreeNode 7 = .ok (.aload 4, 2) := dk_25 4 (dk_at dksJ4_newTreeNode_0 7 rfl rfl)
theorem dJ4_newTreeNode_9 : decode cJ4_newTreeNode 9 = .ok (.invokespecial 378, 3) := dk_183 1 122 (dk_at dksJ4_newTreeNode_0 9 rfl rfl)
theorem dJ4_newTreeNode_12 : decode cJ4_newTreeNode 12 = .ok (.areturn, 1) := dk_176 (dk_at dksJ4_newTreeNode_0 12 rfl rfl)
abbrev cJ4_treeifyBin : ByteArray := prog_42_method_18_code
def yJ4_treeifyBin : MethodName := ⟨RJ4, "treeifyBin", "([Ljava/util/HashMap$Node;I)V"⟩
def dkwJ4_treeifyBin_4 : List UInt8 := [21, 4, 25, 6, 91, 83, 198, 0, 9, 25, 6, 43, 182, 0, 224, 177]
abbrev dktJ4_treeifyBin_4 : List UInt8 := dkwJ4_treeifyBin_4 ++ []
def dkwJ4_treeifyBin_3 : List UInt8 := [25, 7, 25, 8, 181, 0, 223, 25, 8, 58, 7, 25, 5, 180, 0, 177, 89, 58, 5, 199, 255, 209, 43]
abbrev dktJ4_treeifyBin_3 : List UInt8 := dkwJ4_treeifyBin_3 ++ dktJ4_treeifyBin_4
def dkwJ4_treeifyBin_2 : List UInt8 := [182, 0, 215, 58, 8, 25, 7, 199, 0, 10, 25, 8, 58, 6, 167, 0, 17, 25, 8, 25, 7, 181, 0, 219]
abbrev dktJ4_treeifyBin_2 : List UInt8 := dkwJ4_treeifyBin_2 ++ dktJ4_treeifyBin_3
def dkwJ4_treeifyBin_1 : List UInt8 := [100, 28, 126, 89, 54, 4, 50, 89, 58, 5, 198, 0, 75, 1, 58, 6, 1, 58, 7, 42, 25, 5, 1]
abbrev dktJ4_treeifyBin_1 : List UInt8 := dkwJ4_treeifyBin_1 ++ dktJ4_treeifyBin_2
def dkwJ4_treeifyBin_0 : List UInt8 := [43, 198, 0, 12, 43, 190, 89, 62, 16, 64, 162, 0, 11, 42, 182, 0, 117, 87, 167, 0, 91, 43, 29, 4]
abbrev dktJ4_treeifyBin_0 : List UInt8 := dkwJ4_treeifyBin_0 ++ dktJ4_treeifyBin_1
theorem dksJ4_treeifyBin_0 : cJ4_treeifyBin.data.toList.drop 0 = dktJ4_treeifyBin_0 := by decide +kernel
theorem dksJ4_treeifyBin_1 : cJ4_treeifyBin.data.toList.drop 24 = dktJ4_treeifyBin_1 := dk_seg dksJ4_treeifyBin_0 24 rfl rfl
theorem dksJ4_treeifyBin_2 : cJ4_treeifyBin.data.toList.drop 47 = dktJ4_treeifyBin_2 := dk_seg dksJ4_treeifyBin_1 23 rfl rfl
theorem dksJ4_treeifyBin_3 : cJ4_treeifyBin.data.toList.drop 71 = dktJ4_treeifyBin_3 := dk_seg dksJ4_treeifyBin_2 24 rfl rfl
theorem dksJ4_treeifyBin_4 : cJ4_treeifyBin.data.toList.drop 94 = dktJ4_treeifyBin_4 := dk_seg dksJ4_treeifyBin_3 23 rfl rfl
theorem dJ4_treeifyBin_0 : decode cJ4_treeifyBin 0 = .ok (.aload_n 1, 1) := dk_43 (dk_at dksJ4_treeifyBin_0 0 rfl rfl)
theorem dJ4_treeifyBin_1 : decode cJ4_treeifyBin 1 = .ok (.ifnull 12, 3) := dk_198 0 12 (dk_at dksJ4_treeifyBin_0 1 rfl rfl)
theorem dJ4_treeifyBin_4 : decode cJ4_treeifyBin 4 = .ok (.aload_n 1, 1) := dk_43 (dk_at dksJ4_treeifyBin_0 4 rfl rfl)
theorem dJ4_treeifyBin_5 : decode cJ4_treeifyBin 5 = .ok (.arraylength, 1) := dk_190 (dk_at dksJ4_treeifyBin_0 5 rfl rfl)
theorem dJ4_treeifyBin_6 : decode cJ4_treeifyBin 6 = .ok (.dup, 1) := dk_89 (dk_at dksJ4_treeifyBin_0 6 rfl rfl)
theorem dJ4_treeifyBin_7 : decode cJ4_treeifyBin 7 = .ok (.istore_n 3, 1) := dk_62 (dk_at dksJ4_treeifyBin_0 7 rfl rfl)
theorem dJ4_treeifyBin_8 : decode cJ4_treeifyBin 8 = .ok (.bipush 64, 2) := dk_16 64 (dk_at dksJ4_treeifyBin_0 8 rfl rfl)
theorem dJ4_treeifyBin_10 : decode cJ4_treeifyBin 10 = .ok (.if_icmp .ge 11, 3) := dk_162 0 11 (dk_at dksJ4_treeifyBin_0 10 rfl rfl)
theorem dJ4_treeifyBin_13 : decode cJ4_treeifyBin 13 = .ok (.aload_n 0, 1) := dk_42 (dk_at dksJ4_treeifyBin_0 13 rfl rfl)
theorem dJ4_treeifyBin_14 : decode cJ4_treeifyBin 14 = .ok (.invokevirtual 117, 3) := dk_182 0 117 (dk_at dksJ4_treeifyBin_0 14 rfl rfl)
theorem dJ4_treeifyBin_17 : decode cJ4_treeifyBin 17 = .ok (.pop, 1) := dk_87 (dk_at dksJ4_treeifyBin_0 17 rfl rfl)
theorem dJ4_treeifyBin_18 : decode cJ4_treeifyBin 18 = .ok (.goto 91, 3) := dk_167 0 91 (dk_at dksJ4_treeifyBin_0 18 rfl rfl)
theorem dJ4_treeifyBin_21 : decode cJ4_treeifyBin 21 = .ok (.aload_n 1, 1) := dk_43 (dk_at dksJ4_treeifyBin_0 21 rfl rfl)
theorem dJ4_treeifyBin_22 : decode cJ4_treeifyBin 22 = .ok (.iload_n 3, 1) := dk_29 (dk_at dksJ4_treeifyBin_0 22 rfl rfl)
theorem dJ4_treeifyBin_23 : decode cJ4_treeifyBin 23 = .ok (.iconst 1, 1) := dk_4 (dk_at dksJ4_treeifyBin_0 23 rfl rfl)
theorem dJ4_treeifyBin_24 : decode cJ4_treeifyBin 24 = .ok (.isub, 1) := dk_100 (dk_at dksJ4_treeifyBin_1 0 rfl rfl)
theorem dJ4_treeifyBin_25 : decode cJ4_treeifyBin 25 = .ok (.iload_n 2, 1) := dk_28 (dk_at dksJ4_treeifyBin_1 1 rfl rfl)
theorem dJ4_treeifyBin_26 : decode cJ4_treeifyBin 26 = .ok (.iand, 1) := dk_126 (dk_at dksJ4_treeifyBin_1 2 rfl rfl)
theorem dJ4_treeifyBin_27 : decode cJ4_treeifyBin 27 = .ok (.dup, 1) := dk_89 (dk_at dksJ4_treeifyBin_1 3 rfl rfl)
theorem dJ4_treeifyBin_28 : decode cJ4_treeifyBin 28 = .ok (.istore 4, 2) := dk_54 4 (dk_at dksJ4_treeifyBin_1 4 rfl rfl)
theorem dJ4_treeifyBin_30 : decode cJ4_treeifyBin 30 = .ok (.aaload, 1) := dk_50 (dk_at dksJ4_treeifyBin_1 6 rfl rfl)
theorem dJ4_treeifyBin_31 : decode cJ4_treeifyBin 31 = .ok (.dup, 1) := dk_89 (dk_at dksJ4_treeifyBin_1 7 rfl rfl)
theorem dJ4_treeifyBin_32 : decode cJ4_treeifyBin 32 = .ok (.astore 5, 2) := dk_58 5 (dk_at dksJ4_treeifyBin_1 8 rfl rfl)
theorem dJ4_treeifyBin_34 : decode cJ4_treeifyBin 34 = .ok (.ifnull 75, 3) := dk_198 0 75 (dk_at dksJ4_treeifyBin_1 10 rfl rfl)
theorem dJ4_treeifyBin_37 : decode cJ4_treeifyBin 37 = .ok (.aconst_null, 1) := dk_1 (dk_at dksJ4_treeifyBin_1 13 rfl rfl)
theorem dJ4_treeifyBin_38 : decode cJ4_treeifyBin 38 = .ok (.astore 6, 2) := dk_58 6 (dk_at dksJ4_treeifyBin_1 14 rfl rfl)
theorem dJ4_treeifyBin_40 : decode cJ4_treeifyBin 40 = .ok (.aconst_null, 1) := dk_1 (dk_at dksJ4_treeifyBin_1 16 rfl rfl)
theorem dJ4_treeifyBin_41 : decode cJ4_treeifyBin 41 = .ok (.astore 7, 2) := dk_58 7 (dk_at dksJ4_treeifyBin_1 17 rfl rfl)
theorem dJ4_treeifyBin_43 : decode cJ4_treeifyBin 43 = .ok (.aload_n 0, 1) := dk_42 (dk_at dksJ4_treeifyBin_1 19 rfl rfl)
theorem dJ4_treeifyBin_44 : decode cJ4_treeifyBin 44 = .ok (.aload 5, 2) := dk_25 5 (dk_at dksJ4_treeifyBin_1 20 rfl rfl)
theorem dJ4_treeifyBin_46 : decode cJ4_treeifyBin 46 = .ok (.aconst_null, 1) := dk_1 (dk_at dksJ4_treeifyBin_1 22 rfl rfl)
theorem dJ4_treeifyBin_47 : decode cJ4_treeifyBin 47 = .ok (.invokevirtual 215, 3) := dk_182 0 215 (dk_at dksJ4_treeifyBin_2 0 rfl rfl)
theorem dJ4_treeifyBin_50 : decode cJ4_treeifyBin 50 = .ok (.astore 8, 2) := dk_58 8 (dk_at dksJ4_treeifyBin_2 3 rfl rfl)
theorem dJ4_treeifyBin_52 : decode cJ4_treeifyBin 52 = .ok (.aload 7, 2) := dk_25 7 (dk_at dksJ4_treeifyBin_2 5 rfl rfl)
theorem dJ4_treeifyBin_54 : decode cJ4_treeifyBin 54 = .ok (.ifnonnull 10, 3) := dk_199 0 10 (dk_at dksJ4_treeifyBin_2 7 rfl rfl)
theorem dJ4_treeifyBin_57 : decode cJ4_treeifyBin 57 = .ok (.aload 8, 2) := dk_25 8 (dk_at dksJ4_treeifyBin_2 10 rfl rfl)
theorem dJ4_treeifyBin_59 : decode cJ4_treeifyBin 59 = .ok (.astore 6, 2) := dk_58 6 (dk_at dksJ4_treeifyBin_2 12 rfl rfl)
theorem dJ4_treeifyBin_61 : decode cJ4_treeifyBin 61 = .ok (.goto 17, 3) := dk_167 0 17 (dk_at dksJ4_treeifyBin_2 14 rfl rfl)
theorem dJ4_treeifyBin_64 : decode cJ4_treeifyBin 64 = .ok (.aload 8, 2) := dk_25 8 (dk_at dksJ4_treeifyBin_2 17 rfl rfl)
theorem dJ4_treeifyBin_66 : decode cJ4_treeifyBin 66 = .ok (.aload 7, 2) := dk_25 7 (dk_at dksJ4_treeifyBin_2 19 rfl rfl)
theorem dJ4_treeifyBin_68 : decode cJ4_treeifyBin 68 = .ok (.putfield 219, 3) := dk_181 0 219 (dk_at dksJ4_treeifyBin_2 21 rfl rfl)
theorem dJ4_treeifyBin_71 : decode cJ4_treeifyBin 71 = .ok (.aload 7, 2) := dk_25 7 (dk_at dksJ4_treeifyBin_3 0 rfl rfl)
theorem dJ4_treeifyBin_73 : decode cJ4_treeifyBin 73 = .ok (.aload 8, 2) := dk_25 8 (dk_at dksJ4_treeifyBin_3 2 rfl rfl)
theorem dJ4_treeifyBin_75 : decode cJ4_treeifyBin 75 = .ok (.putfield 223, 3) := dk_181 0 223 (dk_at dksJ4_treeifyBin_3 4 rfl rfl)
theorem dJ4_treeifyBin_78 : decode cJ4_treeifyBin 78 = .ok (.aload 8, 2) := dk_25 8 (dk_at dksJ4_treeifyBin_3 7 rfl rfl)
theorem dJ4_treeifyBin_80 : decode cJ4_treeifyBin 80 = .ok (.astore 7, 2) := dk_58 7 (dk_at dksJ4_treeifyBin_3 9 rfl rfl)
theorem dJ4_treeifyBin_82 : decode cJ4_treeifyBin 82 = .ok (.aload 5, 2) := dk_25 5 (dk_at dksJ4_treeifyBin_3 11 rfl rfl)
theorem dJ4_treeifyBin_84 : decode cJ4_treeifyBin 84 = .ok (.getfield 177, 3) := dk_180 0 177 (dk_at dksJ4_treeifyBin_3 13 rfl rfl)
theorem dJ4_treeifyBin_87 : decode cJ4_treeifyBin 87 = .ok (.dup, 1) := dk_89 (dk_at dksJ4_treeifyBin_3 16 rfl rfl)
theorem dJ4_treeifyBin_88 : decode cJ4_treeifyBin 88 = .ok (.astore 5, 2) := dk_58 5 (dk_at dksJ4_treeifyBin_3 17 rfl rfl)
theorem dJ4_treeifyBin_90 : decode cJ4_treeifyBin 90 = .ok (.ifnonnull (-47), 3) := dk_199 255 209 (dk_at dksJ4_treeifyBin_3 19 rfl rfl)
theorem dJ4_treeifyBin_93 : decode cJ4_treeifyBin 93 = .ok (.aload_n 1, 1) := dk_43 (dk_at dksJ4_treeifyBin_3 22 rfl rfl)
theorem dJ4_treeifyBin_94 : decode cJ4_treeifyBin 94 = .ok (.iload 4, 2) := dk_21 4 (dk_at dksJ4_treeifyBin_4 0 rfl rfl)
theorem dJ4_treeifyBin_96 : decode cJ4_treeifyBin 96 = .ok (.aload 6, 2) := dk_25 6 (dk_at dksJ4_treeifyBin_4 2 rfl rfl)
theorem dJ4_treeifyBin_98 : decode cJ4_treeifyBin 98 = .ok (.dup_x2, 1) := dk_91 (dk_at dksJ4_treeifyBin_4 4 rfl rfl)
theorem dJ4_treeifyBin_99 : decode cJ4_treeifyBin 99 = .ok (.aastore, 1) := dk_83 (dk_at dksJ4_treeifyBin_4 5 rfl rfl)
theorem dJ4_treeifyBin_100 : decode cJ4_treeifyBin 100 = .ok (.ifnull 9, 3) := dk_198 0 9 (dk_at dksJ4_treeifyBin_4 6 rfl rfl)
theorem dJ4_treeifyBin_103 : decode cJ4_treeifyBin 103 = .ok (.aload 6, 2) := dk_25 6 (dk_at dksJ4_treeifyBin_4 9 rfl rfl)
theorem dJ4_treeifyBin_105 : decode cJ4_treeifyBin 105 = .ok (.aload_n 1, 1) := dk_43 (dk_at dksJ4_treeifyBin_4 11 rfl rfl)
theorem dJ4_treeifyBin_106 : decode cJ4_treeifyBin 106 = .ok (.invokevirtual 224, 3) := dk_182 0 224 (dk_at dksJ4_treeifyBin_4 12 rfl rfl)
theorem dJ4_treeifyBin_109 : decode cJ4_treeifyBin 109 = .ok (.return_, 1) := dk_177 (dk_at dksJ4_treeifyBin_4 15 rfl rfl)
abbrev cJ4_replacementTreeNode : ByteArray := prog_42_method_49_code
def yJ4_replacementTreeNode : MethodName := ⟨RJ4, "replacementTreeNode", "(Ljava/util/HashMap$Node;Ljava/util/HashMap$Node;)Ljava/util/HashMap$TreeNode;"⟩
def dkwJ4_replacementTreeNode_0 : List UInt8 := [187, 0, 180, 89, 43, 180, 0, 168, 43, 180, 0, 170, 43, 180, 0, 162, 44, 183, 1, 122, 176]
abbrev dktJ4_replacementTreeNode_0 : List UInt8 := dkwJ4_replacementTreeNode_0 ++ []
theorem dksJ4_replacementTreeNode_0 : cJ4_replacementTreeNode.data.toList.drop 0 = dktJ4_replacementTreeNode_0 := by decide +kernel
theorem dJ4_replacementTreeNode_0 : decode cJ4_replacementTreeNode 0 = .ok (.new 180, 3) := dk_187 0 180 (dk_at dksJ4_replacementTreeNode_0 0 rfl rfl)
theorem dJ4_replacementTreeNode_3 : decode cJ4_replacementTreeNode 3 = .ok (.dup, 1) := dk_89 (dk_at dksJ4_replacementTreeNode_0 3 rfl rfl)
theorem dJ4_replacementTreeNode_4 : decode cJ4_replacementTreeNode 4 = .ok (.aload_n 1, 1) := dk_43 (dk_at dksJ4_replacementTreeNode_0 4 rfl rfl)
theorem dJ4_replacementTreeNode_5 : decode cJ4_replacementTreeNode 5 = .ok (.getfield 168, 3) := dk_180 0 168 (dk_at dksJ4_replacementTreeNode_0 5 rfl rfl)
theorem dJ4_replacementTreeNode_8 : decode cJ4_replacementTreeNode 8 = .ok (.aload_n 1, 1) := dk_43 (dk_at dksJ4_replacementTreeNode_0 8 rfl rfl)
theorem dJ4_replacementTreeNode_9 : decode cJ4_replacementTreeNode 9 = .ok (.getfield 170, 3) := dk_180 0 170 (dk_at dksJ4_replacementTreeNode_0 9 rfl rfl)
theorem dJ4_replacementTreeNode_12 : decode cJ4_replacementTreeNode 12 = .ok (.aload_n 1, 1) := dk_43 (dk_at dksJ4_replacementTreeNode_0 12 rfl rfl)
theorem dJ4_replacementTreeNode_13 : decode cJ4_replacementTreeNode 13 = .ok (.getfield 162, 3) := dk_180 0 162 (dk_at dksJ4_replacementTreeNode_0 13 rfl rfl)
theorem dJ4_replacementTreeNode_16 : decode cJ4_replacementTreeNode 16 = .ok (.aload_n 2, 1) := dk_44 (dk_at dksJ4_replacementTreeNode_0 16 rfl rfl)
theorem dJ4_replacementTreeNode_17 : decode cJ4_replacementTreeNode 17 = .ok (.invokespecial 378, 3) := dk_183 1 122 (dk_at dksJ4_replacementTreeNode_0 17 rfl rfl)
theorem dJ4_replacementTreeNode_20 : decode cJ4_replacementTreeNode 20 = .ok (.areturn, 1) := dk_176 (dk_at dksJ4_replacementTreeNode_0 20 rfl rfl)
abbrev cJ4_afterNodeAccess : ByteArray := prog_42_method_51_code
def yJ4_afterNodeAccess : MethodName := ⟨RJ4, "afterNodeAccess", "(Ljava/util/HashMap$Node;)V"⟩
theorem dJ4_afterNodeAccess_0 : decode cJ4_afterNodeAccess 0 = .ok (.return_, 1) := by decide +kernel
abbrev cJ4_afterNodeInsertion : ByteArray := prog_42_method_52_code
def yJ4_afterNodeInsertion : MethodName := ⟨RJ4, "afterNodeInsertion", "(Z)V"⟩
theorem dJ4_afterNodeInsertion_0 : decode cJ4_afterNodeInsertion 0 = .ok (.return_, 1) := by decide +kernel
abbrev cJ4_containsKey : ByteArray := prog_42_method_14_code
def yJ4_containsKey : MethodName := ⟨RJ4, "containsKey", "(Ljava/lang/Object;)Z"⟩
def dkwJ4_containsKey_0 : List UInt8 := [42, 43, 182, 0, 158, 198, 0, 7, 4, 167, 0, 4, 3, 172]
abbrev dktJ4_containsKey_0 : List UInt8 := dkwJ4_containsKey_0 ++ []
theorem dksJ4_containsKey_0 : cJ4_containsKey.data.toList.drop 0 = dktJ4_containsKey_0 := by decide +kernel
theorem dJ4_containsKey_0 : decode cJ4_containsKey 0 = .ok (.aload_n 0, 1) := dk_42 (dk_at dksJ4_containsKey_0 0 rfl rfl)
theorem dJ4_containsKey_1 : decode cJ4_containsKey 1 = .ok (.aload_n 1, 1) := dk_43 (dk_at dksJ4_containsKey_0 1 rfl rfl)
theorem dJ4_containsKey_2 : decode cJ4_containsKey 2 = .ok (.invokevirtual 158, 3) := dk_182 0 158 (dk_at dksJ4_containsKey_0 2 rfl rfl)
theorem dJ4_containsKey_5 : decode cJ4_containsKey 5 = .ok (.ifnull 7, 3) := dk_198 0 7 (dk_at dksJ4_containsKey_0 5 rfl rfl)
theorem dJ4_containsKey_8 : decode cJ4_containsKey 8 = .ok (.iconst 1, 1) := dk_4 (dk_at dksJ4_containsKey_0 8 rfl rfl)
theorem dJ4_containsKey_9 : decode cJ4_containsKey 9 = .ok (.goto 4, 3) := dk_167 0 4 (dk_at dksJ4_containsKey_0 9 rfl rfl)
theorem dJ4_containsKey_12 : decode cJ4_containsKey 12 = .ok (.iconst 0, 1) := dk_3 (dk_at dksJ4_containsKey_0 12 rfl rfl)
theorem dJ4_containsKey_13 : decode cJ4_containsKey 13 = .ok (.ireturn, 1) := dk_172 (dk_at dksJ4_containsKey_0 13 rfl rfl)
abbrev cJ4_getNode : ByteArray := prog_42_method_13_code
def yJ4_getNode : MethodName := ⟨RJ4, "getNode", "(Ljava/lang/Object;)Ljava/util/HashMap$Node;"⟩
def dkwJ4_getNode_6 : List UInt8 := [89, 58, 4, 199, 255, 210, 1, 176]
abbrev dktJ4_getNode_6 : List UInt8 := dkwJ4_getNode_6 ++ []
def dkwJ4_getNode_5 : List UInt8 := [165, 0, 16, 43, 198, 0, 15, 43, 25, 7, 182, 0, 173, 153, 0, 6, 25, 4, 176, 25, 4, 180, 0, 177]
abbrev dktJ4_getNode_5 : List UInt8 := dkwJ4_getNode_5 ++ dktJ4_getNode_6
def dkwJ4_getNode_4 : List UInt8 := [43, 182, 0, 182, 176, 25, 4, 180, 0, 168, 21, 6, 160, 0, 31, 25, 4, 180, 0, 170, 89, 58, 7, 43]
abbrev dktJ4_getNode_4 : List UInt8 := dkwJ4_getNode_4 ++ dktJ4_getNode_5
def dkwJ4_getNode_3 : List UInt8 := [176, 45, 180, 0, 177, 89, 58, 4, 198, 0, 70, 45, 193, 0, 180, 153, 0, 14, 45, 192, 0, 180, 21, 6]
abbrev dktJ4_getNode_3 : List UInt8 := dkwJ4_getNode_3 ++ dktJ4_getNode_4
def dkwJ4_getNode_2 : List UInt8 := [180, 0, 170, 89, 58, 7, 43, 165, 0, 16, 43, 198, 0, 14, 43, 25, 7, 182, 0, 173, 153, 0, 5, 45]
abbrev dktJ4_getNode_2 : List UInt8 := dkwJ4_getNode_2 ++ dktJ4_getNode_3
def dkwJ4_getNode_1 : List UInt8 := [184, 0, 149, 89, 54, 6, 126, 50, 89, 78, 198, 0, 115, 45, 180, 0, 168, 21, 6, 160, 0, 29, 45]
abbrev dktJ4_getNode_1 : List UInt8 := dkwJ4_getNode_1 ++ dktJ4_getNode_2
def dkwJ4_getNode_0 : List UInt8 := [42, 180, 0, 105, 89, 77, 198, 0, 142, 44, 190, 89, 54, 5, 158, 0, 134, 44, 21, 5, 4, 100, 43]
abbrev dktJ4_getNode_0 : List UInt8 := dkwJ4_getNode_0 ++ dktJ4_getNode_1
theorem dksJ4_getNode_0 : cJ4_getNode.data.toList.drop 0 = dktJ4_getNode_0 := by decide +kernel
theorem dksJ4_getNode_1 : cJ4_getNode.data.toList.drop 23 = dktJ4_getNode_1 := dk_seg dksJ4_getNode_0 23 rfl rfl
theorem dksJ4_getNode_2 : cJ4_getNode.data.toList.drop 46 = dktJ4_getNode_2 := dk_seg dksJ4_getNode_1 23 rfl rfl
theorem dksJ4_getNode_3 : cJ4_getNode.data.toList.drop 70 = dktJ4_getNode_3 := dk_seg dksJ4_getNode_2 24 rfl rfl
theorem dksJ4_getNode_4 : cJ4_getNode.data.toList.drop 94 = dktJ4_getNode_4 := dk_seg dksJ4_getNode_3 24 rfl rfl
theorem dksJ4_getNode_5 : cJ4_getNode.data.toList.drop 118 = dktJ4_getNode_5 := dk_seg dksJ4_getNode_4 24 rfl rfl
theorem dksJ4_getNode_6 : cJ4_getNode.data.toList.drop 142 = dktJ4_getNode_6 := dk_seg dksJ4_getNode_5 24 rfl rfl
theorem dJ4_getNode_0 : decode cJ4_getNode 0 = .ok (.aload_n 0, 1) := dk_42 (dk_at dksJ4_getNode_0 0 rfl rfl)
theorem dJ4_getNode_1 : decode cJ4_getNode 1 = .ok (.getfield 105, 3) := dk_180 0 105 (dk_at dksJ4_getNode_0 1 rfl rfl)
theorem dJ4_getNode_4 : decode cJ4_getNode 4 = .ok (.dup, 1) := dk_89 (dk_at dksJ4_getNode_0 4 rfl rfl)
theorem dJ4_getNode_5 : decode cJ4_getNode 5 = .ok (.astore_n 2, 1) := dk_77 (dk_at dksJ4_getNode_0 5 rfl rfl)
theorem dJ4_getNode_6 : decode cJ4_getNode 6 = .ok (.ifnull 142, 3) := dk_198 0 142 (dk_at dksJ4_getNode_0 6 rfl rfl)
theorem dJ4_getNode_9 : decode cJ4_getNode 9 = .ok (.aload_n 2, 1) := dk_44 (dk_at dksJ4_getNode_0 9 rfl rfl)
theorem dJ4_getNode_10 : decode cJ4_getNode 10 = .ok (.arraylength, 1) := dk_190 (dk_at dksJ4_getNode_0 10 rfl rfl)
theorem dJ4_getNode_11 : decode cJ4_getNode 11 = .ok (.dup, 1) := dk_89 (dk_at dksJ4_getNode_0 11 rfl rfl)
theorem dJ4_getNode_12 : decode cJ4_getNode 12 = .ok (.istore 5, 2) := dk_54 5 (dk_at dksJ4_getNode_0 12 rfl rfl)
theorem dJ4_getNode_14 : decode cJ4_getNode 14 = .ok (.ifCond .le 134, 3) := dk_158 0 134 (dk_at dksJ4_getNode_0 14 rfl rfl)
theorem dJ4_getNode_17 : decode cJ4_getNode 17 = .ok (.aload_n 2, 1) := dk_44 (dk_at dksJ4_getNode_0 17 rfl rfl)
theorem dJ4_getNode_18 : decode cJ4_getNode 18 = .ok (.iload 5, 2) := dk_21 5 (dk_at dksJ4_getNode_0 18 rfl rfl)
theorem dJ4_getNode_20 : decode cJ4_getNode 20 = .ok (.iconst 1, 1) := dk_4 (dk_at dksJ4_getNode_0 20 rfl rfl)
theorem dJ4_getNode_21 : decode cJ4_getNode 21 = .ok (.isub, 1) := dk_100 (dk_at dksJ4_getNode_0 21 rfl rfl)
theorem dJ4_getNode_22 : decode cJ4_getNode 22 = .ok (.aload_n 1, 1) := dk_43 (dk_at dksJ4_getNode_0 22 rfl rfl)
theorem dJ4_getNode_23 : decode cJ4_getNode 23 = .ok (.invokestatic 149, 3) := dk_184 0 149 (dk_at dksJ4_getNode_1 0 rfl rfl)
theorem dJ4_getNode_26 : decode cJ4_getNode 26 = .ok (.dup, 1) := dk_89 (dk_at dksJ4_getNode_1 3 rfl rfl)
theorem dJ4_getNode_27 : decode cJ4_getNode 27 = .ok (.istore 6, 2) := dk_54 6 (dk_at dksJ4_getNode_1 4 rfl rfl)
theorem dJ4_getNode_29 : decode cJ4_getNode 29 = .ok (.iand, 1) := dk_126 (dk_at dksJ4_getNode_1 6 rfl rfl)
theorem dJ4_getNode_30 : decode cJ4_getNode 30 = .ok (.aaload, 1) := dk_50 (dk_at dksJ4_getNode_1 7 rfl rfl)
theorem dJ4_getNode_31 : decode cJ4_getNode 31 = .ok (.dup, 1) := dk_89 (dk_at dksJ4_getNode_1 8 rfl rfl)
theorem dJ4_getNode_32 : decode cJ4_getNode 32 = .ok (.astore_n 3, 1) := dk_78 (dk_at dksJ4_getNode_1 9 rfl rfl)
theorem dJ4_getNode_33 : decode cJ4_getNode 33 = .ok (.ifnull 115, 3) := dk_198 0 115 (dk_at dksJ4_getNode_1 10 rfl rfl)
theorem dJ4_getNode_36 : decode cJ4_getNode 36 = .ok (.aload_n 3, 1) := dk_45 (dk_at dksJ4_getNode_1 13 rfl rfl)
theorem dJ4_getNode_37 : decode cJ4_getNode 37 = .ok (.getfield 168, 3) := dk_180 0 168 (dk_at dksJ4_getNode_1 14 rfl rfl)
theorem dJ4_getNode_40 : decode cJ4_getNode 40 = .ok (.iload 6, 2) := dk_21 6 (dk_at dksJ4_getNode_1 17 rfl rfl)
theorem dJ4_getNode_42 : decode cJ4_getNode 42 = .ok (.if_icmp .ne 29, 3) := dk_160 0 29 (dk_at dksJ4_getNode_1 19 rfl rfl)
theorem dJ4_getNode_45 : decode cJ4_getNode 45 = .ok (.aload_n 3, 1) := dk_45 (dk_at dksJ4_getNode_1 22 rfl rfl)
theorem dJ4_getNode_46 : decode cJ4_getNode 46 = .ok (.getfield 170, 3) := dk_180 0 170 (dk_at dksJ4_getNode_2 0 rfl rfl)
theorem dJ4_getNode_49 : decode cJ4_getNode 49 = .ok (.dup, 1) := dk_89 (dk_at dksJ4_getNode_2 3 rfl rfl)
theorem dJ4_getNode_50 : decode cJ4_getNode 50 = .ok (.astore 7, 2) := dk_58 7 (dk_at dksJ4_getNode_2 4 rfl rfl)
theorem dJ4_getNode_52 : decode cJ4_getNode 52 = .ok (.aload_n 1, 1) := dk_43 (dk_at dksJ4_getNode_2 6 rfl rfl)
theorem dJ4_getNode_53 : decode cJ4_getNode 53 = .ok (.if_acmp .eq 16, 3) := dk_165 0 16 (dk_at dksJ4_getNode_2 7 rfl rfl)
theorem dJ4_getNode_56 : decode cJ4_getNode 56 = .ok (.aload_n 1, 1) := dk_43 (dk_at dksJ4_getNode_2 10 rfl rfl)
theorem dJ4_getNode_57 : decode cJ4_getNode 57 = .ok (.ifnull 14, 3) := dk_198 0 14 (dk_at dksJ4_getNode_2 11 rfl rfl)
theorem dJ4_getNode_60 : decode cJ4_getNode 60 = .ok (.aload_n 1, 1) := dk_43 (dk_at dksJ4_getNode_2 14 rfl rfl)
theorem dJ4_getNode_61 : decode cJ4_getNode 61 = .ok (.aload 7, 2) := dk_25 7 (dk_at dksJ4_getNode_2 15 rfl rfl)
theorem dJ4_getNode_63 : decode cJ4_getNode 63 = .ok (.invokevirtual 173, 3) := dk_182 0 173 (dk_at dksJ4_getNode_2 17 rfl rfl)
theorem dJ4_getNode_66 : decode cJ4_getNode 66 = .ok (.ifCond .eq 5, 3) := dk_153 0 5 (dk_at dksJ4_getNode_2 20 rfl rfl)
theorem dJ4_getNode_69 : decode cJ4_getNode 69 = .ok (.aload_n 3, 1) := dk_45 (dk_at dksJ4_getNode_2 23 rfl rfl)
theorem dJ4_getNode_70 : decode cJ4_getNode 70 = .ok (.areturn, 1) := dk_176 (dk_at dksJ4_getNode_3 0 rfl rfl)
theorem dJ4_getNode_71 : decode cJ4_getNode 71 = .ok (.aload_n 3, 1) := dk_45 (dk_at dksJ4_getNode_3 1 rfl rfl)
theorem dJ4_getNode_72 : decode cJ4_getNode 72 = .ok (.getfield 177, 3) := dk_180 0 177 (dk_at dksJ4_getNode_3 2 rfl rfl)
theorem dJ4_getNode_75 : decode cJ4_getNode 75 = .ok (.dup, 1) := dk_89 (dk_at dksJ4_getNode_3 5 rfl rfl)
theorem dJ4_getNode_76 : decode cJ4_getNode 76 = .ok (.astore 4, 2) := dk_58 4 (dk_at dksJ4_getNode_3 6 rfl rfl)
theorem dJ4_getNode_78 : decode cJ4_getNode 78 = .ok (.ifnull 70, 3) := dk_198 0 70 (dk_at dksJ4_getNode_3 8 rfl rfl)
theorem dJ4_getNode_81 : decode cJ4_getNode 81 = .ok (.aload_n 3, 1) := dk_45 (dk_at dksJ4_getNode_3 11 rfl rfl)
theorem dJ4_getNode_82 : decode cJ4_getNode 82 = .ok (.instanceof 180, 3) := dk_193 0 180 (dk_at dksJ4_getNode_3 12 rfl rfl)
theorem dJ4_getNode_85 : decode cJ4_getNode 85 = .ok (.ifCond .eq 14, 3) := dk_153 0 14 (dk_at dksJ4_getNode_3 15 rfl rfl)
theorem dJ4_getNode_88 : decode cJ4_getNode 88 = .ok (.aload_n 3, 1) := dk_45 (dk_at dksJ4_getNode_3 18 rfl rfl)
theorem dJ4_getNode_89 : decode cJ4_getNode 89 = .ok (.checkcast 180, 3) := dk_192 0 180 (dk_at dksJ4_getNode_3 19 rfl rfl)
theorem dJ4_getNode_92 : decode cJ4_getNode 92 = .ok (.iload 6, 2) := dk_21 6 (dk_at dksJ4_getNode_3 22 rfl rfl)
theorem dJ4_getNode_94 : decode cJ4_getNode 94 = .ok (.aload_n 1, 1) := dk_43 (dk_at dksJ4_getNode_4 0 rfl rfl)
theorem dJ4_getNode_95 : decode cJ4_getNode 95 = .ok (.invokevirtual 182, 3) := dk_182 0 182 (dk_at dksJ4_getNode_4 1 rfl rfl)
theorem dJ4_getNode_98 : decode cJ4_getNode 98 = .ok (.areturn, 1) := dk_176 (dk_at dksJ4_getNode_4 4 rfl rfl)
theorem dJ4_getNode_99 : decode cJ4_getNode 99 = .ok (.aload 4, 2) := dk_25 4 (dk_at dksJ4_getNode_4 5 rfl rfl)
theorem dJ4_getNode_101 : decode cJ4_getNode 101 = .ok (.getfield 168, 3) := dk_180 0 168 (dk_at dksJ4_getNode_4 7 rfl rfl)
theorem dJ4_getNode_104 : decode cJ4_getNode 104 = .ok (.iload 6, 2) := dk_21 6 (dk_at dksJ4_getNode_4 10 rfl rfl)
theorem dJ4_getNode_106 : decode cJ4_getNode 106 = .ok (.if_icmp .ne 31, 3) := dk_160 0 31 (dk_at dksJ4_getNode_4 12 rfl rfl)
theorem dJ4_getNode_109 : decode cJ4_getNode 109 = .ok (.aload 4, 2) := dk_25 4 (dk_at dksJ4_getNode_4 15 rfl rfl)
theorem dJ4_getNode_111 : decode cJ4_getNode 111 = .ok (.getfield 170, 3) := dk_180 0 170 (dk_at dksJ4_getNode_4 17 rfl rfl)
theorem dJ4_getNode_114 : decode cJ4_getNode 114 = .ok (.dup, 1) := dk_89 (dk_at dksJ4_getNode_4 20 rfl rfl)
theorem dJ4_getNode_115 : decode cJ4_getNode 115 = .ok (.astore 7, 2) := dk_58 7 (dk_at dksJ4_getNode_4 21 rfl rfl)
theorem dJ4_getNode_117 : decode cJ4_getNode 117 = .ok (.aload_n 1, 1) := dk_43 (dk_at dksJ4_getNode_4 23 rfl rfl)
theorem dJ4_getNode_118 : decode cJ4_getNode 118 = .ok (.if_acmp .eq 16, 3) := dk_165 0 16 (dk_at dksJ4_getNode_5 0 rfl rfl)
theorem dJ4_getNode_121 : decode cJ4_getNode 121 = .ok (.aload_n 1, 1) := dk_43 (dk_at dksJ4_getNode_5 3 rfl rfl)
theorem dJ4_getNode_122 : decode cJ4_getNode 122 = .ok (.ifnull 15, 3) := dk_198 0 15 (dk_at dksJ4_getNode_5 4 rfl rfl)
theorem dJ4_getNode_125 : decode cJ4_getNode 125 = .ok (.aload_n 1, 1) := dk_43 (dk_at dksJ4_getNode_5 7 rfl rfl)
theorem dJ4_getNode_126 : decode cJ4_getNode 126 = .ok (.aload 7, 2) := dk_25 7 (dk_at dksJ4_getNode_5 8 rfl rfl)
theorem dJ4_getNode_128 : decode cJ4_getNode 128 = .ok (.invokevirtual 173, 3) := dk_182 0 173 (dk_at dksJ4_getNode_5 10 rfl rfl)
theorem dJ4_getNode_131 : decode cJ4_getNode 131 = .ok (.ifCond .eq 6, 3) := dk_153 0 6 (dk_at dksJ4_getNode_5 13 rfl rfl)
theorem dJ4_getNode_134 : decode cJ4_getNode 134 = .ok (.aload 4, 2) := dk_25 4 (dk_at dksJ4_getNode_5 16 rfl rfl)
theorem dJ4_getNode_136 : decode cJ4_getNode 136 = .ok (.areturn, 1) := dk_176 (dk_at dksJ4_getNode_5 18 rfl rfl)
theorem dJ4_getNode_137 : decode cJ4_getNode 137 = .ok (.aload 4, 2) := dk_25 4 (dk_at dksJ4_getNode_5 19 rfl rfl)
theorem dJ4_getNode_139 : decode cJ4_getNode 139 = .ok (.getfield 177, 3) := dk_180 0 177 (dk_at dksJ4_getNode_5 21 rfl rfl)
theorem dJ4_getNode_142 : decode cJ4_getNode 142 = .ok (.dup, 1) := dk_89 (dk_at dksJ4_getNode_6 0 rfl rfl)
theorem dJ4_getNode_143 : decode cJ4_getNode 143 = .ok (.astore 4, 2) := dk_58 4 (dk_at dksJ4_getNode_6 1 rfl rfl)
theorem dJ4_getNode_145 : decode cJ4_getNode 145 = .ok (.ifnonnull (-46), 3) := dk_199 255 210 (dk_at dksJ4_getNode_6 3 rfl rfl)
theorem dJ4_getNode_148 : decode cJ4_getNode 148 = .ok (.aconst_null, 1) := dk_1 (dk_at dksJ4_getNode_6 6 rfl rfl)
theorem dJ4_getNode_149 : decode cJ4_getNode 149 = .ok (.areturn, 1) := dk_176 (dk_at dksJ4_getNode_6 7 rfl rfl)
abbrev cJ4_put : ByteArray := prog_42_method_15_code
def yJ4_put : MethodName := ⟨RJ4, "put", "(Ljava/lang/Object;Ljava/lang/Object;)Ljava/lang/Object;"⟩
def dkwJ4_put_0 : List UInt8 := [42, 43, 184, 0, 149, 43, 44, 3, 4, 182, 0, 152, 176]
abbrev dktJ4_put_0 : List UInt8 := dkwJ4_put_0 ++ []
theorem dksJ4_put_0 : cJ4_put.data.toList.drop 0 = dktJ4_put_0 := by decide +kernel
theorem dJ4_put_0 : decode cJ4_put 0 = .ok (.aload_n 0, 1) := dk_42 (dk_at dksJ4_put_0 0 rfl rfl)
theorem dJ4_put_1 : decode cJ4_put 1 = .ok (.aload_n 1, 1) := dk_43 (dk_at dksJ4_put_0 1 rfl rfl)
theorem dJ4_put_2 : decode cJ4_put 2 = .ok (.invokestatic 149, 3) := dk_184 0 149 (dk_at dksJ4_put_0 2 rfl rfl)
theorem dJ4_put_5 : decode cJ4_put 5 = .ok (.aload_n 1, 1) := dk_43 (dk_at dksJ4_put_0 5 rfl rfl)
theorem dJ4_put_6 : decode cJ4_put 6 = .ok (.aload_n 2, 1) := dk_44 (dk_at dksJ4_put_0 6 rfl rfl)
theorem dJ4_put_7 : decode cJ4_put 7 = .ok (.iconst 0, 1) := dk_3 (dk_at dksJ4_put_0 7 rfl rfl)
theorem dJ4_put_8 : decode cJ4_put 8 = .ok (.iconst 1, 1) := dk_4 (dk_at dksJ4_put_0 8 rfl rfl)
theorem dJ4_put_9 : decode cJ4_put 9 = .ok (.invokevirtual 152, 3) := dk_182 0 152 (dk_at dksJ4_put_0 9 rfl rfl)
theorem dJ4_put_12 : decode cJ4_put 12 = .ok (.areturn, 1) := dk_176 (dk_at dksJ4_put_0 12 rfl rfl)
abbrev cJ4_remove : ByteArray := prog_42_method_20_code
def yJ4_remove : MethodName := ⟨RJ4, "remove", "(Ljava/lang/Object;)Ljava/lang/Object;"⟩
def dkwJ4_remove_1 : List UInt8 := [180, 0, 162, 176]
abbrev dktJ4_remove_1 : List UInt8 := dkwJ4_remove_1 ++ []
def dkwJ4_remove_0 : List UInt8 := [42, 43, 184, 0, 149, 43, 1, 3, 4, 182, 0, 228, 89, 77, 199, 0, 7, 1, 167, 0, 7, 44]
abbrev dktJ4_remove_0 : List UInt8 := dkwJ4_remove_0 ++ dktJ4_remove_1
theorem dksJ4_remove_0 : cJ4_remove.data.toList.drop 0 = dktJ4_remove_0 := by decide +kernel
theorem dksJ4_remove_1 : cJ4_remove.data.toList.drop 22 = dktJ4_remove_1 := dk_seg dksJ4_remove_0 22 rfl rfl
theorem dJ4_remove_0 : decode cJ4_remove 0 = .ok (.aload_n 0, 1) := dk_42 (dk_at dksJ4_remove_0 0 rfl rfl)
theorem dJ4_remove_1 : decode cJ4_remove 1 = .ok (.aload_n 1, 1) := dk_43 (dk_at dksJ4_remove_0 1 rfl rfl)
theorem dJ4_remove_2 : decode cJ4_remove 2 = .ok (.invokestatic 149, 3) := dk_184 0 149 (dk_at dksJ4_remove_0 2 rfl rfl)
theorem dJ4_remove_5 : decode cJ4_remove 5 = .ok (.aload_n 1, 1) := dk_43 (dk_at dksJ4_remove_0 5 rfl rfl)
theorem dJ4_remove_6 : decode cJ4_remove 6 = .ok (.aconst_null, 1) := dk_1 (dk_at dksJ4_remove_0 6 rfl rfl)
theorem dJ4_remove_7 : decode cJ4_remove 7 = .ok (.iconst 0, 1) := dk_3 (dk_at dksJ4_remove_0 7 rfl rfl)
theorem dJ4_remove_8 : decode cJ4_remove 8 = .ok (.iconst 1, 1) := dk_4 (dk_at dksJ4_remove_0 8 rfl rfl)
theorem dJ4_remove_9 : decode cJ4_remove 9 = .ok (.invokevirtual 228, 3) := dk_182 0 228 (dk_at dksJ4_remove_0 9 rfl rfl)
theorem dJ4_remove_12 : decode cJ4_remove 12 = .ok (.dup, 1) := dk_89 (dk_at dksJ4_remove_0 12 rfl rfl)
theorem dJ4_remove_13 : decode cJ4_remove 13 = .ok (.astore_n 2, 1) := dk_77 (dk_at dksJ4_remove_0 13 rfl rfl)
theorem dJ4_remove_14 : decode cJ4_remove 14 = .ok (.ifnonnull 7, 3) := dk_199 0 7 (dk_at dksJ4_remove_0 14 rfl rfl)
theorem dJ4_remove_17 : decode cJ4_remove 17 = .ok (.aconst_null, 1) := dk_1 (dk_at dksJ4_remove_0 17 rfl rfl)
theorem dJ4_remove_18 : decode cJ4_remove 18 = .ok (.goto 7, 3) := dk_167 0 7 (dk_at dksJ4_remove_0 18 rfl rfl)
theorem dJ4_remove_21 : decode cJ4_remove 21 = .ok (.aload_n 2, 1) := dk_44 (dk_at dksJ4_remove_0 21 rfl rfl)
theorem dJ4_remove_22 : decode cJ4_remove 22 = .ok (.getfield 162, 3) := dk_180 0 162 (dk_at dksJ4_remove_1 0 rfl rfl)
theorem dJ4_remove_25 : decode cJ4_remove 25 = .ok (.areturn, 1) := dk_176 (dk_at dksJ4_remove_1 3 rfl rfl)
abbrev cJ4_removeNode : ByteArray := prog_42_method_21_code
def yJ4_removeNode : MethodName := ⟨RJ4, "removeNode", "(ILjava/lang/Object;Ljava/lang/Object;ZZ)Ljava/util/HashMap$Node;"⟩
def dkwJ4_removeNode_12 : List UInt8 := [181, 0, 156, 42, 25, 10, 182, 0, 236, 25, 10, 176, 1, 176]
abbrev dktJ4_removeNode_12 : List UInt8 := dkwJ4_removeNode_12 ++ []
def dkwJ4_removeNode_11 : List UInt8 := [180, 0, 177, 181, 0, 177, 42, 89, 180, 0, 202, 4, 96, 181, 0, 202, 42, 89, 180, 0, 156, 4, 100]
abbrev dktJ4_removeNode_11 : List UInt8 := dkwJ4_removeNode_11 ++ dktJ4_removeNode_12
def dkwJ4_removeNode_10 : List UInt8 := [25, 10, 25, 7, 166, 0, 16, 25, 6, 21, 9, 25, 10, 180, 0, 177, 83, 167, 0, 13, 25, 7, 25, 10]
abbrev dktJ4_removeNode_10 : List UInt8 := dkwJ4_removeNode_10 ++ dktJ4_removeNode_11
def dkwJ4_removeNode_9 : List UInt8 := [25, 10, 193, 0, 180, 153, 0, 19, 25, 10, 192, 0, 180, 42, 25, 6, 21, 5, 182, 0, 232, 167, 0, 33]
abbrev dktJ4_removeNode_9 : List UInt8 := dkwJ4_removeNode_9 ++ dktJ4_removeNode_10
def dkwJ4_removeNode_8 : List UInt8 := [180, 0, 162, 89, 58, 13, 45, 165, 0, 16, 45, 198, 0, 95, 45, 25, 13, 182, 0, 173, 153, 0, 86]
abbrev dktJ4_removeNode_8 : List UInt8 := dkwJ4_removeNode_8 ++ dktJ4_removeNode_9
def dkwJ4_removeNode_7 : List UInt8 := [25, 11, 180, 0, 177, 89, 58, 11, 199, 255, 203, 25, 10, 198, 0, 116, 21, 4, 153, 0, 28, 25, 10]
abbrev dktJ4_removeNode_7 : List UInt8 := dkwJ4_removeNode_7 ++ dktJ4_removeNode_8
def dkwJ4_removeNode_6 : List UInt8 := [198, 0, 19, 44, 25, 12, 182, 0, 173, 153, 0, 10, 25, 11, 58, 10, 167, 0, 18, 25, 11, 58, 7]
abbrev dktJ4_removeNode_6 : List UInt8 := dkwJ4_removeNode_6 ++ dktJ4_removeNode_7
def dkwJ4_removeNode_5 : List UInt8 := [25, 11, 180, 0, 168, 27, 160, 0, 35, 25, 11, 180, 0, 170, 89, 58, 12, 44, 165, 0, 16, 44]
abbrev dktJ4_removeNode_5 : List UInt8 := dkwJ4_removeNode_5 ++ dktJ4_removeNode_6
def dkwJ4_removeNode_4 : List UInt8 := [25, 7, 193, 0, 180, 153, 0, 18, 25, 7, 192, 0, 180, 27, 44, 182, 0, 182, 58, 10, 167, 0, 59]
abbrev dktJ4_removeNode_4 : List UInt8 := dkwJ4_removeNode_4 ++ dktJ4_removeNode_5
def dkwJ4_removeNode_3 : List UInt8 := [182, 0, 173, 153, 0, 10, 25, 7, 58, 10, 167, 0, 93, 25, 7, 180, 0, 177, 89, 58, 11, 198, 0, 82]
abbrev dktJ4_removeNode_3 : List UInt8 := dkwJ4_removeNode_3 ++ dktJ4_removeNode_4
def dkwJ4_removeNode_2 : List UInt8 := [160, 0, 35, 25, 7, 180, 0, 170, 89, 58, 12, 44, 165, 0, 16, 44, 198, 0, 19, 44, 25, 12]
abbrev dktJ4_removeNode_2 : List UInt8 := dkwJ4_removeNode_2 ++ dktJ4_removeNode_3
def dkwJ4_removeNode_1 : List UInt8 := [100, 27, 126, 89, 54, 9, 50, 89, 58, 7, 198, 0, 255, 1, 58, 10, 25, 7, 180, 0, 168, 27]
abbrev dktJ4_removeNode_1 : List UInt8 := dkwJ4_removeNode_1 ++ dktJ4_removeNode_2
def dkwJ4_removeNode_0 : List UInt8 := [42, 180, 0, 105, 89, 58, 6, 198, 1, 26, 25, 6, 190, 89, 54, 8, 158, 1, 17, 25, 6, 21, 8, 4]
abbrev dktJ4_removeNode_0 : List UInt8 := dkwJ4_removeNode_0 ++ dktJ4_removeNode_1
theorem dksJ4_removeNode_0 : cJ4_removeNode.data.toList.drop 0 = dktJ4_removeNode_0 := by decide +kernel
theorem dksJ4_removeNode_1 : cJ4_removeNode.data.toList.drop 24 = dktJ4_removeNode_1 := dk_seg dksJ4_removeNode_0 24 rfl rfl
theorem dksJ4_removeNode_2 : cJ4_removeNode.data.toList.drop 46 = dktJ4_removeNode_2 := dk_seg dksJ4_removeNode_1 22 rfl rfl
theorem dksJ4_removeNode_3 : cJ4_removeNode.data.toList.drop 68 = dktJ4_removeNode_3 := dk_seg dksJ4_removeNode_2 22 rfl rfl
theorem dksJ4_removeNode_4 : cJ4_removeNode.data.toList.drop 92 = dktJ4_removeNode_4 := dk_seg dksJ4_removeNode_3 24 rfl rfl
theorem dksJ4_removeNode_5 : cJ4_removeNode.data.toList.drop 115 = dktJ4_removeNode_5 := dk_seg dksJ4_removeNode_4 23 rfl rfl
theorem dksJ4_removeNode_6 : cJ4_removeNode.data.toList.drop 137 = dktJ4_removeNode_6 := dk_seg dksJ4_removeNode_5 22 rfl rfl
theorem dksJ4_removeNode_7 : cJ4_removeNode.data.toList.drop 160 = dktJ4_removeNode_7 := dk_seg dksJ4_removeNode_6 23 rfl rfl
theorem dksJ4_removeNode_8 : cJ4_removeNode.data.toList.drop 183 = dktJ4_removeNode_8 := dk_seg dksJ4_removeNode_7 23 rfl rfl
theorem dksJ4_removeNode_9 : cJ4_removeNode.data.toList.drop 206 = dktJ4_removeNode_9 := dk_seg dksJ4_removeNode_8 23 rfl rfl
theorem dksJ4_removeNode_10 : cJ4_removeNode.data.toList.drop 230 = dktJ4_removeNode_10 := dk_seg dksJ4_removeNode_9 24 rfl rfl
theorem dksJ4_removeNode_11 : cJ4_removeNode.data.toList.drop 254 = dktJ4_removeNode_11 := dk_seg dksJ4_removeNode_10 24 rfl rfl
theorem dksJ4_removeNode_12 : cJ4_removeNode.data.toList.drop 277 = dktJ4_removeNode_12 := dk_seg dksJ4_removeNode_11 23 rfl rfl
theorem dJ4_removeNode_0 : decode cJ4_removeNode 0 = .ok (.aload_n 0, 1) := dk_42 (dk_at dksJ4_removeNode_0 0 rfl rfl)
theorem dJ4_removeNode_1 : decode cJ4_removeNode 1 = .ok (.getfield 105, 3) := dk_180 0 105 (dk_at dksJ4_removeNode_0 1 rfl rfl)
theorem dJ4_removeNode_4 : decode cJ4_removeNode 4 = .ok (.dup, 1) := dk_89 (dk_at dksJ4_removeNode_0 4 rfl rfl)
theorem dJ4_removeNode_5 : decode cJ4_removeNode 5 = .ok (.astore 6, 2) := dk_58 6 (dk_at dksJ4_removeNode_0 5 rfl rfl)
theorem dJ4_removeNode_7 : decode cJ4_removeNode 7 = .ok (.ifnull 282, 3) := dk_198 1 26 (dk_at dksJ4_removeNode_0 7 rfl rfl)
theorem dJ4_removeNode_10 : decode cJ4_removeNode 10 = .ok (.aload 6, 2) := dk_25 6 (dk_at dksJ4_removeNode_0 10 rfl rfl)
theorem dJ4_removeNode_12 : decode cJ4_removeNode 12 = .ok (.arraylength, 1) := dk_190 (dk_at dksJ4_removeNode_0 12 rfl rfl)
theorem dJ4_removeNode_13 : decode cJ4_removeNode 13 = .ok (.dup, 1) := dk_89 (dk_at dksJ4_removeNode_0 13 rfl rfl)
theorem dJ4_removeNode_14 : decode cJ4_removeNode 14 = .ok (.istore 8, 2) := dk_54 8 (dk_at dksJ4_removeNode_0 14 rfl rfl)
theorem dJ4_removeNode_16 : decode cJ4_removeNode 16 = .ok (.ifCond .le 273, 3) := dk_158 1 17 (dk_at dksJ4_removeNode_0 16 rfl rfl)
theorem dJ4_removeNode_19 : decode cJ4_removeNode 19 = .ok (.aload 6, 2) := dk_25 6 (dk_at dksJ4_removeNode_0 19 rfl rfl)
theorem dJ4_removeNode_21 : decode cJ4_removeNode 21 = .ok (.iload 8, 2) := dk_21 8 (dk_at dksJ4_removeNode_0 21 rfl rfl)
theorem dJ4_removeNode_23 : decode cJ4_removeNode 23 = .ok (.iconst 1, 1) := dk_4 (dk_at dksJ4_removeNode_0 23 rfl rfl)
theorem dJ4_removeNode_24 : decode cJ4_removeNode 24 = .ok (.isub, 1) := dk_100 (dk_at dksJ4_removeNode_1 0 rfl rfl)
theorem dJ4_removeNode_25 : decode cJ4_removeNode 25 = .ok (.iload_n 1, 1) := dk_27 (dk_at dksJ4_removeNode_1 1 rfl rfl)
theorem dJ4_removeNode_26 : decode cJ4_removeNode 26 = .ok (.iand, 1) := dk_126 (dk_at dksJ4_removeNode_1 2 rfl rfl)
theorem dJ4_removeNode_27 : decode cJ4_removeNode 27 = .ok (.dup, 1) := dk_89 (dk_at dksJ4_removeNode_1 3 rfl rfl)
theorem dJ4_removeNode_28 : decode cJ4_removeNode 28 = .ok (.istore 9, 2) := dk_54 9 (dk_at dksJ4_removeNode_1 4 rfl rfl)
theorem dJ4_removeNode_30 : decode cJ4_removeNode 30 = .ok (.aaload, 1) := dk_50 (dk_at dksJ4_removeNode_1 6 rfl rfl)
theorem dJ4_removeNode_31 : decode cJ4_removeNode 31 = .ok (.dup, 1) := dk_89 (dk_at dksJ4_removeNode_1 7 rfl rfl)
theorem dJ4_removeNode_32 : decode cJ4_removeNode 32 = .ok (.astore 7, 2) := dk_58 7 (dk_at dksJ4_removeNode_1 8 rfl rfl)
theorem dJ4_removeNode_34 : decode cJ4_removeNode 34 = .ok (.ifnull 255, 3) := dk_198 0 255 (dk_at dksJ4_removeNode_1 10 rfl rfl)
theorem dJ4_removeNode_37 : decode cJ4_removeNode 37 = .ok (.aconst_null, 1) := dk_1 (dk_at dksJ4_removeNode_1 13 rfl rfl)
theorem dJ4_removeNode_38 : decode cJ4_removeNode 38 = .ok (.astore 10, 2) := dk_58 10 (dk_at dksJ4_removeNode_1 14 rfl rfl)
theorem dJ4_removeNode_40 : decode cJ4_removeNode 40 = .ok (.aload 7, 2) := dk_25 7 (dk_at dksJ4_removeNode_1 16 rfl rfl)
theorem dJ4_removeNode_42 : decode cJ4_removeNode 42 = .ok (.getfield 168, 3) := dk_180 0 168 (dk_at dksJ4_removeNode_1 18 rfl rfl)
theorem dJ4_removeNode_45 : decode cJ4_removeNode 45 = .ok (.iload_n 1, 1) := dk_27 (dk_at dksJ4_removeNode_1 21 rfl rfl)
theorem dJ4_removeNode_46 : decode cJ4_removeNode 46 = .ok (.if_icmp .ne 35, 3) := dk_160 0 35 (dk_at dksJ4_removeNode_2 0 rfl rfl)
theorem dJ4_removeNode_49 : decode cJ4_removeNode 49 = .ok (.aload 7, 2) := dk_25 7 (dk_at dksJ4_removeNode_2 3 rfl rfl)
theorem dJ4_removeNode_51 : decode cJ4_removeNode 51 = .ok (.getfield 170, 3) := dk_180 0 170 (dk_at dksJ4_removeNode_2 5 rfl rfl)
theorem dJ4_removeNode_54 : decode cJ4_removeNode 54 = .ok (.dup, 1) := dk_89 (dk_at dksJ4_removeNode_2 8 rfl rfl)
theorem dJ4_removeNode_55 : decode cJ4_removeNode 55 = .ok (.astore 12, 2) := dk_58 12 (dk_at dksJ4_removeNode_2 9 rfl rfl)
theorem dJ4_removeNode_57 : decode cJ4_removeNode 57 = .ok (.aload_n 2, 1) := dk_44 (dk_at dksJ4_removeNode_2 11 rfl rfl)
theorem dJ4_removeNode_58 : decode cJ4_removeNode 58 = .ok (.if_acmp .eq 16, 3) := dk_165 0 16 (dk_at dksJ4_removeNode_2 12 rfl rfl)
theorem dJ4_removeNode_61 : decode cJ4_removeNode 61 = .ok (.aload_n 2, 1) := dk_44 (dk_at dksJ4_removeNode_2 15 rfl rfl)
theorem dJ4_removeNode_62 : decode cJ4_removeNode 62 = .ok (.ifnull 19, 3) := dk_198 0 19 (dk_at dksJ4_removeNode_2 16 rfl rfl)
theorem dJ4_removeNode_65 : decode cJ4_removeNode 65 = .ok (.aload_n 2, 1) := dk_44 (dk_at dksJ4_removeNode_2 19 rfl rfl)
theorem dJ4_removeNode_66 : decode cJ4_removeNode 66 = .ok (.aload 12, 2) := dk_25 12 (dk_at dksJ4_removeNode_2 20 rfl rfl)
theorem dJ4_removeNode_68 : decode cJ4_removeNode 68 = .ok (.invokevirtual 173, 3) := dk_182 0 173 (dk_at dksJ4_removeNode_3 0 rfl rfl)
theorem dJ4_removeNode_71 : decode cJ4_removeNode 71 = .ok (.ifCond .eq 10, 3) := dk_153 0 10 (dk_at dksJ4_removeNode_3 3 rfl rfl)
theorem dJ4_removeNode_74 : decode cJ4_removeNode 74 = .ok (.aload 7, 2) := dk_25 7 (dk_at dksJ4_removeNode_3 6 rfl rfl)
theorem dJ4_removeNode_76 : decode cJ4_removeNode 76 = .ok (.astore 10, 2) := dk_58 10 (dk_at dksJ4_removeNode_3 8 rfl rfl)
theorem dJ4_removeNode_78 : decode cJ4_removeNode 78 = .ok (.goto 93, 3) := dk_167 0 93 (dk_at dksJ4_removeNode_3 10 rfl rfl)
theorem dJ4_removeNode_81 : decode cJ4_removeNode 81 = .ok (.aload 7, 2) := dk_25 7 (dk_at dksJ4_removeNode_3 13 rfl rfl)
theorem dJ4_removeNode_83 : decode cJ4_removeNode 83 = .ok (.getfield 177, 3) := dk_180 0 177 (dk_at dksJ4_removeNode_3 15 rfl rfl)
theorem dJ4_removeNode_86 : decode cJ4_removeNode 86 = .ok (.dup, 1) := dk_89 (dk_at dksJ4_removeNode_3 18 rfl rfl)
theorem dJ4_removeNode_87 : decode cJ4_removeNode 87 = .ok (.astore 11, 2) := dk_58 11 (dk_at dksJ4_removeNode_3 19 rfl rfl)
theorem dJ4_removeNode_89 : decode cJ4_removeNode 89 = .ok (.ifnull 82, 3) := dk_198 0 82 (dk_at dksJ4_removeNode_3 21 rfl rfl)
theorem dJ4_removeNode_92 : decode cJ4_removeNode 92 = .ok (.aload 7, 2) := dk_25 7 (dk_at dksJ4_removeNode_4 0 rfl rfl)
theorem dJ4_removeNode_94 : decode cJ4_removeNode 94 = .ok (.instanceof 180, 3) := dk_193 0 180 (dk_at dksJ4_removeNode_4 2 rfl rfl)
theorem dJ4_removeNode_97 : decode cJ4_removeNode 97 = .ok (.ifCond .eq 18, 3) := dk_153 0 18 (dk_at dksJ4_removeNode_4 5 rfl rfl)
theorem dJ4_removeNode_100 : decode cJ4_removeNode 100 = .ok (.aload 7, 2) := dk_25 7 (dk_at dksJ4_removeNode_4 8 rfl rfl)
theorem dJ4_removeNode_102 : decode cJ4_removeNode 102 = .ok (.checkcast 180, 3) := dk_192 0 180 (dk_at dksJ4_removeNode_4 10 rfl rfl)
theorem dJ4_removeNode_105 : decode cJ4_removeNode 105 = .ok (.iload_n 1, 1) := dk_27 (dk_at dksJ4_removeNode_4 13 rfl rfl)
theorem dJ4_removeNode_106 : decode cJ4_removeNode 106 = .ok (.aload_n 2, 1) := dk_44 (dk_at dksJ4_removeNode_4 14 rfl rfl)
theorem dJ4_removeNode_107 : decode cJ4_removeNode 107 = .ok (.invokevirtual 182, 3) := dk_182 0 182 (dk_at dksJ4_removeNode_4 15 rfl rfl)
theorem dJ4_removeNode_110 : decode cJ4_removeNode 110 = .ok (.astore 10, 2) := dk_58 10 (dk_at dksJ4_removeNode_4 18 rfl rfl)
theorem dJ4_removeNode_112 : decode cJ4_removeNode 112 = .ok (.goto 59, 3) := dk_167 0 59 (dk_at dksJ4_removeNode_4 20 rfl rfl)
theorem dJ4_removeNode_115 : decode cJ4_removeNode 115 = .ok (.aload 11, 2) := dk_25 11 (dk_at dksJ4_removeNode_5 0 rfl rfl)
theorem dJ4_removeNode_117 : decode cJ4_removeNode 117 = .ok (.getfield 168, 3) := dk_180 0 168 (dk_at dksJ4_removeNode_5 2 rfl rfl)
theorem dJ4_removeNode_120 : decode cJ4_removeNode 120 = .ok (.iload_n 1, 1) := dk_27 (dk_at dksJ4_removeNode_5 5 rfl rfl)
theorem dJ4_removeNode_121 : decode cJ4_removeNode 121 = .ok (.if_icmp .ne 35, 3) := dk_160 0 35 (dk_at dksJ4_removeNode_5 6 rfl rfl)
theorem dJ4_removeNode_124 : decode cJ4_removeNode 124 = .ok (.aload 11, 2) := dk_25 11 (dk_at dksJ4_removeNode_5 9 rfl rfl)
theorem dJ4_removeNode_126 : decode cJ4_removeNode 126 = .ok (.getfield 170, 3) := dk_180 0 170 (dk_at dksJ4_removeNode_5 11 rfl rfl)
theorem dJ4_removeNode_129 : decode cJ4_removeNode 129 = .ok (.dup, 1) := dk_89 (dk_at dksJ4_removeNode_5 14 rfl rfl)
theorem dJ4_removeNode_130 : decode cJ4_removeNode 130 = .ok (.astore 12, 2) := dk_58 12 (dk_at dksJ4_removeNode_5 15 rfl rfl)
theorem dJ4_removeNode_132 : decode cJ4_removeNode 132 = .ok (.aload_n 2, 1) := dk_44 (dk_at dksJ4_removeNode_5 17 rfl rfl)
theorem dJ4_removeNode_133 : decode cJ4_removeNode 133 = .ok (.if_acmp .eq 16, 3) := dk_165 0 16 (dk_at dksJ4_removeNode_5 18 rfl rfl)
theorem dJ4_removeNode_136 : decode cJ4_removeNode 136 = .ok (.aload_n 2, 1) := dk_44 (dk_at dksJ4_removeNode_5 21 rfl rfl)
theorem dJ4_removeNode_137 : decode cJ4_removeNode 137 = .ok (.ifnull 19, 3) := dk_198 0 19 (dk_at dksJ4_removeNode_6 0 rfl rfl)
theorem dJ4_removeNode_140 : decode cJ4_removeNode 140 = .ok (.aload_n 2, 1) := dk_44 (dk_at dksJ4_removeNode_6 3 rfl rfl)
theorem dJ4_removeNode_141 : decode cJ4_removeNode 141 = .ok (.aload 12, 2) := dk_25 12 (dk_at dksJ4_removeNode_6 4 rfl rfl)
theorem dJ4_removeNode_143 : decode cJ4_removeNode 143 = .ok (.invokevirtual 173, 3) := dk_182 0 173 (dk_at dksJ4_removeNode_6 6 rfl rfl)
theorem dJ4_removeNode_146 : decode cJ4_removeNode 146 = .ok (.ifCond .eq 10, 3) := dk_153 0 10 (dk_at dksJ4_removeNode_6 9 rfl rfl)
theorem dJ4_removeNode_149 : decode cJ4_removeNode 149 = .ok (.aload 11, 2) := dk_25 11 (dk_at dksJ4_removeNode_6 12 rfl rfl)
theorem dJ4_removeNode_151 : decode cJ4_removeNode 151 = .ok (.astore 10, 2) := dk_58 10 (dk_at dksJ4_removeNode_6 14 rfl rfl)
theorem dJ4_removeNode_153 : decode cJ4_removeNode 153 = .ok (.goto 18, 3) := dk_167 0 18 (dk_at dksJ4_removeNode_6 16 rfl rfl)
theorem dJ4_removeNode_156 : decode cJ4_removeNode 156 = .ok (.aload 11, 2) := dk_25 11 (dk_at dksJ4_removeNode_6 19 rfl rfl)
theorem dJ4_removeNode_158 : decode cJ4_removeNode 158 = .ok (.astore 7, 2) := dk_58 7 (dk_at dksJ4_removeNode_6 21 rfl rfl)
theorem dJ4_removeNode_160 : decode cJ4_removeNode 160 = .ok (.aload 11, 2) := dk_25 11 (dk_at dksJ4_removeNode_7 0 rfl rfl)
theorem dJ4_removeNode_162 : decode cJ4_removeNode 162 = .ok (.getfield 177, 3) := dk_180 0 177 (dk_at dksJ4_removeNode_7 2 rfl rfl)
theorem dJ4_removeNode_165 : decode cJ4_removeNode 165 = .ok (.dup, 1) := dk_89 (dk_at dksJ4_removeNode_7 5 rfl rfl)
theorem dJ4_removeNode_166 : decode cJ4_removeNode 166 = .ok (.astore 11, 2) := dk_58 11 (dk_at dksJ4_removeNode_7 6 rfl rfl)
theorem dJ4_removeNode_168 : decode cJ4_removeNode 168 = .ok (.ifnonnull (-53), 3) := dk_199 255 203 (dk_at dksJ4_removeNode_7 8 rfl rfl)
theorem dJ4_removeNode_171 : decode cJ4_removeNode 171 = .ok (.aload 10, 2) := dk_25 10 (dk_at dksJ4_removeNode_7 11 rfl rfl)
theorem dJ4_removeNode_173 : decode cJ4_removeNode 173 = .ok (.ifnull 116, 3) := dk_198 0 116 (dk_at dksJ4_removeNode_7 13 rfl rfl)
theorem dJ4_removeNode_176 : decode cJ4_removeNode 176 = .ok (.iload 4, 2) := dk_21 4 (dk_at dksJ4_removeNode_7 16 rfl rfl)
theorem dJ4_removeNode_178 : decode cJ4_removeNode 178 = .ok (.ifCond .eq 28, 3) := dk_153 0 28 (dk_at dksJ4_removeNode_7 18 rfl rfl)
theorem dJ4_removeNode_181 : decode cJ4_removeNode 181 = .ok (.aload 10, 2) := dk_25 10 (dk_at dksJ4_removeNode_7 21 rfl rfl)
theorem dJ4_removeNode_183 : decode cJ4_removeNode 183 = .ok (.getfield 162, 3) := dk_180 0 162 (dk_at dksJ4_removeNode_8 0 rfl rfl)
theorem dJ4_removeNode_186 : decode cJ4_removeNode 186 = .ok (.dup, 1) := dk_89 (dk_at dksJ4_removeNode_8 3 rfl rfl)
theorem dJ4_removeNode_187 : decode cJ4_removeNode 187 = .ok (.astore 13, 2) := dk_58 13 (dk_at dksJ4_removeNode_8 4 rfl rfl)
theorem dJ4_removeNode_189 : decode cJ4_removeNode 189 = .ok (.aload_n 3, 1) := dk_45 (dk_at dksJ4_removeNode_8 6 rfl rfl)
theorem dJ4_removeNode_190 : decode cJ4_removeNode 190 = .ok (.if_acmp .eq 16, 3) := dk_165 0 16 (dk_at dksJ4_removeNode_8 7 rfl rfl)
theorem dJ4_removeNode_193 : decode cJ4_removeNode 193 = .ok (.aload_n 3, 1) := dk_45 (dk_at dksJ4_removeNode_8 10 rfl rfl)
theorem dJ4_removeNode_194 : decode cJ4_removeNode 194 = .ok (.ifnull 95, 3) := dk_198 0 95 (dk_at dksJ4_removeNode_8 11 rfl rfl)
theorem dJ4_removeNode_197 : decode cJ4_removeNode 197 = .ok (.aload_n 3, 1) := dk_45 (dk_at dksJ4_removeNode_8 14 rfl rfl)
theorem dJ4_removeNode_198 : decode cJ4_removeNode 198 = .ok (.aload 13, 2) := dk_25 13 (dk_at dksJ4_removeNode_8 15 rfl rfl)
theorem dJ4_removeNode_200 : decode cJ4_removeNode 200 = .ok (.invokevirtual 173, 3) := dk_182 0 173 (dk_at dksJ4_removeNode_8 17 rfl rfl)
theorem dJ4_removeNode_203 : decode cJ4_removeNode 203 = .ok (.ifCond .eq 86, 3) := dk_153 0 86 (dk_at dksJ4_removeNode_8 20 rfl rfl)
theorem dJ4_removeNode_206 : decode cJ4_removeNode 206 = .ok (.aload 10, 2) := dk_25 10 (dk_at dksJ4_removeNode_9 0 rfl rfl)
theorem dJ4_removeNode_208 : decode cJ4_removeNode 208 = .ok (.instanceof 180, 3) := dk_193 0 180 (dk_at dksJ4_removeNode_9 2 rfl rfl)
theorem dJ4_removeNode_211 : decode cJ4_removeNode 211 = .ok (.ifCond .eq 19, 3) := dk_153 0 19 (dk_at dksJ4_removeNode_9 5 rfl rfl)
theorem dJ4_removeNode_214 : decode cJ4_removeNode 214 = .ok (.aload 10, 2) := dk_25 10 (dk_at dksJ4_removeNode_9 8 rfl rfl)
theorem dJ4_removeNode_216 : decode cJ4_removeNode 216 = .ok (.checkcast 180, 3) := dk_192 0 180 (dk_at dksJ4_removeNode_9 10 rfl rfl)
theorem dJ4_removeNode_219 : decode cJ4_removeNode 219 = .ok (.aload_n 0, 1) := dk_42 (dk_at dksJ4_removeNode_9 13 rfl rfl)
theorem dJ4_removeNode_220 : decode cJ4_removeNode 220 = .ok (.aload 6, 2) := dk_25 6 (dk_at dksJ4_removeNode_9 14 rfl rfl)
theorem dJ4_removeNode_222 : decode cJ4_removeNode 222 = .ok (.iload 5, 2) := dk_21 5 (dk_at dksJ4_removeNode_9 16 rfl rfl)
theorem dJ4_removeNode_224 : decode cJ4_removeNode 224 = .ok (.invokevirtual 232, 3) := dk_182 0 232 (dk_at dksJ4_removeNode_9 18 rfl rfl)
theorem dJ4_removeNode_227 : decode cJ4_removeNode 227 = .ok (.goto 33, 3) := dk_167 0 33 (dk_at dksJ4_removeNode_9 21 rfl rfl)
theorem dJ4_removeNode_230 : decode cJ4_removeNode 230 = .ok (.aload 10, 2) := dk_25 10 (dk_at dksJ4_removeNode_10 0 rfl rfl)
theorem dJ4_removeNode_232 : decode cJ4_removeNode 232 = .ok (.aload 7, 2) := dk_25 7 (dk_at dksJ4_removeNode_10 2 rfl rfl)
theorem dJ4_removeNode_234 : decode cJ4_removeNode 234 = .ok (.if_acmp .ne 16, 3) := dk_166 0 16 (dk_at dksJ4_removeNode_10 4 rfl rfl)
theorem dJ4_removeNode_237 : decode cJ4_removeNode 237 = .ok (.aload 6, 2) := dk_25 6 (dk_at dksJ4_removeNode_10 7 rfl rfl)
theorem dJ4_removeNode_239 : decode cJ4_removeNode 239 = .ok (.iload 9, 2) := dk_21 9 (dk_at dksJ4_removeNode_10 9 rfl rfl)
theorem dJ4_removeNode_241 : decode cJ4_removeNode 241 = .ok (.aload 10, 2) := dk_25 10 (dk_at dksJ4_removeNode_10 11 rfl rfl)
theorem dJ4_removeNode_243 : decode cJ4_removeNode 243 = .ok (.getfield 177, 3) := dk_180 0 177 (dk_at dksJ4_removeNode_10 13 rfl rfl)
theorem dJ4_removeNode_246 : decode cJ4_removeNode 246 = .ok (.aastore, 1) := dk_83 (dk_at dksJ4_removeNode_10 16 rfl rfl)
theorem dJ4_removeNode_247 : decode cJ4_removeNode 247 = .ok (.goto 13, 3) := dk_167 0 13 (dk_at dksJ4_removeNode_10 17 rfl rfl)
theorem dJ4_removeNode_250 : decode cJ4_removeNode 250 = .ok (.aload 7, 2) := dk_25 7 (dk_at dksJ4_removeNode_10 20 rfl rfl)
theorem dJ4_removeNode_252 : decode cJ4_removeNode 252 = .ok (.aload 10, 2) := dk_25 10 (dk_at dksJ4_removeNode_10 22 rfl rfl)
theorem dJ4_removeNode_254 : decode cJ4_removeNode 254 = .ok (.getfield 177, 3) := dk_180 0 177 (dk_at dksJ4_removeNode_11 0 rfl rfl)
theorem dJ4_removeNode_257 : decode cJ4_removeNode 257 = .ok (.putfield 177, 3) := dk_181 0 177 (dk_at dksJ4_removeNode_11 3 rfl rfl)
theorem dJ4_removeNode_260 : decode cJ4_removeNode 260 = .ok (.aload_n 0, 1) := dk_42 (dk_at dksJ4_removeNode_11 6 rfl rfl)
theorem dJ4_removeNode_261 : decode cJ4_removeNode 261 = .ok (.dup, 1) := dk_89 (dk_at dksJ4_removeNode_11 7 rfl rfl)
theorem dJ4_removeNode_262 : decode cJ4_removeNode 262 = .ok (.getfield 202, 3) := dk_180 0 202 (dk_at dksJ4_removeNode_11 8 rfl rfl)
theorem dJ4_removeNode_265 : decode cJ4_removeNode 265 = .ok (.iconst 1, 1) := dk_4 (dk_at dksJ4_removeNode_11 11 rfl rfl)
theorem dJ4_removeNode_266 : decode cJ4_removeNode 266 = .ok (.iadd, 1) := dk_96 (dk_at dksJ4_removeNode_11 12 rfl rfl)
theorem dJ4_removeNode_267 : decode cJ4_removeNode 267 = .ok (.putfield 202, 3) := dk_181 0 202 (dk_at dksJ4_removeNode_11 13 rfl rfl)
theorem dJ4_removeNode_270 : decode cJ4_removeNode 270 = .ok (.aload_n 0, 1) := dk_42 (dk_at dksJ4_removeNode_11 16 rfl rfl)
theorem dJ4_removeNode_271 : decode cJ4_removeNode 271 = .ok (.dup, 1) := dk_89 (dk_at dksJ4_removeNode_11 17 rfl rfl)
theorem dJ4_removeNode_272 : decode cJ4_removeNode 272 = .ok (.getfield 156, 3) := dk_180 0 156 (dk_at dksJ4_removeNode_11 18 rfl rfl)
theorem dJ4_removeNode_275 : decode cJ4_removeNode 275 = .ok (.iconst 1, 1) := dk_4 (dk_at dksJ4_removeNode_11 21 rfl rfl)
theorem dJ4_removeNode_276 : decode cJ4_removeNode 276 = .ok (.isub, 1) := dk_100 (dk_at dksJ4_removeNode_11 22 rfl rfl)
theorem dJ4_removeNode_277 : decode cJ4_removeNode 277 = .ok (.putfield 156, 3) := dk_181 0 156 (dk_at dksJ4_removeNode_12 0 rfl rfl)
theorem dJ4_removeNode_280 : decode cJ4_removeNode 280 = .ok (.aload_n 0, 1) := dk_42 (dk_at dksJ4_removeNode_12 3 rfl rfl)
theorem dJ4_removeNode_281 : decode cJ4_removeNode 281 = .ok (.aload 10, 2) := dk_25 10 (dk_at dksJ4_removeNode_12 4 rfl rfl)
theorem dJ4_removeNode_283 : decode cJ4_removeNode 283 = .ok (.invokevirtual 236, 3) := dk_182 0 236 (dk_at dksJ4_removeNode_12 6 rfl rfl)
theorem dJ4_removeNode_286 : decode cJ4_removeNode 286 = .ok (.aload 10, 2) := dk_25 10 (dk_at dksJ4_removeNode_12 9 rfl rfl)
theorem dJ4_removeNode_288 : decode cJ4_removeNode 288 = .ok (.areturn, 1) := dk_176 (dk_at dksJ4_removeNode_12 11 rfl rfl)
theorem dJ4_removeNode_289 : decode cJ4_removeNode 289 = .ok (.aconst_null, 1) := dk_1 (dk_at dksJ4_removeNode_12 12 rfl rfl)
theorem dJ4_removeNode_290 : decode cJ4_removeNode 290 = .ok (.areturn, 1) := dk_176 (dk_at dksJ4_removeNode_12 13 rfl rfl)
abbrev cJ4_afterNodeRemoval : ByteArray := prog_42_method_53_code
def yJ4_afterNodeRemoval : MethodName := ⟨RJ4, "afterNodeRemoval", "(Ljava/util/HashMap$Node;)V"⟩
theorem dJ4_afterNodeRemoval_0 : decode cJ4_afterNodeRemoval 0 = .ok (.return_, 1) := by decide +kernel
abbrev cJ4_get : ByteArray := prog_42_method_12_code
def yJ4_get : MethodName := ⟨RJ4, "get", "(Ljava/lang/Object;)Ljava/lang/Object;"⟩
def dkwJ4_get_0 : List UInt8 := [42, 43, 182, 0, 158, 89, 77, 199, 0, 7, 1, 167, 0, 7, 44, 180, 0, 162, 176]
abbrev dktJ4_get_0 : List UInt8 := dkwJ4_get_0 ++ []
theorem dksJ4_get_0 : cJ4_get.data.toList.drop 0 = dktJ4_get_0 := by decide +kernel
theorem dJ4_get_0 : decode cJ4_get 0 = .ok (.aload_n 0, 1) := dk_42 (dk_at dksJ4_get_0 0 rfl rfl)
theorem dJ4_get_1 : decode cJ4_get 1 = .ok (.aload_n 1, 1) := dk_43 (dk_at dksJ4_get_0 1 rfl rfl)
theorem dJ4_get_2 : decode cJ4_get 2 = .ok (.invokevirtual 158, 3) := dk_182 0 158 (dk_at dksJ4_get_0 2 rfl rfl)
theorem dJ4_get_5 : decode cJ4_get 5 = .ok (.dup, 1) := dk_89 (dk_at dksJ4_get_0 5 rfl rfl)
theorem dJ4_get_6 : decode cJ4_get 6 = .ok (.astore_n 2, 1) := dk_77 (dk_at dksJ4_get_0 6 rfl rfl)
theorem dJ4_get_7 : decode cJ4_get 7 = .ok (.ifnonnull 7, 3) := dk_199 0 7 (dk_at dksJ4_get_0 7 rfl rfl)
theorem dJ4_get_10 : decode cJ4_get 10 = .ok (.aconst_null, 1) := dk_1 (dk_at dksJ4_get_0 10 rfl rfl)
theorem dJ4_get_11 : decode cJ4_get 11 = .ok (.goto 7, 3) := dk_167 0 7 (dk_at dksJ4_get_0 11 rfl rfl)
theorem dJ4_get_14 : decode cJ4_get 14 = .ok (.aload_n 2, 1) := dk_44 (dk_at dksJ4_get_0 14 rfl rfl)
theorem dJ4_get_15 : decode cJ4_get 15 = .ok (.getfield 162, 3) := dk_180 0 162 (dk_at dksJ4_get_0 15 rfl rfl)
theorem dJ4_get_18 : decode cJ4_get 18 = .ok (.areturn, 1) := dk_176 (dk_at dksJ4_get_0 18 rfl rfl)
theorem q83 : (Jvm.Cond.initialized "java/util/HashMap") ∈ lw_all := lw_g (lw_at lw_m1 7 rfl) rfl
theorem q166 : (Jvm.Cond.instantiable "java/util/HashMap" (8 : Nat)) ∈ lw_all := lw_g (lw_at lw_m1 90 rfl) rfl
theorem q168 : (Jvm.Cond.instanceMethod ({ cls := "java/util/HashMap", name := "<init>", desc := "()V" } : Jvm.MethodName)) ∈ lw_all := lw_g (lw_at lw_m1 92 rfl) rfl
theorem q169 : (Jvm.Cond.code ({ cls := "java/util/HashMap", name := "<init>", desc := "()V" } : Jvm.MethodName) prog_42_method_7_code (1 : Nat) (Option.none : Option Jvm.ClassFile.FieldType)) ∈ lw_all := lw_g (lw_at lw_m1 93 rfl) rfl
theorem q170 : (Jvm.Cond.methodLink "java/util/HashMap" (43 : Nat) ({ cls := "java/util/AbstractMap", name := "<init>", desc := "()V" } : Jvm.MethodName)) ∈ lw_all := lw_g (lw_at lw_m1 94 rfl) rfl
theorem q174 : (Jvm.Cond.constantFloat "java/util/HashMap" (92 : Nat) (1061158912 : UInt32)) ∈ lw_all := lw_g (lw_at lw_m1 98 rfl) rfl
theorem q176 : (Jvm.Cond.fieldLink "java/util/HashMap" (105 : Nat) "java/util/HashMap" "table" "[Ljava/util/HashMap$Node;") ∈ lw_all := lw_g (lw_at lw_m1 100 rfl) rfl
theorem q177 : (Jvm.Cond.fieldLink "java/util/HashMap" (266 : Nat) "java/util/HashMap" "entrySet" "Ljava/util/Set;") ∈ lw_all := lw_g (lw_at lw_m1 101 rfl) rfl
theorem q179 : (Jvm.Cond.fieldLink "java/util/HashMap" (156 : Nat) "java/util/HashMap" "size" "I") ∈ lw_all := lw_g (lw_at lw_m1 103 rfl) rfl
theorem q181 : (Jvm.Cond.fieldLink "java/util/HashMap" (202 : Nat) "java/util/HashMap" "modCount" "I") ∈ lw_all := lw_g (lw_at lw_m1 105 rfl) rfl
theorem q182 : (Jvm.Cond.fieldLink "java/util/HashMap" (88 : Nat) "java/util/HashMap" "threshold" "I") ∈ lw_all := lw_g (lw_at lw_m1 106 rfl) rfl
theorem q183 : (Jvm.Cond.fieldLink "java/util/HashMap" (81 : Nat) "java/util/HashMap" "loadFactor" "F") ∈ lw_all := lw_g (lw_at lw_m1 107 rfl) rfl
theorem q184 : (Jvm.Cond.lays "java/util/HashMap" "java/util/HashMap" "table" "[Ljava/util/HashMap$Node;") ∈ lw_all := lw_g (lw_at lw_m1 108 rfl) rfl
theorem q185 : (Jvm.Cond.soleField "java/util/HashMap" "table") ∈ lw_all := lw_g (lw_at lw_m1 109 rfl) rfl
theorem q186 : (Jvm.Cond.lays "java/util/HashMap" "java/util/HashMap" "entrySet" "Ljava/util/Set;") ∈ lw_all := lw_g (lw_at lw_m1 110 rfl) rfl
theorem q187 : (Jvm.Cond.soleField "java/util/HashMap" "entrySet") ∈ lw_all := lw_g (lw_at lw_m1 111 rfl) rfl
theorem q188 : (Jvm.Cond.lays "java/util/HashMap" "java/util/HashMap" "size" "I") ∈ lw_all := lw_g (lw_at lw_m1 112 rfl) rfl
theorem q189 : (Jvm.Cond.soleField "java/util/HashMap" "size") ∈ lw_all := lw_g (lw_at lw_m1 113 rfl) rfl
theorem q190 : (Jvm.Cond.lays "java/util/HashMap" "java/util/HashMap" "modCount" "I") ∈ lw_all := lw_g (lw_at lw_m1 114 rfl) rfl
theorem q191 : (Jvm.Cond.soleField "java/util/HashMap" "modCount") ∈ lw_all := lw_g (lw_at lw_m1 115 rfl) rfl
theorem q192 : (Jvm.Cond.lays "java/util/HashMap" "java/util/HashMap" "threshold" "I") ∈ lw_all := lw_g (lw_at lw_m1 116 rfl) rfl
theorem q193 : (Jvm.Cond.soleField "java/util/HashMap" "threshold") ∈ lw_all := lw_g (lw_at lw_m1 117 rfl) rfl
theorem q194 : (Jvm.Cond.laysFinal "java/util/HashMap" "java/util/HashMap" "loadFactor" "F") ∈ lw_all := lw_g (lw_at lw_m1 118 rfl) rfl
theorem q195 : (Jvm.Cond.soleField "java/util/HashMap" "loadFactor") ∈ lw_all := lw_g (lw_at lw_m1 119 rfl) rfl
theorem q196 : (Jvm.Cond.lays "java/util/HashMap" "java/util/AbstractMap" "keySet" "Ljava/util/Set;") ∈ lw_all := lw_g (lw_at lw_m1 120 rfl) rfl
theorem q198 : (Jvm.Cond.lays "java/util/HashMap" "java/util/AbstractMap" "values" "Ljava/util/Collection;") ∈ lw_all := lw_g (lw_at lw_m1 122 rfl) rfl
theorem q200 : (Jvm.Cond.superclass "java/util/HashMap" "java/util/AbstractMap") ∈ lw_all := lw_g (lw_at lw_m1 124 rfl) rfl
theorem q492 : (Jvm.Cond.selects "java/util/HashMap" ({ cls := "java/lang/Object", name := "getClass", desc := "()Ljava/lang/Class;" } : Jvm.MethodName) ({ cls := "java/lang/Object", name := "getClass", desc := "()Ljava/lang/Class;" } : Jvm.MethodName)) ∈ lw_all := lw_g (lw_at lw_m2 176 rfl) rfl
theorem q677 : (Jvm.Cond.castable "java/util/HashMap" "java/util/Map") ∈ lw_tbl := lw_at lw_m3 121 rfl
theorem q678 : (Jvm.Cond.selects "java/util/HashMap" ({ cls := "java/util/Map", name := "putAll", desc := "(Ljava/util/Map;)V" } : Jvm.MethodName) ({ cls := "java/util/HashMap", name := "putAll", desc := "(Ljava/util/Map;)V" } : Jvm.MethodName)) ∈ lw_all := lw_g (lw_at lw_m3 122 rfl) rfl
theorem q679 : (Jvm.Cond.unhidden "java/util/HashMap" "putAll" "(Ljava/util/Map;)V") ∈ lw_tbl := lw_at lw_m3 123 rfl
theorem q680 : (Jvm.Cond.instanceMethod ({ cls := "java/util/HashMap", name := "putAll", desc := "(Ljava/util/Map;)V" } : Jvm.MethodName)) ∈ lw_all := lw_g (lw_at lw_m3 124 rfl) rfl
theorem q681 : (Jvm.Cond.publicMethod ({ cls := "java/util/HashMap", name := "putAll", desc := "(Ljava/util/Map;)V" } : Jvm.MethodName)) ∈ lw_tbl := lw_at lw_m3 125 rfl
theorem q682 : (Jvm.Cond.code ({ cls := "java/util/HashMap", name := "putAll", desc := "(Ljava/util/Map;)V" } : Jvm.MethodName) prog_42_method_19_code (2 : Nat) (Option.none : Option Jvm.ClassFile.FieldType)) ∈ lw_all := lw_g (lw_at lw_m3 126 rfl) rfl
theorem q683 : (Jvm.Cond.methodLink "java/util/HashMap" (96 : Nat) ({ cls := "java/util/HashMap", name := "putMapEntries", desc := "(Ljava/util/Map;Z)V" } : Jvm.MethodName)) ∈ lw_all := lw_g (lw_at lw_m3 127 rfl) rfl
theorem q684 : (Jvm.Cond.instanceMethod ({ cls := "java/util/HashMap", name := "putMapEntries", desc := "(Ljava/util/Map;Z)V" } : Jvm.MethodName)) ∈ lw_all := lw_g (lw_at lw_m3 128 rfl) rfl
theorem q685 : (Jvm.Cond.selects "java/util/HashMap" ({ cls := "java/util/HashMap", name := "putMapEntries", desc := "(Ljava/util/Map;Z)V" } : Jvm.MethodName) ({ cls := "java/util/HashMap", name := "putMapEntries", desc := "(Ljava/util/Map;Z)V" } : Jvm.MethodName)) ∈ lw_all := lw_g (lw_at lw_m3 129 rfl) rfl
theorem q686 : (Jvm.Cond.code ({ cls := "java/util/HashMap", name := "putMapEntries", desc := "(Ljava/util/Map;Z)V" } : Jvm.MethodName) prog_42_method_9_code (8 : Nat) (Option.none : Option Jvm.ClassFile.FieldType)) ∈ lw_all := lw_g (lw_at lw_m3 130 rfl) rfl
theorem q687 : (Jvm.Cond.interfaceEntry "java/util/HashMap" (100 : Nat)) ∈ lw_tbl := lw_at lw_m3 131 rfl
theorem q688 : (Jvm.Cond.methodLink "java/util/HashMap" (100 : Nat) ({ cls := "java/util/Map", name := "size", desc := "()I" } : Jvm.MethodName)) ∈ lw_all := lw_g (lw_at lw_m3 132 rfl) rfl
theorem q691 : (Jvm.Cond.selects "java/util/HashMap" ({ cls := "java/util/Map", name := "size", desc := "()I" } : Jvm.MethodName) ({ cls := "java/util/HashMap", name := "size", desc := "()I" } : Jvm.MethodName)) ∈ lw_all := lw_g (lw_at lw_m3 135 rfl) rfl
theorem q692 : (Jvm.Cond.unhidden "java/util/HashMap" "size" "()I") ∈ lw_tbl := lw_at lw_m3 136 rfl
theorem q693 : (Jvm.Cond.instanceMethod ({ cls := "java/util/HashMap", name := "size", desc := "()I" } : Jvm.MethodName)) ∈ lw_all := lw_g (lw_at lw_m3 137 rfl) rfl
theorem q694 : (Jvm.Cond.publicMethod ({ cls := "java/util/HashMap", name := "size", desc := "()I" } : Jvm.MethodName)) ∈ lw_tbl := lw_at lw_m3 138 rfl
theorem q695 : (Jvm.Cond.code ({ cls := "java/util/HashMap", name := "size", desc := "()I" } : Jvm.MethodName) prog_42_method_10_code (1 : Nat) (Option.some Jvm.ClassFile.FieldType.int)) ∈ lw_all := lw_g (lw_at lw_m3 139 rfl) rfl
theorem q696 : (Jvm.Cond.methodLink "java/util/HashMap" (109 : Nat) ({ cls := "java/lang/Math", name := "ceil", desc := "(D)D" } : Jvm.MethodName)) ∈ lw_all := lw_g (lw_at lw_m3 140 rfl) rfl
theorem q722 : (Jvm.Cond.constantDouble "java/util/HashMap" (115 : Nat) (4742290407621132288 : UInt64)) ∈ lw_all := lw_g (lw_at lw_m3 166 rfl) rfl
theorem q723 : (Jvm.Cond.constant "java/util/HashMap" (42 : Nat) (1073741824 : Int32)) ∈ lw_all := lw_g (lw_at lw_m3 167 rfl) rfl
theorem q724 : (Jvm.Cond.methodLink "java/util/HashMap" (85 : Nat) ({ cls := "java/util/HashMap", name := "tableSizeFor", desc := "(I)I" } : Jvm.MethodName)) ∈ lw_all := lw_g (lw_at lw_m3 168 rfl) rfl
theorem q725 : (Jvm.Cond.static ({ cls := "java/util/HashMap", name := "tableSizeFor", desc := "(I)I" } : Jvm.MethodName)) ∈ lw_all := lw_g (lw_at lw_m3 169 rfl) rfl
theorem q726 : (Jvm.Cond.code ({ cls := "java/util/HashMap", name := "tableSizeFor", desc := "(I)I" } : Jvm.MethodName) prog_42_method_4_code (2 : Nat) (Option.some Jvm.ClassFile.FieldType.int)) ∈ lw_all := lw_g (lw_at lw_m3 170 rfl) rfl
theorem q727 : (Jvm.Cond.methodLink "java/util/HashMap" (34 : Nat) ({ cls := "java/lang/Integer", name := "numberOfLeadingZeros", desc := "(I)I" } : Jvm.MethodName)) ∈ lw_all := lw_g (lw_at lw_m3 171 rfl) rfl
theorem q731 : (Jvm.Cond.methodLink "java/util/HashMap" (117 : Nat) ({ cls := "java/util/HashMap", name := "resize", desc := "()[Ljava/util/HashMap$Node;" } : Jvm.MethodName)) ∈ lw_all := lw_g (lw_at lw_m3 175 rfl) rfl
theorem q732 : (Jvm.Cond.instanceMethod ({ cls := "java/util/HashMap", name := "resize", desc := "()[Ljava/util/HashMap$Node;" } : Jvm.MethodName)) ∈ lw_all := lw_g (lw_at lw_m3 176 rfl) rfl
theorem q733 : (Jvm.Cond.selects "java/util/HashMap" ({ cls := "java/util/HashMap", name := "resize", desc := "()[Ljava/util/HashMap$Node;" } : Jvm.MethodName) ({ cls := "java/util/HashMap", name := "resize", desc := "()[Ljava/util/HashMap$Node;" } : Jvm.MethodName)) ∈ lw_all := lw_g (lw_at lw_m3 177 rfl) rfl
theorem q734 : (Jvm.Cond.code ({ cls := "java/util/HashMap", name := "resize", desc := "()[Ljava/util/HashMap$Node;" } : Jvm.MethodName) prog_42_method_17_code (14 : Nat) (Option.some (Jvm.ClassFile.FieldType.array (Jvm.ClassFile.FieldType.object "java/util/HashMap$Node")))) ∈ lw_all := lw_g (lw_at lw_m3 178 rfl) rfl
theorem q735 : (Jvm.Cond.constant "java/util/HashMap" (209 : Nat) (2147483647 : Int32)) ∈ lw_all := lw_g (lw_at lw_m3 179 rfl) rfl
theorem q736 : (Jvm.Cond.constantFloat "java/util/HashMap" (210 : Nat) (1317011456 : UInt32)) ∈ lw_all := lw_g (lw_at lw_m3 180 rfl) rfl
theorem q737 : (Jvm.Cond.classLink "java/util/HashMap" (163 : Nat) "java/util/HashMap$Node") ∈ lw_all := lw_g (lw_at lw_m3 181 rfl) rfl
theorem q739 : (Jvm.Cond.classLink "java/util/HashMap" (180 : Nat) "java/util/HashMap$TreeNode") ∈ lw_all := lw_g (lw_at lw_m3 183 rfl) rfl
theorem q740 : (Jvm.Cond.methodLink "java/util/HashMap" (211 : Nat) ({ cls := "java/util/HashMap$TreeNode", name := "split", desc := "(Ljava/util/HashMap;[Ljava/util/HashMap$Node;II)V" } : Jvm.MethodName)) ∈ lw_all := lw_g (lw_at lw_m3 184 rfl) rfl
theorem q750 : (Jvm.Cond.instanceMethod ({ cls := "java/util/HashMap", name := "replacementNode", desc := "(Ljava/util/HashMap$Node;Ljava/util/HashMap$Node;)Ljava/util/HashMap$Node;" } : Jvm.MethodName)) ∈ lw_all := lw_g (lw_at lw_m3 194 rfl) rfl
theorem q751 : (Jvm.Cond.selects "java/util/HashMap" ({ cls := "java/util/HashMap", name := "replacementNode", desc := "(Ljava/util/HashMap$Node;Ljava/util/HashMap$Node;)Ljava/util/HashMap$Node;" } : Jvm.MethodName) ({ cls := "java/util/HashMap", name := "replacementNode", desc := "(Ljava/util/HashMap$Node;Ljava/util/HashMap$Node;)Ljava/util/HashMap$Node;" } : Jvm.MethodName)) ∈ lw_all := lw_g (lw_at lw_m3 195 rfl) rfl
theorem q752 : (Jvm.Cond.code ({ cls := "java/util/HashMap", name := "replacementNode", desc := "(Ljava/util/HashMap$Node;Ljava/util/HashMap$Node;)Ljava/util/HashMap$Node;" } : Jvm.MethodName) prog_42_method_47_code (3 : Nat) (Option.some (Jvm.ClassFile.FieldType.object "java/util/HashMap$Node"))) ∈ lw_all := lw_g (lw_at lw_m3 196 rfl) rfl
theorem q754 : (Jvm.Cond.methodLink "java/util/HashMap" (375 : Nat) ({ cls := "java/util/HashMap$Node", name := "<init>", desc := "(ILjava/lang/Object;Ljava/lang/Object;Ljava/util/HashMap$Node;)V" } : Jvm.MethodName)) ∈ lw_all := lw_g (lw_at lw_m3 198 rfl) rfl
theorem q761 : (Jvm.Cond.fieldLink "java/util/HashMap" (168 : Nat) "java/util/HashMap$Node" "hash" "I") ∈ lw_all := lw_g (lw_at lw_m3 205 rfl) rfl
theorem q765 : (Jvm.Cond.fieldLink "java/util/HashMap" (170 : Nat) "java/util/HashMap$Node" "key" "Ljava/lang/Object;") ∈ lw_all := lw_g (lw_at lw_m3 209 rfl) rfl
theorem q767 : (Jvm.Cond.fieldLink "java/util/HashMap" (162 : Nat) "java/util/HashMap$Node" "value" "Ljava/lang/Object;") ∈ lw_all := lw_g (lw_at lw_m3 211 rfl) rfl
theorem q773 : (Jvm.Cond.fieldLink "java/util/HashMap" (177 : Nat) "java/util/HashMap$Node" "next" "Ljava/util/HashMap$Node;") ∈ lw_all := lw_g (lw_at lw_m3 217 rfl) rfl
theorem q774 : (Jvm.Cond.fieldLink "java/util/HashMap" (223 : Nat) "java/util/HashMap$TreeNode" "next" "Ljava/util/HashMap$Node;") ∈ lw_all := lw_g (lw_at lw_m3 218 rfl) rfl
theorem q789 : (Jvm.Cond.static ({ cls := "java/util/HashMap", name := "comparableClassFor", desc := "(Ljava/lang/Object;)Ljava/lang/Class;" } : Jvm.MethodName)) ∈ lw_all := lw_g (lw_at lw_m3 233 rfl) rfl
theorem q790 : (Jvm.Cond.code ({ cls := "java/util/HashMap", name := "comparableClassFor", desc := "(Ljava/lang/Object;)Ljava/lang/Class;" } : Jvm.MethodName) prog_42_method_2_code (9 : Nat) (Option.some (Jvm.ClassFile.FieldType.object "java/lang/Class"))) ∈ lw_all := lw_g (lw_at lw_m3 234 rfl) rfl
theorem q791 : (Jvm.Cond.classLink "java/util/HashMap" (7 : Nat) "java/lang/Comparable") ∈ lw_all := lw_g (lw_at lw_m3 235 rfl) rfl
theorem q792 : (Jvm.Cond.methodLink "java/util/HashMap" (9 : Nat) ({ cls := "java/lang/Object", name := "getClass", desc := "()Ljava/lang/Class;" } : Jvm.MethodName)) ∈ lw_all := lw_g (lw_at lw_m3 236 rfl) rfl
theorem q793 : (Jvm.Cond.classLink "java/util/HashMap" (13 : Nat) "java/lang/String") ∈ lw_all := lw_g (lw_at lw_m3 237 rfl) rfl
theorem q795 : (Jvm.Cond.static ({ cls := "java/util/HashMap", name := "compareComparables", desc := "(Ljava/lang/Class;Ljava/lang/Object;Ljava/lang/Object;)I" } : Jvm.MethodName)) ∈ lw_all := lw_g (lw_at lw_m3 239 rfl) rfl
theorem q796 : (Jvm.Cond.code ({ cls := "java/util/HashMap", name := "compareComparables", desc := "(Ljava/lang/Class;Ljava/lang/Object;Ljava/lang/Object;)I" } : Jvm.MethodName) prog_42_method_3_code (3 : Nat) (Option.some Jvm.ClassFile.FieldType.int)) ∈ lw_all := lw_g (lw_at lw_m4 0 rfl) rfl
theorem q797 : (Jvm.Cond.interfaceEntry "java/util/HashMap" (30 : Nat)) ∈ lw_tbl := lw_at lw_m4 1 rfl
theorem q798 : (Jvm.Cond.methodLink "java/util/HashMap" (30 : Nat) ({ cls := "java/lang/Comparable", name := "compareTo", desc := "(Ljava/lang/Object;)I" } : Jvm.MethodName)) ∈ lw_all := lw_g (lw_at lw_m4 2 rfl) rfl
theorem q1002 : (Jvm.Cond.interfaceEntry "java/util/HashMap" (121 : Nat)) ∈ lw_tbl := lw_at lw_m4 206 rfl
theorem q1003 : (Jvm.Cond.methodLink "java/util/HashMap" (121 : Nat) ({ cls := "java/util/Map", name := "entrySet", desc := "()Ljava/util/Set;" } : Jvm.MethodName)) ∈ lw_all := lw_g (lw_at lw_m4 207 rfl) rfl
theorem q1006 : (Jvm.Cond.selects "java/util/HashMap" ({ cls := "java/util/Map", name := "entrySet", desc := "()Ljava/util/Set;" } : Jvm.MethodName) ({ cls := "java/util/HashMap", name := "entrySet", desc := "()Ljava/util/Set;" } : Jvm.MethodName)) ∈ lw_all := lw_g (lw_at lw_m4 210 rfl) rfl
theorem q1007 : (Jvm.Cond.unhidden "java/util/HashMap" "entrySet" "()Ljava/util/Set;") ∈ lw_tbl := lw_at lw_m4 211 rfl
theorem q1008 : (Jvm.Cond.instanceMethod ({ cls := "java/util/HashMap", name := "entrySet", desc := "()Ljava/util/Set;" } : Jvm.MethodName)) ∈ lw_all := lw_g (lw_at lw_m4 212 rfl) rfl
theorem q1009 : (Jvm.Cond.publicMethod ({ cls := "java/util/HashMap", name := "entrySet", desc := "()Ljava/util/Set;" } : Jvm.MethodName)) ∈ lw_tbl := lw_at lw_m4 213 rfl
theorem q1010 : (Jvm.Cond.code ({ cls := "java/util/HashMap", name := "entrySet", desc := "()Ljava/util/Set;" } : Jvm.MethodName) prog_42_method_29_code (2 : Nat) (Option.some (Jvm.ClassFile.FieldType.object "java/util/Set"))) ∈ lw_all := lw_g (lw_at lw_m4 214 rfl) rfl
theorem q1011 : (Jvm.Cond.classLink "java/util/HashMap" (268 : Nat) "java/util/HashMap$EntrySet") ∈ lw_all := lw_g (lw_at lw_m4 215 rfl) rfl
theorem q1013 : (Jvm.Cond.methodLink "java/util/HashMap" (270 : Nat) ({ cls := "java/util/HashMap$EntrySet", name := "<init>", desc := "(Ljava/util/HashMap;)V" } : Jvm.MethodName)) ∈ lw_all := lw_g (lw_at lw_m4 217 rfl) rfl
theorem q1024 : (Jvm.Cond.interfaceEntry "java/util/HashMap" (125 : Nat)) ∈ lw_tbl := lw_at lw_m4 228 rfl
theorem q1025 : (Jvm.Cond.methodLink "java/util/HashMap" (125 : Nat) ({ cls := "java/util/Set", name := "iterator", desc := "()Ljava/util/Iterator;" } : Jvm.MethodName)) ∈ lw_all := lw_g (lw_at lw_m4 229 rfl) rfl
theorem q1059 : (Jvm.Cond.interfaceEntry "java/util/HashMap" (131 : Nat)) ∈ lw_tbl := lw_at lw_m5 23 rfl
theorem q1060 : (Jvm.Cond.methodLink "java/util/HashMap" (131 : Nat) ({ cls := "java/util/Iterator", name := "hasNext", desc := "()Z" } : Jvm.MethodName)) ∈ lw_all := lw_g (lw_at lw_m5 24 rfl) rfl
theorem q1061 : (Jvm.Cond.interfaceEntry "java/util/HashMap" (137 : Nat)) ∈ lw_tbl := lw_at lw_m5 25 rfl
theorem q1062 : (Jvm.Cond.methodLink "java/util/HashMap" (137 : Nat) ({ cls := "java/util/Iterator", name := "next", desc := "()Ljava/lang/Object;" } : Jvm.MethodName)) ∈ lw_all := lw_g (lw_at lw_m5 26 rfl) rfl
theorem q1063 : (Jvm.Cond.classLink "java/util/HashMap" (141 : Nat) "java/util/Map$Entry") ∈ lw_all := lw_g (lw_at lw_m5 27 rfl) rfl
theorem q1064 : (Jvm.Cond.interfaceEntry "java/util/HashMap" (143 : Nat)) ∈ lw_tbl := lw_at lw_m5 28 rfl
theorem q1065 : (Jvm.Cond.methodLink "java/util/HashMap" (143 : Nat) ({ cls := "java/util/Map$Entry", name := "getKey", desc := "()Ljava/lang/Object;" } : Jvm.MethodName)) ∈ lw_all := lw_g (lw_at lw_m5 29 rfl) rfl
theorem q1077 : (Jvm.Cond.interfaceEntry "java/util/HashMap" (146 : Nat)) ∈ lw_tbl := lw_at lw_m5 41 rfl
theorem q1078 : (Jvm.Cond.methodLink "java/util/HashMap" (146 : Nat) ({ cls := "java/util/Map$Entry", name := "getValue", desc := "()Ljava/lang/Object;" } : Jvm.MethodName)) ∈ lw_all := lw_g (lw_at lw_m5 42 rfl) rfl
theorem q1088 : (Jvm.Cond.methodLink "java/util/HashMap" (149 : Nat) ({ cls := "java/util/HashMap", name := "hash", desc := "(Ljava/lang/Object;)I" } : Jvm.MethodName)) ∈ lw_all := lw_g (lw_at lw_m5 52 rfl) rfl
theorem q1089 : (Jvm.Cond.static ({ cls := "java/util/HashMap", name := "hash", desc := "(Ljava/lang/Object;)I" } : Jvm.MethodName)) ∈ lw_all := lw_g (lw_at lw_m5 53 rfl) rfl
theorem q1090 : (Jvm.Cond.code ({ cls := "java/util/HashMap", name := "hash", desc := "(Ljava/lang/Object;)I" } : Jvm.MethodName) prog_42_method_1_code (2 : Nat) (Option.some Jvm.ClassFile.FieldType.int)) ∈ lw_all := lw_g (lw_at lw_m5 54 rfl) rfl
theorem q1092 : (Jvm.Cond.methodLink "java/util/HashMap" (1 : Nat) ({ cls := "java/lang/Object", name := "hashCode", desc := "()I" } : Jvm.MethodName)) ∈ lw_all := lw_g (lw_at lw_m5 56 rfl) rfl
theorem q1117 : (Jvm.Cond.methodLink "java/util/HashMap" (152 : Nat) ({ cls := "java/util/HashMap", name := "putVal", desc := "(ILjava/lang/Object;Ljava/lang/Object;ZZ)Ljava/lang/Object;" } : Jvm.MethodName)) ∈ lw_all := lw_g (lw_at lw_m5 81 rfl) rfl
theorem q1118 : (Jvm.Cond.instanceMethod ({ cls := "java/util/HashMap", name := "putVal", desc := "(ILjava/lang/Object;Ljava/lang/Object;ZZ)Ljava/lang/Object;" } : Jvm.MethodName)) ∈ lw_all := lw_g (lw_at lw_m5 82 rfl) rfl
theorem q1119 : (Jvm.Cond.selects "java/util/HashMap" ({ cls := "java/util/HashMap", name := "putVal", desc := "(ILjava/lang/Object;Ljava/lang/Object;ZZ)Ljava/lang/Object;" } : Jvm.MethodName) ({ cls := "java/util/HashMap", name := "putVal", desc := "(ILjava/lang/Object;Ljava/lang/Object;ZZ)Ljava/lang/Object;" } : Jvm.MethodName)) ∈ lw_all := lw_g (lw_at lw_m5 83 rfl) rfl
theorem q1120 : (Jvm.Cond.code ({ cls := "java/util/HashMap", name := "putVal", desc := "(ILjava/lang/Object;Ljava/lang/Object;ZZ)Ljava/lang/Object;" } : Jvm.MethodName) prog_42_method_16_code (13 : Nat) (Option.some (Jvm.ClassFile.FieldType.object "java/lang/Object"))) ∈ lw_all := lw_g (lw_at lw_m5 84 rfl) rfl
theorem q1121 : (Jvm.Cond.methodLink "java/util/HashMap" (186 : Nat) ({ cls := "java/util/HashMap", name := "newNode", desc := "(ILjava/lang/Object;Ljava/lang/Object;Ljava/util/HashMap$Node;)Ljava/util/HashMap$Node;" } : Jvm.MethodName)) ∈ lw_all := lw_g (lw_at lw_m5 85 rfl) rfl
theorem q1122 : (Jvm.Cond.instanceMethod ({ cls := "java/util/HashMap", name := "newNode", desc := "(ILjava/lang/Object;Ljava/lang/Object;Ljava/util/HashMap$Node;)Ljava/util/HashMap$Node;" } : Jvm.MethodName)) ∈ lw_all := lw_g (lw_at lw_m5 86 rfl) rfl
theorem q1123 : (Jvm.Cond.selects "java/util/HashMap" ({ cls := "java/util/HashMap", name := "newNode", desc := "(ILjava/lang/Object;Ljava/lang/Object;Ljava/util/HashMap$Node;)Ljava/util/HashMap$Node;" } : Jvm.MethodName) ({ cls := "java/util/HashMap", name := "newNode", desc := "(ILjava/lang/Object;Ljava/lang/Object;Ljava/util/HashMap$Node;)Ljava/util/HashMap$Node;" } : Jvm.MethodName)) ∈ lw_all := lw_g (lw_at lw_m5 87 rfl) rfl
theorem q1124 : (Jvm.Cond.code ({ cls := "java/util/HashMap", name := "newNode", desc := "(ILjava/lang/Object;Ljava/lang/Object;Ljava/util/HashMap$Node;)Ljava/util/HashMap$Node;" } : Jvm.MethodName) prog_42_method_46_code (5 : Nat) (Option.some (Jvm.ClassFile.FieldType.object "java/util/HashMap$Node"))) ∈ lw_all := lw_g (lw_at lw_m5 88 rfl) rfl
theorem q1126 : (Jvm.Cond.methodLink "java/util/HashMap" (173 : Nat) ({ cls := "java/lang/Object", name := "equals", desc := "(Ljava/lang/Object;)Z" } : Jvm.MethodName)) ∈ lw_all := lw_g (lw_at lw_m5 90 rfl) rfl
theorem q1153 : (Jvm.Cond.methodLink "java/util/HashMap" (190 : Nat) ({ cls := "java/util/HashMap$TreeNode", name := "putTreeVal", desc := "(Ljava/util/HashMap;[Ljava/util/HashMap$Node;ILjava/lang/Object;Ljava/lang/Object;)Ljava/util/HashMap$TreeNode;" } : Jvm.MethodName)) ∈ lw_all := lw_g (lw_at lw_m5 117 rfl) rfl
theorem q1167 : (Jvm.Cond.instanceMethod ({ cls := "java/util/HashMap", name := "newTreeNode", desc := "(ILjava/lang/Object;Ljava/lang/Object;Ljava/util/HashMap$Node;)Ljava/util/HashMap$TreeNode;" } : Jvm.MethodName)) ∈ lw_all := lw_g (lw_at lw_m5 131 rfl) rfl
theorem q1168 : (Jvm.Cond.selects "java/util/HashMap" ({ cls := "java/util/HashMap", name := "newTreeNode", desc := "(ILjava/lang/Object;Ljava/lang/Object;Ljava/util/HashMap$Node;)Ljava/util/HashMap$TreeNode;" } : Jvm.MethodName) ({ cls := "java/util/HashMap", name := "newTreeNode", desc := "(ILjava/lang/Object;Ljava/lang/Object;Ljava/util/HashMap$Node;)Ljava/util/HashMap$TreeNode;" } : Jvm.MethodName)) ∈ lw_all := lw_g (lw_at lw_m5 132 rfl) rfl
theorem q1169 : (Jvm.Cond.code ({ cls := "java/util/HashMap", name := "newTreeNode", desc := "(ILjava/lang/Object;Ljava/lang/Object;Ljava/util/HashMap$Node;)Ljava/util/HashMap$TreeNode;" } : Jvm.MethodName) prog_42_method_48_code (5 : Nat) (Option.some (Jvm.ClassFile.FieldType.object "java/util/HashMap$TreeNode"))) ∈ lw_all := lw_g (lw_at lw_m5 133 rfl) rfl
theorem q1171 : (Jvm.Cond.methodLink "java/util/HashMap" (378 : Nat) ({ cls := "java/util/HashMap$TreeNode", name := "<init>", desc := "(ILjava/lang/Object;Ljava/lang/Object;Ljava/util/HashMap$Node;)V" } : Jvm.MethodName)) ∈ lw_all := lw_g (lw_at lw_m5 135 rfl) rfl
theorem q1182 : (Jvm.Cond.fieldLink "java/util/HashMap" (219 : Nat) "java/util/HashMap$TreeNode" "prev" "Ljava/util/HashMap$TreeNode;") ∈ lw_all := lw_g (lw_at lw_m5 146 rfl) rfl
theorem q1203 : (Jvm.Cond.methodLink "java/util/HashMap" (194 : Nat) ({ cls := "java/util/HashMap", name := "treeifyBin", desc := "([Ljava/util/HashMap$Node;I)V" } : Jvm.MethodName)) ∈ lw_all := lw_g (lw_at lw_m5 167 rfl) rfl
theorem q1204 : (Jvm.Cond.instanceMethod ({ cls := "java/util/HashMap", name := "treeifyBin", desc := "([Ljava/util/HashMap$Node;I)V" } : Jvm.MethodName)) ∈ lw_all := lw_g (lw_at lw_m5 168 rfl) rfl
theorem q1205 : (Jvm.Cond.selects "java/util/HashMap" ({ cls := "java/util/HashMap", name := "treeifyBin", desc := "([Ljava/util/HashMap$Node;I)V" } : Jvm.MethodName) ({ cls := "java/util/HashMap", name := "treeifyBin", desc := "([Ljava/util/HashMap$Node;I)V" } : Jvm.MethodName)) ∈ lw_all := lw_g (lw_at lw_m5 169 rfl) rfl
theorem q1206 : (Jvm.Cond.code ({ cls := "java/util/HashMap", name := "treeifyBin", desc := "([Ljava/util/HashMap$Node;I)V" } : Jvm.MethodName) prog_42_method_18_code (9 : Nat) (Option.none : Option Jvm.ClassFile.FieldType)) ∈ lw_all := lw_g (lw_at lw_m5 170 rfl) rfl
theorem q1207 : (Jvm.Cond.methodLink "java/util/HashMap" (215 : Nat) ({ cls := "java/util/HashMap", name := "replacementTreeNode", desc := "(Ljava/util/HashMap$Node;Ljava/util/HashMap$Node;)Ljava/util/HashMap$TreeNode;" } : Jvm.MethodName)) ∈ lw_all := lw_g (lw_at lw_m5 171 rfl) rfl
theorem q1208 : (Jvm.Cond.instanceMethod ({ cls := "java/util/HashMap", name := "replacementTreeNode", desc := "(Ljava/util/HashMap$Node;Ljava/util/HashMap$Node;)Ljava/util/HashMap$TreeNode;" } : Jvm.MethodName)) ∈ lw_all := lw_g (lw_at lw_m5 172 rfl) rfl
theorem q1209 : (Jvm.Cond.selects "java/util/HashMap" ({ cls := "java/util/HashMap", name := "replacementTreeNode", desc := "(Ljava/util/HashMap$Node;Ljava/util/HashMap$Node;)Ljava/util/HashMap$TreeNode;" } : Jvm.MethodName) ({ cls := "java/util/HashMap", name := "replacementTreeNode", desc := "(Ljava/util/HashMap$Node;Ljava/util/HashMap$Node;)Ljava/util/HashMap$TreeNode;" } : Jvm.MethodName)) ∈ lw_all := lw_g (lw_at lw_m5 173 rfl) rfl
theorem q1210 : (Jvm.Cond.code ({ cls := "java/util/HashMap", name := "replacementTreeNode", desc := "(Ljava/util/HashMap$Node;Ljava/util/HashMap$Node;)Ljava/util/HashMap$TreeNode;" } : Jvm.MethodName) prog_42_method_49_code (3 : Nat) (Option.some (Jvm.ClassFile.FieldType.object "java/util/HashMap$TreeNode"))) ∈ lw_all := lw_g (lw_at lw_m5 174 rfl) rfl
theorem q1211 : (Jvm.Cond.methodLink "java/util/HashMap" (224 : Nat) ({ cls := "java/util/HashMap$TreeNode", name := "treeify", desc := "([Ljava/util/HashMap$Node;)V" } : Jvm.MethodName)) ∈ lw_all := lw_g (lw_at lw_m5 175 rfl) rfl
theorem q1212 : (Jvm.Cond.methodLink "java/util/HashMap" (198 : Nat) ({ cls := "java/util/HashMap", name := "afterNodeAccess", desc := "(Ljava/util/HashMap$Node;)V" } : Jvm.MethodName)) ∈ lw_all := lw_g (lw_at lw_m5 176 rfl) rfl
theorem q1213 : (Jvm.Cond.instanceMethod ({ cls := "java/util/HashMap", name := "afterNodeAccess", desc := "(Ljava/util/HashMap$Node;)V" } : Jvm.MethodName)) ∈ lw_all := lw_g (lw_at lw_m5 177 rfl) rfl
theorem q1214 : (Jvm.Cond.selects "java/util/HashMap" ({ cls := "java/util/HashMap", name := "afterNodeAccess", desc := "(Ljava/util/HashMap$Node;)V" } : Jvm.MethodName) ({ cls := "java/util/HashMap", name := "afterNodeAccess", desc := "(Ljava/util/HashMap$Node;)V" } : Jvm.MethodName)) ∈ lw_all := lw_g (lw_at lw_m5 178 rfl) rfl
theorem q1215 : (Jvm.Cond.code ({ cls := "java/util/HashMap", name := "afterNodeAccess", desc := "(Ljava/util/HashMap$Node;)V" } : Jvm.MethodName) prog_42_method_51_code (2 : Nat) (Option.none : Option Jvm.ClassFile.FieldType)) ∈ lw_all := lw_g (lw_at lw_m5 179 rfl) rfl
theorem q1216 : (Jvm.Cond.methodLink "java/util/HashMap" (205 : Nat) ({ cls := "java/util/HashMap", name := "afterNodeInsertion", desc := "(Z)V" } : Jvm.MethodName)) ∈ lw_all := lw_g (lw_at lw_m5 180 rfl) rfl
theorem q1217 : (Jvm.Cond.instanceMethod ({ cls := "java/util/HashMap", name := "afterNodeInsertion", desc := "(Z)V" } : Jvm.MethodName)) ∈ lw_all := lw_g (lw_at lw_m5 181 rfl) rfl
theorem q1218 : (Jvm.Cond.selects "java/util/HashMap" ({ cls := "java/util/HashMap", name := "afterNodeInsertion", desc := "(Z)V" } : Jvm.MethodName) ({ cls := "java/util/HashMap", name := "afterNodeInsertion", desc := "(Z)V" } : Jvm.MethodName)) ∈ lw_all := lw_g (lw_at lw_m5 182 rfl) rfl
theorem q1219 : (Jvm.Cond.code ({ cls := "java/util/HashMap", name := "afterNodeInsertion", desc := "(Z)V" } : Jvm.MethodName) prog_42_method_52_code (2 : Nat) (Option.none : Option Jvm.ClassFile.FieldType)) ∈ lw_all := lw_g (lw_at lw_m5 183 rfl) rfl
theorem q1314 : (Jvm.Cond.selects "java/util/HashMap" ({ cls := "java/util/Map", name := "containsKey", desc := "(Ljava/lang/Object;)Z" } : Jvm.MethodName) ({ cls := "java/util/HashMap", name := "containsKey", desc := "(Ljava/lang/Object;)Z" } : Jvm.MethodName)) ∈ lw_all := lw_g (lw_at lw_m6 38 rfl) rfl
theorem q1315 : (Jvm.Cond.unhidden "java/util/HashMap" "containsKey" "(Ljava/lang/Object;)Z") ∈ lw_tbl := lw_at lw_m6 39 rfl
theorem q1316 : (Jvm.Cond.instanceMethod ({ cls := "java/util/HashMap", name := "containsKey", desc := "(Ljava/lang/Object;)Z" } : Jvm.MethodName)) ∈ lw_all := lw_g (lw_at lw_m6 40 rfl) rfl
theorem q1317 : (Jvm.Cond.publicMethod ({ cls := "java/util/HashMap", name := "containsKey", desc := "(Ljava/lang/Object;)Z" } : Jvm.MethodName)) ∈ lw_tbl := lw_at lw_m6 41 rfl
theorem q1318 : (Jvm.Cond.code ({ cls := "java/util/HashMap", name := "containsKey", desc := "(Ljava/lang/Object;)Z" } : Jvm.MethodName) prog_42_method_14_code (2 : Nat) (Option.some Jvm.ClassFile.FieldType.boolean)) ∈ lw_all := lw_g (lw_at lw_m6 42 rfl) rfl
theorem q1319 : (Jvm.Cond.methodLink "java/util/HashMap" (158 : Nat) ({ cls := "java/util/HashMap", name := "getNode", desc := "(Ljava/lang/Object;)Ljava/util/HashMap$Node;" } : Jvm.MethodName)) ∈ lw_all := lw_g (lw_at lw_m6 43 rfl) rfl
theorem q1320 : (Jvm.Cond.instanceMethod ({ cls := "java/util/HashMap", name := "getNode", desc := "(Ljava/lang/Object;)Ljava/util/HashMap$Node;" } : Jvm.MethodName)) ∈ lw_all := lw_g (lw_at lw_m6 44 rfl) rfl
theorem q1321 : (Jvm.Cond.selects "java/util/HashMap" ({ cls := "java/util/HashMap", name := "getNode", desc := "(Ljava/lang/Object;)Ljava/util/HashMap$Node;" } : Jvm.MethodName) ({ cls := "java/util/HashMap", name := "getNode", desc := "(Ljava/lang/Object;)Ljava/util/HashMap$Node;" } : Jvm.MethodName)) ∈ lw_all := lw_g (lw_at lw_m6 45 rfl) rfl
theorem q1322 : (Jvm.Cond.code ({ cls := "java/util/HashMap", name := "getNode", desc := "(Ljava/lang/Object;)Ljava/util/HashMap$Node;" } : Jvm.MethodName) prog_42_method_13_code (8 : Nat) (Option.some (Jvm.ClassFile.FieldType.object "java/util/HashMap$Node"))) ∈ lw_all := lw_g (lw_at lw_m6 46 rfl) rfl
theorem q1323 : (Jvm.Cond.methodLink "java/util/HashMap" (182 : Nat) ({ cls := "java/util/HashMap$TreeNode", name := "getTreeNode", desc := "(ILjava/lang/Object;)Ljava/util/HashMap$TreeNode;" } : Jvm.MethodName)) ∈ lw_all := lw_g (lw_at lw_m6 47 rfl) rfl
theorem q1355 : (Jvm.Cond.selects "java/util/HashMap" ({ cls := "java/util/Map", name := "put", desc := "(Ljava/lang/Object;Ljava/lang/Object;)Ljava/lang/Object;" } : Jvm.MethodName) ({ cls := "java/util/HashMap", name := "put", desc := "(Ljava/lang/Object;Ljava/lang/Object;)Ljava/lang/Object;" } : Jvm.MethodName)) ∈ lw_all := lw_g (lw_at lw_m6 79 rfl) rfl
theorem q1356 : (Jvm.Cond.unhidden "java/util/HashMap" "put" "(Ljava/lang/Object;Ljava/lang/Object;)Ljava/lang/Object;") ∈ lw_tbl := lw_at lw_m6 80 rfl
theorem q1357 : (Jvm.Cond.instanceMethod ({ cls := "java/util/HashMap", name := "put", desc := "(Ljava/lang/Object;Ljava/lang/Object;)Ljava/lang/Object;" } : Jvm.MethodName)) ∈ lw_all := lw_g (lw_at lw_m6 81 rfl) rfl
theorem q1358 : (Jvm.Cond.publicMethod ({ cls := "java/util/HashMap", name := "put", desc := "(Ljava/lang/Object;Ljava/lang/Object;)Ljava/lang/Object;" } : Jvm.MethodName)) ∈ lw_tbl := lw_at lw_m6 82 rfl
theorem q1359 : (Jvm.Cond.code ({ cls := "java/util/HashMap", name := "put", desc := "(Ljava/lang/Object;Ljava/lang/Object;)Ljava/lang/Object;" } : Jvm.MethodName) prog_42_method_15_code (3 : Nat) (Option.some (Jvm.ClassFile.FieldType.object "java/lang/Object"))) ∈ lw_all := lw_g (lw_at lw_m6 83 rfl) rfl
theorem q1384 : (Jvm.Cond.selects "java/util/HashMap" ({ cls := "java/util/Map", name := "remove", desc := "(Ljava/lang/Object;)Ljava/lang/Object;" } : Jvm.MethodName) ({ cls := "java/util/HashMap", name := "remove", desc := "(Ljava/lang/Object;)Ljava/lang/Object;" } : Jvm.MethodName)) ∈ lw_all := lw_g (lw_at lw_m6 108 rfl) rfl
theorem q1385 : (Jvm.Cond.unhidden "java/util/HashMap" "remove" "(Ljava/lang/Object;)Ljava/lang/Object;") ∈ lw_tbl := lw_at lw_m6 109 rfl
theorem q1386 : (Jvm.Cond.instanceMethod ({ cls := "java/util/HashMap", name := "remove", desc := "(Ljava/lang/Object;)Ljava/lang/Object;" } : Jvm.MethodName)) ∈ lw_all := lw_g (lw_at lw_m6 110 rfl) rfl
theorem q1387 : (Jvm.Cond.publicMethod ({ cls := "java/util/HashMap", name := "remove", desc := "(Ljava/lang/Object;)Ljava/lang/Object;" } : Jvm.MethodName)) ∈ lw_tbl := lw_at lw_m6 111 rfl
theorem q1388 : (Jvm.Cond.code ({ cls := "java/util/HashMap", name := "remove", desc := "(Ljava/lang/Object;)Ljava/lang/Object;" } : Jvm.MethodName) prog_42_method_20_code (3 : Nat) (Option.some (Jvm.ClassFile.FieldType.object "java/lang/Object"))) ∈ lw_all := lw_g (lw_at lw_m6 112 rfl) rfl
theorem q1389 : (Jvm.Cond.methodLink "java/util/HashMap" (228 : Nat) ({ cls := "java/util/HashMap", name := "removeNode", desc := "(ILjava/lang/Object;Ljava/lang/Object;ZZ)Ljava/util/HashMap$Node;" } : Jvm.MethodName)) ∈ lw_all := lw_g (lw_at lw_m6 113 rfl) rfl
theorem q1390 : (Jvm.Cond.instanceMethod ({ cls := "java/util/HashMap", name := "removeNode", desc := "(ILjava/lang/Object;Ljava/lang/Object;ZZ)Ljava/util/HashMap$Node;" } : Jvm.MethodName)) ∈ lw_all := lw_g (lw_at lw_m6 114 rfl) rfl
theorem q1391 : (Jvm.Cond.selects "java/util/HashMap" ({ cls := "java/util/HashMap", name := "removeNode", desc := "(ILjava/lang/Object;Ljava/lang/Object;ZZ)Ljava/util/HashMap$Node;" } : Jvm.MethodName) ({ cls := "java/util/HashMap", name := "removeNode", desc := "(ILjava/lang/Object;Ljava/lang/Object;ZZ)Ljava/util/HashMap$Node;" } : Jvm.MethodName)) ∈ lw_all := lw_g (lw_at lw_m6 115 rfl) rfl
theorem q1392 : (Jvm.Cond.code ({ cls := "java/util/HashMap", name := "removeNode", desc := "(ILjava/lang/Object;Ljava/lang/Object;ZZ)Ljava/util/HashMap$Node;" } : Jvm.MethodName) prog_42_method_21_code (14 : Nat) (Option.some (Jvm.ClassFile.FieldType.object "java/util/HashMap$Node"))) ∈ lw_all := lw_g (lw_at lw_m6 116 rfl) rfl
theorem q1393 : (Jvm.Cond.methodLink "java/util/HashMap" (232 : Nat) ({ cls := "java/util/HashMap$TreeNode", name := "removeTreeNode", desc := "(Ljava/util/HashMap;[Ljava/util/HashMap$Node;Z)V" } : Jvm.MethodName)) ∈ lw_all := lw_g (lw_at lw_m6 117 rfl) rfl
theorem q1400 : (Jvm.Cond.methodLink "java/util/HashMap" (236 : Nat) ({ cls := "java/util/HashMap", name := "afterNodeRemoval", desc := "(Ljava/util/HashMap$Node;)V" } : Jvm.MethodName)) ∈ lw_all := lw_g (lw_at lw_m6 124 rfl) rfl
theorem q1401 : (Jvm.Cond.instanceMethod ({ cls := "java/util/HashMap", name := "afterNodeRemoval", desc := "(Ljava/util/HashMap$Node;)V" } : Jvm.MethodName)) ∈ lw_all := lw_g (lw_at lw_m6 125 rfl) rfl
theorem q1402 : (Jvm.Cond.selects "java/util/HashMap" ({ cls := "java/util/HashMap", name := "afterNodeRemoval", desc := "(Ljava/util/HashMap$Node;)V" } : Jvm.MethodName) ({ cls := "java/util/HashMap", name := "afterNodeRemoval", desc := "(Ljava/util/HashMap$Node;)V" } : Jvm.MethodName)) ∈ lw_all := lw_g (lw_at lw_m6 126 rfl) rfl
theorem q1403 : (Jvm.Cond.code ({ cls := "java/util/HashMap", name := "afterNodeRemoval", desc := "(Ljava/util/HashMap$Node;)V" } : Jvm.MethodName) prog_42_method_53_code (2 : Nat) (Option.none : Option Jvm.ClassFile.FieldType)) ∈ lw_all := lw_g (lw_at lw_m6 127 rfl) rfl
theorem q1632 : (Jvm.Cond.selects "java/util/HashMap" ({ cls := "java/util/Map", name := "get", desc := "(Ljava/lang/Object;)Ljava/lang/Object;" } : Jvm.MethodName) ({ cls := "java/util/HashMap", name := "get", desc := "(Ljava/lang/Object;)Ljava/lang/Object;" } : Jvm.MethodName)) ∈ lw_all := lw_g (lw_at lw_m7 116 rfl) rfl
theorem q1633 : (Jvm.Cond.unhidden "java/util/HashMap" "get" "(Ljava/lang/Object;)Ljava/lang/Object;") ∈ lw_tbl := lw_at lw_m7 117 rfl
theorem q1634 : (Jvm.Cond.instanceMethod ({ cls := "java/util/HashMap", name := "get", desc := "(Ljava/lang/Object;)Ljava/lang/Object;" } : Jvm.MethodName)) ∈ lw_all := lw_g (lw_at lw_m7 118 rfl) rfl
theorem q1635 : (Jvm.Cond.publicMethod ({ cls := "java/util/HashMap", name := "get", desc := "(Ljava/lang/Object;)Ljava/lang/Object;" } : Jvm.MethodName)) ∈ lw_tbl := lw_at lw_m7 119 rfl
theorem q1636 : (Jvm.Cond.code ({ cls := "java/util/HashMap", name := "get", desc := "(Ljava/lang/Object;)Ljava/lang/Object;" } : Jvm.MethodName) prog_42_method_12_code (3 : Nat) (Option.some (Jvm.ClassFile.FieldType.object "java/lang/Object"))) ∈ lw_all := lw_g (lw_at lw_m7 120 rfl) rfl
theorem q2352 : (Jvm.Cond.castable "java/util/HashMap" "java/lang/Object") ∈ lw_tbl := lw_at lw_m10 116 rfl
theorem in_J4 : ∀ w ∈ wsJ40, w ∈ lw_all := lw_in wsJ40 [196, 198, 184, 186, 188, 190, 192, 194] (by decide +kernel) (by decide +kernel)
/-! java/util/HashMap$TreeNode -/
set_option maxRecDepth 100000
def RJ23 : String := "java/util/HashMap$TreeNode"
def TJ23 : u_T := fun k => match k with
  | 0 => ("java/util/LinkedHashMap$Entry", "before", "Ljava/util/LinkedHashMap$Entry;", false)
  | 1 => ("java/util/LinkedHashMap$Entry", "after", "Ljava/util/LinkedHashMap$Entry;", false)
  | 2 => ("java/util/HashMap$Node", "hash", "I", true)
  | 3 => ("java/util/HashMap$Node", "key", "Ljava/lang/Object;", true)
  | 4 => ("java/util/HashMap$Node", "value", "Ljava/lang/Object;", false)
  | 5 => ("java/util/HashMap$Node", "next", "Ljava/util/HashMap$Node;", false)
  | 6 => ("java/util/HashMap$TreeNode", "parent", "Ljava/util/HashMap$TreeNode;", false)
  | 7 => ("java/util/HashMap$TreeNode", "left", "Ljava/util/HashMap$TreeNode;", false)
  | 8 => ("java/util/HashMap$TreeNode", "right", "Ljava/util/HashMap$TreeNode;", false)
  | 9 => ("java/util/HashMap$TreeNode", "prev", "Ljava/util/HashMap$TreeNode;", false)
  | _ => ("java/util/HashMap$TreeNode", "red", "Z", false)
def tyJ23 : Nat → FieldType := fun k => match k with
  | 0 => .object "java/util/LinkedHashMap$Entry"
  | 1 => .object "java/util/LinkedHashMap$Entry"
  | 2 => .int
  | 3 => .object "java/lang/Object"
  | 4 => .object "java/lang/Object"
  | 5 => .object "java/util/HashMap$Node"
  | 6 => .object "java/util/HashMap$TreeNode"
  | 7 => .object "java/util/HashMap$TreeNode"
  | 8 => .object "java/util/HashMap$TreeNode"
  | 9 => .object "java/util/HashMap$TreeNode"
  | _ => .boolean
abbrev wsJ230 : List Cond := u_ws RJ23 TJ23 11
theorem nmJ23 : ∀ a, a < 11 → ∀ b, b < 11 → a ≠ b → (TJ23 a).2.1 ≠ (TJ23 b).2.1 := by decide +kernel
theorem tyJ23_ok : ∀ k, k < 11 → parseFieldDescriptor (TJ23 k).2.2.1 = some (tyJ23 k) := by decide +kernel
abbrev cJ23_split : ByteArray := prog_47_method_11_code
def yJ23_split : MethodName := ⟨RJ23, "split", "(Ljava/util/HashMap;[Ljava/util/HashMap$Node;II)V"⟩
def dkwJ23_split_9 : List UInt8 := [198, 0, 9, 25, 8, 44, 182, 0, 126, 177]
abbrev dktJ23_split_9 : List UInt8 := dkwJ23_split_9 ++ []
def dkwJ23_split_8 : List UInt8 := [21, 4, 96, 25, 8, 43, 182, 0, 119, 83, 167, 0, 22, 44, 29, 21, 4, 96, 25, 8, 83, 25, 6]
abbrev dktJ23_split_8 : List UInt8 := dkwJ23_split_8 ++ dktJ23_split_9
def dkwJ23_split_7 : List UInt8 := [198, 0, 9, 25, 6, 44, 182, 0, 126, 25, 8, 198, 0, 44, 21, 11, 16, 6, 163, 0, 18, 44, 29]
abbrev dktJ23_split_7 : List UInt8 := dkwJ23_split_7 ++ dktJ23_split_8
def dkwJ23_split_6 : List UInt8 := [163, 0, 15, 44, 29, 25, 6, 43, 182, 0, 119, 83, 167, 0, 19, 44, 29, 25, 6, 83, 25, 8]
abbrev dktJ23_split_6 : List UInt8 := dkwJ23_split_6 ++ dktJ23_split_7
def dkwJ23_split_5 : List UInt8 := [25, 12, 58, 9, 132, 11, 1, 25, 13, 58, 12, 167, 255, 153, 25, 6, 198, 0, 38, 21, 10, 16, 6]
abbrev dktJ23_split_5 : List UInt8 := dkwJ23_split_5 ++ dktJ23_split_6
def dkwJ23_split_4 : List UInt8 := [25, 9, 90, 181, 0, 19, 199, 0, 10, 25, 12, 58, 8, 167, 0, 10, 25, 9, 25, 12, 181, 0, 22]
abbrev dktJ23_split_4 : List UInt8 := dkwJ23_split_4 ++ dktJ23_split_5
def dkwJ23_split_3 : List UInt8 := [58, 6, 167, 0, 10, 25, 7, 25, 12, 181, 0, 22, 25, 12, 58, 7, 132, 10, 1, 167, 0, 35, 25, 12]
abbrev dktJ23_split_3 : List UInt8 := dkwJ23_split_3 ++ dktJ23_split_4
def dkwJ23_split_2 : List UInt8 := [25, 12, 180, 0, 15, 21, 4, 126, 154, 0, 38, 25, 12, 25, 7, 90, 181, 0, 19, 199, 0, 10, 25, 12]
abbrev dktJ23_split_2 : List UInt8 := dkwJ23_split_2 ++ dktJ23_split_3
def dkwJ23_split_1 : List UInt8 := [58, 12, 25, 12, 198, 0, 104, 25, 12, 180, 0, 22, 192, 0, 10, 58, 13, 25, 12, 1, 181, 0, 22]
abbrev dktJ23_split_1 : List UInt8 := dkwJ23_split_1 ++ dktJ23_split_2
def dkwJ23_split_0 : List UInt8 := [42, 58, 5, 1, 58, 6, 1, 58, 7, 1, 58, 8, 1, 58, 9, 3, 54, 10, 3, 54, 11, 25, 5]
abbrev dktJ23_split_0 : List UInt8 := dkwJ23_split_0 ++ dktJ23_split_1
theorem dksJ23_split_0 : cJ23_split.data.toList.drop 0 = dktJ23_split_0 := by decide +kernel
theorem dksJ23_split_1 : cJ23_split.data.toList.drop 23 = dktJ23_split_1 := dk_seg dksJ23_split_0 23 rfl rfl
theorem dksJ23_split_2 : cJ23_split.data.toList.drop 46 = dktJ23_split_2 := dk_seg dksJ23_split_1 23 rfl rfl
theorem dksJ23_split_3 : cJ23_split.data.toList.drop 70 = dktJ23_split_3 := dk_seg dksJ23_split_2 24 rfl rfl
theorem dksJ23_split_4 : cJ23_split.data.toList.drop 94 = dktJ23_split_4 := dk_seg dksJ23_split_3 24 rfl rfl
theorem dksJ23_split_5 : cJ23_split.data.toList.drop 117 = dktJ23_split_5 := dk_seg dksJ23_split_4 23 rfl rfl
theorem dksJ23_split_6 : cJ23_split.data.toList.drop 140 = dktJ23_split_6 := dk_seg dksJ23_split_5 23 rfl rfl
theorem dksJ23_split_7 : cJ23_split.data.toList.drop 162 = dktJ23_split_7 := dk_seg dksJ23_split_6 22 rfl rfl
theorem dksJ23_split_8 : cJ23_split.data.toList.drop 185 = dktJ23_split_8 := dk_seg dksJ23_split_7 23 rfl rfl
theorem dksJ23_split_9 : cJ23_split.data.toList.drop 208 = dktJ23_split_9 := dk_seg dksJ23_split_8 23 rfl rfl
theorem dJ23_split_0 : decode cJ23_split 0 = .ok (.aload_n 0, 1) := dk_42 (dk_at dksJ23_split_0 0 rfl rfl)
theorem dJ23_split_1 : decode cJ23_split 1 = .ok (.astore 5, 2) := dk_58 5 (dk_at dksJ23_split_0 1 rfl rfl)
theorem dJ23_split_3 : decode cJ23_split 3 = .ok (.aconst_null, 1) := dk_1 (dk_at dksJ23_split_0 3 rfl rfl)
theorem dJ23_split_4 : decode cJ23_split 4 = .ok (.astore 6, 2) := dk_58 6 (dk_at dksJ23_split_0 4 rfl rfl)
theorem dJ23_split_6 : decode cJ23_split 6 = .ok (.aconst_null, 1) := dk_1 (dk_at dksJ23_split_0 6 rfl rfl)
theorem dJ23_split_7 : decode cJ23_split 7 = .ok (.astore 7, 2) := dk_58 7 (dk_at dksJ23_split_0 7 rfl rfl)
theorem dJ23_split_9 : decode cJ23_split 9 = .ok (.aconst_null, 1) := dk_1 (dk_at dksJ23_split_0 9 rfl rfl)
theorem dJ23_split_10 : decode cJ23_split 10 = .ok (.astore 8, 2) := dk_58 8 (dk_at dksJ23_split_0 10 rfl rfl)
theorem dJ23_split_12 : decode cJ23_split 12 = .ok (.aconst_null, 1) := dk_1 (dk_at dksJ23_split_0 12 rfl rfl)
theorem dJ23_split_13 : decode cJ23_split 13 = .ok (.astore 9, 2) := dk_58 9 (dk_at dksJ23_split_0 13 rfl rfl)
theorem dJ23_split_15 : decode cJ23_split 15 = .ok (.iconst 0, 1) := dk_3 (dk_at dksJ23_split_0 15 rfl rfl)
theorem dJ23_split_16 : decode cJ23_split 16 = .ok (.istore 10, 2) := dk_54 10 (dk_at dksJ23_split_0 16 rfl rfl)
theorem dJ23_split_18 : decode cJ23_split 18 = .ok (.iconst 0, 1) := dk_3 (dk_at dksJ23_split_0 18 rfl rfl)
theorem dJ23_split_19 : decode cJ23_split 19 = .ok (.istore 11, 2) := dk_54 11 (dk_at dksJ23_split_0 19 rfl rfl)
theorem dJ23_split_21 : decode cJ23_split 21 = .ok (.aload 5, 2) := dk_25 5 (dk_at dksJ23_split_0 21 rfl rfl)
theorem dJ23_split_23 : decode cJ23_split 23 = .ok (.astore 12, 2) := dk_58 12 (dk_at dksJ23_split_1 0 rfl rfl)
theorem dJ23_split_25 : decode cJ23_split 25 = .ok (.aload 12, 2) := dk_25 12 (dk_at dksJ23_split_1 2 rfl rfl)
theorem dJ23_split_27 : decode cJ23_split 27 = .ok (.ifnull 104, 3) := dk_198 0 104 (dk_at dksJ23_split_1 4 rfl rfl)
theorem dJ23_split_30 : decode cJ23_split 30 = .ok (.aload 12, 2) := dk_25 12 (dk_at dksJ23_split_1 7 rfl rfl)
theorem dJ23_split_32 : decode cJ23_split 32 = .ok (.getfield 22, 3) := dk_180 0 22 (dk_at dksJ23_split_1 9 rfl rfl)
theorem dJ23_split_35 : decode cJ23_split 35 = .ok (.checkcast 10, 3) := dk_192 0 10 (dk_at dksJ23_split_1 12 rfl rfl)
theorem dJ23_split_38 : decode cJ23_split 38 = .ok (.astore 13, 2) := dk_58 13 (dk_at dksJ23_split_1 15 rfl rfl)
theorem dJ23_split_40 : decode cJ23_split 40 = .ok (.aload 12, 2) := dk_25 12 (dk_at dksJ23_split_1 17 rfl rfl)
theorem dJ23_split_42 : decode cJ23_split 42 = .ok (.aconst_null, 1) := dk_1 (dk_at dksJ23_split_1 19 rfl rfl)
theorem dJ23_split_43 : decode cJ23_split 43 = .ok (.putfield 22, 3) := dk_181 0 22 (dk_at dksJ23_split_1 20 rfl rfl)
theorem dJ23_split_46 : decode cJ23_split 46 = .ok (.aload 12, 2) := dk_25 12 (dk_at dksJ23_split_2 0 rfl rfl)
theorem dJ23_split_48 : decode cJ23_split 48 = .ok (.getfield 15, 3) := dk_180 0 15 (dk_at dksJ23_split_2 2 rfl rfl)
theorem dJ23_split_51 : decode cJ23_split 51 = .ok (.iload 4, 2) := dk_21 4 (dk_at dksJ23_split_2 5 rfl rfl)
theorem dJ23_split_53 : decode cJ23_split 53 = .ok (.iand, 1) := dk_126 (dk_at dksJ23_split_2 7 rfl rfl)
theorem dJ23_split_54 : decode cJ23_split 54 = .ok (.ifCond .ne 38, 3) := dk_154 0 38 (dk_at dksJ23_split_2 8 rfl rfl)
theorem dJ23_split_57 : decode cJ23_split 57 = .ok (.aload 12, 2) := dk_25 12 (dk_at dksJ23_split_2 11 rfl rfl)
theorem dJ23_split_59 : decode cJ23_split 59 = .ok (.aload 7, 2) := dk_25 7 (dk_at dksJ23_split_2 13 rfl rfl)
theorem dJ23_split_61 : decode cJ23_split 61 = .ok (.dup_x1, 1) := dk_90 (dk_at dksJ23_split_2 15 rfl rfl)
theorem dJ23_split_62 : decode cJ23_split 62 = .ok (.putfield 19, 3) := dk_181 0 19 (dk_at dksJ23_split_2 16 rfl rfl)
theorem dJ23_split_65 : decode cJ23_split 65 = .ok (.ifnonnull 10, 3) := dk_199 0 10 (dk_at dksJ23_split_2 19 rfl rfl)
theorem dJ23_split_68 : decode cJ23_split 68 = .ok (.aload 12, 2) := dk_25 12 (dk_at dksJ23_split_2 22 rfl rfl)
theorem dJ23_split_70 : decode cJ23_split 70 = .ok (.astore 6, 2) := dk_58 6 (dk_at dksJ23_split_3 0 rfl rfl)
theorem dJ23_split_72 : decode cJ23_split 72 = .ok (.goto 10, 3) := dk_167 0 10 (dk_at dksJ23_split_3 2 rfl rfl)
theorem dJ23_split_75 : decode cJ23_split 75 = .ok (.aload 7, 2) := dk_25 7 (dk_at dksJ23_split_3 5 rfl rfl)
theorem dJ23_split_77 : decode cJ23_split 77 = .ok (.aload 12, 2) := dk_25 12 (dk_at dksJ23_split_3 7 rfl rfl)
theorem dJ23_split_79 : decode cJ23_split 79 = .ok (.putfield 22, 3) := dk_181 0 22 (dk_at dksJ23_split_3 9 rfl rfl)
theorem dJ23_split_82 : decode cJ23_split 82 = .ok (.aload 12, 2) := dk_25 12 (dk_at dksJ23_split_3 12 rfl rfl)
theorem dJ23_split_84 : decode cJ23_split 84 = .ok (.astore 7, 2) := dk_58 7 (dk_at dksJ23_split_3 14 rfl rfl)
theorem dJ23_split_86 : decode cJ23_split 86 = .ok (.iinc 10 1, 3) := dk_132 10 1 (dk_at dksJ23_split_3 16 rfl rfl)
theorem dJ23_split_89 : decode cJ23_split 89 = .ok (.goto 35, 3) := dk_167 0 35 (dk_at dksJ23_split_3 19 rfl rfl)
theorem dJ23_split_92 : decode cJ23_split 92 = .ok (.aload 12, 2) := dk_25 12 (dk_at dksJ23_split_3 22 rfl rfl)
theorem dJ23_split_94 : decode cJ23_split 94 = .ok (.aload 9, 2) := dk_25 9 (dk_at dksJ23_split_4 0 rfl rfl)
theorem dJ23_split_96 : decode cJ23_split 96 = .ok (.dup_x1, 1) := dk_90 (dk_at dksJ23_split_4 2 rfl rfl)
theorem dJ23_split_97 : decode cJ23_split 97 = .ok (.putfield 19, 3) := dk_181 0 19 (dk_at dksJ23_split_4 3 rfl rfl)
theorem dJ23_split_100 : decode cJ23_split 100 = .ok (.ifnonnull 10, 3) := dk_199 0 10 (dk_at dksJ23_split_4 6 rfl rfl)
theorem dJ23_split_103 : decode cJ23_split 103 = .ok (.aload 12, 2) := dk_25 12 (dk_at dksJ23_split_4 9 rfl rfl)
theorem dJ23_split_105 : decode cJ23_split 105 = .ok (.astore 8, 2) := dk_58 8 (dk_at dksJ23_split_4 11 rfl rfl)
theorem dJ23_split_107 : decode cJ23_split 107 = .ok (.goto 10, 3) := dk_167 0 10 (dk_at dksJ23_split_4 13 rfl rfl)
theorem dJ23_split_110 : decode cJ23_split 110 = .ok (.aload 9, 2) := dk_25 9 (dk_at dksJ23_split_4 16 rfl rfl)
theorem dJ23_split_112 : decode cJ23_split 112 = .ok (.aload 12, 2) := dk_25 12 (dk_at dksJ23_split_4 18 rfl rfl)
theorem dJ23_split_114 : decode cJ23_split 114 = .ok (.putfield 22, 3) := dk_181 0 22 (dk_at dksJ23_split_4 20 rfl rfl)
theorem dJ23_split_117 : decode cJ23_split 117 = .ok (.aload 12, 2) := dk_25 12 (dk_at dksJ23_split_5 0 rfl rfl)
theorem dJ23_split_119 : decode cJ23_split 119 = .ok (.astore 9, 2) := dk_58 9 (dk_at dksJ23_split_5 2 rfl rfl)
theorem dJ23_split_121 : decode cJ23_split 121 = .ok (.iinc 11 1, 3) := dk_132 11 1 (dk_at dksJ23_split_5 4 rfl rfl)
theorem dJ23_split_124 : decode cJ23_split 124 = .ok (.aload 13, 2) := dk_25 13 (dk_at dksJ23_split_5 7 rfl rfl)
theorem dJ23_split_126 : decode cJ23_split 126 = .ok (.astore 12, 2) := dk_58 12 (dk_at dksJ23_split_5 9 rfl rfl)
theorem dJ23_split_128 : decode cJ23_split 128 = .ok (.goto (-103), 3) := dk_167 255 153 (dk_at dksJ23_split_5 11 rfl rfl)
theorem dJ23_split_131 : decode cJ23_split 131 = .ok (.aload 6, 2) := dk_25 6 (dk_at dksJ23_split_5 14 rfl rfl)
theorem dJ23_split_133 : decode cJ23_split 133 = .ok (.ifnull 38, 3) := dk_198 0 38 (dk_at dksJ23_split_5 16 rfl rfl)
theorem dJ23_split_136 : decode cJ23_split 136 = .ok (.iload 10, 2) := dk_21 10 (dk_at dksJ23_split_5 19 rfl rfl)
theorem dJ23_split_138 : decode cJ23_split 138 = .ok (.bipush 6, 2) := dk_16 6 (dk_at dksJ23_split_5 21 rfl rfl)
theorem dJ23_split_140 : decode cJ23_split 140 = .ok (.if_icmp .gt 15, 3) := dk_163 0 15 (dk_at dksJ23_split_6 0 rfl rfl)
theorem dJ23_split_143 : decode cJ23_split 143 = .ok (.aload_n 2, 1) := dk_44 (dk_at dksJ23_split_6 3 rfl rfl)
theorem dJ23_split_144 : decode cJ23_split 144 = .ok (.iload_n 3, 1) := dk_29 (dk_at dksJ23_split_6 4 rfl rfl)
theorem dJ23_split_145 : decode cJ23_split 145 = .ok (.aload 6, 2) := dk_25 6 (dk_at dksJ23_split_6 5 rfl rfl)
theorem dJ23_split_147 : decode cJ23_split 147 = .ok (.aload_n 1, 1) := dk_43 (dk_at dksJ23_split_6 7 rfl rfl)
theorem dJ23_split_148 : decode cJ23_split 148 = .ok (.invokevirtual 119, 3) := dk_182 0 119 (dk_at dksJ23_split_6 8 rfl rfl)
theorem dJ23_split_151 : decode cJ23_split 151 = .ok (.aastore, 1) := dk_83 (dk_at dksJ23_split_6 11 rfl rfl)
theorem dJ23_split_152 : decode cJ23_split 152 = .ok (.goto 19, 3) := dk_167 0 19 (dk_at dksJ23_split_6 12 rfl rfl)
theorem dJ23_split_155 : decode cJ23_split 155 = .ok (.aload_n 2, 1) := dk_44 (dk_at dksJ23_split_6 15 rfl rfl)
theorem dJ23_split_156 : decode cJ23_split 156 = .ok (.iload_n 3, 1) := dk_29 (dk_at dksJ23_split_6 16 rfl rfl)
theorem dJ23_split_157 : decode cJ23_split 157 = .ok (.aload 6, 2) := dk_25 6 (dk_at dksJ23_split_6 17 rfl rfl)
theorem dJ23_split_159 : decode cJ23_split 159 = .ok (.aastore, 1) := dk_83 (dk_at dksJ23_split_6 19 rfl rfl)
theorem dJ23_split_160 : decode cJ23_split 160 = .ok (.aload 8, 2) := dk_25 8 (dk_at dksJ23_split_6 20 rfl rfl)
theorem dJ23_split_162 : decode cJ23_split 162 = .ok (.ifnull 9, 3) := dk_198 0 9 (dk_at dksJ23_split_7 0 rfl rfl)
theorem dJ23_split_165 : decode cJ23_split 165 = .ok (.aload 6, 2) := dk_25 6 (dk_at dksJ23_split_7 3 rfl rfl)
theorem dJ23_split_167 : decode cJ23_split 167 = .ok (.aload_n 2, 1) := dk_44 (dk_at dksJ23_split_7 5 rfl rfl)
theorem dJ23_split_168 : decode cJ23_split 168 = .ok (.invokevirtual 126, 3) := dk_182 0 126 (dk_at dksJ23_split_7 6 rfl rfl)
theorem dJ23_split_171 : decode cJ23_split 171 = .ok (.aload 8, 2) := dk_25 8 (dk_at dksJ23_split_7 9 rfl rfl)
theorem dJ23_split_173 : decode cJ23_split 173 = .ok (.ifnull 44, 3) := dk_198 0 44 (dk_at dksJ23_split_7 11 rfl rfl)
theorem dJ23_split_176 : decode cJ23_split 176 = .ok (.iload 11, 2) := dk_21 11 (dk_at dksJ23_split_7 14 rfl rfl)
theorem dJ23_split_178 : decode cJ23_split 178 = .ok (.bipush 6, 2) := dk_16 6 (dk_at dksJ23_split_7 16 rfl rfl)
theorem dJ23_split_180 : decode cJ23_split 180 = .ok (.if_icmp .gt 18, 3) := dk_163 0 18 (dk_at dksJ23_split_7 18 rfl rfl)
theorem dJ23_split_183 : decode cJ23_split 183 = .ok (.aload_n 2, 1) := dk_44 (dk_at dksJ23_split_7 21 rfl rfl)
theorem dJ23_split_184 : decode cJ23_split 184 = .ok (.iload_n 3, 1) := dk_29 (dk_at dksJ23_split_7 22 rfl rfl)
theorem dJ23_split_185 : decode cJ23_split 185 = .ok (.iload 4, 2) := dk_21 4 (dk_at dksJ23_split_8 0 rfl rfl)
theorem dJ23_split_187 : decode cJ23_split 187 = .ok (.iadd, 1) := dk_96 (dk_at dksJ23_split_8 2 rfl rfl)
theorem dJ23_split_188 : decode cJ23_split 188 = .ok (.aload 8, 2) := dk_25 8 (dk_at dksJ23_split_8 3 rfl rfl)
theorem dJ23_split_190 : decode cJ23_split 190 = .ok (.aload_n 1, 1) := dk_43 (dk_at dksJ23_split_8 5 rfl rfl)
theorem dJ23_split_191 : decode cJ23_split 191 = .ok (.invokevirtual 119, 3) := dk_182 0 119 (dk_at dksJ23_split_8 6 rfl rfl)
theorem dJ23_split_194 : decode cJ23_split 194 = .ok (.aastore, 1) := dk_83 (dk_at dksJ23_split_8 9 rfl rfl)
theorem dJ23_split_195 : decode cJ23_split 195 = .ok (.goto 22, 3) := dk_167 0 22 (dk_at dksJ23_split_8 10 rfl rfl)
theorem dJ23_split_198 : decode cJ23_split 198 = .ok (.aload_n 2, 1) := dk_44 (dk_at dksJ23_split_8 13 rfl rfl)
theorem dJ23_split_199 : decode cJ23_split 199 = .ok (.iload_n 3, 1) := dk_29 (dk_at dksJ23_split_8 14 rfl rfl)
theorem dJ23_split_200 : decode cJ23_split 200 = .ok (.iload 4, 2) := dk_21 4 (dk_at dksJ23_split_8 15 rfl rfl)
theorem dJ23_split_202 : decode cJ23_split 202 = .ok (.iadd, 1) := dk_96 (dk_at dksJ23_split_8 17 rfl rfl)
theorem dJ23_split_203 : decode cJ23_split 203 = .ok (.aload 8, 2) := dk_25 8 (dk_at dksJ23_split_8 18 rfl rfl)
theorem dJ23_split_205 : decode cJ23_split 205 = .ok (.aastore, 1) := dk_83 (dk_at dksJ23_split_8 20 rfl rfl)
theorem dJ23_split_206 : decode cJ23_split 206 = .ok (.aload 6, 2) := dk_25 6 (dk_at dksJ23_split_8 21 rfl rfl)
theorem dJ23_split_208 : decode cJ23_split 208 = .ok (.ifnull 9, 3) := dk_198 0 9 (dk_at dksJ23_split_9 0 rfl rfl)
theorem dJ23_split_211 : decode cJ23_split 211 = .ok (.aload 8, 2) := dk_25 8 (dk_at dksJ23_split_9 3 rfl rfl)
theorem dJ23_split_213 : decode cJ23_split 213 = .ok (.aload_n 2, 1) := dk_44 (dk_at dksJ23_split_9 5 rfl rfl)
theorem dJ23_split_214 : decode cJ23_split 214 = .ok (.invokevirtual 126, 3) := dk_182 0 126 (dk_at dksJ23_split_9 6 rfl rfl)
theorem dJ23_split_217 : decode cJ23_split 217 = .ok (.return_, 1) := dk_177 (dk_at dksJ23_split_9 9 rfl rfl)
abbrev cJ23_untreeify : ByteArray := prog_47_method_8_code
def yJ23_untreeify : MethodName := ⟨RJ23, "untreeify", "(Ljava/util/HashMap;)Ljava/util/HashMap$Node;"⟩
def dkwJ23_untreeify_2 : List UInt8 := [58, 4, 167, 255, 216, 44, 176]
abbrev dktJ23_untreeify_2 : List UInt8 := dkwJ23_untreeify_2 ++ []
def dkwJ23_untreeify_1 : List UInt8 := [199, 0, 9, 25, 5, 77, 167, 0, 9, 45, 25, 5, 181, 0, 112, 25, 5, 78, 25, 4, 180, 0, 112]
abbrev dktJ23_untreeify_1 : List UInt8 := dkwJ23_untreeify_1 ++ dktJ23_untreeify_2
def dkwJ23_untreeify_0 : List UInt8 := [1, 77, 1, 78, 42, 58, 4, 25, 4, 198, 0, 41, 43, 25, 4, 1, 182, 0, 108, 58, 5, 45]
abbrev dktJ23_untreeify_0 : List UInt8 := dkwJ23_untreeify_0 ++ dktJ23_untreeify_1
theorem dksJ23_untreeify_0 : cJ23_untreeify.data.toList.drop 0 = dktJ23_untreeify_0 := by decide +kernel
theorem dksJ23_untreeify_1 : cJ23_untreeify.data.toList.drop 22 = dktJ23_untreeify_1 := dk_seg dksJ23_untreeify_0 22 rfl rfl
theorem dksJ23_untreeify_2 : cJ23_untreeify.data.toList.drop 45 = dktJ23_untreeify_2 := dk_seg dksJ23_untreeify_1 23 rfl rfl
theorem dJ23_untreeify_0 : decode cJ23_untreeify 0 = .ok (.aconst_null, 1) := dk_1 (dk_at dksJ23_untreeify_0 0 rfl rfl)
theorem dJ23_untreeify_1 : decode cJ23_untreeify 1 = .ok (.astore_n 2, 1) := dk_77 (dk_at dksJ23_untreeify_0 1 rfl rfl)
theorem dJ23_untreeify_2 : decode cJ23_untreeify 2 = .ok (.aconst_null, 1) := dk_1 (dk_at dksJ23_untreeify_0 2 rfl rfl)
theorem dJ23_untreeify_3 : decode cJ23_untreeify 3 = .ok (.astore_n 3, 1) := dk_78 (dk_at dksJ23_untreeify_0 3 rfl rfl)
theorem dJ23_untreeify_4 : decode cJ23_untreeify 4 = .ok (.aload_n 0, 1) := dk_42 (dk_at dksJ23_untreeify_0 4 rfl rfl)
theorem dJ23_untreeify_5 : decode cJ23_untreeify 5 = .ok (.astore 4, 2) := dk_58 4 (dk_at dksJ23_untreeify_0 5 rfl rfl)
theorem dJ23_untreeify_7 : decode cJ23_untreeify 7 = .ok (.aload 4, 2) := dk_25 4 (dk_at dksJ23_untreeify_0 7 rfl rfl)
theorem dJ23_untreeify_9 : decode cJ23_untreeify 9 = .ok (.ifnull 41, 3) := dk_198 0 41 (dk_at dksJ23_untreeify_0 9 rfl rfl)
theorem dJ23_untreeify_12 : decode cJ23_untreeify 12 = .ok (.aload_n 1, 1) := dk_43 (dk_at dksJ23_untreeify_0 12 rfl rfl)
theorem dJ23_untreeify_13 : decode cJ23_untreeify 13 = .ok (.aload 4, 2) := dk_25 4 (dk_at dksJ23_untreeify_0 13 rfl rfl)
theorem dJ23_untreeify_15 : decode cJ23_untreeify 15 = .ok (.aconst_null, 1) := dk_1 (dk_at dksJ23_untreeify_0 15 rfl rfl)
theorem dJ23_untreeify_16 : decode cJ23_untreeify 16 = .ok (.invokevirtual 108, 3) := dk_182 0 108 (dk_at dksJ23_untreeify_0 16 rfl rfl)
theorem dJ23_untreeify_19 : decode cJ23_untreeify 19 = .ok (.astore 5, 2) := dk_58 5 (dk_at dksJ23_untreeify_0 19 rfl rfl)
theorem dJ23_untreeify_21 : decode cJ23_untreeify 21 = .ok (.aload_n 3, 1) := dk_45 (dk_at dksJ23_untreeify_0 21 rfl rfl)
theorem dJ23_untreeify_22 : decode cJ23_untreeify 22 = .ok (.ifnonnull 9, 3) := dk_199 0 9 (dk_at dksJ23_untreeify_1 0 rfl rfl)
theorem dJ23_untreeify_25 : decode cJ23_untreeify 25 = .ok (.aload 5, 2) := dk_25 5 (dk_at dksJ23_untreeify_1 3 rfl rfl)
theorem dJ23_untreeify_27 : decode cJ23_untreeify 27 = .ok (.astore_n 2, 1) := dk_77 (dk_at dksJ23_untreeify_1 5 rfl rfl)
theorem dJ23_untreeify_28 : decode cJ23_untreeify 28 = .ok (.goto 9, 3) := dk_167 0 9 (dk_at dksJ23_untreeify_1 6 rfl rfl)
theorem dJ23_untreeify_31 : decode cJ23_untreeify 31 = .ok (.aload_n 3, 1) := dk_45 (dk_at dksJ23_untreeify_1 9 rfl rfl)
theorem dJ23_untreeify_32 : decode cJ23_untreeify 32 = .ok (.aload 5, 2) := dk_25 5 (dk_at dksJ23_untreeify_1 10 rfl rfl)
theorem dJ23_untreeify_34 : decode cJ23_untreeify 34 = .ok (.putfield 112, 3) := dk_181 0 112 (dk_at dksJ23_untreeify_1 12 rfl rfl)
theorem dJ23_untreeify_37 : decode cJ23_untreeify 37 = .ok (.aload 5, 2) := dk_25 5 (dk_at dksJ23_untreeify_1 15 rfl rfl)
theorem dJ23_untreeify_39 : decode cJ23_untreeify 39 = .ok (.astore_n 3, 1) := dk_78 (dk_at dksJ23_untreeify_1 17 rfl rfl)
theorem dJ23_untreeify_40 : decode cJ23_untreeify 40 = .ok (.aload 4, 2) := dk_25 4 (dk_at dksJ23_untreeify_1 18 rfl rfl)
theorem dJ23_untreeify_42 : decode cJ23_untreeify 42 = .ok (.getfield 112, 3) := dk_180 0 112 (dk_at dksJ23_untreeify_1 20 rfl rfl)
theorem dJ23_untreeify_45 : decode cJ23_untreeify 45 = .ok (.astore 4, 2) := dk_58 4 (dk_at dksJ23_untreeify_2 0 rfl rfl)
theorem dJ23_untreeify_47 : decode cJ23_untreeify 47 = .ok (.goto (-40), 3) := dk_167 255 216 (dk_at dksJ23_untreeify_2 2 rfl rfl)
theorem dJ23_untreeify_50 : decode cJ23_untreeify 50 = .ok (.aload_n 2, 1) := dk_44 (dk_at dksJ23_untreeify_2 5 rfl rfl)
theorem dJ23_untreeify_51 : decode cJ23_untreeify 51 = .ok (.areturn, 1) := dk_176 (dk_at dksJ23_untreeify_2 6 rfl rfl)
abbrev cJ23_treeify : ByteArray := prog_47_method_7_code
def yJ23_treeify : MethodName := ⟨RJ23, "treeify", "([Ljava/util/HashMap$Node;)V"⟩
def dkwJ23_treeify_9 : List UInt8 := [25, 4, 78, 167, 255, 48, 43, 44, 184, 0, 104, 177]
abbrev dktJ23_treeify_9 : List UInt8 := dkwJ23_treeify_9 ++ []
def dkwJ23_treeify_8 : List UInt8 := [181, 0, 39, 167, 0, 9, 25, 12, 45, 181, 0, 42, 44, 45, 184, 0, 100, 77, 167, 0, 6, 167, 255, 114]
abbrev dktJ23_treeify_8 : List UInt8 := dkwJ23_treeify_8 ++ dktJ23_treeify_9
def dkwJ23_treeify_7 : List UInt8 := [180, 0, 42, 89, 58, 8, 199, 0, 38, 45, 25, 12, 181, 0, 9, 21, 9, 157, 0, 12, 25, 12, 45]
abbrev dktJ23_treeify_7 : List UInt8 := dkwJ23_treeify_7 ++ dktJ23_treeify_8
def dkwJ23_treeify_6 : List UInt8 := [184, 0, 96, 54, 9, 25, 8, 58, 12, 21, 9, 157, 0, 11, 25, 8, 180, 0, 39, 167, 0, 8, 25, 8]
abbrev dktJ23_treeify_6 : List UInt8 := dkwJ23_treeify_6 ++ dktJ23_treeify_7
def dkwJ23_treeify_5 : List UInt8 := [198, 0, 18, 25, 7, 25, 5, 25, 11, 184, 0, 59, 89, 54, 9, 154, 0, 12, 25, 5, 25, 11]
abbrev dktJ23_treeify_5 : List UInt8 := dkwJ23_treeify_5 ++ dktJ23_treeify_6
def dkwJ23_treeify_4 : List UInt8 := [162, 0, 9, 4, 54, 9, 167, 0, 43, 25, 7, 199, 0, 14, 25, 5, 184, 0, 55, 89, 58, 7]
abbrev dktJ23_treeify_4 : List UInt8 := dkwJ23_treeify_4 ++ dktJ23_treeify_5
def dkwJ23_treeify_3 : List UInt8 := [25, 8, 180, 0, 15, 89, 54, 10, 21, 6, 164, 0, 9, 2, 54, 9, 167, 0, 56, 21, 10, 21, 6]
abbrev dktJ23_treeify_3 : List UInt8 := dkwJ23_treeify_3 ++ dktJ23_treeify_4
def dkwJ23_treeify_2 : List UInt8 := [180, 0, 45, 58, 5, 45, 180, 0, 15, 54, 6, 1, 58, 7, 44, 58, 8, 25, 8, 180, 0, 45, 58, 11]
abbrev dktJ23_treeify_2 : List UInt8 := dkwJ23_treeify_2 ++ dktJ23_treeify_3
def dkwJ23_treeify_1 : List UInt8 := [181, 0, 39, 44, 199, 0, 18, 45, 1, 181, 0, 9, 45, 3, 181, 0, 93, 45, 77, 167, 0, 166, 45]
abbrev dktJ23_treeify_1 : List UInt8 := dkwJ23_treeify_1 ++ dktJ23_treeify_2
def dkwJ23_treeify_0 : List UInt8 := [1, 77, 42, 78, 45, 198, 0, 210, 45, 180, 0, 22, 192, 0, 10, 58, 4, 45, 45, 1, 90, 181, 0, 42]
abbrev dktJ23_treeify_0 : List UInt8 := dkwJ23_treeify_0 ++ dktJ23_treeify_1
theorem dksJ23_treeify_0 : cJ23_treeify.data.toList.drop 0 = dktJ23_treeify_0 := by decide +kernel
theorem dksJ23_treeify_1 : cJ23_treeify.data.toList.drop 24 = dktJ23_treeify_1 := dk_seg dksJ23_treeify_0 24 rfl rfl
theorem dksJ23_treeify_2 : cJ23_treeify.data.toList.drop 47 = dktJ23_treeify_2 := dk_seg dksJ23_treeify_1 23 rfl rfl
theorem dksJ23_treeify_3 : cJ23_treeify.data.toList.drop 71 = dktJ23_treeify_3 := dk_seg dksJ23_treeify_2 24 rfl rfl
theorem dksJ23_treeify_4 : cJ23_treeify.data.toList.drop 94 = dktJ23_treeify_4 := dk_seg dksJ23_treeify_3 23 rfl rfl
theorem dksJ23_treeify_5 : cJ23_treeify.data.toList.drop 116 = dktJ23_treeify_5 := dk_seg dksJ23_treeify_4 22 rfl rfl
theorem dksJ23_treeify_6 : cJ23_treeify.data.toList.drop 138 = dktJ23_treeify_6 := dk_seg dksJ23_treeify_5 22 rfl rfl
theorem dksJ23_treeify_7 : cJ23_treeify.data.toList.drop 162 = dktJ23_treeify_7 := dk_seg dksJ23_treeify_6 24 rfl rfl
theorem dksJ23_treeify_8 : cJ23_treeify.data.toList.drop 185 = dktJ23_treeify_8 := dk_seg dksJ23_treeify_7 23 rfl rfl
theorem dksJ23_treeify_9 : cJ23_treeify.data.toList.drop 209 = dktJ23_treeify_9 := dk_seg dksJ23_treeify_8 24 rfl rfl
theorem dJ23_treeify_0 : decode cJ23_treeify 0 = .ok (.aconst_null, 1) := dk_1 (dk_at dksJ23_treeify_0 0 rfl rfl)
theorem dJ23_treeify_1 : decode cJ23_treeify 1 = .ok (.astore_n 2, 1) := dk_77 (dk_at dksJ23_treeify_0 1 rfl rfl)
theorem dJ23_treeify_2 : decode cJ23_treeify 2 = .ok (.aload_n 0, 1) := dk_42 (dk_at dksJ23_treeify_0 2 rfl rfl)
theorem dJ23_treeify_3 : decode cJ23_treeify 3 = .ok (.astore_n 3, 1) := dk_78 (dk_at dksJ23_treeify_0 3 rfl rfl)
theorem dJ23_treeify_4 : decode cJ23_treeify 4 = .ok (.aload_n 3, 1) := dk_45 (dk_at dksJ23_treeify_0 4 rfl rfl)
theorem dJ23_treeify_5 : decode cJ23_treeify 5 = .ok (.ifnull 210, 3) := dk_198 0 210 (dk_at dksJ23_treeify_0 5 rfl rfl)
theorem dJ23_treeify_8 : decode cJ23_treeify 8 = .ok (.aload_n 3, 1) := dk_45 (dk_at dksJ23_treeify_0 8 rfl rfl)
theorem dJ23_treeify_9 : decode cJ23_treeify 9 = .ok (.getfield 22, 3) := dk_180 0 22 (dk_at dksJ23_treeify_0 9 rfl rfl)
theorem dJ23_treeify_12 : decode cJ23_treeify 12 = .ok (.checkcast 10, 3) := dk_192 0 10 (dk_at dksJ23_treeify_0 12 rfl rfl)
theorem dJ23_treeify_15 : decode cJ23_treeify 15 = .ok (.astore 4, 2) := dk_58 4 (dk_at dksJ23_treeify_0 15 rfl rfl)
theorem dJ23_treeify_17 : decode cJ23_treeify 17 = .ok (.aload_n 3, 1) := dk_45 (dk_at dksJ23_treeify_0 17 rfl rfl)
theorem dJ23_treeify_18 : decode cJ23_treeify 18 = .ok (.aload_n 3, 1) := dk_45 (dk_at dksJ23_treeify_0 18 rfl rfl)
theorem dJ23_treeify_19 : decode cJ23_treeify 19 = .ok (.aconst_null, 1) := dk_1 (dk_at dksJ23_treeify_0 19 rfl rfl)
theorem dJ23_treeify_20 : decode cJ23_treeify 20 = .ok (.dup_x1, 1) := dk_90 (dk_at dksJ23_treeify_0 20 rfl rfl)
theorem dJ23_treeify_21 : decode cJ23_treeify 21 = .ok (.putfield 42, 3) := dk_181 0 42 (dk_at dksJ23_treeify_0 21 rfl rfl)
theorem dJ23_treeify_24 : decode cJ23_treeify 24 = .ok (.putfield 39, 3) := dk_181 0 39 (dk_at dksJ23_treeify_1 0 rfl rfl)
theorem dJ23_treeify_27 : decode cJ23_treeify 27 = .ok (.aload_n 2, 1) := dk_44 (dk_at dksJ23_treeify_1 3 rfl rfl)
theorem dJ23_treeify_28 : decode cJ23_treeify 28 = .ok (.ifnonnull 18, 3) := dk_199 0 18 (dk_at dksJ23_treeify_1 4 rfl rfl)
theorem dJ23_treeify_31 : decode cJ23_treeify 31 = .ok (.aload_n 3, 1) := dk_45 (dk_at dksJ23_treeify_1 7 rfl rfl)
theorem dJ23_treeify_32 : decode cJ23_treeify 32 = .ok (.aconst_null, 1) := dk_1 (dk_at dksJ23_treeify_1 8 rfl rfl)
theorem dJ23_treeify_33 : decode cJ23_treeify 33 = .ok (.putfield 9, 3) := dk_181 0 9 (dk_at dksJ23_treeify_1 9 rfl rfl)
theorem dJ23_treeify_36 : decode cJ23_treeify 36 = .ok (.aload_n 3, 1) := dk_45 (dk_at dksJ23_treeify_1 12 rfl rfl)
theorem dJ23_treeify_37 : decode cJ23_treeify 37 = .ok (.iconst 0, 1) := dk_3 (dk_at dksJ23_treeify_1 13 rfl rfl)
theorem dJ23_treeify_38 : decode cJ23_treeify 38 = .ok (.putfield 93, 3) := dk_181 0 93 (dk_at dksJ23_treeify_1 14 rfl rfl)
theorem dJ23_treeify_41 : decode cJ23_treeify 41 = .ok (.aload_n 3, 1) := dk_45 (dk_at dksJ23_treeify_1 17 rfl rfl)
theorem dJ23_treeify_42 : decode cJ23_treeify 42 = .ok (.astore_n 2, 1) := dk_77 (dk_at dksJ23_treeify_1 18 rfl rfl)
theorem dJ23_treeify_43 : decode cJ23_treeify 43 = .ok (.goto 166, 3) := dk_167 0 166 (dk_at dksJ23_treeify_1 19 rfl rfl)
theorem dJ23_treeify_46 : decode cJ23_treeify 46 = .ok (.aload_n 3, 1) := dk_45 (dk_at dksJ23_treeify_1 22 rfl rfl)
theorem dJ23_treeify_47 : decode cJ23_treeify 47 = .ok (.getfield 45, 3) := dk_180 0 45 (dk_at dksJ23_treeify_2 0 rfl rfl)
theorem dJ23_treeify_50 : decode cJ23_treeify 50 = .ok (.astore 5, 2) := dk_58 5 (dk_at dksJ23_treeify_2 3 rfl rfl)
theorem dJ23_treeify_52 : decode cJ23_treeify 52 = .ok (.aload_n 3, 1) := dk_45 (dk_at dksJ23_treeify_2 5 rfl rfl)
theorem dJ23_treeify_53 : decode cJ23_treeify 53 = .ok (.getfield 15, 3) := dk_180 0 15 (dk_at dksJ23_treeify_2 6 rfl rfl)
theorem dJ23_treeify_56 : decode cJ23_treeify 56 = .ok (.istore 6, 2) := dk_54 6 (dk_at dksJ23_treeify_2 9 rfl rfl)
theorem dJ23_treeify_58 : decode cJ23_treeify 58 = .ok (.aconst_null, 1) := dk_1 (dk_at dksJ23_treeify_2 11 rfl rfl)
theorem dJ23_treeify_59 : decode cJ23_treeify 59 = .ok (.astore 7, 2) := dk_58 7 (dk_at dksJ23_treeify_2 12 rfl rfl)
theorem dJ23_treeify_61 : decode cJ23_treeify 61 = .ok (.aload_n 2, 1) := dk_44 (dk_at dksJ23_treeify_2 14 rfl rfl)
theorem dJ23_treeify_62 : decode cJ23_treeify 62 = .ok (.astore 8, 2) := dk_58 8 (dk_at dksJ23_treeify_2 15 rfl rfl)
theorem dJ23_treeify_64 : decode cJ23_treeify 64 = .ok (.aload 8, 2) := dk_25 8 (dk_at dksJ23_treeify_2 17 rfl rfl)
theorem dJ23_treeify_66 : decode cJ23_treeify 66 = .ok (.getfield 45, 3) := dk_180 0 45 (dk_at dksJ23_treeify_2 19 rfl rfl)
theorem dJ23_treeify_69 : decode cJ23_treeify 69 = .ok (.astore 11, 2) := dk_58 11 (dk_at dksJ23_treeify_2 22 rfl rfl)
theorem dJ23_treeify_71 : decode cJ23_treeify 71 = .ok (.aload 8, 2) := dk_25 8 (dk_at dksJ23_treeify_3 0 rfl rfl)
theorem dJ23_treeify_73 : decode cJ23_treeify 73 = .ok (.getfield 15, 3) := dk_180 0 15 (dk_at dksJ23_treeify_3 2 rfl rfl)
theorem dJ23_treeify_76 : decode cJ23_treeify 76 = .ok (.dup, 1) := dk_89 (dk_at dksJ23_treeify_3 5 rfl rfl)
theorem dJ23_treeify_77 : decode cJ23_treeify 77 = .ok (.istore 10, 2) := dk_54 10 (dk_at dksJ23_treeify_3 6 rfl rfl)
theorem dJ23_treeify_79 : decode cJ23_treeify 79 = .ok (.iload 6, 2) := dk_21 6 (dk_at dksJ23_treeify_3 8 rfl rfl)
theorem dJ23_treeify_81 : decode cJ23_treeify 81 = .ok (.if_icmp .le 9, 3) := dk_164 0 9 (dk_at dksJ23_treeify_3 10 rfl rfl)
theorem dJ23_treeify_84 : decode cJ23_treeify 84 = .ok (.iconst (-1), 1) := dk_2 (dk_at dksJ23_treeify_3 13 rfl rfl)
theorem dJ23_treeify_85 : decode cJ23_treeify 85 = .ok (.istore 9, 2) := dk_54 9 (dk_at dksJ23_treeify_3 14 rfl rfl)
theorem dJ23_treeify_87 : decode cJ23_treeify 87 = .ok (.goto 56, 3) := dk_167 0 56 (dk_at dksJ23_treeify_3 16 rfl rfl)
theorem dJ23_treeify_90 : decode cJ23_treeify 90 = .ok (.iload 10, 2) := dk_21 10 (dk_at dksJ23_treeify_3 19 rfl rfl)
theorem dJ23_treeify_92 : decode cJ23_treeify 92 = .ok (.iload 6, 2) := dk_21 6 (dk_at dksJ23_treeify_3 21 rfl rfl)
theorem dJ23_treeify_94 : decode cJ23_treeify 94 = .ok (.if_icmp .ge 9, 3) := dk_162 0 9 (dk_at dksJ23_treeify_4 0 rfl rfl)
theorem dJ23_treeify_97 : decode cJ23_treeify 97 = .ok (.iconst 1, 1) := dk_4 (dk_at dksJ23_treeify_4 3 rfl rfl)
theorem dJ23_treeify_98 : decode cJ23_treeify 98 = .ok (.istore 9, 2) := dk_54 9 (dk_at dksJ23_treeify_4 4 rfl rfl)
theorem dJ23_treeify_100 : decode cJ23_treeify 100 = .ok (.goto 43, 3) := dk_167 0 43 (dk_at dksJ23_treeify_4 6 rfl rfl)
theorem dJ23_treeify_103 : decode cJ23_treeify 103 = .ok (.aload 7, 2) := dk_25 7 (dk_at dksJ23_treeify_4 9 rfl rfl)
theorem dJ23_treeify_105 : decode cJ23_treeify 105 = .ok (.ifnonnull 14, 3) := dk_199 0 14 (dk_at dksJ23_treeify_4 11 rfl rfl)
theorem dJ23_treeify_108 : decode cJ23_treeify 108 = .ok (.aload 5, 2) := dk_25 5 (dk_at dksJ23_treeify_4 14 rfl rfl)
theorem dJ23_treeify_110 : decode cJ23_treeify 110 = .ok (.invokestatic 55, 3) := dk_184 0 55 (dk_at dksJ23_treeify_4 16 rfl rfl)
theorem dJ23_treeify_113 : decode cJ23_treeify 113 = .ok (.dup, 1) := dk_89 (dk_at dksJ23_treeify_4 19 rfl rfl)
theorem dJ23_treeify_114 : decode cJ23_treeify 114 = .ok (.astore 7, 2) := dk_58 7 (dk_at dksJ23_treeify_4 20 rfl rfl)
theorem dJ23_treeify_116 : decode cJ23_treeify 116 = .ok (.ifnull 18, 3) := dk_198 0 18 (dk_at dksJ23_treeify_5 0 rfl rfl)
theorem dJ23_treeify_119 : decode cJ23_treeify 119 = .ok (.aload 7, 2) := dk_25 7 (dk_at dksJ23_treeify_5 3 rfl rfl)
theorem dJ23_treeify_121 : decode cJ23_treeify 121 = .ok (.aload 5, 2) := dk_25 5 (dk_at dksJ23_treeify_5 5 rfl rfl)
theorem dJ23_treeify_123 : decode cJ23_treeify 123 = .ok (.aload 11, 2) := dk_25 11 (dk_at dksJ23_treeify_5 7 rfl rfl)
theorem dJ23_treeify_125 : decode cJ23_treeify 125 = .ok (.invokestatic 59, 3) := dk_184 0 59 (dk_at dksJ23_treeify_5 9 rfl rfl)
theorem dJ23_treeify_128 : decode cJ23_treeify 128 = .ok (.dup, 1) := dk_89 (dk_at dksJ23_treeify_5 12 rfl rfl)
theorem dJ23_treeify_129 : decode cJ23_treeify 129 = .ok (.istore 9, 2) := dk_54 9 (dk_at dksJ23_treeify_5 13 rfl rfl)
theorem dJ23_treeify_131 : decode cJ23_treeify 131 = .ok (.ifCond .ne 12, 3) := dk_154 0 12 (dk_at dksJ23_treeify_5 15 rfl rfl)
theorem dJ23_treeify_134 : decode cJ23_treeify 134 = .ok (.aload 5, 2) := dk_25 5 (dk_at dksJ23_treeify_5 18 rfl rfl)
theorem dJ23_treeify_136 : decode cJ23_treeify 136 = .ok (.aload 11, 2) := dk_25 11 (dk_at dksJ23_treeify_5 20 rfl rfl)
theorem dJ23_treeify_138 : decode cJ23_treeify 138 = .ok (.invokestatic 96, 3) := dk_184 0 96 (dk_at dksJ23_treeify_6 0 rfl rfl)
theorem dJ23_treeify_141 : decode cJ23_treeify 141 = .ok (.istore 9, 2) := dk_54 9 (dk_at dksJ23_treeify_6 3 rfl rfl)
theorem dJ23_treeify_143 : decode cJ23_treeify 143 = .ok (.aload 8, 2) := dk_25 8 (dk_at dksJ23_treeify_6 5 rfl rfl)
theorem dJ23_treeify_145 : decode cJ23_treeify 145 = .ok (.astore 12, 2) := dk_58 12 (dk_at dksJ23_treeify_6 7 rfl rfl)
theorem dJ23_treeify_147 : decode cJ23_treeify 147 = .ok (.iload 9, 2) := dk_21 9 (dk_at dksJ23_treeify_6 9 rfl rfl)
theorem dJ23_treeify_149 : decode cJ23_treeify 149 = .ok (.ifCond .gt 11, 3) := dk_157 0 11 (dk_at dksJ23_treeify_6 11 rfl rfl)
theorem dJ23_treeify_152 : decode cJ23_treeify 152 = .ok (.aload 8, 2) := dk_25 8 (dk_at dksJ23_treeify_6 14 rfl rfl)
theorem dJ23_treeify_154 : decode cJ23_treeify 154 = .ok (.getfield 39, 3) := dk_180 0 39 (dk_at dksJ23_treeify_6 16 rfl rfl)
theorem dJ23_treeify_157 : decode cJ23_treeify 157 = .ok (.goto 8, 3) := dk_167 0 8 (dk_at dksJ23_treeify_6 19 rfl rfl)
theorem dJ23_treeify_160 : decode cJ23_treeify 160 = .ok (.aload 8, 2) := dk_25 8 (dk_at dksJ23_treeify_6 22 rfl rfl)
theorem dJ23_treeify_162 : decode cJ23_treeify 162 = .ok (.getfield 42, 3) := dk_180 0 42 (dk_at dksJ23_treeify_7 0 rfl rfl)
theorem dJ23_treeify_165 : decode cJ23_treeify 165 = .ok (.dup, 1) := dk_89 (dk_at dksJ23_treeify_7 3 rfl rfl)
theorem dJ23_treeify_166 : decode cJ23_treeify 166 = .ok (.astore 8, 2) := dk_58 8 (dk_at dksJ23_treeify_7 4 rfl rfl)
theorem dJ23_treeify_168 : decode cJ23_treeify 168 = .ok (.ifnonnull 38, 3) := dk_199 0 38 (dk_at dksJ23_treeify_7 6 rfl rfl)
theorem dJ23_treeify_171 : decode cJ23_treeify 171 = .ok (.aload_n 3, 1) := dk_45 (dk_at dksJ23_treeify_7 9 rfl rfl)
theorem dJ23_treeify_172 : decode cJ23_treeify 172 = .ok (.aload 12, 2) := dk_25 12 (dk_at dksJ23_treeify_7 10 rfl rfl)
theorem dJ23_treeify_174 : decode cJ23_treeify 174 = .ok (.putfield 9, 3) := dk_181 0 9 (dk_at dksJ23_treeify_7 12 rfl rfl)
theorem dJ23_treeify_177 : decode cJ23_treeify 177 = .ok (.iload 9, 2) := dk_21 9 (dk_at dksJ23_treeify_7 15 rfl rfl)
theorem dJ23_treeify_179 : decode cJ23_treeify 179 = .ok (.ifCond .gt 12, 3) := dk_157 0 12 (dk_at dksJ23_treeify_7 17 rfl rfl)
theorem dJ23_treeify_182 : decode cJ23_treeify 182 = .ok (.aload 12, 2) := dk_25 12 (dk_at dksJ23_treeify_7 20 rfl rfl)
theorem dJ23_treeify_184 : decode cJ23_treeify 184 = .ok (.aload_n 3, 1) := dk_45 (dk_at dksJ23_treeify_7 22 rfl rfl)
theorem dJ23_treeify_185 : decode cJ23_treeify 185 = .ok (.putfield 39, 3) := dk_181 0 39 (dk_at dksJ23_treeify_8 0 rfl rfl)
theorem dJ23_treeify_188 : decode cJ23_treeify 188 = .ok (.goto 9, 3) := dk_167 0 9 (dk_at dksJ23_treeify_8 3 rfl rfl)
theorem dJ23_treeify_191 : decode cJ23_treeify 191 = .ok (.aload 12, 2) := dk_25 12 (dk_at dksJ23_treeify_8 6 rfl rfl)
theorem dJ23_treeify_193 : decode cJ23_treeify 193 = .ok (.aload_n 3, 1) := dk_45 (dk_at dksJ23_treeify_8 8 rfl rfl)
theorem dJ23_treeify_194 : decode cJ23_treeify 194 = .ok (.putfield 42, 3) := dk_181 0 42 (dk_at dksJ23_treeify_8 9 rfl rfl)
theorem dJ23_treeify_197 : decode cJ23_treeify 197 = .ok (.aload_n 2, 1) := dk_44 (dk_at dksJ23_treeify_8 12 rfl rfl)
theorem dJ23_treeify_198 : decode cJ23_treeify 198 = .ok (.aload_n 3, 1) := dk_45 (dk_at dksJ23_treeify_8 13 rfl rfl)
theorem dJ23_treeify_199 : decode cJ23_treeify 199 = .ok (.invokestatic 100, 3) := dk_184 0 100 (dk_at dksJ23_treeify_8 14 rfl rfl)
theorem dJ23_treeify_202 : decode cJ23_treeify 202 = .ok (.astore_n 2, 1) := dk_77 (dk_at dksJ23_treeify_8 17 rfl rfl)
theorem dJ23_treeify_203 : decode cJ23_treeify 203 = .ok (.goto 6, 3) := dk_167 0 6 (dk_at dksJ23_treeify_8 18 rfl rfl)
theorem dJ23_treeify_206 : decode cJ23_treeify 206 = .ok (.goto (-142), 3) := dk_167 255 114 (dk_at dksJ23_treeify_8 21 rfl rfl)
theorem dJ23_treeify_209 : decode cJ23_treeify 209 = .ok (.aload 4, 2) := dk_25 4 (dk_at dksJ23_treeify_9 0 rfl rfl)
theorem dJ23_treeify_211 : decode cJ23_treeify 211 = .ok (.astore_n 3, 1) := dk_78 (dk_at dksJ23_treeify_9 2 rfl rfl)
theorem dJ23_treeify_212 : decode cJ23_treeify 212 = .ok (.goto (-208), 3) := dk_167 255 48 (dk_at dksJ23_treeify_9 3 rfl rfl)
theorem dJ23_treeify_215 : decode cJ23_treeify 215 = .ok (.aload_n 1, 1) := dk_43 (dk_at dksJ23_treeify_9 6 rfl rfl)
theorem dJ23_treeify_216 : decode cJ23_treeify 216 = .ok (.aload_n 2, 1) := dk_44 (dk_at dksJ23_treeify_9 7 rfl rfl)
theorem dJ23_treeify_217 : decode cJ23_treeify 217 = .ok (.invokestatic 104, 3) := dk_184 0 104 (dk_at dksJ23_treeify_9 8 rfl rfl)
theorem dJ23_treeify_220 : decode cJ23_treeify 220 = .ok (.return_, 1) := dk_177 (dk_at dksJ23_treeify_9 11 rfl rfl)
abbrev cJ23_balanceInsertion : ByteArray := prog_47_method_14_code
def yJ23_balanceInsertion : MethodName := ⟨RJ23, "balanceInsertion", "(Ljava/util/HashMap$TreeNode;Ljava/util/HashMap$TreeNode;)Ljava/util/HashMap$TreeNode;"⟩
def dkwJ23_balanceInsertion_10 : List UInt8 := [198, 255, 33, 45, 4, 181, 0, 93, 42, 45, 184, 0, 130, 75, 167, 255, 19]
abbrev dktJ23_balanceInsertion_10 : List UInt8 := dkwJ23_balanceInsertion_10 ++ []
def dkwJ23_balanceInsertion_9 : List UInt8 := [199, 0, 7, 1, 167, 0, 7, 44, 180, 0, 9, 78, 44, 198, 255, 42, 44, 3, 181, 0, 93, 45]
abbrev dktJ23_balanceInsertion_9 : List UInt8 := dkwJ23_balanceInsertion_9 ++ dktJ23_balanceInsertion_10
def dkwJ23_balanceInsertion_8 : List UInt8 := [43, 44, 180, 0, 39, 166, 0, 29, 42, 44, 89, 76, 184, 0, 133, 75, 43, 180, 0, 9, 89, 77]
abbrev dktJ23_balanceInsertion_8 : List UInt8 := dkwJ23_balanceInsertion_8 ++ dktJ23_balanceInsertion_9
def dkwJ23_balanceInsertion_7 : List UInt8 := [153, 0, 24, 25, 4, 3, 181, 0, 93, 44, 3, 181, 0, 93, 45, 4, 181, 0, 93, 45, 76, 167, 255, 80]
abbrev dktJ23_balanceInsertion_7 : List UInt8 := dkwJ23_balanceInsertion_7 ++ dktJ23_balanceInsertion_8
def dkwJ23_balanceInsertion_6 : List UInt8 := [181, 0, 93, 42, 45, 184, 0, 133, 75, 167, 255, 114, 25, 4, 198, 0, 32, 25, 4, 180, 0, 93]
abbrev dktJ23_balanceInsertion_6 : List UInt8 := dkwJ23_balanceInsertion_6 ++ dktJ23_balanceInsertion_7
def dkwJ23_balanceInsertion_5 : List UInt8 := [167, 0, 7, 44, 180, 0, 9, 78, 44, 198, 255, 137, 44, 3, 181, 0, 93, 45, 198, 255, 128, 45, 4]
abbrev dktJ23_balanceInsertion_5 : List UInt8 := dkwJ23_balanceInsertion_5 ++ dktJ23_balanceInsertion_6
def dkwJ23_balanceInsertion_4 : List UInt8 := [180, 0, 42, 166, 0, 29, 42, 44, 89, 76, 184, 0, 130, 75, 43, 180, 0, 9, 89, 77, 199, 0, 7, 1]
abbrev dktJ23_balanceInsertion_4 : List UInt8 := dkwJ23_balanceInsertion_4 ++ dktJ23_balanceInsertion_5
def dkwJ23_balanceInsertion_3 : List UInt8 := [25, 5, 3, 181, 0, 93, 44, 3, 181, 0, 93, 45, 4, 181, 0, 93, 45, 76, 167, 255, 175, 43, 44]
abbrev dktJ23_balanceInsertion_3 : List UInt8 := dkwJ23_balanceInsertion_3 ++ dktJ23_balanceInsertion_4
def dkwJ23_balanceInsertion_2 : List UInt8 := [58, 4, 166, 0, 103, 45, 180, 0, 42, 89, 58, 5, 198, 0, 32, 25, 5, 180, 0, 93, 153, 0, 24]
abbrev dktJ23_balanceInsertion_2 : List UInt8 := dkwJ23_balanceInsertion_2 ++ dktJ23_balanceInsertion_3
def dkwJ23_balanceInsertion_1 : List UInt8 := [180, 0, 93, 153, 0, 12, 44, 180, 0, 9, 89, 78, 199, 0, 5, 42, 176, 44, 45, 180, 0, 39, 89]
abbrev dktJ23_balanceInsertion_1 : List UInt8 := dkwJ23_balanceInsertion_1 ++ dktJ23_balanceInsertion_2
def dkwJ23_balanceInsertion_0 : List UInt8 := [43, 4, 181, 0, 93, 43, 180, 0, 9, 89, 77, 199, 0, 10, 43, 3, 181, 0, 93, 43, 176, 44]
abbrev dktJ23_balanceInsertion_0 : List UInt8 := dkwJ23_balanceInsertion_0 ++ dktJ23_balanceInsertion_1
theorem dksJ23_balanceInsertion_0 : cJ23_balanceInsertion.data.toList.drop 0 = dktJ23_balanceInsertion_0 := by decide +kernel
theorem dksJ23_balanceInsertion_1 : cJ23_balanceInsertion.data.toList.drop 22 = dktJ23_balanceInsertion_1 := dk_seg dksJ23_balanceInsertion_0 22 rfl rfl
theorem dksJ23_balanceInsertion_2 : cJ23_balanceInsertion.data.toList.drop 45 = dktJ23_balanceInsertion_2 := dk_seg dksJ23_balanceInsertion_1 23 rfl rfl
theorem dksJ23_balanceInsertion_3 : cJ23_balanceInsertion.data.toList.drop 68 = dktJ23_balanceInsertion_3 := dk_seg dksJ23_balanceInsertion_2 23 rfl rfl
theorem dksJ23_balanceInsertion_4 : cJ23_balanceInsertion.data.toList.drop 91 = dktJ23_balanceInsertion_4 := dk_seg dksJ23_balanceInsertion_3 23 rfl rfl
theorem dksJ23_balanceInsertion_5 : cJ23_balanceInsertion.data.toList.drop 115 = dktJ23_balanceInsertion_5 := dk_seg dksJ23_balanceInsertion_4 24 rfl rfl
theorem dksJ23_balanceInsertion_6 : cJ23_balanceInsertion.data.toList.drop 138 = dktJ23_balanceInsertion_6 := dk_seg dksJ23_balanceInsertion_5 23 rfl rfl
theorem dksJ23_balanceInsertion_7 : cJ23_balanceInsertion.data.toList.drop 160 = dktJ23_balanceInsertion_7 := dk_seg dksJ23_balanceInsertion_6 22 rfl rfl
theorem dksJ23_balanceInsertion_8 : cJ23_balanceInsertion.data.toList.drop 184 = dktJ23_balanceInsertion_8 := dk_seg dksJ23_balanceInsertion_7 24 rfl rfl
theorem dksJ23_balanceInsertion_9 : cJ23_balanceInsertion.data.toList.drop 206 = dktJ23_balanceInsertion_9 := dk_seg dksJ23_balanceInsertion_8 22 rfl rfl
theorem dksJ23_balanceInsertion_10 : cJ23_balanceInsertion.data.toList.drop 228 = dktJ23_balanceInsertion_10 := dk_seg dksJ23_balanceInsertion_9 22 rfl rfl
theorem dJ23_balanceInsertion_0 : decode cJ23_balanceInsertion 0 = .ok (.aload_n 1, 1) := dk_43 (dk_at dksJ23_balanceInsertion_0 0 rfl rfl)
theorem dJ23_balanceInsertion_1 : decode cJ23_balanceInsertion 1 = .ok (.iconst 1, 1) := dk_4 (dk_at dksJ23_balanceInsertion_0 1 rfl rfl)
theorem dJ23_balanceInsertion_2 : decode cJ23_balanceInsertion 2 = .ok (.putfield 93, 3) := dk_181 0 93 (dk_at dksJ23_balanceInsertion_0 2 rfl rfl)
theorem dJ23_balanceInsertion_5 : decode cJ23_balanceInsertion 5 = .ok (.aload_n 1, 1) := dk_43 (dk_at dksJ23_balanceInsertion_0 5 rfl rfl)
theorem dJ23_balanceInsertion_6 : decode cJ23_balanceInsertion 6 = .ok (.getfield 9, 3) := dk_180 0 9 (dk_at dksJ23_balanceInsertion_0 6 rfl rfl)
theorem dJ23_balanceInsertion_9 : decode cJ23_balanceInsertion 9 = .ok (.dup, 1) := dk_89 (dk_at dksJ23_balanceInsertion_0 9 rfl rfl)
theorem dJ23_balanceInsertion_10 : decode cJ23_balanceInsertion 10 = .ok (.astore_n 2, 1) := dk_77 (dk_at dksJ23_balanceInsertion_0 10 rfl rfl)
theorem dJ23_balanceInsertion_11 : decode cJ23_balanceInsertion 11 = .ok (.ifnonnull 10, 3) := dk_199 0 10 (dk_at dksJ23_balanceInsertion_0 11 rfl rfl)
theorem dJ23_balanceInsertion_14 : decode cJ23_balanceInsertion 14 = .ok (.aload_n 1, 1) := dk_43 (dk_at dksJ23_balanceInsertion_0 14 rfl rfl)
theorem dJ23_balanceInsertion_15 : decode cJ23_balanceInsertion 15 = .ok (.iconst 0, 1) := dk_3 (dk_at dksJ23_balanceInsertion_0 15 rfl rfl)
theorem dJ23_balanceInsertion_16 : decode cJ23_balanceInsertion 16 = .ok (.putfield 93, 3) := dk_181 0 93 (dk_at dksJ23_balanceInsertion_0 16 rfl rfl)
theorem dJ23_balanceInsertion_19 : decode cJ23_balanceInsertion 19 = .ok (.aload_n 1, 1) := dk_43 (dk_at dksJ23_balanceInsertion_0 19 rfl rfl)
theorem dJ23_balanceInsertion_20 : decode cJ23_balanceInsertion 20 = .ok (.areturn, 1) := dk_176 (dk_at dksJ23_balanceInsertion_0 20 rfl rfl)
theorem dJ23_balanceInsertion_21 : decode cJ23_balanceInsertion 21 = .ok (.aload_n 2, 1) := dk_44 (dk_at dksJ23_balanceInsertion_0 21 rfl rfl)
theorem dJ23_balanceInsertion_22 : decode cJ23_balanceInsertion 22 = .ok (.getfield 93, 3) := dk_180 0 93 (dk_at dksJ23_balanceInsertion_1 0 rfl rfl)
theorem dJ23_balanceInsertion_25 : decode cJ23_balanceInsertion 25 = .ok (.ifCond .eq 12, 3) := dk_153 0 12 (dk_at dksJ23_balanceInsertion_1 3 rfl rfl)
theorem dJ23_balanceInsertion_28 : decode cJ23_balanceInsertion 28 = .ok (.aload_n 2, 1) := dk_44 (dk_at dksJ23_balanceInsertion_1 6 rfl rfl)
theorem dJ23_balanceInsertion_29 : decode cJ23_balanceInsertion 29 = .ok (.getfield 9, 3) := dk_180 0 9 (dk_at dksJ23_balanceInsertion_1 7 rfl rfl)
theorem dJ23_balanceInsertion_32 : decode cJ23_balanceInsertion 32 = .ok (.dup, 1) := dk_89 (dk_at dksJ23_balanceInsertion_1 10 rfl rfl)
theorem dJ23_balanceInsertion_33 : decode cJ23_balanceInsertion 33 = .ok (.astore_n 3, 1) := dk_78 (dk_at dksJ23_balanceInsertion_1 11 rfl rfl)
theorem dJ23_balanceInsertion_34 : decode cJ23_balanceInsertion 34 = .ok (.ifnonnull 5, 3) := dk_199 0 5 (dk_at dksJ23_balanceInsertion_1 12 rfl rfl)
theorem dJ23_balanceInsertion_37 : decode cJ23_balanceInsertion 37 = .ok (.aload_n 0, 1) := dk_42 (dk_at dksJ23_balanceInsertion_1 15 rfl rfl)
theorem dJ23_balanceInsertion_38 : decode cJ23_balanceInsertion 38 = .ok (.areturn, 1) := dk_176 (dk_at dksJ23_balanceInsertion_1 16 rfl rfl)
theorem dJ23_balanceInsertion_39 : decode cJ23_balanceInsertion 39 = .ok (.aload_n 2, 1) := dk_44 (dk_at dksJ23_balanceInsertion_1 17 rfl rfl)
theorem dJ23_balanceInsertion_40 : decode cJ23_balanceInsertion 40 = .ok (.aload_n 3, 1) := dk_45 (dk_at dksJ23_balanceInsertion_1 18 rfl rfl)
theorem dJ23_balanceInsertion_41 : decode cJ23_balanceInsertion 41 = .ok (.getfield 39, 3) := dk_180 0 39 (dk_at dksJ23_balanceInsertion_1 19 rfl rfl)
theorem dJ23_balanceInsertion_44 : decode cJ23_balanceInsertion 44 = .ok (.dup, 1) := dk_89 (dk_at dksJ23_balanceInsertion_1 22 rfl rfl)
theorem dJ23_balanceInsertion_45 : decode cJ23_balanceInsertion 45 = .ok (.astore 4, 2) := dk_58 4 (dk_at dksJ23_balanceInsertion_2 0 rfl rfl)
theorem dJ23_balanceInsertion_47 : decode cJ23_balanceInsertion 47 = .ok (.if_acmp .ne 103, 3) := dk_166 0 103 (dk_at dksJ23_balanceInsertion_2 2 rfl rfl)
theorem dJ23_balanceInsertion_50 : decode cJ23_balanceInsertion 50 = .ok (.aload_n 3, 1) := dk_45 (dk_at dksJ23_balanceInsertion_2 5 rfl rfl)
theorem dJ23_balanceInsertion_51 : decode cJ23_balanceInsertion 51 = .ok (.getfield 42, 3) := dk_180 0 42 (dk_at dksJ23_balanceInsertion_2 6 rfl rfl)
theorem dJ23_balanceInsertion_54 : decode cJ23_balanceInsertion 54 = .ok (.dup, 1) := dk_89 (dk_at dksJ23_balanceInsertion_2 9 rfl rfl)
theorem dJ23_balanceInsertion_55 : decode cJ23_balanceInsertion 55 = .ok (.astore 5, 2) := dk_58 5 (dk_at dksJ23_balanceInsertion_2 10 rfl rfl)
theorem dJ23_balanceInsertion_57 : decode cJ23_balanceInsertion 57 = .ok (.ifnull 32, 3) := dk_198 0 32 (dk_at dksJ23_balanceInsertion_2 12 rfl rfl)
theorem dJ23_balanceInsertion_60 : decode cJ23_balanceInsertion 60 = .ok (.aload 5, 2) := dk_25 5 (dk_at dksJ23_balanceInsertion_2 15 rfl rfl)
theorem dJ23_balanceInsertion_62 : decode cJ23_balanceInsertion 62 = .ok (.getfield 93, 3) := dk_180 0 93 (dk_at dksJ23_balanceInsertion_2 17 rfl rfl)
theorem dJ23_balanceInsertion_65 : decode cJ23_balanceInsertion 65 = .ok (.ifCond .eq 24, 3) := dk_153 0 24 (dk_at dksJ23_balanceInsertion_2 20 rfl rfl)
theorem dJ23_balanceInsertion_68 : decode cJ23_balanceInsertion 68 = .ok (.aload 5, 2) := dk_25 5 (dk_at dksJ23_balanceInsertion_3 0 rfl rfl)
theorem dJ23_balanceInsertion_70 : decode cJ23_balanceInsertion 70 = .ok (.iconst 0, 1) := dk_3 (dk_at dksJ23_balanceInsertion_3 2 rfl rfl)
theorem dJ23_balanceInsertion_71 : decode cJ23_balanceInsertion 71 = .ok (.putfield 93, 3) := dk_181 0 93 (dk_at dksJ23_balanceInsertion_3 3 rfl rfl)
theorem dJ23_balanceInsertion_74 : decode cJ23_balanceInsertion 74 = .ok (.aload_n 2, 1) := dk_44 (dk_at dksJ23_balanceInsertion_3 6 rfl rfl)
theorem dJ23_balanceInsertion_75 : decode cJ23_balanceInsertion 75 = .ok (.iconst 0, 1) := dk_3 (dk_at dksJ23_balanceInsertion_3 7 rfl rfl)
theorem dJ23_balanceInsertion_76 : decode cJ23_balanceInsertion 76 = .ok (.putfield 93, 3) := dk_181 0 93 (dk_at dksJ23_balanceInsertion_3 8 rfl rfl)
theorem dJ23_balanceInsertion_79 : decode cJ23_balanceInsertion 79 = .ok (.aload_n 3, 1) := dk_45 (dk_at dksJ23_balanceInsertion_3 11 rfl rfl)
theorem dJ23_balanceInsertion_80 : decode cJ23_balanceInsertion 80 = .ok (.iconst 1, 1) := dk_4 (dk_at dksJ23_balanceInsertion_3 12 rfl rfl)
theorem dJ23_balanceInsertion_81 : decode cJ23_balanceInsertion 81 = .ok (.putfield 93, 3) := dk_181 0 93 (dk_at dksJ23_balanceInsertion_3 13 rfl rfl)
theorem dJ23_balanceInsertion_84 : decode cJ23_balanceInsertion 84 = .ok (.aload_n 3, 1) := dk_45 (dk_at dksJ23_balanceInsertion_3 16 rfl rfl)
theorem dJ23_balanceInsertion_85 : decode cJ23_balanceInsertion 85 = .ok (.astore_n 1, 1) := dk_76 (dk_at dksJ23_balanceInsertion_3 17 rfl rfl)
theorem dJ23_balanceInsertion_86 : decode cJ23_balanceInsertion 86 = .ok (.goto (-81), 3) := dk_167 255 175 (dk_at dksJ23_balanceInsertion_3 18 rfl rfl)
theorem dJ23_balanceInsertion_89 : decode cJ23_balanceInsertion 89 = .ok (.aload_n 1, 1) := dk_43 (dk_at dksJ23_balanceInsertion_3 21 rfl rfl)
theorem dJ23_balanceInsertion_90 : decode cJ23_balanceInsertion 90 = .ok (.aload_n 2, 1) := dk_44 (dk_at dksJ23_balanceInsertion_3 22 rfl rfl)
theorem dJ23_balanceInsertion_91 : decode cJ23_balanceInsertion 91 = .ok (.getfield 42, 3) := dk_180 0 42 (dk_at dksJ23_balanceInsertion_4 0 rfl rfl)
theorem dJ23_balanceInsertion_94 : decode cJ23_balanceInsertion 94 = .ok (.if_acmp .ne 29, 3) := dk_166 0 29 (dk_at dksJ23_balanceInsertion_4 3 rfl rfl)
theorem dJ23_balanceInsertion_97 : decode cJ23_balanceInsertion 97 = .ok (.aload_n 0, 1) := dk_42 (dk_at dksJ23_balanceInsertion_4 6 rfl rfl)
theorem dJ23_balanceInsertion_98 : decode cJ23_balanceInsertion 98 = .ok (.aload_n 2, 1) := dk_44 (dk_at dksJ23_balanceInsertion_4 7 rfl rfl)
theorem dJ23_balanceInsertion_99 : decode cJ23_balanceInsertion 99 = .ok (.dup, 1) := dk_89 (dk_at dksJ23_balanceInsertion_4 8 rfl rfl)
theorem dJ23_balanceInsertion_100 : decode cJ23_balanceInsertion 100 = .ok (.astore_n 1, 1) := dk_76 (dk_at dksJ23_balanceInsertion_4 9 rfl rfl)
theorem dJ23_balanceInsertion_101 : decode cJ23_balanceInsertion 101 = .ok (.invokestatic 130, 3) := dk_184 0 130 (dk_at dksJ23_balanceInsertion_4 10 rfl rfl)
theorem dJ23_balanceInsertion_104 : decode cJ23_balanceInsertion 104 = .ok (.astore_n 0, 1) := dk_75 (dk_at dksJ23_balanceInsertion_4 13 rfl rfl)
theorem dJ23_balanceInsertion_105 : decode cJ23_balanceInsertion 105 = .ok (.aload_n 1, 1) := dk_43 (dk_at dksJ23_balanceInsertion_4 14 rfl rfl)
theorem dJ23_balanceInsertion_106 : decode cJ23_balanceInsertion 106 = .ok (.getfield 9, 3) := dk_180 0 9 (dk_at dksJ23_balanceInsertion_4 15 rfl rfl)
theorem dJ23_balanceInsertion_109 : decode cJ23_balanceInsertion 109 = .ok (.dup, 1) := dk_89 (dk_at dksJ23_balanceInsertion_4 18 rfl rfl)
theorem dJ23_balanceInsertion_110 : decode cJ23_balanceInsertion 110 = .ok (.astore_n 2, 1) := dk_77 (dk_at dksJ23_balanceInsertion_4 19 rfl rfl)
theorem dJ23_balanceInsertion_111 : decode cJ23_balanceInsertion 111 = .ok (.ifnonnull 7, 3) := dk_199 0 7 (dk_at dksJ23_balanceInsertion_4 20 rfl rfl)
theorem dJ23_balanceInsertion_114 : decode cJ23_balanceInsertion 114 = .ok (.aconst_null, 1) := dk_1 (dk_at dksJ23_balanceInsertion_4 23 rfl rfl)
theorem dJ23_balanceInsertion_115 : decode cJ23_balanceInsertion 115 = .ok (.goto 7, 3) := dk_167 0 7 (dk_at dksJ23_balanceInsertion_5 0 rfl rfl)
theorem dJ23_balanceInsertion_118 : decode cJ23_balanceInsertion 118 = .ok (.aload_n 2, 1) := dk_44 (dk_at dksJ23_balanceInsertion_5 3 rfl rfl)
theorem dJ23_balanceInsertion_119 : decode cJ23_balanceInsertion 119 = .ok (.getfield 9, 3) := dk_180 0 9 (dk_at dksJ23_balanceInsertion_5 4 rfl rfl)
theorem dJ23_balanceInsertion_122 : decode cJ23_balanceInsertion 122 = .ok (.astore_n 3, 1) := dk_78 (dk_at dksJ23_balanceInsertion_5 7 rfl rfl)
theorem dJ23_balanceInsertion_123 : decode cJ23_balanceInsertion 123 = .ok (.aload_n 2, 1) := dk_44 (dk_at dksJ23_balanceInsertion_5 8 rfl rfl)
theorem dJ23_balanceInsertion_124 : decode cJ23_balanceInsertion 124 = .ok (.ifnull (-119), 3) := dk_198 255 137 (dk_at dksJ23_balanceInsertion_5 9 rfl rfl)
theorem dJ23_balanceInsertion_127 : decode cJ23_balanceInsertion 127 = .ok (.aload_n 2, 1) := dk_44 (dk_at dksJ23_balanceInsertion_5 12 rfl rfl)
theorem dJ23_balanceInsertion_128 : decode cJ23_balanceInsertion 128 = .ok (.iconst 0, 1) := dk_3 (dk_at dksJ23_balanceInsertion_5 13 rfl rfl)
theorem dJ23_balanceInsertion_129 : decode cJ23_balanceInsertion 129 = .ok (.putfield 93, 3) := dk_181 0 93 (dk_at dksJ23_balanceInsertion_5 14 rfl rfl)
theorem dJ23_balanceInsertion_132 : decode cJ23_balanceInsertion 132 = .ok (.aload_n 3, 1) := dk_45 (dk_at dksJ23_balanceInsertion_5 17 rfl rfl)
theorem dJ23_balanceInsertion_133 : decode cJ23_balanceInsertion 133 = .ok (.ifnull (-128), 3) := dk_198 255 128 (dk_at dksJ23_balanceInsertion_5 18 rfl rfl)
theorem dJ23_balanceInsertion_136 : decode cJ23_balanceInsertion 136 = .ok (.aload_n 3, 1) := dk_45 (dk_at dksJ23_balanceInsertion_5 21 rfl rfl)
theorem dJ23_balanceInsertion_137 : decode cJ23_balanceInsertion 137 = .ok (.iconst 1, 1) := dk_4 (dk_at dksJ23_balanceInsertion_5 22 rfl rfl)
theorem dJ23_balanceInsertion_138 : decode cJ23_balanceInsertion 138 = .ok (.putfield 93, 3) := dk_181 0 93 (dk_at dksJ23_balanceInsertion_6 0 rfl rfl)
theorem dJ23_balanceInsertion_141 : decode cJ23_balanceInsertion 141 = .ok (.aload_n 0, 1) := dk_42 (dk_at dksJ23_balanceInsertion_6 3 rfl rfl)
theorem dJ23_balanceInsertion_142 : decode cJ23_balanceInsertion 142 = .ok (.aload_n 3, 1) := dk_45 (dk_at dksJ23_balanceInsertion_6 4 rfl rfl)
theorem dJ23_balanceInsertion_143 : decode cJ23_balanceInsertion 143 = .ok (.invokestatic 133, 3) := dk_184 0 133 (dk_at dksJ23_balanceInsertion_6 5 rfl rfl)
theorem dJ23_balanceInsertion_146 : decode cJ23_balanceInsertion 146 = .ok (.astore_n 0, 1) := dk_75 (dk_at dksJ23_balanceInsertion_6 8 rfl rfl)
theorem dJ23_balanceInsertion_147 : decode cJ23_balanceInsertion 147 = .ok (.goto (-142), 3) := dk_167 255 114 (dk_at dksJ23_balanceInsertion_6 9 rfl rfl)
theorem dJ23_balanceInsertion_150 : decode cJ23_balanceInsertion 150 = .ok (.aload 4, 2) := dk_25 4 (dk_at dksJ23_balanceInsertion_6 12 rfl rfl)
theorem dJ23_balanceInsertion_152 : decode cJ23_balanceInsertion 152 = .ok (.ifnull 32, 3) := dk_198 0 32 (dk_at dksJ23_balanceInsertion_6 14 rfl rfl)
theorem dJ23_balanceInsertion_155 : decode cJ23_balanceInsertion 155 = .ok (.aload 4, 2) := dk_25 4 (dk_at dksJ23_balanceInsertion_6 17 rfl rfl)
theorem dJ23_balanceInsertion_157 : decode cJ23_balanceInsertion 157 = .ok (.getfield 93, 3) := dk_180 0 93 (dk_at dksJ23_balanceInsertion_6 19 rfl rfl)
theorem dJ23_balanceInsertion_160 : decode cJ23_balanceInsertion 160 = .ok (.ifCond .eq 24, 3) := dk_153 0 24 (dk_at dksJ23_balanceInsertion_7 0 rfl rfl)
theorem dJ23_balanceInsertion_163 : decode cJ23_balanceInsertion 163 = .ok (.aload 4, 2) := dk_25 4 (dk_at dksJ23_balanceInsertion_7 3 rfl rfl)
theorem dJ23_balanceInsertion_165 : decode cJ23_balanceInsertion 165 = .ok (.iconst 0, 1) := dk_3 (dk_at dksJ23_balanceInsertion_7 5 rfl rfl)
theorem dJ23_balanceInsertion_166 : decode cJ23_balanceInsertion 166 = .ok (.putfield 93, 3) := dk_181 0 93 (dk_at dksJ23_balanceInsertion_7 6 rfl rfl)
theorem dJ23_balanceInsertion_169 : decode cJ23_balanceInsertion 169 = .ok (.aload_n 2, 1) := dk_44 (dk_at dksJ23_balanceInsertion_7 9 rfl rfl)
theorem dJ23_balanceInsertion_170 : decode cJ23_balanceInsertion 170 = .ok (.iconst 0, 1) := dk_3 (dk_at dksJ23_balanceInsertion_7 10 rfl rfl)
theorem dJ23_balanceInsertion_171 : decode cJ23_balanceInsertion 171 = .ok (.putfield 93, 3) := dk_181 0 93 (dk_at dksJ23_balanceInsertion_7 11 rfl rfl)
theorem dJ23_balanceInsertion_174 : decode cJ23_balanceInsertion 174 = .ok (.aload_n 3, 1) := dk_45 (dk_at dksJ23_balanceInsertion_7 14 rfl rfl)
theorem dJ23_balanceInsertion_175 : decode cJ23_balanceInsertion 175 = .ok (.iconst 1, 1) := dk_4 (dk_at dksJ23_balanceInsertion_7 15 rfl rfl)
theorem dJ23_balanceInsertion_176 : decode cJ23_balanceInsertion 176 = .ok (.putfield 93, 3) := dk_181 0 93 (dk_at dksJ23_balanceInsertion_7 16 rfl rfl)
theorem dJ23_balanceInsertion_179 : decode cJ23_balanceInsertion 179 = .ok (.aload_n 3, 1) := dk_45 (dk_at dksJ23_balanceInsertion_7 19 rfl rfl)
theorem dJ23_balanceInsertion_180 : decode cJ23_balanceInsertion 180 = .ok (.astore_n 1, 1) := dk_76 (dk_at dksJ23_balanceInsertion_7 20 rfl rfl)
theorem dJ23_balanceInsertion_181 : decode cJ23_balanceInsertion 181 = .ok (.goto (-176), 3) := dk_167 255 80 (dk_at dksJ23_balanceInsertion_7 21 rfl rfl)
theorem dJ23_balanceInsertion_184 : decode cJ23_balanceInsertion 184 = .ok (.aload_n 1, 1) := dk_43 (dk_at dksJ23_balanceInsertion_8 0 rfl rfl)
theorem dJ23_balanceInsertion_185 : decode cJ23_balanceInsertion 185 = .ok (.aload_n 2, 1) := dk_44 (dk_at dksJ23_balanceInsertion_8 1 rfl rfl)
theorem dJ23_balanceInsertion_186 : decode cJ23_balanceInsertion 186 = .ok (.getfield 39, 3) := dk_180 0 39 (dk_at dksJ23_balanceInsertion_8 2 rfl rfl)
theorem dJ23_balanceInsertion_189 : decode cJ23_balanceInsertion 189 = .ok (.if_acmp .ne 29, 3) := dk_166 0 29 (dk_at dksJ23_balanceInsertion_8 5 rfl rfl)
theorem dJ23_balanceInsertion_192 : decode cJ23_balanceInsertion 192 = .ok (.aload_n 0, 1) := dk_42 (dk_at dksJ23_balanceInsertion_8 8 rfl rfl)
theorem dJ23_balanceInsertion_193 : decode cJ23_balanceInsertion 193 = .ok (.aload_n 2, 1) := dk_44 (dk_at dksJ23_balanceInsertion_8 9 rfl rfl)
theorem dJ23_balanceInsertion_194 : decode cJ23_balanceInsertion 194 = .ok (.dup, 1) := dk_89 (dk_at dksJ23_balanceInsertion_8 10 rfl rfl)
theorem dJ23_balanceInsertion_195 : decode cJ23_balanceInsertion 195 = .ok (.astore_n 1, 1) := dk_76 (dk_at dksJ23_balanceInsertion_8 11 rfl rfl)
theorem dJ23_balanceInsertion_196 : decode cJ23_balanceInsertion 196 = .ok (.invokestatic 133, 3) := dk_184 0 133 (dk_at dksJ23_balanceInsertion_8 12 rfl rfl)
theorem dJ23_balanceInsertion_199 : decode cJ23_balanceInsertion 199 = .ok (.astore_n 0, 1) := dk_75 (dk_at dksJ23_balanceInsertion_8 15 rfl rfl)
theorem dJ23_balanceInsertion_200 : decode cJ23_balanceInsertion 200 = .ok (.aload_n 1, 1) := dk_43 (dk_at dksJ23_balanceInsertion_8 16 rfl rfl)
theorem dJ23_balanceInsertion_201 : decode cJ23_balanceInsertion 201 = .ok (.getfield 9, 3) := dk_180 0 9 (dk_at dksJ23_balanceInsertion_8 17 rfl rfl)
theorem dJ23_balanceInsertion_204 : decode cJ23_balanceInsertion 204 = .ok (.dup, 1) := dk_89 (dk_at dksJ23_balanceInsertion_8 20 rfl rfl)
theorem dJ23_balanceInsertion_205 : decode cJ23_balanceInsertion 205 = .ok (.astore_n 2, 1) := dk_77 (dk_at dksJ23_balanceInsertion_8 21 rfl rfl)
theorem dJ23_balanceInsertion_206 : decode cJ23_balanceInsertion 206 = .ok (.ifnonnull 7, 3) := dk_199 0 7 (dk_at dksJ23_balanceInsertion_9 0 rfl rfl)
theorem dJ23_balanceInsertion_209 : decode cJ23_balanceInsertion 209 = .ok (.aconst_null, 1) := dk_1 (dk_at dksJ23_balanceInsertion_9 3 rfl rfl)
theorem dJ23_balanceInsertion_210 : decode cJ23_balanceInsertion 210 = .ok (.goto 7, 3) := dk_167 0 7 (dk_at dksJ23_balanceInsertion_9 4 rfl rfl)
theorem dJ23_balanceInsertion_213 : decode cJ23_balanceInsertion 213 = .ok (.aload_n 2, 1) := dk_44 (dk_at dksJ23_balanceInsertion_9 7 rfl rfl)
theorem dJ23_balanceInsertion_214 : decode cJ23_balanceInsertion 214 = .ok (.getfield 9, 3) := dk_180 0 9 (dk_at dksJ23_balanceInsertion_9 8 rfl rfl)
theorem dJ23_balanceInsertion_217 : decode cJ23_balanceInsertion 217 = .ok (.astore_n 3, 1) := dk_78 (dk_at dksJ23_balanceInsertion_9 11 rfl rfl)
theorem dJ23_balanceInsertion_218 : decode cJ23_balanceInsertion 218 = .ok (.aload_n 2, 1) := dk_44 (dk_at dksJ23_balanceInsertion_9 12 rfl rfl)
theorem dJ23_balanceInsertion_219 : decode cJ23_balanceInsertion 219 = .ok (.ifnull (-214), 3) := dk_198 255 42 (dk_at dksJ23_balanceInsertion_9 13 rfl rfl)
theorem dJ23_balanceInsertion_222 : decode cJ23_balanceInsertion 222 = .ok (.aload_n 2, 1) := dk_44 (dk_at dksJ23_balanceInsertion_9 16 rfl rfl)
theorem dJ23_balanceInsertion_223 : decode cJ23_balanceInsertion 223 = .ok (.iconst 0, 1) := dk_3 (dk_at dksJ23_balanceInsertion_9 17 rfl rfl)
theorem dJ23_balanceInsertion_224 : decode cJ23_balanceInsertion 224 = .ok (.putfield 93, 3) := dk_181 0 93 (dk_at dksJ23_balanceInsertion_9 18 rfl rfl)
theorem dJ23_balanceInsertion_227 : decode cJ23_balanceInsertion 227 = .ok (.aload_n 3, 1) := dk_45 (dk_at dksJ23_balanceInsertion_9 21 rfl rfl)
theorem dJ23_balanceInsertion_228 : decode cJ23_balanceInsertion 228 = .ok (.ifnull (-223), 3) := dk_198 255 33 (dk_at dksJ23_balanceInsertion_10 0 rfl rfl)
theorem dJ23_balanceInsertion_231 : decode cJ23_balanceInsertion 231 = .ok (.aload_n 3, 1) := dk_45 (dk_at dksJ23_balanceInsertion_10 3 rfl rfl)
theorem dJ23_balanceInsertion_232 : decode cJ23_balanceInsertion 232 = .ok (.iconst 1, 1) := dk_4 (dk_at dksJ23_balanceInsertion_10 4 rfl rfl)
theorem dJ23_balanceInsertion_233 : decode cJ23_balanceInsertion 233 = .ok (.putfield 93, 3) := dk_181 0 93 (dk_at dksJ23_balanceInsertion_10 5 rfl rfl)
theorem dJ23_balanceInsertion_236 : decode cJ23_balanceInsertion 236 = .ok (.aload_n 0, 1) := dk_42 (dk_at dksJ23_balanceInsertion_10 8 rfl rfl)
theorem dJ23_balanceInsertion_237 : decode cJ23_balanceInsertion 237 = .ok (.aload_n 3, 1) := dk_45 (dk_at dksJ23_balanceInsertion_10 9 rfl rfl)
theorem dJ23_balanceInsertion_238 : decode cJ23_balanceInsertion 238 = .ok (.invokestatic 130, 3) := dk_184 0 130 (dk_at dksJ23_balanceInsertion_10 10 rfl rfl)
theorem dJ23_balanceInsertion_241 : decode cJ23_balanceInsertion 241 = .ok (.astore_n 0, 1) := dk_75 (dk_at dksJ23_balanceInsertion_10 13 rfl rfl)
theorem dJ23_balanceInsertion_242 : decode cJ23_balanceInsertion 242 = .ok (.goto (-237), 3) := dk_167 255 19 (dk_at dksJ23_balanceInsertion_10 14 rfl rfl)
abbrev cJ23_rotateLeft : ByteArray := prog_47_method_12_code
def yJ23_rotateLeft : MethodName := ⟨RJ23, "rotateLeft", "(Ljava/util/HashMap$TreeNode;Ljava/util/HashMap$TreeNode;)Ljava/util/HashMap$TreeNode;"⟩
def dkwJ23_rotateLeft_3 : List UInt8 := [181, 0, 39, 167, 0, 8, 45, 44, 181, 0, 42, 44, 43, 181, 0, 39, 43, 44, 181, 0, 9, 42, 176]
abbrev dktJ23_rotateLeft_3 : List UInt8 := dkwJ23_rotateLeft_3 ++ []
def dkwJ23_rotateLeft_2 : List UInt8 := [199, 0, 13, 44, 89, 75, 3, 181, 0, 93, 167, 0, 24, 45, 180, 0, 39, 43, 166, 0, 11, 45, 44]
abbrev dktJ23_rotateLeft_2 : List UInt8 := dkwJ23_rotateLeft_2 ++ dktJ23_rotateLeft_3
def dkwJ23_rotateLeft_1 : List UInt8 := [58, 4, 198, 0, 9, 25, 4, 43, 181, 0, 9, 44, 43, 180, 0, 9, 90, 181, 0, 9, 89, 78]
abbrev dktJ23_rotateLeft_1 : List UInt8 := dkwJ23_rotateLeft_1 ++ dktJ23_rotateLeft_2
def dkwJ23_rotateLeft_0 : List UInt8 := [43, 198, 0, 88, 43, 180, 0, 42, 89, 77, 198, 0, 79, 43, 44, 180, 0, 39, 90, 181, 0, 42, 89]
abbrev dktJ23_rotateLeft_0 : List UInt8 := dkwJ23_rotateLeft_0 ++ dktJ23_rotateLeft_1
theorem dksJ23_rotateLeft_0 : cJ23_rotateLeft.data.toList.drop 0 = dktJ23_rotateLeft_0 := by decide +kernel
theorem dksJ23_rotateLeft_1 : cJ23_rotateLeft.data.toList.drop 23 = dktJ23_rotateLeft_1 := dk_seg dksJ23_rotateLeft_0 23 rfl rfl
theorem dksJ23_rotateLeft_2 : cJ23_rotateLeft.data.toList.drop 45 = dktJ23_rotateLeft_2 := dk_seg dksJ23_rotateLeft_1 22 rfl rfl
theorem dksJ23_rotateLeft_3 : cJ23_rotateLeft.data.toList.drop 68 = dktJ23_rotateLeft_3 := dk_seg dksJ23_rotateLeft_2 23 rfl rfl
theorem dJ23_rotateLeft_0 : decode cJ23_rotateLeft 0 = .ok (.aload_n 1, 1) := dk_43 (dk_at dksJ23_rotateLeft_0 0 rfl rfl)
theorem dJ23_rotateLeft_1 : decode cJ23_rotateLeft 1 = .ok (.ifnull 88, 3) := dk_198 0 88 (dk_at dksJ23_rotateLeft_0 1 rfl rfl)
theorem dJ23_rotateLeft_4 : decode cJ23_rotateLeft 4 = .ok (.aload_n 1, 1) := dk_43 (dk_at dksJ23_rotateLeft_0 4 rfl rfl)
theorem dJ23_rotateLeft_5 : decode cJ23_rotateLeft 5 = .ok (.getfield 42, 3) := dk_180 0 42 (dk_at dksJ23_rotateLeft_0 5 rfl rfl)
theorem dJ23_rotateLeft_8 : decode cJ23_rotateLeft 8 = .ok (.dup, 1) := dk_89 (dk_at dksJ23_rotateLeft_0 8 rfl rfl)
theorem dJ23_rotateLeft_9 : decode cJ23_rotateLeft 9 = .ok (.astore_n 2, 1) := dk_77 (dk_at dksJ23_rotateLeft_0 9 rfl rfl)
theorem dJ23_rotateLeft_10 : decode cJ23_rotateLeft 10 = .ok (.ifnull 79, 3) := dk_198 0 79 (dk_at dksJ23_rotateLeft_0 10 rfl rfl)
theorem dJ23_rotateLeft_13 : decode cJ23_rotateLeft 13 = .ok (.aload_n 1, 1) := dk_43 (dk_at dksJ23_rotateLeft_0 13 rfl rfl)
theorem dJ23_rotateLeft_14 : decode cJ23_rotateLeft 14 = .ok (.aload_n 2, 1) := dk_44 (dk_at dksJ23_rotateLeft_0 14 rfl rfl)
theorem dJ23_rotateLeft_15 : decode cJ23_rotateLeft 15 = .ok (.getfield 39, 3) := dk_180 0 39 (dk_at dksJ23_rotateLeft_0 15 rfl rfl)
theorem dJ23_rotateLeft_18 : decode cJ23_rotateLeft 18 = .ok (.dup_x1, 1) := dk_90 (dk_at dksJ23_rotateLeft_0 18 rfl rfl)
theorem dJ23_rotateLeft_19 : decode cJ23_rotateLeft 19 = .ok (.putfield 42, 3) := dk_181 0 42 (dk_at dksJ23_rotateLeft_0 19 rfl rfl)
theorem dJ23_rotateLeft_22 : decode cJ23_rotateLeft 22 = .ok (.dup, 1) := dk_89 (dk_at dksJ23_rotateLeft_0 22 rfl rfl)
theorem dJ23_rotateLeft_23 : decode cJ23_rotateLeft 23 = .ok (.astore 4, 2) := dk_58 4 (dk_at dksJ23_rotateLeft_1 0 rfl rfl)
theorem dJ23_rotateLeft_25 : decode cJ23_rotateLeft 25 = .ok (.ifnull 9, 3) := dk_198 0 9 (dk_at dksJ23_rotateLeft_1 2 rfl rfl)
theorem dJ23_rotateLeft_28 : decode cJ23_rotateLeft 28 = .ok (.aload 4, 2) := dk_25 4 (dk_at dksJ23_rotateLeft_1 5 rfl rfl)
theorem dJ23_rotateLeft_30 : decode cJ23_rotateLeft 30 = .ok (.aload_n 1, 1) := dk_43 (dk_at dksJ23_rotateLeft_1 7 rfl rfl)
theorem dJ23_rotateLeft_31 : decode cJ23_rotateLeft 31 = .ok (.putfield 9, 3) := dk_181 0 9 (dk_at dksJ23_rotateLeft_1 8 rfl rfl)
theorem dJ23_rotateLeft_34 : decode cJ23_rotateLeft 34 = .ok (.aload_n 2, 1) := dk_44 (dk_at dksJ23_rotateLeft_1 11 rfl rfl)
theorem dJ23_rotateLeft_35 : decode cJ23_rotateLeft 35 = .ok (.aload_n 1, 1) := dk_43 (dk_at dksJ23_rotateLeft_1 12 rfl rfl)
theorem dJ23_rotateLeft_36 : decode cJ23_rotateLeft 36 = .ok (.getfield 9, 3) := dk_180 0 9 (dk_at dksJ23_rotateLeft_1 13 rfl rfl)
theorem dJ23_rotateLeft_39 : decode cJ23_rotateLeft 39 = .ok (.dup_x1, 1) := dk_90 (dk_at dksJ23_rotateLeft_1 16 rfl rfl)
theorem dJ23_rotateLeft_40 : decode cJ23_rotateLeft 40 = .ok (.putfield 9, 3) := dk_181 0 9 (dk_at dksJ23_rotateLeft_1 17 rfl rfl)
theorem dJ23_rotateLeft_43 : decode cJ23_rotateLeft 43 = .ok (.dup, 1) := dk_89 (dk_at dksJ23_rotateLeft_1 20 rfl rfl)
theorem dJ23_rotateLeft_44 : decode cJ23_rotateLeft 44 = .ok (.astore_n 3, 1) := dk_78 (dk_at dksJ23_rotateLeft_1 21 rfl rfl)
theorem dJ23_rotateLeft_45 : decode cJ23_rotateLeft 45 = .ok (.ifnonnull 13, 3) := dk_199 0 13 (dk_at dksJ23_rotateLeft_2 0 rfl rfl)
theorem dJ23_rotateLeft_48 : decode cJ23_rotateLeft 48 = .ok (.aload_n 2, 1) := dk_44 (dk_at dksJ23_rotateLeft_2 3 rfl rfl)
theorem dJ23_rotateLeft_49 : decode cJ23_rotateLeft 49 = .ok (.dup, 1) := dk_89 (dk_at dksJ23_rotateLeft_2 4 rfl rfl)
theorem dJ23_rotateLeft_50 : decode cJ23_rotateLeft 50 = .ok (.astore_n 0, 1) := dk_75 (dk_at dksJ23_rotateLeft_2 5 rfl rfl)
theorem dJ23_rotateLeft_51 : decode cJ23_rotateLeft 51 = .ok (.iconst 0, 1) := dk_3 (dk_at dksJ23_rotateLeft_2 6 rfl rfl)
theorem dJ23_rotateLeft_52 : decode cJ23_rotateLeft 52 = .ok (.putfield 93, 3) := dk_181 0 93 (dk_at dksJ23_rotateLeft_2 7 rfl rfl)
theorem dJ23_rotateLeft_55 : decode cJ23_rotateLeft 55 = .ok (.goto 24, 3) := dk_167 0 24 (dk_at dksJ23_rotateLeft_2 10 rfl rfl)
theorem dJ23_rotateLeft_58 : decode cJ23_rotateLeft 58 = .ok (.aload_n 3, 1) := dk_45 (dk_at dksJ23_rotateLeft_2 13 rfl rfl)
theorem dJ23_rotateLeft_59 : decode cJ23_rotateLeft 59 = .ok (.getfield 39, 3) := dk_180 0 39 (dk_at dksJ23_rotateLeft_2 14 rfl rfl)
theorem dJ23_rotateLeft_62 : decode cJ23_rotateLeft 62 = .ok (.aload_n 1, 1) := dk_43 (dk_at dksJ23_rotateLeft_2 17 rfl rfl)
theorem dJ23_rotateLeft_63 : decode cJ23_rotateLeft 63 = .ok (.if_acmp .ne 11, 3) := dk_166 0 11 (dk_at dksJ23_rotateLeft_2 18 rfl rfl)
theorem dJ23_rotateLeft_66 : decode cJ23_rotateLeft 66 = .ok (.aload_n 3, 1) := dk_45 (dk_at dksJ23_rotateLeft_2 21 rfl rfl)
theorem dJ23_rotateLeft_67 : decode cJ23_rotateLeft 67 = .ok (.aload_n 2, 1) := dk_44 (dk_at dksJ23_rotateLeft_2 22 rfl rfl)
theorem dJ23_rotateLeft_68 : decode cJ23_rotateLeft 68 = .ok (.putfield 39, 3) := dk_181 0 39 (dk_at dksJ23_rotateLeft_3 0 rfl rfl)
theorem dJ23_rotateLeft_71 : decode cJ23_rotateLeft 71 = .ok (.goto 8, 3) := dk_167 0 8 (dk_at dksJ23_rotateLeft_3 3 rfl rfl)
theorem dJ23_rotateLeft_74 : decode cJ23_rotateLeft 74 = .ok (.aload_n 3, 1) := dk_45 (dk_at dksJ23_rotateLeft_3 6 rfl rfl)
theorem dJ23_rotateLeft_75 : decode cJ23_rotateLeft 75 = .ok (.aload_n 2, 1) := dk_44 (dk_at dksJ23_rotateLeft_3 7 rfl rfl)
theorem dJ23_rotateLeft_76 : decode cJ23_rotateLeft 76 = .ok (.putfield 42, 3) := dk_181 0 42 (dk_at dksJ23_rotateLeft_3 8 rfl rfl)
theorem dJ23_rotateLeft_79 : decode cJ23_rotateLeft 79 = .ok (.aload_n 2, 1) := dk_44 (dk_at dksJ23_rotateLeft_3 11 rfl rfl)
theorem dJ23_rotateLeft_80 : decode cJ23_rotateLeft 80 = .ok (.aload_n 1, 1) := dk_43 (dk_at dksJ23_rotateLeft_3 12 rfl rfl)
theorem dJ23_rotateLeft_81 : decode cJ23_rotateLeft 81 = .ok (.putfield 39, 3) := dk_181 0 39 (dk_at dksJ23_rotateLeft_3 13 rfl rfl)
theorem dJ23_rotateLeft_84 : decode cJ23_rotateLeft 84 = .ok (.aload_n 1, 1) := dk_43 (dk_at dksJ23_rotateLeft_3 16 rfl rfl)
theorem dJ23_rotateLeft_85 : decode cJ23_rotateLeft 85 = .ok (.aload_n 2, 1) := dk_44 (dk_at dksJ23_rotateLeft_3 17 rfl rfl)
theorem dJ23_rotateLeft_86 : decode cJ23_rotateLeft 86 = .ok (.putfield 9, 3) := dk_181 0 9 (dk_at dksJ23_rotateLeft_3 18 rfl rfl)
theorem dJ23_rotateLeft_89 : decode cJ23_rotateLeft 89 = .ok (.aload_n 0, 1) := dk_42 (dk_at dksJ23_rotateLeft_3 21 rfl rfl)
theorem dJ23_rotateLeft_90 : decode cJ23_rotateLeft 90 = .ok (.areturn, 1) := dk_176 (dk_at dksJ23_rotateLeft_3 22 rfl rfl)
abbrev cJ23_rotateRight : ByteArray := prog_47_method_13_code
def yJ23_rotateRight : MethodName := ⟨RJ23, "rotateRight", "(Ljava/util/HashMap$TreeNode;Ljava/util/HashMap$TreeNode;)Ljava/util/HashMap$TreeNode;"⟩
def dkwJ23_rotateRight_3 : List UInt8 := [181, 0, 42, 167, 0, 8, 45, 44, 181, 0, 39, 44, 43, 181, 0, 42, 43, 44, 181, 0, 9, 42, 176]
abbrev dktJ23_rotateRight_3 : List UInt8 := dkwJ23_rotateRight_3 ++ []
def dkwJ23_rotateRight_2 : List UInt8 := [199, 0, 13, 44, 89, 75, 3, 181, 0, 93, 167, 0, 24, 45, 180, 0, 42, 43, 166, 0, 11, 45, 44]
abbrev dktJ23_rotateRight_2 : List UInt8 := dkwJ23_rotateRight_2 ++ dktJ23_rotateRight_3
def dkwJ23_rotateRight_1 : List UInt8 := [58, 4, 198, 0, 9, 25, 4, 43, 181, 0, 9, 44, 43, 180, 0, 9, 90, 181, 0, 9, 89, 78]
abbrev dktJ23_rotateRight_1 : List UInt8 := dkwJ23_rotateRight_1 ++ dktJ23_rotateRight_2
def dkwJ23_rotateRight_0 : List UInt8 := [43, 198, 0, 88, 43, 180, 0, 39, 89, 77, 198, 0, 79, 43, 44, 180, 0, 42, 90, 181, 0, 39, 89]
abbrev dktJ23_rotateRight_0 : List UInt8 := dkwJ23_rotateRight_0 ++ dktJ23_rotateRight_1
theorem dksJ23_rotateRight_0 : cJ23_rotateRight.data.toList.drop 0 = dktJ23_rotateRight_0 := by decide +kernel
theorem dksJ23_rotateRight_1 : cJ23_rotateRight.data.toList.drop 23 = dktJ23_rotateRight_1 := dk_seg dksJ23_rotateRight_0 23 rfl rfl
theorem dksJ23_rotateRight_2 : cJ23_rotateRight.data.toList.drop 45 = dktJ23_rotateRight_2 := dk_seg dksJ23_rotateRight_1 22 rfl rfl
theorem dksJ23_rotateRight_3 : cJ23_rotateRight.data.toList.drop 68 = dktJ23_rotateRight_3 := dk_seg dksJ23_rotateRight_2 23 rfl rfl
theorem dJ23_rotateRight_0 : decode cJ23_rotateRight 0 = .ok (.aload_n 1, 1) := dk_43 (dk_at dksJ23_rotateRight_0 0 rfl rfl)
theorem dJ23_rotateRight_1 : decode cJ23_rotateRight 1 = .ok (.ifnull 88, 3) := dk_198 0 88 (dk_at dksJ23_rotateRight_0 1 rfl rfl)
theorem dJ23_rotateRight_4 : decode cJ23_rotateRight 4 = .ok (.aload_n 1, 1) := dk_43 (dk_at dksJ23_rotateRight_0 4 rfl rfl)
theorem dJ23_rotateRight_5 : decode cJ23_rotateRight 5 = .ok (.getfield 39, 3) := dk_180 0 39 (dk_at dksJ23_rotateRight_0 5 rfl rfl)
theorem dJ23_rotateRight_8 : decode cJ23_rotateRight 8 = .ok (.dup, 1) := dk_89 (dk_at dksJ23_rotateRight_0 8 rfl rfl)
theorem dJ23_rotateRight_9 : decode cJ23_rotateRight 9 = .ok (.astore_n 2, 1) := dk_77 (dk_at dksJ23_rotateRight_0 9 rfl rfl)
theorem dJ23_rotateRight_10 : decode cJ23_rotateRight 10 = .ok (.ifnull 79, 3) := dk_198 0 79 (dk_at dksJ23_rotateRight_0 10 rfl rfl)
theorem dJ23_rotateRight_13 : decode cJ23_rotateRight 13 = .ok (.aload_n 1, 1) := dk_43 (dk_at dksJ23_rotateRight_0 13 rfl rfl)
theorem dJ23_rotateRight_14 : decode cJ23_rotateRight 14 = .ok (.aload_n 2, 1) := dk_44 (dk_at dksJ23_rotateRight_0 14 rfl rfl)
theorem dJ23_rotateRight_15 : decode cJ23_rotateRight 15 = .ok (.getfield 42, 3) := dk_180 0 42 (dk_at dksJ23_rotateRight_0 15 rfl rfl)
theorem dJ23_rotateRight_18 : decode cJ23_rotateRight 18 = .ok (.dup_x1, 1) := dk_90 (dk_at dksJ23_rotateRight_0 18 rfl rfl)
theorem dJ23_rotateRight_19 : decode cJ23_rotateRight 19 = .ok (.putfield 39, 3) := dk_181 0 39 (dk_at dksJ23_rotateRight_0 19 rfl rfl)
theorem dJ23_rotateRight_22 : decode cJ23_rotateRight 22 = .ok (.dup, 1) := dk_89 (dk_at dksJ23_rotateRight_0 22 rfl rfl)
theorem dJ23_rotateRight_23 : decode cJ23_rotateRight 23 = .ok (.astore 4, 2) := dk_58 4 (dk_at dksJ23_rotateRight_1 0 rfl rfl)
theorem dJ23_rotateRight_25 : decode cJ23_rotateRight 25 = .ok (.ifnull 9, 3) := dk_198 0 9 (dk_at dksJ23_rotateRight_1 2 rfl rfl)
theorem dJ23_rotateRight_28 : decode cJ23_rotateRight 28 = .ok (.aload 4, 2) := dk_25 4 (dk_at dksJ23_rotateRight_1 5 rfl rfl)
theorem dJ23_rotateRight_30 : decode cJ23_rotateRight 30 = .ok (.aload_n 1, 1) := dk_43 (dk_at dksJ23_rotateRight_1 7 rfl rfl)
theorem dJ23_rotateRight_31 : decode cJ23_rotateRight 31 = .ok (.putfield 9, 3) := dk_181 0 9 (dk_at dksJ23_rotateRight_1 8 rfl rfl)
theorem dJ23_rotateRight_34 : decode cJ23_rotateRight 34 = .ok (.aload_n 2, 1) := dk_44 (dk_at dksJ23_rotateRight_1 11 rfl rfl)
theorem dJ23_rotateRight_35 : decode cJ23_rotateRight 35 = .ok (.aload_n 1, 1) := dk_43 (dk_at dksJ23_rotateRight_1 12 rfl rfl)
theorem dJ23_rotateRight_36 : decode cJ23_rotateRight 36 = .ok (.getfield 9, 3) := dk_180 0 9 (dk_at dksJ23_rotateRight_1 13 rfl rfl)
theorem dJ23_rotateRight_39 : decode cJ23_rotateRight 39 = .ok (.dup_x1, 1) := dk_90 (dk_at dksJ23_rotateRight_1 16 rfl rfl)
theorem dJ23_rotateRight_40 : decode cJ23_rotateRight 40 = .ok (.putfield 9, 3) := dk_181 0 9 (dk_at dksJ23_rotateRight_1 17 rfl rfl)
theorem dJ23_rotateRight_43 : decode cJ23_rotateRight 43 = .ok (.dup, 1) := dk_89 (dk_at dksJ23_rotateRight_1 20 rfl rfl)
theorem dJ23_rotateRight_44 : decode cJ23_rotateRight 44 = .ok (.astore_n 3, 1) := dk_78 (dk_at dksJ23_rotateRight_1 21 rfl rfl)
theorem dJ23_rotateRight_45 : decode cJ23_rotateRight 45 = .ok (.ifnonnull 13, 3) := dk_199 0 13 (dk_at dksJ23_rotateRight_2 0 rfl rfl)
theorem dJ23_rotateRight_48 : decode cJ23_rotateRight 48 = .ok (.aload_n 2, 1) := dk_44 (dk_at dksJ23_rotateRight_2 3 rfl rfl)
theorem dJ23_rotateRight_49 : decode cJ23_rotateRight 49 = .ok (.dup, 1) := dk_89 (dk_at dksJ23_rotateRight_2 4 rfl rfl)
theorem dJ23_rotateRight_50 : decode cJ23_rotateRight 50 = .ok (.astore_n 0, 1) := dk_75 (dk_at dksJ23_rotateRight_2 5 rfl rfl)
theorem dJ23_rotateRight_51 : decode cJ23_rotateRight 51 = .ok (.iconst 0, 1) := dk_3 (dk_at dksJ23_rotateRight_2 6 rfl rfl)
theorem dJ23_rotateRight_52 : decode cJ23_rotateRight 52 = .ok (.putfield 93, 3) := dk_181 0 93 (dk_at dksJ23_rotateRight_2 7 rfl rfl)
theorem dJ23_rotateRight_55 : decode cJ23_rotateRight 55 = .ok (.goto 24, 3) := dk_167 0 24 (dk_at dksJ23_rotateRight_2 10 rfl rfl)
theorem dJ23_rotateRight_58 : decode cJ23_rotateRight 58 = .ok (.aload_n 3, 1) := dk_45 (dk_at dksJ23_rotateRight_2 13 rfl rfl)
theorem dJ23_rotateRight_59 : decode cJ23_rotateRight 59 = .ok (.getfield 42, 3) := dk_180 0 42 (dk_at dksJ23_rotateRight_2 14 rfl rfl)
theorem dJ23_rotateRight_62 : decode cJ23_rotateRight 62 = .ok (.aload_n 1, 1) := dk_43 (dk_at dksJ23_rotateRight_2 17 rfl rfl)
theorem dJ23_rotateRight_63 : decode cJ23_rotateRight 63 = .ok (.if_acmp .ne 11, 3) := dk_166 0 11 (dk_at dksJ23_rotateRight_2 18 rfl rfl)
theorem dJ23_rotateRight_66 : decode cJ23_rotateRight 66 = .ok (.aload_n 3, 1) := dk_45 (dk_at dksJ23_rotateRight_2 21 rfl rfl)
theorem dJ23_rotateRight_67 : decode cJ23_rotateRight 67 = .ok (.aload_n 2, 1) := dk_44 (dk_at dksJ23_rotateRight_2 22 rfl rfl)
theorem dJ23_rotateRight_68 : decode cJ23_rotateRight 68 = .ok (.putfield 42, 3) := dk_181 0 42 (dk_at dksJ23_rotateRight_3 0 rfl rfl)
theorem dJ23_rotateRight_71 : decode cJ23_rotateRight 71 = .ok (.goto 8, 3) := dk_167 0 8 (dk_at dksJ23_rotateRight_3 3 rfl rfl)
theorem dJ23_rotateRight_74 : decode cJ23_rotateRight 74 = .ok (.aload_n 3, 1) := dk_45 (dk_at dksJ23_rotateRight_3 6 rfl rfl)
theorem dJ23_rotateRight_75 : decode cJ23_rotateRight 75 = .ok (.aload_n 2, 1) := dk_44 (dk_at dksJ23_rotateRight_3 7 rfl rfl)
theorem dJ23_rotateRight_76 : decode cJ23_rotateRight 76 = .ok (.putfield 39, 3) := dk_181 0 39 (dk_at dksJ23_rotateRight_3 8 rfl rfl)
theorem dJ23_rotateRight_79 : decode cJ23_rotateRight 79 = .ok (.aload_n 2, 1) := dk_44 (dk_at dksJ23_rotateRight_3 11 rfl rfl)
theorem dJ23_rotateRight_80 : decode cJ23_rotateRight 80 = .ok (.aload_n 1, 1) := dk_43 (dk_at dksJ23_rotateRight_3 12 rfl rfl)
theorem dJ23_rotateRight_81 : decode cJ23_rotateRight 81 = .ok (.putfield 42, 3) := dk_181 0 42 (dk_at dksJ23_rotateRight_3 13 rfl rfl)
theorem dJ23_rotateRight_84 : decode cJ23_rotateRight 84 = .ok (.aload_n 1, 1) := dk_43 (dk_at dksJ23_rotateRight_3 16 rfl rfl)
theorem dJ23_rotateRight_85 : decode cJ23_rotateRight 85 = .ok (.aload_n 2, 1) := dk_44 (dk_at dksJ23_rotateRight_3 17 rfl rfl)
theorem dJ23_rotateRight_86 : decode cJ23_rotateRight 86 = .ok (.putfield 9, 3) := dk_181 0 9 (dk_at dksJ23_rotateRight_3 18 rfl rfl)
theorem dJ23_rotateRight_89 : decode cJ23_rotateRight 89 = .ok (.aload_n 0, 1) := dk_42 (dk_at dksJ23_rotateRight_3 21 rfl rfl)
theorem dJ23_rotateRight_90 : decode cJ23_rotateRight 90 = .ok (.areturn, 1) := dk_176 (dk_at dksJ23_rotateRight_3 22 rfl rfl)
abbrev cJ23_moveRootToFront : ByteArray := prog_47_method_3_code
def yJ23_moveRootToFront : MethodName := ⟨RJ23, "moveRootToFront", "([Ljava/util/HashMap$Node;Ljava/util/HashMap$TreeNode;)V"⟩
def dkwJ23_moveRootToFront_5 : List UInt8 := [89, 183, 0, 36, 191, 177]
abbrev dktJ23_moveRootToFront_5 : List UInt8 := dkwJ23_moveRootToFront_5 ++ []
def dkwJ23_moveRootToFront_4 : List UInt8 := [181, 0, 22, 43, 1, 181, 0, 19, 178, 0, 26, 154, 0, 18, 43, 184, 0, 30, 154, 0, 11, 187, 0, 34]
abbrev dktJ23_moveRootToFront_4 : List UInt8 := dkwJ23_moveRootToFront_4 ++ dktJ23_moveRootToFront_5
def dkwJ23_moveRootToFront_3 : List UInt8 := [198, 0, 10, 25, 6, 25, 5, 181, 0, 22, 25, 4, 198, 0, 9, 25, 4, 43, 181, 0, 19, 43, 25, 4]
abbrev dktJ23_moveRootToFront_3 : List UInt8 := dkwJ23_moveRootToFront_3 ++ dktJ23_moveRootToFront_4
def dkwJ23_moveRootToFront_2 : List UInt8 := [43, 180, 0, 22, 89, 58, 5, 198, 0, 13, 25, 5, 192, 0, 10, 25, 6, 181, 0, 19, 25, 6]
abbrev dktJ23_moveRootToFront_2 : List UInt8 := dkwJ23_moveRootToFront_2 ++ dktJ23_moveRootToFront_3
def dkwJ23_moveRootToFront_1 : List UInt8 := [42, 29, 50, 192, 0, 10, 58, 4, 43, 25, 4, 165, 0, 67, 42, 29, 43, 83, 43, 180, 0, 19, 58, 6]
abbrev dktJ23_moveRootToFront_1 : List UInt8 := dkwJ23_moveRootToFront_1 ++ dktJ23_moveRootToFront_2
def dkwJ23_moveRootToFront_0 : List UInt8 := [43, 198, 0, 122, 42, 198, 0, 118, 42, 190, 89, 61, 158, 0, 111, 28, 4, 100, 43, 180, 0, 15, 126, 62]
abbrev dktJ23_moveRootToFront_0 : List UInt8 := dkwJ23_moveRootToFront_0 ++ dktJ23_moveRootToFront_1
theorem dksJ23_moveRootToFront_0 : cJ23_moveRootToFront.data.toList.drop 0 = dktJ23_moveRootToFront_0 := by decide +kernel
theorem dksJ23_moveRootToFront_1 : cJ23_moveRootToFront.data.toList.drop 24 = dktJ23_moveRootToFront_1 := dk_seg dksJ23_moveRootToFront_0 24 rfl rfl
theorem dksJ23_moveRootToFront_2 : cJ23_moveRootToFront.data.toList.drop 48 = dktJ23_moveRootToFront_2 := dk_seg dksJ23_moveRootToFront_1 24 rfl rfl
theorem dksJ23_moveRootToFront_3 : cJ23_moveRootToFront.data.toList.drop 70 = dktJ23_moveRootToFront_3 := dk_seg dksJ23_moveRootToFront_2 22 rfl rfl
theorem dksJ23_moveRootToFront_4 : cJ23_moveRootToFront.data.toList.drop 94 = dktJ23_moveRootToFront_4 := dk_seg dksJ23_moveRootToFront_3 24 rfl rfl
theorem dksJ23_moveRootToFront_5 : cJ23_moveRootToFront.data.toList.drop 118 = dktJ23_moveRootToFront_5 := dk_seg dksJ23_moveRootToFront_4 24 rfl rfl
theorem dJ23_moveRootToFront_0 : decode cJ23_moveRootToFront 0 = .ok (.aload_n 1, 1) := dk_43 (dk_at dksJ23_moveRootToFront_0 0 rfl rfl)
theorem dJ23_moveRootToFront_1 : decode cJ23_moveRootToFront 1 = .ok (.ifnull 122, 3) := dk_198 0 122 (dk_at dksJ23_moveRootToFront_0 1 rfl rfl)
theorem dJ23_moveRootToFront_4 : decode cJ23_moveRootToFront 4 = .ok (.aload_n 0, 1) := dk_42 (dk_at dksJ23_moveRootToFront_0 4 rfl rfl)
theorem dJ23_moveRootToFront_5 : decode cJ23_moveRootToFront 5 = .ok (.ifnull 118, 3) := dk_198 0 118 (dk_at dksJ23_moveRootToFront_0 5 rfl rfl)
theorem dJ23_moveRootToFront_8 : decode cJ23_moveRootToFront 8 = .ok (.aload_n 0, 1) := dk_42 (dk_at dksJ23_moveRootToFront_0 8 rfl rfl)
theorem dJ23_moveRootToFront_9 : decode cJ23_moveRootToFront 9 = .ok (.arraylength, 1) := dk_190 (dk_at dksJ23_moveRootToFront_0 9 rfl rfl)
theorem dJ23_moveRootToFront_10 : decode cJ23_moveRootToFront 10 = .ok (.dup, 1) := dk_89 (dk_at dksJ23_moveRootToFront_0 10 rfl rfl)
theorem dJ23_moveRootToFront_11 : decode cJ23_moveRootToFront 11 = .ok (.istore_n 2, 1) := dk_61 (dk_at dksJ23_moveRootToFront_0 11 rfl rfl)
theorem dJ23_moveRootToFront_12 : decode cJ23_moveRootToFront 12 = .ok (.ifCond .le 111, 3) := dk_158 0 111 (dk_at dksJ23_moveRootToFront_0 12 rfl rfl)
theorem dJ23_moveRootToFront_15 : decode cJ23_moveRootToFront 15 = .ok (.iload_n 2, 1) := dk_28 (dk_at dksJ23_moveRootToFront_0 15 rfl rfl)
theorem dJ23_moveRootToFront_16 : decode cJ23_moveRootToFront 16 = .ok (.iconst 1, 1) := dk_4 (dk_at dksJ23_moveRootToFront_0 16 rfl rfl)
theorem dJ23_moveRootToFront_17 : decode cJ23_moveRootToFront 17 = .ok (.isub, 1) := dk_100 (dk_at dksJ23_moveRootToFront_0 17 rfl rfl)
theorem dJ23_moveRootToFront_18 : decode cJ23_moveRootToFront 18 = .ok (.aload_n 1, 1) := dk_43 (dk_at dksJ23_moveRootToFront_0 18 rfl rfl)
theorem dJ23_moveRootToFront_19 : decode cJ23_moveRootToFront 19 = .ok (.getfield 15, 3) := dk_180 0 15 (dk_at dksJ23_moveRootToFront_0 19 rfl rfl)
theorem dJ23_moveRootToFront_22 : decode cJ23_moveRootToFront 22 = .ok (.iand, 1) := dk_126 (dk_at dksJ23_moveRootToFront_0 22 rfl rfl)
theorem dJ23_moveRootToFront_23 : decode cJ23_moveRootToFront 23 = .ok (.istore_n 3, 1) := dk_62 (dk_at dksJ23_moveRootToFront_0 23 rfl rfl)
theorem dJ23_moveRootToFront_24 : decode cJ23_moveRootToFront 24 = .ok (.aload_n 0, 1) := dk_42 (dk_at dksJ23_moveRootToFront_1 0 rfl rfl)
theorem dJ23_moveRootToFront_25 : decode cJ23_moveRootToFront 25 = .ok (.iload_n 3, 1) := dk_29 (dk_at dksJ23_moveRootToFront_1 1 rfl rfl)
theorem dJ23_moveRootToFront_26 : decode cJ23_moveRootToFront 26 = .ok (.aaload, 1) := dk_50 (dk_at dksJ23_moveRootToFront_1 2 rfl rfl)
theorem dJ23_moveRootToFront_27 : decode cJ23_moveRootToFront 27 = .ok (.checkcast 10, 3) := dk_192 0 10 (dk_at dksJ23_moveRootToFront_1 3 rfl rfl)
theorem dJ23_moveRootToFront_30 : decode cJ23_moveRootToFront 30 = .ok (.astore 4, 2) := dk_58 4 (dk_at dksJ23_moveRootToFront_1 6 rfl rfl)
theorem dJ23_moveRootToFront_32 : decode cJ23_moveRootToFront 32 = .ok (.aload_n 1, 1) := dk_43 (dk_at dksJ23_moveRootToFront_1 8 rfl rfl)
theorem dJ23_moveRootToFront_33 : decode cJ23_moveRootToFront 33 = .ok (.aload 4, 2) := dk_25 4 (dk_at dksJ23_moveRootToFront_1 9 rfl rfl)
theorem dJ23_moveRootToFront_35 : decode cJ23_moveRootToFront 35 = .ok (.if_acmp .eq 67, 3) := dk_165 0 67 (dk_at dksJ23_moveRootToFront_1 11 rfl rfl)
theorem dJ23_moveRootToFront_38 : decode cJ23_moveRootToFront 38 = .ok (.aload_n 0, 1) := dk_42 (dk_at dksJ23_moveRootToFront_1 14 rfl rfl)
theorem dJ23_moveRootToFront_39 : decode cJ23_moveRootToFront 39 = .ok (.iload_n 3, 1) := dk_29 (dk_at dksJ23_moveRootToFront_1 15 rfl rfl)
theorem dJ23_moveRootToFront_40 : decode cJ23_moveRootToFront 40 = .ok (.aload_n 1, 1) := dk_43 (dk_at dksJ23_moveRootToFront_1 16 rfl rfl)
theorem dJ23_moveRootToFront_41 : decode cJ23_moveRootToFront 41 = .ok (.aastore, 1) := dk_83 (dk_at dksJ23_moveRootToFront_1 17 rfl rfl)
theorem dJ23_moveRootToFront_42 : decode cJ23_moveRootToFront 42 = .ok (.aload_n 1, 1) := dk_43 (dk_at dksJ23_moveRootToFront_1 18 rfl rfl)
theorem dJ23_moveRootToFront_43 : decode cJ23_moveRootToFront 43 = .ok (.getfield 19, 3) := dk_180 0 19 (dk_at dksJ23_moveRootToFront_1 19 rfl rfl)
theorem dJ23_moveRootToFront_46 : decode cJ23_moveRootToFront 46 = .ok (.astore 6, 2) := dk_58 6 (dk_at dksJ23_moveRootToFront_1 22 rfl rfl)
theorem dJ23_moveRootToFront_48 : decode cJ23_moveRootToFront 48 = .ok (.aload_n 1, 1) := dk_43 (dk_at dksJ23_moveRootToFront_2 0 rfl rfl)
theorem dJ23_moveRootToFront_49 : decode cJ23_moveRootToFront 49 = .ok (.getfield 22, 3) := dk_180 0 22 (dk_at dksJ23_moveRootToFront_2 1 rfl rfl)
theorem dJ23_moveRootToFront_52 : decode cJ23_moveRootToFront 52 = .ok (.dup, 1) := dk_89 (dk_at dksJ23_moveRootToFront_2 4 rfl rfl)
theorem dJ23_moveRootToFront_53 : decode cJ23_moveRootToFront 53 = .ok (.astore 5, 2) := dk_58 5 (dk_at dksJ23_moveRootToFront_2 5 rfl rfl)
theorem dJ23_moveRootToFront_55 : decode cJ23_moveRootToFront 55 = .ok (.ifnull 13, 3) := dk_198 0 13 (dk_at dksJ23_moveRootToFront_2 7 rfl rfl)
theorem dJ23_moveRootToFront_58 : decode cJ23_moveRootToFront 58 = .ok (.aload 5, 2) := dk_25 5 (dk_at dksJ23_moveRootToFront_2 10 rfl rfl)
theorem dJ23_moveRootToFront_60 : decode cJ23_moveRootToFront 60 = .ok (.checkcast 10, 3) := dk_192 0 10 (dk_at dksJ23_moveRootToFront_2 12 rfl rfl)
theorem dJ23_moveRootToFront_63 : decode cJ23_moveRootToFront 63 = .ok (.aload 6, 2) := dk_25 6 (dk_at dksJ23_moveRootToFront_2 15 rfl rfl)
theorem dJ23_moveRootToFront_65 : decode cJ23_moveRootToFront 65 = .ok (.putfield 19, 3) := dk_181 0 19 (dk_at dksJ23_moveRootToFront_2 17 rfl rfl)
theorem dJ23_moveRootToFront_68 : decode cJ23_moveRootToFront 68 = .ok (.aload 6, 2) := dk_25 6 (dk_at dksJ23_moveRootToFront_2 20 rfl rfl)
theorem dJ23_moveRootToFront_70 : decode cJ23_moveRootToFront 70 = .ok (.ifnull 10, 3) := dk_198 0 10 (dk_at dksJ23_moveRootToFront_3 0 rfl rfl)
theorem dJ23_moveRootToFront_73 : decode cJ23_moveRootToFront 73 = .ok (.aload 6, 2) := dk_25 6 (dk_at dksJ23_moveRootToFront_3 3 rfl rfl)
theorem dJ23_moveRootToFront_75 : decode cJ23_moveRootToFront 75 = .ok (.aload 5, 2) := dk_25 5 (dk_at dksJ23_moveRootToFront_3 5 rfl rfl)
theorem dJ23_moveRootToFront_77 : decode cJ23_moveRootToFront 77 = .ok (.putfield 22, 3) := dk_181 0 22 (dk_at dksJ23_moveRootToFront_3 7 rfl rfl)
theorem dJ23_moveRootToFront_80 : decode cJ23_moveRootToFront 80 = .ok (.aload 4, 2) := dk_25 4 (dk_at dksJ23_moveRootToFront_3 10 rfl rfl)
theorem dJ23_moveRootToFront_82 : decode cJ23_moveRootToFront 82 = .ok (.ifnull 9, 3) := dk_198 0 9 (dk_at dksJ23_moveRootToFront_3 12 rfl rfl)
theorem dJ23_moveRootToFront_85 : decode cJ23_moveRootToFront 85 = .ok (.aload 4, 2) := dk_25 4 (dk_at dksJ23_moveRootToFront_3 15 rfl rfl)
theorem dJ23_moveRootToFront_87 : decode cJ23_moveRootToFront 87 = .ok (.aload_n 1, 1) := dk_43 (dk_at dksJ23_moveRootToFront_3 17 rfl rfl)
theorem dJ23_moveRootToFront_88 : decode cJ23_moveRootToFront 88 = .ok (.putfield 19, 3) := dk_181 0 19 (dk_at dksJ23_moveRootToFront_3 18 rfl rfl)
theorem dJ23_moveRootToFront_91 : decode cJ23_moveRootToFront 91 = .ok (.aload_n 1, 1) := dk_43 (dk_at dksJ23_moveRootToFront_3 21 rfl rfl)
theorem dJ23_moveRootToFront_92 : decode cJ23_moveRootToFront 92 = .ok (.aload 4, 2) := dk_25 4 (dk_at dksJ23_moveRootToFront_3 22 rfl rfl)
theorem dJ23_moveRootToFront_94 : decode cJ23_moveRootToFront 94 = .ok (.putfield 22, 3) := dk_181 0 22 (dk_at dksJ23_moveRootToFront_4 0 rfl rfl)
theorem dJ23_moveRootToFront_97 : decode cJ23_moveRootToFront 97 = .ok (.aload_n 1, 1) := dk_43 (dk_at dksJ23_moveRootToFront_4 3 rfl rfl)
theorem dJ23_moveRootToFront_98 : decode cJ23_moveRootToFront 98 = .ok (.aconst_null, 1) := dk_1 (dk_at dksJ23_moveRootToFront_4 4 rfl rfl)
theorem dJ23_moveRootToFront_99 : decode cJ23_moveRootToFront 99 = .ok (.putfield 19, 3) := dk_181 0 19 (dk_at dksJ23_moveRootToFront_4 5 rfl rfl)
theorem dJ23_moveRootToFront_102 : decode cJ23_moveRootToFront 102 = .ok (.getstatic 26, 3) := dk_178 0 26 (dk_at dksJ23_moveRootToFront_4 8 rfl rfl)
theorem dJ23_moveRootToFront_105 : decode cJ23_moveRootToFront 105 = .ok (.ifCond .ne 18, 3) := dk_154 0 18 (dk_at dksJ23_moveRootToFront_4 11 rfl rfl)
theorem dJ23_moveRootToFront_108 : decode cJ23_moveRootToFront 108 = .ok (.aload_n 1, 1) := dk_43 (dk_at dksJ23_moveRootToFront_4 14 rfl rfl)
theorem dJ23_moveRootToFront_109 : decode cJ23_moveRootToFront 109 = .ok (.invokestatic 30, 3) := dk_184 0 30 (dk_at dksJ23_moveRootToFront_4 15 rfl rfl)
theorem dJ23_moveRootToFront_112 : decode cJ23_moveRootToFront 112 = .ok (.ifCond .ne 11, 3) := dk_154 0 11 (dk_at dksJ23_moveRootToFront_4 18 rfl rfl)
theorem dJ23_moveRootToFront_115 : decode cJ23_moveRootToFront 115 = .ok (.new 34, 3) := dk_187 0 34 (dk_at dksJ23_moveRootToFront_4 21 rfl rfl)
theorem dJ23_moveRootToFront_118 : decode cJ23_moveRootToFront 118 = .ok (.dup, 1) := dk_89 (dk_at dksJ23_moveRootToFront_5 0 rfl rfl)
theorem dJ23_moveRootToFront_119 : decode cJ23_moveRootToFront 119 = .ok (.invokespecial 36, 3) := dk_183 0 36 (dk_at dksJ23_moveRootToFront_5 1 rfl rfl)
theorem dJ23_moveRootToFront_122 : decode cJ23_moveRootToFront 122 = .ok (.athrow, 1) := dk_191 (dk_at dksJ23_moveRootToFront_5 4 rfl rfl)
theorem dJ23_moveRootToFront_123 : decode cJ23_moveRootToFront 123 = .ok (.return_, 1) := dk_177 (dk_at dksJ23_moveRootToFront_5 5 rfl rfl)
abbrev cJ23_putTreeVal : ByteArray := prog_47_method_9_code
def yJ23_putTreeVal : MethodName := ⟨RJ23, "putTreeVal", "(Ljava/util/HashMap;[Ljava/util/HashMap$Node;ILjava/lang/Object;Ljava/lang/Object;)Ljava/util/HashMap$TreeNode;"⟩
def dkwJ23_putTreeVal_13 : List UInt8 := [184, 0, 100, 184, 0, 104, 1, 176, 167, 254, 228]
abbrev dktJ23_putTreeVal_13 : List UInt8 := dkwJ23_putTreeVal_13 ++ []
def dkwJ23_putTreeVal_12 : List UInt8 := [181, 0, 9, 25, 14, 198, 0, 13, 25, 14, 192, 0, 10, 25, 15, 181, 0, 19, 44, 25, 8, 25, 15]
abbrev dktJ23_putTreeVal_12 : List UInt8 := dkwJ23_putTreeVal_12 ++ dktJ23_putTreeVal_13
def dkwJ23_putTreeVal_11 : List UInt8 := [25, 15, 181, 0, 42, 25, 13, 25, 15, 181, 0, 22, 25, 15, 25, 15, 25, 13, 90, 181, 0, 19]
abbrev dktJ23_putTreeVal_11 : List UInt8 := dkwJ23_putTreeVal_11 ++ dktJ23_putTreeVal_12
def dkwJ23_putTreeVal_10 : List UInt8 := [25, 14, 182, 0, 115, 58, 15, 21, 10, 157, 0, 13, 25, 13, 25, 15, 181, 0, 39, 167, 0, 10, 25, 13]
abbrev dktJ23_putTreeVal_10 : List UInt8 := dkwJ23_putTreeVal_10 ++ dktJ23_putTreeVal_11
def dkwJ23_putTreeVal_9 : List UInt8 := [25, 9, 180, 0, 42, 89, 58, 9, 199, 0, 93, 25, 13, 180, 0, 22, 58, 14, 43, 29, 25, 4, 25, 5]
abbrev dktJ23_putTreeVal_9 : List UInt8 := dkwJ23_putTreeVal_9 ++ dktJ23_putTreeVal_10
def dkwJ23_putTreeVal_8 : List UInt8 := [25, 12, 184, 0, 96, 54, 10, 25, 9, 58, 13, 21, 10, 157, 0, 11, 25, 9, 180, 0, 39, 167, 0, 8]
abbrev dktJ23_putTreeVal_8 : List UInt8 := dkwJ23_putTreeVal_8 ++ dktJ23_putTreeVal_9
def dkwJ23_putTreeVal_7 : List UInt8 := [198, 0, 22, 25, 14, 29, 25, 4, 25, 6, 182, 0, 63, 89, 58, 13, 198, 0, 6, 25, 13, 176, 25, 4]
abbrev dktJ23_putTreeVal_7 : List UInt8 := dkwJ23_putTreeVal_7 ++ dktJ23_putTreeVal_8
def dkwJ23_putTreeVal_6 : List UInt8 := [29, 25, 4, 25, 6, 182, 0, 63, 89, 58, 13, 199, 0, 30, 25, 9, 180, 0, 42, 89, 58, 14]
abbrev dktJ23_putTreeVal_6 : List UInt8 := dkwJ23_putTreeVal_6 ++ dktJ23_putTreeVal_7
def dkwJ23_putTreeVal_5 : List UInt8 := [154, 0, 77, 21, 7, 154, 0, 63, 4, 54, 7, 25, 9, 180, 0, 39, 89, 58, 14, 198, 0, 19, 25, 14]
abbrev dktJ23_putTreeVal_5 : List UInt8 := dkwJ23_putTreeVal_5 ++ dktJ23_putTreeVal_6
def dkwJ23_putTreeVal_4 : List UInt8 := [25, 4, 184, 0, 55, 89, 58, 6, 198, 0, 18, 25, 6, 25, 4, 25, 12, 184, 0, 59, 89, 54, 10]
abbrev dktJ23_putTreeVal_4 : List UInt8 := dkwJ23_putTreeVal_4 ++ dktJ23_putTreeVal_5
def dkwJ23_putTreeVal_3 : List UInt8 := [25, 4, 198, 0, 16, 25, 4, 25, 12, 182, 0, 49, 153, 0, 6, 25, 9, 176, 25, 6, 199, 0, 14]
abbrev dktJ23_putTreeVal_3 : List UInt8 := dkwJ23_putTreeVal_3 ++ dktJ23_putTreeVal_4
def dkwJ23_putTreeVal_2 : List UInt8 := [29, 162, 0, 9, 4, 54, 10, 167, 0, 139, 25, 9, 180, 0, 45, 89, 58, 12, 25, 4, 165, 0, 18]
abbrev dktJ23_putTreeVal_2 : List UInt8 := dkwJ23_putTreeVal_2 ++ dktJ23_putTreeVal_3
def dkwJ23_putTreeVal_1 : List UInt8 := [25, 8, 58, 9, 25, 9, 180, 0, 15, 89, 54, 11, 29, 164, 0, 9, 2, 54, 10, 167, 0, 151, 21, 11]
abbrev dktJ23_putTreeVal_1 : List UInt8 := dkwJ23_putTreeVal_1 ++ dktJ23_putTreeVal_2
def dkwJ23_putTreeVal_0 : List UInt8 := [1, 58, 6, 3, 54, 7, 42, 180, 0, 9, 198, 0, 10, 42, 182, 0, 67, 167, 0, 4, 42, 58, 8]
abbrev dktJ23_putTreeVal_0 : List UInt8 := dkwJ23_putTreeVal_0 ++ dktJ23_putTreeVal_1
theorem dksJ23_putTreeVal_0 : cJ23_putTreeVal.data.toList.drop 0 = dktJ23_putTreeVal_0 := by decide +kernel
theorem dksJ23_putTreeVal_1 : cJ23_putTreeVal.data.toList.drop 23 = dktJ23_putTreeVal_1 := dk_seg dksJ23_putTreeVal_0 23 rfl rfl
theorem dksJ23_putTreeVal_2 : cJ23_putTreeVal.data.toList.drop 47 = dktJ23_putTreeVal_2 := dk_seg dksJ23_putTreeVal_1 24 rfl rfl
theorem dksJ23_putTreeVal_3 : cJ23_putTreeVal.data.toList.drop 70 = dktJ23_putTreeVal_3 := dk_seg dksJ23_putTreeVal_2 23 rfl rfl
theorem dksJ23_putTreeVal_4 : cJ23_putTreeVal.data.toList.drop 93 = dktJ23_putTreeVal_4 := dk_seg dksJ23_putTreeVal_3 23 rfl rfl
theorem dksJ23_putTreeVal_5 : cJ23_putTreeVal.data.toList.drop 116 = dktJ23_putTreeVal_5 := dk_seg dksJ23_putTreeVal_4 23 rfl rfl
theorem dksJ23_putTreeVal_6 : cJ23_putTreeVal.data.toList.drop 140 = dktJ23_putTreeVal_6 := dk_seg dksJ23_putTreeVal_5 24 rfl rfl
theorem dksJ23_putTreeVal_7 : cJ23_putTreeVal.data.toList.drop 162 = dktJ23_putTreeVal_7 := dk_seg dksJ23_putTreeVal_6 22 rfl rfl
theorem dksJ23_putTreeVal_8 : cJ23_putTreeVal.data.toList.drop 186 = dktJ23_putTreeVal_8 := dk_seg dksJ23_putTreeVal_7 24 rfl rfl
theorem dksJ23_putTreeVal_9 : cJ23_putTreeVal.data.toList.drop 210 = dktJ23_putTreeVal_9 := dk_seg dksJ23_putTreeVal_8 24 rfl rfl
theorem dksJ23_putTreeVal_10 : cJ23_putTreeVal.data.toList.drop 234 = dktJ23_putTreeVal_10 := dk_seg dksJ23_putTreeVal_9 24 rfl rfl
theorem dksJ23_putTreeVal_11 : cJ23_putTreeVal.data.toList.drop 258 = dktJ23_putTreeVal_11 := dk_seg dksJ23_putTreeVal_10 24 rfl rfl
theorem dksJ23_putTreeVal_12 : cJ23_putTreeVal.data.toList.drop 280 = dktJ23_putTreeVal_12 := dk_seg dksJ23_putTreeVal_11 22 rfl rfl
theorem dksJ23_putTreeVal_13 : cJ23_putTreeVal.data.toList.drop 303 = dktJ23_putTreeVal_13 := dk_seg dksJ23_putTreeVal_12 23 rfl rfl
theorem dJ23_putTreeVal_0 : decode cJ23_putTreeVal 0 = .ok (.aconst_null, 1) := dk_1 (dk_at dksJ23_putTreeVal_0 0 rfl rfl)
theorem dJ23_putTreeVal_1 : decode cJ23_putTreeVal 1 = .ok (.astore 6, 2) := dk_58 6 (dk_at dksJ23_putTreeVal_0 1 rfl rfl)
theorem dJ23_putTreeVal_3 : decode cJ23_putTreeVal 3 = .ok (.iconst 0, 1) := dk_3 (dk_at dksJ23_putTreeVal_0 3 rfl rfl)
theorem dJ23_putTreeVal_4 : decode cJ23_putTreeVal 4 = .ok (.istore 7, 2) := dk_54 7 (dk_at dksJ23_putTreeVal_0 4 rfl rfl)
theorem dJ23_putTreeVal_6 : decode cJ23_putTreeVal 6 = .ok (.aload_n 0, 1) := dk_42 (dk_at dksJ23_putTreeVal_0 6 rfl rfl)
theorem dJ23_putTreeVal_7 : decode cJ23_putTreeVal 7 = .ok (.getfield 9, 3) := dk_180 0 9 (dk_at dksJ23_putTreeVal_0 7 rfl rfl)
theorem dJ23_putTreeVal_10 : decode cJ23_putTreeVal 10 = .ok (.ifnull 10, 3) := dk_198 0 10 (dk_at dksJ23_putTreeVal_0 10 rfl rfl)
theorem dJ23_putTreeVal_13 : decode cJ23_putTreeVal 13 = .ok (.aload_n 0, 1) := dk_42 (dk_at dksJ23_putTreeVal_0 13 rfl rfl)
theorem dJ23_putTreeVal_14 : decode cJ23_putTreeVal 14 = .ok (.invokevirtual 67, 3) := dk_182 0 67 (dk_at dksJ23_putTreeVal_0 14 rfl rfl)
theorem dJ23_putTreeVal_17 : decode cJ23_putTreeVal 17 = .ok (.goto 4, 3) := dk_167 0 4 (dk_at dksJ23_putTreeVal_0 17 rfl rfl)
theorem dJ23_putTreeVal_20 : decode cJ23_putTreeVal 20 = .ok (.aload_n 0, 1) := dk_42 (dk_at dksJ23_putTreeVal_0 20 rfl rfl)
theorem dJ23_putTreeVal_21 : decode cJ23_putTreeVal 21 = .ok (.astore 8, 2) := dk_58 8 (dk_at dksJ23_putTreeVal_0 21 rfl rfl)
theorem dJ23_putTreeVal_23 : decode cJ23_putTreeVal 23 = .ok (.aload 8, 2) := dk_25 8 (dk_at dksJ23_putTreeVal_1 0 rfl rfl)
theorem dJ23_putTreeVal_25 : decode cJ23_putTreeVal 25 = .ok (.astore 9, 2) := dk_58 9 (dk_at dksJ23_putTreeVal_1 2 rfl rfl)
theorem dJ23_putTreeVal_27 : decode cJ23_putTreeVal 27 = .ok (.aload 9, 2) := dk_25 9 (dk_at dksJ23_putTreeVal_1 4 rfl rfl)
theorem dJ23_putTreeVal_29 : decode cJ23_putTreeVal 29 = .ok (.getfield 15, 3) := dk_180 0 15 (dk_at dksJ23_putTreeVal_1 6 rfl rfl)
theorem dJ23_putTreeVal_32 : decode cJ23_putTreeVal 32 = .ok (.dup, 1) := dk_89 (dk_at dksJ23_putTreeVal_1 9 rfl rfl)
theorem dJ23_putTreeVal_33 : decode cJ23_putTreeVal 33 = .ok (.istore 11, 2) := dk_54 11 (dk_at dksJ23_putTreeVal_1 10 rfl rfl)
theorem dJ23_putTreeVal_35 : decode cJ23_putTreeVal 35 = .ok (.iload_n 3, 1) := dk_29 (dk_at dksJ23_putTreeVal_1 12 rfl rfl)
theorem dJ23_putTreeVal_36 : decode cJ23_putTreeVal 36 = .ok (.if_icmp .le 9, 3) := dk_164 0 9 (dk_at dksJ23_putTreeVal_1 13 rfl rfl)
theorem dJ23_putTreeVal_39 : decode cJ23_putTreeVal 39 = .ok (.iconst (-1), 1) := dk_2 (dk_at dksJ23_putTreeVal_1 16 rfl rfl)
theorem dJ23_putTreeVal_40 : decode cJ23_putTreeVal 40 = .ok (.istore 10, 2) := dk_54 10 (dk_at dksJ23_putTreeVal_1 17 rfl rfl)
theorem dJ23_putTreeVal_42 : decode cJ23_putTreeVal 42 = .ok (.goto 151, 3) := dk_167 0 151 (dk_at dksJ23_putTreeVal_1 19 rfl rfl)
theorem dJ23_putTreeVal_45 : decode cJ23_putTreeVal 45 = .ok (.iload 11, 2) := dk_21 11 (dk_at dksJ23_putTreeVal_1 22 rfl rfl)
theorem dJ23_putTreeVal_47 : decode cJ23_putTreeVal 47 = .ok (.iload_n 3, 1) := dk_29 (dk_at dksJ23_putTreeVal_2 0 rfl rfl)
theorem dJ23_putTreeVal_48 : decode cJ23_putTreeVal 48 = .ok (.if_icmp .ge 9, 3) := dk_162 0 9 (dk_at dksJ23_putTreeVal_2 1 rfl rfl)
theorem dJ23_putTreeVal_51 : decode cJ23_putTreeVal 51 = .ok (.iconst 1, 1) := dk_4 (dk_at dksJ23_putTreeVal_2 4 rfl rfl)
theorem dJ23_putTreeVal_52 : decode cJ23_putTreeVal 52 = .ok (.istore 10, 2) := dk_54 10 (dk_at dksJ23_putTreeVal_2 5 rfl rfl)
theorem dJ23_putTreeVal_54 : decode cJ23_putTreeVal 54 = .ok (.goto 139, 3) := dk_167 0 139 (dk_at dksJ23_putTreeVal_2 7 rfl rfl)
theorem dJ23_putTreeVal_57 : decode cJ23_putTreeVal 57 = .ok (.aload 9, 2) := dk_25 9 (dk_at dksJ23_putTreeVal_2 10 rfl rfl)
theorem dJ23_putTreeVal_59 : decode cJ23_putTreeVal 59 = .ok (.getfield 45, 3) := dk_180 0 45 (dk_at dksJ23_putTreeVal_2 12 rfl rfl)
theorem dJ23_putTreeVal_62 : decode cJ23_putTreeVal 62 = .ok (.dup, 1) := dk_89 (dk_at dksJ23_putTreeVal_2 15 rfl rfl)
theorem dJ23_putTreeVal_63 : decode cJ23_putTreeVal 63 = .ok (.astore 12, 2) := dk_58 12 (dk_at dksJ23_putTreeVal_2 16 rfl rfl)
theorem dJ23_putTreeVal_65 : decode cJ23_putTreeVal 65 = .ok (.aload 4, 2) := dk_25 4 (dk_at dksJ23_putTreeVal_2 18 rfl rfl)
theorem dJ23_putTreeVal_67 : decode cJ23_putTreeVal 67 = .ok (.if_acmp .eq 18, 3) := dk_165 0 18 (dk_at dksJ23_putTreeVal_2 20 rfl rfl)
theorem dJ23_putTreeVal_70 : decode cJ23_putTreeVal 70 = .ok (.aload 4, 2) := dk_25 4 (dk_at dksJ23_putTreeVal_3 0 rfl rfl)
theorem dJ23_putTreeVal_72 : decode cJ23_putTreeVal 72 = .ok (.ifnull 16, 3) := dk_198 0 16 (dk_at dksJ23_putTreeVal_3 2 rfl rfl)
theorem dJ23_putTreeVal_75 : decode cJ23_putTreeVal 75 = .ok (.aload 4, 2) := dk_25 4 (dk_at dksJ23_putTreeVal_3 5 rfl rfl)
theorem dJ23_putTreeVal_77 : decode cJ23_putTreeVal 77 = .ok (.aload 12, 2) := dk_25 12 (dk_at dksJ23_putTreeVal_3 7 rfl rfl)
theorem dJ23_putTreeVal_79 : decode cJ23_putTreeVal 79 = .ok (.invokevirtual 49, 3) := dk_182 0 49 (dk_at dksJ23_putTreeVal_3 9 rfl rfl)
theorem dJ23_putTreeVal_82 : decode cJ23_putTreeVal 82 = .ok (.ifCond .eq 6, 3) := dk_153 0 6 (dk_at dksJ23_putTreeVal_3 12 rfl rfl)
theorem dJ23_putTreeVal_85 : decode cJ23_putTreeVal 85 = .ok (.aload 9, 2) := dk_25 9 (dk_at dksJ23_putTreeVal_3 15 rfl rfl)
theorem dJ23_putTreeVal_87 : decode cJ23_putTreeVal 87 = .ok (.areturn, 1) := dk_176 (dk_at dksJ23_putTreeVal_3 17 rfl rfl)
theorem dJ23_putTreeVal_88 : decode cJ23_putTreeVal 88 = .ok (.aload 6, 2) := dk_25 6 (dk_at dksJ23_putTreeVal_3 18 rfl rfl)
theorem dJ23_putTreeVal_90 : decode cJ23_putTreeVal 90 = .ok (.ifnonnull 14, 3) := dk_199 0 14 (dk_at dksJ23_putTreeVal_3 20 rfl rfl)
theorem dJ23_putTreeVal_93 : decode cJ23_putTreeVal 93 = .ok (.aload 4, 2) := dk_25 4 (dk_at dksJ23_putTreeVal_4 0 rfl rfl)
theorem dJ23_putTreeVal_95 : decode cJ23_putTreeVal 95 = .ok (.invokestatic 55, 3) := dk_184 0 55 (dk_at dksJ23_putTreeVal_4 2 rfl rfl)
theorem dJ23_putTreeVal_98 : decode cJ23_putTreeVal 98 = .ok (.dup, 1) := dk_89 (dk_at dksJ23_putTreeVal_4 5 rfl rfl)
theorem dJ23_putTreeVal_99 : decode cJ23_putTreeVal 99 = .ok (.astore 6, 2) := dk_58 6 (dk_at dksJ23_putTreeVal_4 6 rfl rfl)
theorem dJ23_putTreeVal_101 : decode cJ23_putTreeVal 101 = .ok (.ifnull 18, 3) := dk_198 0 18 (dk_at dksJ23_putTreeVal_4 8 rfl rfl)
theorem dJ23_putTreeVal_104 : decode cJ23_putTreeVal 104 = .ok (.aload 6, 2) := dk_25 6 (dk_at dksJ23_putTreeVal_4 11 rfl rfl)
theorem dJ23_putTreeVal_106 : decode cJ23_putTreeVal 106 = .ok (.aload 4, 2) := dk_25 4 (dk_at dksJ23_putTreeVal_4 13 rfl rfl)
theorem dJ23_putTreeVal_108 : decode cJ23_putTreeVal 108 = .ok (.aload 12, 2) := dk_25 12 (dk_at dksJ23_putTreeVal_4 15 rfl rfl)
theorem dJ23_putTreeVal_110 : decode cJ23_putTreeVal 110 = .ok (.invokestatic 59, 3) := dk_184 0 59 (dk_at dksJ23_putTreeVal_4 17 rfl rfl)
theorem dJ23_putTreeVal_113 : decode cJ23_putTreeVal 113 = .ok (.dup, 1) := dk_89 (dk_at dksJ23_putTreeVal_4 20 rfl rfl)
theorem dJ23_putTreeVal_114 : decode cJ23_putTreeVal 114 = .ok (.istore 10, 2) := dk_54 10 (dk_at dksJ23_putTreeVal_4 21 rfl rfl)
theorem dJ23_putTreeVal_116 : decode cJ23_putTreeVal 116 = .ok (.ifCond .ne 77, 3) := dk_154 0 77 (dk_at dksJ23_putTreeVal_5 0 rfl rfl)
theorem dJ23_putTreeVal_119 : decode cJ23_putTreeVal 119 = .ok (.iload 7, 2) := dk_21 7 (dk_at dksJ23_putTreeVal_5 3 rfl rfl)
theorem dJ23_putTreeVal_121 : decode cJ23_putTreeVal 121 = .ok (.ifCond .ne 63, 3) := dk_154 0 63 (dk_at dksJ23_putTreeVal_5 5 rfl rfl)
theorem dJ23_putTreeVal_124 : decode cJ23_putTreeVal 124 = .ok (.iconst 1, 1) := dk_4 (dk_at dksJ23_putTreeVal_5 8 rfl rfl)
theorem dJ23_putTreeVal_125 : decode cJ23_putTreeVal 125 = .ok (.istore 7, 2) := dk_54 7 (dk_at dksJ23_putTreeVal_5 9 rfl rfl)
theorem dJ23_putTreeVal_127 : decode cJ23_putTreeVal 127 = .ok (.aload 9, 2) := dk_25 9 (dk_at dksJ23_putTreeVal_5 11 rfl rfl)
theorem dJ23_putTreeVal_129 : decode cJ23_putTreeVal 129 = .ok (.getfield 39, 3) := dk_180 0 39 (dk_at dksJ23_putTreeVal_5 13 rfl rfl)
theorem dJ23_putTreeVal_132 : decode cJ23_putTreeVal 132 = .ok (.dup, 1) := dk_89 (dk_at dksJ23_putTreeVal_5 16 rfl rfl)
theorem dJ23_putTreeVal_133 : decode cJ23_putTreeVal 133 = .ok (.astore 14, 2) := dk_58 14 (dk_at dksJ23_putTreeVal_5 17 rfl rfl)
theorem dJ23_putTreeVal_135 : decode cJ23_putTreeVal 135 = .ok (.ifnull 19, 3) := dk_198 0 19 (dk_at dksJ23_putTreeVal_5 19 rfl rfl)
theorem dJ23_putTreeVal_138 : decode cJ23_putTreeVal 138 = .ok (.aload 14, 2) := dk_25 14 (dk_at dksJ23_putTreeVal_5 22 rfl rfl)
theorem dJ23_putTreeVal_140 : decode cJ23_putTreeVal 140 = .ok (.iload_n 3, 1) := dk_29 (dk_at dksJ23_putTreeVal_6 0 rfl rfl)
theorem dJ23_putTreeVal_141 : decode cJ23_putTreeVal 141 = .ok (.aload 4, 2) := dk_25 4 (dk_at dksJ23_putTreeVal_6 1 rfl rfl)
theorem dJ23_putTreeVal_143 : decode cJ23_putTreeVal 143 = .ok (.aload 6, 2) := dk_25 6 (dk_at dksJ23_putTreeVal_6 3 rfl rfl)
theorem dJ23_putTreeVal_145 : decode cJ23_putTreeVal 145 = .ok (.invokevirtual 63, 3) := dk_182 0 63 (dk_at dksJ23_putTreeVal_6 5 rfl rfl)
theorem dJ23_putTreeVal_148 : decode cJ23_putTreeVal 148 = .ok (.dup, 1) := dk_89 (dk_at dksJ23_putTreeVal_6 8 rfl rfl)
theorem dJ23_putTreeVal_149 : decode cJ23_putTreeVal 149 = .ok (.astore 13, 2) := dk_58 13 (dk_at dksJ23_putTreeVal_6 9 rfl rfl)
theorem dJ23_putTreeVal_151 : decode cJ23_putTreeVal 151 = .ok (.ifnonnull 30, 3) := dk_199 0 30 (dk_at dksJ23_putTreeVal_6 11 rfl rfl)
theorem dJ23_putTreeVal_154 : decode cJ23_putTreeVal 154 = .ok (.aload 9, 2) := dk_25 9 (dk_at dksJ23_putTreeVal_6 14 rfl rfl)
theorem dJ23_putTreeVal_156 : decode cJ23_putTreeVal 156 = .ok (.getfield 42, 3) := dk_180 0 42 (dk_at dksJ23_putTreeVal_6 16 rfl rfl)
theorem dJ23_putTreeVal_159 : decode cJ23_putTreeVal 159 = .ok (.dup, 1) := dk_89 (dk_at dksJ23_putTreeVal_6 19 rfl rfl)
theorem dJ23_putTreeVal_160 : decode cJ23_putTreeVal 160 = .ok (.astore 14, 2) := dk_58 14 (dk_at dksJ23_putTreeVal_6 20 rfl rfl)
theorem dJ23_putTreeVal_162 : decode cJ23_putTreeVal 162 = .ok (.ifnull 22, 3) := dk_198 0 22 (dk_at dksJ23_putTreeVal_7 0 rfl rfl)
theorem dJ23_putTreeVal_165 : decode cJ23_putTreeVal 165 = .ok (.aload 14, 2) := dk_25 14 (dk_at dksJ23_putTreeVal_7 3 rfl rfl)
theorem dJ23_putTreeVal_167 : decode cJ23_putTreeVal 167 = .ok (.iload_n 3, 1) := dk_29 (dk_at dksJ23_putTreeVal_7 5 rfl rfl)
theorem dJ23_putTreeVal_168 : decode cJ23_putTreeVal 168 = .ok (.aload 4, 2) := dk_25 4 (dk_at dksJ23_putTreeVal_7 6 rfl rfl)
theorem dJ23_putTreeVal_170 : decode cJ23_putTreeVal 170 = .ok (.aload 6, 2) := dk_25 6 (dk_at dksJ23_putTreeVal_7 8 rfl rfl)
theorem dJ23_putTreeVal_172 : decode cJ23_putTreeVal 172 = .ok (.invokevirtual 63, 3) := dk_182 0 63 (dk_at dksJ23_putTreeVal_7 10 rfl rfl)
theorem dJ23_putTreeVal_175 : decode cJ23_putTreeVal 175 = .ok (.dup, 1) := dk_89 (dk_at dksJ23_putTreeVal_7 13 rfl rfl)
theorem dJ23_putTreeVal_176 : decode cJ23_putTreeVal 176 = .ok (.astore 13, 2) := dk_58 13 (dk_at dksJ23_putTreeVal_7 14 rfl rfl)
theorem dJ23_putTreeVal_178 : decode cJ23_putTreeVal 178 = .ok (.ifnull 6, 3) := dk_198 0 6 (dk_at dksJ23_putTreeVal_7 16 rfl rfl)
theorem dJ23_putTreeVal_181 : decode cJ23_putTreeVal 181 = .ok (.aload 13, 2) := dk_25 13 (dk_at dksJ23_putTreeVal_7 19 rfl rfl)
theorem dJ23_putTreeVal_183 : decode cJ23_putTreeVal 183 = .ok (.areturn, 1) := dk_176 (dk_at dksJ23_putTreeVal_7 21 rfl rfl)
theorem dJ23_putTreeVal_184 : decode cJ23_putTreeVal 184 = .ok (.aload 4, 2) := dk_25 4 (dk_at dksJ23_putTreeVal_7 22 rfl rfl)
theorem dJ23_putTreeVal_186 : decode cJ23_putTreeVal 186 = .ok (.aload 12, 2) := dk_25 12 (dk_at dksJ23_putTreeVal_8 0 rfl rfl)
theorem dJ23_putTreeVal_188 : decode cJ23_putTreeVal 188 = .ok (.invokestatic 96, 3) := dk_184 0 96 (dk_at dksJ23_putTreeVal_8 2 rfl rfl)
theorem dJ23_putTreeVal_191 : decode cJ23_putTreeVal 191 = .ok (.istore 10, 2) := dk_54 10 (dk_at dksJ23_putTreeVal_8 5 rfl rfl)
theorem dJ23_putTreeVal_193 : decode cJ23_putTreeVal 193 = .ok (.aload 9, 2) := dk_25 9 (dk_at dksJ23_putTreeVal_8 7 rfl rfl)
theorem dJ23_putTreeVal_195 : decode cJ23_putTreeVal 195 = .ok (.astore 13, 2) := dk_58 13 (dk_at dksJ23_putTreeVal_8 9 rfl rfl)
theorem dJ23_putTreeVal_197 : decode cJ23_putTreeVal 197 = .ok (.iload 10, 2) := dk_21 10 (dk_at dksJ23_putTreeVal_8 11 rfl rfl)
theorem dJ23_putTreeVal_199 : decode cJ23_putTreeVal 199 = .ok (.ifCond .gt 11, 3) := dk_157 0 11 (dk_at dksJ23_putTreeVal_8 13 rfl rfl)
theorem dJ23_putTreeVal_202 : decode cJ23_putTreeVal 202 = .ok (.aload 9, 2) := dk_25 9 (dk_at dksJ23_putTreeVal_8 16 rfl rfl)
theorem dJ23_putTreeVal_204 : decode cJ23_putTreeVal 204 = .ok (.getfield 39, 3) := dk_180 0 39 (dk_at dksJ23_putTreeVal_8 18 rfl rfl)
theorem dJ23_putTreeVal_207 : decode cJ23_putTreeVal 207 = .ok (.goto 8, 3) := dk_167 0 8 (dk_at dksJ23_putTreeVal_8 21 rfl rfl)
theorem dJ23_putTreeVal_210 : decode cJ23_putTreeVal 210 = .ok (.aload 9, 2) := dk_25 9 (dk_at dksJ23_putTreeVal_9 0 rfl rfl)
theorem dJ23_putTreeVal_212 : decode cJ23_putTreeVal 212 = .ok (.getfield 42, 3) := dk_180 0 42 (dk_at dksJ23_putTreeVal_9 2 rfl rfl)
theorem dJ23_putTreeVal_215 : decode cJ23_putTreeVal 215 = .ok (.dup, 1) := dk_89 (dk_at dksJ23_putTreeVal_9 5 rfl rfl)
theorem dJ23_putTreeVal_216 : decode cJ23_putTreeVal 216 = .ok (.astore 9, 2) := dk_58 9 (dk_at dksJ23_putTreeVal_9 6 rfl rfl)
theorem dJ23_putTreeVal_218 : decode cJ23_putTreeVal 218 = .ok (.ifnonnull 93, 3) := dk_199 0 93 (dk_at dksJ23_putTreeVal_9 8 rfl rfl)
theorem dJ23_putTreeVal_221 : decode cJ23_putTreeVal 221 = .ok (.aload 13, 2) := dk_25 13 (dk_at dksJ23_putTreeVal_9 11 rfl rfl)
theorem dJ23_putTreeVal_223 : decode cJ23_putTreeVal 223 = .ok (.getfield 22, 3) := dk_180 0 22 (dk_at dksJ23_putTreeVal_9 13 rfl rfl)
theorem dJ23_putTreeVal_226 : decode cJ23_putTreeVal 226 = .ok (.astore 14, 2) := dk_58 14 (dk_at dksJ23_putTreeVal_9 16 rfl rfl)
theorem dJ23_putTreeVal_228 : decode cJ23_putTreeVal 228 = .ok (.aload_n 1, 1) := dk_43 (dk_at dksJ23_putTreeVal_9 18 rfl rfl)
theorem dJ23_putTreeVal_229 : decode cJ23_putTreeVal 229 = .ok (.iload_n 3, 1) := dk_29 (dk_at dksJ23_putTreeVal_9 19 rfl rfl)
theorem dJ23_putTreeVal_230 : decode cJ23_putTreeVal 230 = .ok (.aload 4, 2) := dk_25 4 (dk_at dksJ23_putTreeVal_9 20 rfl rfl)
theorem dJ23_putTreeVal_232 : decode cJ23_putTreeVal 232 = .ok (.aload 5, 2) := dk_25 5 (dk_at dksJ23_putTreeVal_9 22 rfl rfl)
theorem dJ23_putTreeVal_234 : decode cJ23_putTreeVal 234 = .ok (.aload 14, 2) := dk_25 14 (dk_at dksJ23_putTreeVal_10 0 rfl rfl)
theorem dJ23_putTreeVal_236 : decode cJ23_putTreeVal 236 = .ok (.invokevirtual 115, 3) := dk_182 0 115 (dk_at dksJ23_putTreeVal_10 2 rfl rfl)
theorem dJ23_putTreeVal_239 : decode cJ23_putTreeVal 239 = .ok (.astore 15, 2) := dk_58 15 (dk_at dksJ23_putTreeVal_10 5 rfl rfl)
theorem dJ23_putTreeVal_241 : decode cJ23_putTreeVal 241 = .ok (.iload 10, 2) := dk_21 10 (dk_at dksJ23_putTreeVal_10 7 rfl rfl)
theorem dJ23_putTreeVal_243 : decode cJ23_putTreeVal 243 = .ok (.ifCond .gt 13, 3) := dk_157 0 13 (dk_at dksJ23_putTreeVal_10 9 rfl rfl)
theorem dJ23_putTreeVal_246 : decode cJ23_putTreeVal 246 = .ok (.aload 13, 2) := dk_25 13 (dk_at dksJ23_putTreeVal_10 12 rfl rfl)
theorem dJ23_putTreeVal_248 : decode cJ23_putTreeVal 248 = .ok (.aload 15, 2) := dk_25 15 (dk_at dksJ23_putTreeVal_10 14 rfl rfl)
theorem dJ23_putTreeVal_250 : decode cJ23_putTreeVal 250 = .ok (.putfield 39, 3) := dk_181 0 39 (dk_at dksJ23_putTreeVal_10 16 rfl rfl)
theorem dJ23_putTreeVal_253 : decode cJ23_putTreeVal 253 = .ok (.goto 10, 3) := dk_167 0 10 (dk_at dksJ23_putTreeVal_10 19 rfl rfl)
theorem dJ23_putTreeVal_256 : decode cJ23_putTreeVal 256 = .ok (.aload 13, 2) := dk_25 13 (dk_at dksJ23_putTreeVal_10 22 rfl rfl)
theorem dJ23_putTreeVal_258 : decode cJ23_putTreeVal 258 = .ok (.aload 15, 2) := dk_25 15 (dk_at dksJ23_putTreeVal_11 0 rfl rfl)
theorem dJ23_putTreeVal_260 : decode cJ23_putTreeVal 260 = .ok (.putfield 42, 3) := dk_181 0 42 (dk_at dksJ23_putTreeVal_11 2 rfl rfl)
theorem dJ23_putTreeVal_263 : decode cJ23_putTreeVal 263 = .ok (.aload 13, 2) := dk_25 13 (dk_at dksJ23_putTreeVal_11 5 rfl rfl)
theorem dJ23_putTreeVal_265 : decode cJ23_putTreeVal 265 = .ok (.aload 15, 2) := dk_25 15 (dk_at dksJ23_putTreeVal_11 7 rfl rfl)
theorem dJ23_putTreeVal_267 : decode cJ23_putTreeVal 267 = .ok (.putfield 22, 3) := dk_181 0 22 (dk_at dksJ23_putTreeVal_11 9 rfl rfl)
theorem dJ23_putTreeVal_270 : decode cJ23_putTreeVal 270 = .ok (.aload 15, 2) := dk_25 15 (dk_at dksJ23_putTreeVal_11 12 rfl rfl)
theorem dJ23_putTreeVal_272 : decode cJ23_putTreeVal 272 = .ok (.aload 15, 2) := dk_25 15 (dk_at dksJ23_putTreeVal_11 14 rfl rfl)
theorem dJ23_putTreeVal_274 : decode cJ23_putTreeVal 274 = .ok (.aload 13, 2) := dk_25 13 (dk_at dksJ23_putTreeVal_11 16 rfl rfl)
theorem dJ23_putTreeVal_276 : decode cJ23_putTreeVal 276 = .ok (.dup_x1, 1) := dk_90 (dk_at dksJ23_putTreeVal_11 18 rfl rfl)
theorem dJ23_putTreeVal_277 : decode cJ23_putTreeVal 277 = .ok (.putfield 19, 3) := dk_181 0 19 (dk_at dksJ23_putTreeVal_11 19 rfl rfl)
theorem dJ23_putTreeVal_280 : decode cJ23_putTreeVal 280 = .ok (.putfield 9, 3) := dk_181 0 9 (dk_at dksJ23_putTreeVal_12 0 rfl rfl)
theorem dJ23_putTreeVal_283 : decode cJ23_putTreeVal 283 = .ok (.aload 14, 2) := dk_25 14 (dk_at dksJ23_putTreeVal_12 3 rfl rfl)
theorem dJ23_putTreeVal_285 : decode cJ23_putTreeVal 285 = .ok (.ifnull 13, 3) := dk_198 0 13 (dk_at dksJ23_putTreeVal_12 5 rfl rfl)
theorem dJ23_putTreeVal_288 : decode cJ23_putTreeVal 288 = .ok (.aload 14, 2) := dk_25 14 (dk_at dksJ23_putTreeVal_12 8 rfl rfl)
theorem dJ23_putTreeVal_290 : decode cJ23_putTreeVal 290 = .ok (.checkcast 10, 3) := dk_192 0 10 (dk_at dksJ23_putTreeVal_12 10 rfl rfl)
theorem dJ23_putTreeVal_293 : decode cJ23_putTreeVal 293 = .ok (.aload 15, 2) := dk_25 15 (dk_at dksJ23_putTreeVal_12 13 rfl rfl)
theorem dJ23_putTreeVal_295 : decode cJ23_putTreeVal 295 = .ok (.putfield 19, 3) := dk_181 0 19 (dk_at dksJ23_putTreeVal_12 15 rfl rfl)
theorem dJ23_putTreeVal_298 : decode cJ23_putTreeVal 298 = .ok (.aload_n 2, 1) := dk_44 (dk_at dksJ23_putTreeVal_12 18 rfl rfl)
theorem dJ23_putTreeVal_299 : decode cJ23_putTreeVal 299 = .ok (.aload 8, 2) := dk_25 8 (dk_at dksJ23_putTreeVal_12 19 rfl rfl)
theorem dJ23_putTreeVal_301 : decode cJ23_putTreeVal 301 = .ok (.aload 15, 2) := dk_25 15 (dk_at dksJ23_putTreeVal_12 21 rfl rfl)
theorem dJ23_putTreeVal_303 : decode cJ23_putTreeVal 303 = .ok (.invokestatic 100, 3) := dk_184 0 100 (dk_at dksJ23_putTreeVal_13 0 rfl rfl)
theorem dJ23_putTreeVal_306 : decode cJ23_putTreeVal 306 = .ok (.invokestatic 104, 3) := dk_184 0 104 (dk_at dksJ23_putTreeVal_13 3 rfl rfl)
theorem dJ23_putTreeVal_309 : decode cJ23_putTreeVal 309 = .ok (.aconst_null, 1) := dk_1 (dk_at dksJ23_putTreeVal_13 6 rfl rfl)
theorem dJ23_putTreeVal_310 : decode cJ23_putTreeVal 310 = .ok (.areturn, 1) := dk_176 (dk_at dksJ23_putTreeVal_13 7 rfl rfl)
theorem dJ23_putTreeVal_311 : decode cJ23_putTreeVal 311 = .ok (.goto (-284), 3) := dk_167 254 228 (dk_at dksJ23_putTreeVal_13 8 rfl rfl)
abbrev cJ23_root : ByteArray := prog_47_method_2_code
def yJ23_root : MethodName := ⟨RJ23, "root", "()Ljava/util/HashMap$TreeNode;"⟩
def dkwJ23_root_0 : List UInt8 := [42, 76, 43, 180, 0, 9, 89, 77, 199, 0, 5, 43, 176, 44, 76, 167, 255, 243]
abbrev dktJ23_root_0 : List UInt8 := dkwJ23_root_0 ++ []
theorem dksJ23_root_0 : cJ23_root.data.toList.drop 0 = dktJ23_root_0 := by decide +kernel
theorem dJ23_root_0 : decode cJ23_root 0 = .ok (.aload_n 0, 1) := dk_42 (dk_at dksJ23_root_0 0 rfl rfl)
theorem dJ23_root_1 : decode cJ23_root 1 = .ok (.astore_n 1, 1) := dk_76 (dk_at dksJ23_root_0 1 rfl rfl)
theorem dJ23_root_2 : decode cJ23_root 2 = .ok (.aload_n 1, 1) := dk_43 (dk_at dksJ23_root_0 2 rfl rfl)
theorem dJ23_root_3 : decode cJ23_root 3 = .ok (.getfield 9, 3) := dk_180 0 9 (dk_at dksJ23_root_0 3 rfl rfl)
theorem dJ23_root_6 : decode cJ23_root 6 = .ok (.dup, 1) := dk_89 (dk_at dksJ23_root_0 6 rfl rfl)
theorem dJ23_root_7 : decode cJ23_root 7 = .ok (.astore_n 2, 1) := dk_77 (dk_at dksJ23_root_0 7 rfl rfl)
theorem dJ23_root_8 : decode cJ23_root 8 = .ok (.ifnonnull 5, 3) := dk_199 0 5 (dk_at dksJ23_root_0 8 rfl rfl)
theorem dJ23_root_11 : decode cJ23_root 11 = .ok (.aload_n 1, 1) := dk_43 (dk_at dksJ23_root_0 11 rfl rfl)
theorem dJ23_root_12 : decode cJ23_root 12 = .ok (.areturn, 1) := dk_176 (dk_at dksJ23_root_0 12 rfl rfl)
theorem dJ23_root_13 : decode cJ23_root 13 = .ok (.aload_n 2, 1) := dk_44 (dk_at dksJ23_root_0 13 rfl rfl)
theorem dJ23_root_14 : decode cJ23_root 14 = .ok (.astore_n 1, 1) := dk_76 (dk_at dksJ23_root_0 14 rfl rfl)
theorem dJ23_root_15 : decode cJ23_root 15 = .ok (.goto (-13), 3) := dk_167 255 243 (dk_at dksJ23_root_0 15 rfl rfl)
abbrev cJ23_find : ByteArray := prog_47_method_4_code
def yJ23_find : MethodName := ⟨RJ23, "find", "(ILjava/lang/Object;Ljava/lang/Class;)Ljava/util/HashMap$TreeNode;"⟩
def dkwJ23_find_7 : List UInt8 := [58, 4, 25, 4, 199, 255, 92, 1, 176]
abbrev dktJ23_find_7 : List UInt8 := dkwJ23_find_7 ++ []
def dkwJ23_find_6 : List UInt8 := [58, 4, 167, 0, 24, 25, 9, 27, 44, 45, 182, 0, 63, 89, 58, 10, 198, 0, 6, 25, 10, 176, 25, 8]
abbrev dktJ23_find_6 : List UInt8 := dkwJ23_find_6 ++ dktJ23_find_7
def dkwJ23_find_5 : List UInt8 := [44, 25, 7, 184, 0, 59, 89, 54, 6, 153, 0, 20, 21, 6, 156, 0, 8, 25, 8, 167, 0, 5, 25, 9]
abbrev dktJ23_find_5 : List UInt8 := dkwJ23_find_5 ++ dktJ23_find_6
def dkwJ23_find_4 : List UInt8 := [199, 0, 10, 25, 8, 58, 4, 167, 0, 67, 45, 199, 0, 12, 44, 184, 0, 55, 89, 78, 198, 0, 33, 45]
abbrev dktJ23_find_4 : List UInt8 := dkwJ23_find_4 ++ dktJ23_find_5
def dkwJ23_find_3 : List UInt8 := [182, 0, 49, 153, 0, 6, 25, 4, 176, 25, 8, 199, 0, 10, 25, 9, 58, 4, 167, 0, 79, 25, 9]
abbrev dktJ23_find_3 : List UInt8 := dkwJ23_find_3 ++ dktJ23_find_4
def dkwJ23_find_2 : List UInt8 := [167, 0, 119, 25, 4, 180, 0, 45, 89, 58, 7, 44, 165, 0, 16, 44, 198, 0, 15, 44, 25, 7]
abbrev dktJ23_find_2 : List UInt8 := dkwJ23_find_2 ++ dktJ23_find_3
def dkwJ23_find_1 : List UInt8 := [54, 5, 27, 164, 0, 10, 25, 8, 58, 4, 167, 0, 132, 21, 5, 27, 162, 0, 10, 25, 9, 58, 4]
abbrev dktJ23_find_1 : List UInt8 := dkwJ23_find_1 ++ dktJ23_find_2
def dkwJ23_find_0 : List UInt8 := [42, 58, 4, 25, 4, 180, 0, 39, 58, 8, 25, 4, 180, 0, 42, 58, 9, 25, 4, 180, 0, 15, 89]
abbrev dktJ23_find_0 : List UInt8 := dkwJ23_find_0 ++ dktJ23_find_1
theorem dksJ23_find_0 : cJ23_find.data.toList.drop 0 = dktJ23_find_0 := by decide +kernel
theorem dksJ23_find_1 : cJ23_find.data.toList.drop 23 = dktJ23_find_1 := dk_seg dksJ23_find_0 23 rfl rfl
theorem dksJ23_find_2 : cJ23_find.data.toList.drop 46 = dktJ23_find_2 := dk_seg dksJ23_find_1 23 rfl rfl
theorem dksJ23_find_3 : cJ23_find.data.toList.drop 68 = dktJ23_find_3 := dk_seg dksJ23_find_2 22 rfl rfl
theorem dksJ23_find_4 : cJ23_find.data.toList.drop 91 = dktJ23_find_4 := dk_seg dksJ23_find_3 23 rfl rfl
theorem dksJ23_find_5 : cJ23_find.data.toList.drop 115 = dktJ23_find_5 := dk_seg dksJ23_find_4 24 rfl rfl
theorem dksJ23_find_6 : cJ23_find.data.toList.drop 139 = dktJ23_find_6 := dk_seg dksJ23_find_5 24 rfl rfl
theorem dksJ23_find_7 : cJ23_find.data.toList.drop 163 = dktJ23_find_7 := dk_seg dksJ23_find_6 24 rfl rfl
theorem dJ23_find_0 : decode cJ23_find 0 = .ok (.aload_n 0, 1) := dk_42 (dk_at dksJ23_find_0 0 rfl rfl)
theorem dJ23_find_1 : decode cJ23_find 1 = .ok (.astore 4, 2) := dk_58 4 (dk_at dksJ23_find_0 1 rfl rfl)
theorem dJ23_find_3 : decode cJ23_find 3 = .ok (.aload 4, 2) := dk_25 4 (dk_at dksJ23_find_0 3 rfl rfl)
theorem dJ23_find_5 : decode cJ23_find 5 = .ok (.getfield 39, 3) := dk_180 0 39 (dk_at dksJ23_find_0 5 rfl rfl)
theorem dJ23_find_8 : decode cJ23_find 8 = .ok (.astore 8, 2) := dk_58 8 (dk_at dksJ23_find_0 8 rfl rfl)
theorem dJ23_find_10 : decode cJ23_find 10 = .ok (.aload 4, 2) := dk_25 4 (dk_at dksJ23_find_0 10 rfl rfl)
theorem dJ23_find_12 : decode cJ23_find 12 = .ok (.getfield 42, 3) := dk_180 0 42 (dk_at dksJ23_find_0 12 rfl rfl)
theorem dJ23_find_15 : decode cJ23_find 15 = .ok (.astore 9, 2) := dk_58 9 (dk_at dksJ23_find_0 15 rfl rfl)
theorem dJ23_find_17 : decode cJ23_find 17 = .ok (.aload 4, 2) := dk_25 4 (dk_at dksJ23_find_0 17 rfl rfl)
theorem dJ23_find_19 : decode cJ23_find 19 = .ok (.getfield 15, 3) := dk_180 0 15 (dk_at dksJ23_find_0 19 rfl rfl)
theorem dJ23_find_22 : decode cJ23_find 22 = .ok (.dup, 1) := dk_89 (dk_at dksJ23_find_0 22 rfl rfl)
theorem dJ23_find_23 : decode cJ23_find 23 = .ok (.istore 5, 2) := dk_54 5 (dk_at dksJ23_find_1 0 rfl rfl)
theorem dJ23_find_25 : decode cJ23_find 25 = .ok (.iload_n 1, 1) := dk_27 (dk_at dksJ23_find_1 2 rfl rfl)
theorem dJ23_find_26 : decode cJ23_find 26 = .ok (.if_icmp .le 10, 3) := dk_164 0 10 (dk_at dksJ23_find_1 3 rfl rfl)
theorem dJ23_find_29 : decode cJ23_find 29 = .ok (.aload 8, 2) := dk_25 8 (dk_at dksJ23_find_1 6 rfl rfl)
theorem dJ23_find_31 : decode cJ23_find 31 = .ok (.astore 4, 2) := dk_58 4 (dk_at dksJ23_find_1 8 rfl rfl)
theorem dJ23_find_33 : decode cJ23_find 33 = .ok (.goto 132, 3) := dk_167 0 132 (dk_at dksJ23_find_1 10 rfl rfl)
theorem dJ23_find_36 : decode cJ23_find 36 = .ok (.iload 5, 2) := dk_21 5 (dk_at dksJ23_find_1 13 rfl rfl)
theorem dJ23_find_38 : decode cJ23_find 38 = .ok (.iload_n 1, 1) := dk_27 (dk_at dksJ23_find_1 15 rfl rfl)
theorem dJ23_find_39 : decode cJ23_find 39 = .ok (.if_icmp .ge 10, 3) := dk_162 0 10 (dk_at dksJ23_find_1 16 rfl rfl)
theorem dJ23_find_42 : decode cJ23_find 42 = .ok (.aload 9, 2) := dk_25 9 (dk_at dksJ23_find_1 19 rfl rfl)
theorem dJ23_find_44 : decode cJ23_find 44 = .ok (.astore 4, 2) := dk_58 4 (dk_at dksJ23_find_1 21 rfl rfl)
theorem dJ23_find_46 : decode cJ23_find 46 = .ok (.goto 119, 3) := dk_167 0 119 (dk_at dksJ23_find_2 0 rfl rfl)
theorem dJ23_find_49 : decode cJ23_find 49 = .ok (.aload 4, 2) := dk_25 4 (dk_at dksJ23_find_2 3 rfl rfl)
theorem dJ23_find_51 : decode cJ23_find 51 = .ok (.getfield 45, 3) := dk_180 0 45 (dk_at dksJ23_find_2 5 rfl rfl)
theorem dJ23_find_54 : decode cJ23_find 54 = .ok (.dup, 1) := dk_89 (dk_at dksJ23_find_2 8 rfl rfl)
theorem dJ23_find_55 : decode cJ23_find 55 = .ok (.astore 7, 2) := dk_58 7 (dk_at dksJ23_find_2 9 rfl rfl)
theorem dJ23_find_57 : decode cJ23_find 57 = .ok (.aload_n 2, 1) := dk_44 (dk_at dksJ23_find_2 11 rfl rfl)
theorem dJ23_find_58 : decode cJ23_find 58 = .ok (.if_acmp .eq 16, 3) := dk_165 0 16 (dk_at dksJ23_find_2 12 rfl rfl)
theorem dJ23_find_61 : decode cJ23_find 61 = .ok (.aload_n 2, 1) := dk_44 (dk_at dksJ23_find_2 15 rfl rfl)
theorem dJ23_find_62 : decode cJ23_find 62 = .ok (.ifnull 15, 3) := dk_198 0 15 (dk_at dksJ23_find_2 16 rfl rfl)
theorem dJ23_find_65 : decode cJ23_find 65 = .ok (.aload_n 2, 1) := dk_44 (dk_at dksJ23_find_2 19 rfl rfl)
theorem dJ23_find_66 : decode cJ23_find 66 = .ok (.aload 7, 2) := dk_25 7 (dk_at dksJ23_find_2 20 rfl rfl)
theorem dJ23_find_68 : decode cJ23_find 68 = .ok (.invokevirtual 49, 3) := dk_182 0 49 (dk_at dksJ23_find_3 0 rfl rfl)
theorem dJ23_find_71 : decode cJ23_find 71 = .ok (.ifCond .eq 6, 3) := dk_153 0 6 (dk_at dksJ23_find_3 3 rfl rfl)
theorem dJ23_find_74 : decode cJ23_find 74 = .ok (.aload 4, 2) := dk_25 4 (dk_at dksJ23_find_3 6 rfl rfl)
theorem dJ23_find_76 : decode cJ23_find 76 = .ok (.areturn, 1) := dk_176 (dk_at dksJ23_find_3 8 rfl rfl)
theorem dJ23_find_77 : decode cJ23_find 77 = .ok (.aload 8, 2) := dk_25 8 (dk_at dksJ23_find_3 9 rfl rfl)
theorem dJ23_find_79 : decode cJ23_find 79 = .ok (.ifnonnull 10, 3) := dk_199 0 10 (dk_at dksJ23_find_3 11 rfl rfl)
theorem dJ23_find_82 : decode cJ23_find 82 = .ok (.aload 9, 2) := dk_25 9 (dk_at dksJ23_find_3 14 rfl rfl)
theorem dJ23_find_84 : decode cJ23_find 84 = .ok (.astore 4, 2) := dk_58 4 (dk_at dksJ23_find_3 16 rfl rfl)
theorem dJ23_find_86 : decode cJ23_find 86 = .ok (.goto 79, 3) := dk_167 0 79 (dk_at dksJ23_find_3 18 rfl rfl)
theorem dJ23_find_89 : decode cJ23_find 89 = .ok (.aload 9, 2) := dk_25 9 (dk_at dksJ23_find_3 21 rfl rfl)
theorem dJ23_find_91 : decode cJ23_find 91 = .ok (.ifnonnull 10, 3) := dk_199 0 10 (dk_at dksJ23_find_4 0 rfl rfl)
theorem dJ23_find_94 : decode cJ23_find 94 = .ok (.aload 8, 2) := dk_25 8 (dk_at dksJ23_find_4 3 rfl rfl)
theorem dJ23_find_96 : decode cJ23_find 96 = .ok (.astore 4, 2) := dk_58 4 (dk_at dksJ23_find_4 5 rfl rfl)
theorem dJ23_find_98 : decode cJ23_find 98 = .ok (.goto 67, 3) := dk_167 0 67 (dk_at dksJ23_find_4 7 rfl rfl)
theorem dJ23_find_101 : decode cJ23_find 101 = .ok (.aload_n 3, 1) := dk_45 (dk_at dksJ23_find_4 10 rfl rfl)
theorem dJ23_find_102 : decode cJ23_find 102 = .ok (.ifnonnull 12, 3) := dk_199 0 12 (dk_at dksJ23_find_4 11 rfl rfl)
theorem dJ23_find_105 : decode cJ23_find 105 = .ok (.aload_n 2, 1) := dk_44 (dk_at dksJ23_find_4 14 rfl rfl)
theorem dJ23_find_106 : decode cJ23_find 106 = .ok (.invokestatic 55, 3) := dk_184 0 55 (dk_at dksJ23_find_4 15 rfl rfl)
theorem dJ23_find_109 : decode cJ23_find 109 = .ok (.dup, 1) := dk_89 (dk_at dksJ23_find_4 18 rfl rfl)
theorem dJ23_find_110 : decode cJ23_find 110 = .ok (.astore_n 3, 1) := dk_78 (dk_at dksJ23_find_4 19 rfl rfl)
theorem dJ23_find_111 : decode cJ23_find 111 = .ok (.ifnull 33, 3) := dk_198 0 33 (dk_at dksJ23_find_4 20 rfl rfl)
theorem dJ23_find_114 : decode cJ23_find 114 = .ok (.aload_n 3, 1) := dk_45 (dk_at dksJ23_find_4 23 rfl rfl)
theorem dJ23_find_115 : decode cJ23_find 115 = .ok (.aload_n 2, 1) := dk_44 (dk_at dksJ23_find_5 0 rfl rfl)
theorem dJ23_find_116 : decode cJ23_find 116 = .ok (.aload 7, 2) := dk_25 7 (dk_at dksJ23_find_5 1 rfl rfl)
theorem dJ23_find_118 : decode cJ23_find 118 = .ok (.invokestatic 59, 3) := dk_184 0 59 (dk_at dksJ23_find_5 3 rfl rfl)
theorem dJ23_find_121 : decode cJ23_find 121 = .ok (.dup, 1) := dk_89 (dk_at dksJ23_find_5 6 rfl rfl)
theorem dJ23_find_122 : decode cJ23_find 122 = .ok (.istore 6, 2) := dk_54 6 (dk_at dksJ23_find_5 7 rfl rfl)
theorem dJ23_find_124 : decode cJ23_find 124 = .ok (.ifCond .eq 20, 3) := dk_153 0 20 (dk_at dksJ23_find_5 9 rfl rfl)
theorem dJ23_find_127 : decode cJ23_find 127 = .ok (.iload 6, 2) := dk_21 6 (dk_at dksJ23_find_5 12 rfl rfl)
theorem dJ23_find_129 : decode cJ23_find 129 = .ok (.ifCond .ge 8, 3) := dk_156 0 8 (dk_at dksJ23_find_5 14 rfl rfl)
theorem dJ23_find_132 : decode cJ23_find 132 = .ok (.aload 8, 2) := dk_25 8 (dk_at dksJ23_find_5 17 rfl rfl)
theorem dJ23_find_134 : decode cJ23_find 134 = .ok (.goto 5, 3) := dk_167 0 5 (dk_at dksJ23_find_5 19 rfl rfl)
theorem dJ23_find_137 : decode cJ23_find 137 = .ok (.aload 9, 2) := dk_25 9 (dk_at dksJ23_find_5 22 rfl rfl)
theorem dJ23_find_139 : decode cJ23_find 139 = .ok (.astore 4, 2) := dk_58 4 (dk_at dksJ23_find_6 0 rfl rfl)
theorem dJ23_find_141 : decode cJ23_find 141 = .ok (.goto 24, 3) := dk_167 0 24 (dk_at dksJ23_find_6 2 rfl rfl)
theorem dJ23_find_144 : decode cJ23_find 144 = .ok (.aload 9, 2) := dk_25 9 (dk_at dksJ23_find_6 5 rfl rfl)
theorem dJ23_find_146 : decode cJ23_find 146 = .ok (.iload_n 1, 1) := dk_27 (dk_at dksJ23_find_6 7 rfl rfl)
theorem dJ23_find_147 : decode cJ23_find 147 = .ok (.aload_n 2, 1) := dk_44 (dk_at dksJ23_find_6 8 rfl rfl)
theorem dJ23_find_148 : decode cJ23_find 148 = .ok (.aload_n 3, 1) := dk_45 (dk_at dksJ23_find_6 9 rfl rfl)
theorem dJ23_find_149 : decode cJ23_find 149 = .ok (.invokevirtual 63, 3) := dk_182 0 63 (dk_at dksJ23_find_6 10 rfl rfl)
theorem dJ23_find_152 : decode cJ23_find 152 = .ok (.dup, 1) := dk_89 (dk_at dksJ23_find_6 13 rfl rfl)
theorem dJ23_find_153 : decode cJ23_find 153 = .ok (.astore 10, 2) := dk_58 10 (dk_at dksJ23_find_6 14 rfl rfl)
theorem dJ23_find_155 : decode cJ23_find 155 = .ok (.ifnull 6, 3) := dk_198 0 6 (dk_at dksJ23_find_6 16 rfl rfl)
theorem dJ23_find_158 : decode cJ23_find 158 = .ok (.aload 10, 2) := dk_25 10 (dk_at dksJ23_find_6 19 rfl rfl)
theorem dJ23_find_160 : decode cJ23_find 160 = .ok (.areturn, 1) := dk_176 (dk_at dksJ23_find_6 21 rfl rfl)
theorem dJ23_find_161 : decode cJ23_find 161 = .ok (.aload 8, 2) := dk_25 8 (dk_at dksJ23_find_6 22 rfl rfl)
theorem dJ23_find_163 : decode cJ23_find 163 = .ok (.astore 4, 2) := dk_58 4 (dk_at dksJ23_find_7 0 rfl rfl)
theorem dJ23_find_165 : decode cJ23_find 165 = .ok (.aload 4, 2) := dk_25 4 (dk_at dksJ23_find_7 2 rfl rfl)
theorem dJ23_find_167 : decode cJ23_find 167 = .ok (.ifnonnull (-164), 3) := dk_199 255 92 (dk_at dksJ23_find_7 4 rfl rfl)
theorem dJ23_find_170 : decode cJ23_find 170 = .ok (.aconst_null, 1) := dk_1 (dk_at dksJ23_find_7 7 rfl rfl)
theorem dJ23_find_171 : decode cJ23_find 171 = .ok (.areturn, 1) := dk_176 (dk_at dksJ23_find_7 8 rfl rfl)
abbrev cJ23_init : ByteArray := prog_47_method_1_code
def yJ23_init : MethodName := ⟨RJ23, "<init>", "(ILjava/lang/Object;Ljava/lang/Object;Ljava/util/HashMap$Node;)V"⟩
def dkwJ23_init_0 : List UInt8 := [42, 27, 44, 45, 25, 4, 183, 0, 3, 177]
abbrev dktJ23_init_0 : List UInt8 := dkwJ23_init_0 ++ []
theorem dksJ23_init_0 : cJ23_init.data.toList.drop 0 = dktJ23_init_0 := by decide +kernel
theorem dJ23_init_0 : decode cJ23_init 0 = .ok (.aload_n 0, 1) := dk_42 (dk_at dksJ23_init_0 0 rfl rfl)
theorem dJ23_init_1 : decode cJ23_init 1 = .ok (.iload_n 1, 1) := dk_27 (dk_at dksJ23_init_0 1 rfl rfl)
theorem dJ23_init_2 : decode cJ23_init 2 = .ok (.aload_n 2, 1) := dk_44 (dk_at dksJ23_init_0 2 rfl rfl)
theorem dJ23_init_3 : decode cJ23_init 3 = .ok (.aload_n 3, 1) := dk_45 (dk_at dksJ23_init_0 3 rfl rfl)
theorem dJ23_init_4 : decode cJ23_init 4 = .ok (.aload 4, 2) := dk_25 4 (dk_at dksJ23_init_0 4 rfl rfl)
theorem dJ23_init_6 : decode cJ23_init 6 = .ok (.invokespecial 3, 3) := dk_183 0 3 (dk_at dksJ23_init_0 6 rfl rfl)
theorem dJ23_init_9 : decode cJ23_init 9 = .ok (.return_, 1) := dk_177 (dk_at dksJ23_init_0 9 rfl rfl)
abbrev cJ23_getTreeNode : ByteArray := prog_47_method_5_code
def yJ23_getTreeNode : MethodName := ⟨RJ23, "getTreeNode", "(ILjava/lang/Object;)Ljava/util/HashMap$TreeNode;"⟩
def dkwJ23_getTreeNode_0 : List UInt8 := [42, 180, 0, 9, 198, 0, 10, 42, 182, 0, 67, 167, 0, 4, 42, 27, 44, 1, 182, 0, 63, 176]
abbrev dktJ23_getTreeNode_0 : List UInt8 := dkwJ23_getTreeNode_0 ++ []
theorem dksJ23_getTreeNode_0 : cJ23_getTreeNode.data.toList.drop 0 = dktJ23_getTreeNode_0 := by decide +kernel
theorem dJ23_getTreeNode_0 : decode cJ23_getTreeNode 0 = .ok (.aload_n 0, 1) := dk_42 (dk_at dksJ23_getTreeNode_0 0 rfl rfl)
theorem dJ23_getTreeNode_1 : decode cJ23_getTreeNode 1 = .ok (.getfield 9, 3) := dk_180 0 9 (dk_at dksJ23_getTreeNode_0 1 rfl rfl)
theorem dJ23_getTreeNode_4 : decode cJ23_getTreeNode 4 = .ok (.ifnull 10, 3) := dk_198 0 10 (dk_at dksJ23_getTreeNode_0 4 rfl rfl)
theorem dJ23_getTreeNode_7 : decode cJ23_getTreeNode 7 = .ok (.aload_n 0, 1) := dk_42 (dk_at dksJ23_getTreeNode_0 7 rfl rfl)
theorem dJ23_getTreeNode_8 : decode cJ23_getTreeNode 8 = .ok (.invokevirtual 67, 3) := dk_182 0 67 (dk_at dksJ23_getTreeNode_0 8 rfl rfl)
theorem dJ23_getTreeNode_11 : decode cJ23_getTreeNode 11 = .ok (.goto 4, 3) := dk_167 0 4 (dk_at dksJ23_getTreeNode_0 11 rfl rfl)
theorem dJ23_getTreeNode_14 : decode cJ23_getTreeNode 14 = .ok (.aload_n 0, 1) := dk_42 (dk_at dksJ23_getTreeNode_0 14 rfl rfl)
theorem dJ23_getTreeNode_15 : decode cJ23_getTreeNode 15 = .ok (.iload_n 1, 1) := dk_27 (dk_at dksJ23_getTreeNode_0 15 rfl rfl)
theorem dJ23_getTreeNode_16 : decode cJ23_getTreeNode 16 = .ok (.aload_n 2, 1) := dk_44 (dk_at dksJ23_getTreeNode_0 16 rfl rfl)
theorem dJ23_getTreeNode_17 : decode cJ23_getTreeNode 17 = .ok (.aconst_null, 1) := dk_1 (dk_at dksJ23_getTreeNode_0 17 rfl rfl)
theorem dJ23_getTreeNode_18 : decode cJ23_getTreeNode 18 = .ok (.invokevirtual 63, 3) := dk_182 0 63 (dk_at dksJ23_getTreeNode_0 18 rfl rfl)
theorem dJ23_getTreeNode_21 : decode cJ23_getTreeNode 21 = .ok (.areturn, 1) := dk_176 (dk_at dksJ23_getTreeNode_0 21 rfl rfl)
abbrev cJ23_removeTreeNode : ByteArray := prog_47_method_10_code
def yJ23_removeTreeNode : MethodName := ⟨RJ23, "removeTreeNode", "(Ljava/util/HashMap;[Ljava/util/HashMap$Node;Z)V"⟩
def dkwJ23_removeTreeNode_27 : List UInt8 := [25, 15, 184, 0, 104, 177]
abbrev dktJ23_removeTreeNode_27 : List UInt8 := dkwJ23_removeTreeNode_27 ++ []
def dkwJ23_removeTreeNode_26 : List UInt8 := [167, 0, 19, 25, 11, 25, 16, 180, 0, 42, 166, 0, 9, 25, 16, 1, 181, 0, 42, 29, 153, 0, 9, 44]
abbrev dktJ23_removeTreeNode_26 : List UInt8 := dkwJ23_removeTreeNode_26 ++ dktJ23_removeTreeNode_27
def dkwJ23_removeTreeNode_25 : List UInt8 := [181, 0, 9, 25, 16, 198, 0, 38, 25, 11, 25, 16, 180, 0, 39, 166, 0, 12, 25, 16, 1, 181, 0, 39]
abbrev dktJ23_removeTreeNode_25 : List UInt8 := dkwJ23_removeTreeNode_25 ++ dktJ23_removeTreeNode_26
def dkwJ23_removeTreeNode_24 : List UInt8 := [184, 0, 123, 58, 15, 25, 14, 25, 11, 166, 0, 56, 25, 11, 180, 0, 9, 58, 16, 25, 11, 1]
abbrev dktJ23_removeTreeNode_24 : List UInt8 := dkwJ23_removeTreeNode_24 ++ dktJ23_removeTreeNode_25
def dkwJ23_removeTreeNode_23 : List UInt8 := [181, 0, 42, 181, 0, 39, 25, 11, 180, 0, 93, 153, 0, 8, 25, 7, 167, 0, 10, 25, 7, 25, 14]
abbrev dktJ23_removeTreeNode_23 : List UInt8 := dkwJ23_removeTreeNode_23 ++ dktJ23_removeTreeNode_24
def dkwJ23_removeTreeNode_22 : List UInt8 := [167, 0, 10, 25, 15, 25, 14, 181, 0, 42, 25, 11, 25, 11, 25, 11, 1, 90, 181, 0, 9, 90]
abbrev dktJ23_removeTreeNode_22 : List UInt8 := dkwJ23_removeTreeNode_22 ++ dktJ23_removeTreeNode_23
def dkwJ23_removeTreeNode_21 : List UInt8 := [181, 0, 93, 167, 0, 30, 25, 11, 25, 15, 180, 0, 39, 166, 0, 13, 25, 15, 25, 14, 181, 0, 39]
abbrev dktJ23_removeTreeNode_21 : List UInt8 := dkwJ23_removeTreeNode_21 ++ dktJ23_removeTreeNode_22
def dkwJ23_removeTreeNode_20 : List UInt8 := [25, 11, 180, 0, 9, 90, 181, 0, 9, 58, 15, 25, 15, 199, 0, 15, 25, 14, 89, 58, 7, 3]
abbrev dktJ23_removeTreeNode_20 : List UInt8 := dkwJ23_removeTreeNode_20 ++ dktJ23_removeTreeNode_21
def dkwJ23_removeTreeNode_19 : List UInt8 := [198, 0, 10, 25, 13, 58, 14, 167, 0, 7, 25, 11, 58, 14, 25, 14, 25, 11, 165, 0, 78, 25, 14]
abbrev dktJ23_removeTreeNode_19 : List UInt8 := dkwJ23_removeTreeNode_19 ++ dktJ23_removeTreeNode_20
def dkwJ23_removeTreeNode_18 : List UInt8 := [167, 0, 7, 25, 11, 58, 14, 167, 0, 31, 25, 12, 198, 0, 10, 25, 12, 58, 14, 167, 0, 19, 25, 13]
abbrev dktJ23_removeTreeNode_18 : List UInt8 := dkwJ23_removeTreeNode_18 ++ dktJ23_removeTreeNode_19
def dkwJ23_removeTreeNode_17 : List UInt8 := [181, 0, 39, 167, 0, 10, 25, 19, 25, 15, 181, 0, 42, 25, 18, 198, 0, 10, 25, 18, 58, 14]
abbrev dktJ23_removeTreeNode_17 : List UInt8 := dkwJ23_removeTreeNode_17 ++ dktJ23_removeTreeNode_18
def dkwJ23_removeTreeNode_16 : List UInt8 := [199, 0, 10, 25, 15, 58, 7, 167, 0, 30, 25, 11, 25, 19, 180, 0, 39, 166, 0, 13, 25, 19, 25, 15]
abbrev dktJ23_removeTreeNode_16 : List UInt8 := dkwJ23_removeTreeNode_16 ++ dktJ23_removeTreeNode_17
def dkwJ23_removeTreeNode_15 : List UInt8 := [25, 12, 90, 181, 0, 39, 198, 0, 10, 25, 12, 25, 15, 181, 0, 9, 25, 15, 25, 19, 90, 181, 0, 9]
abbrev dktJ23_removeTreeNode_15 : List UInt8 := dkwJ23_removeTreeNode_15 ++ dktJ23_removeTreeNode_16
def dkwJ23_removeTreeNode_14 : List UInt8 := [181, 0, 39, 25, 11, 25, 18, 90, 181, 0, 42, 198, 0, 10, 25, 18, 25, 11, 181, 0, 9, 25, 15]
abbrev dktJ23_removeTreeNode_14 : List UInt8 := dkwJ23_removeTreeNode_14 ++ dktJ23_removeTreeNode_15
def dkwJ23_removeTreeNode_13 : List UInt8 := [181, 0, 42, 25, 15, 25, 13, 90, 181, 0, 42, 198, 0, 10, 25, 13, 25, 15, 181, 0, 9, 25, 11, 1]
abbrev dktJ23_removeTreeNode_13 : List UInt8 := dkwJ23_removeTreeNode_13 ++ dktJ23_removeTreeNode_14
def dkwJ23_removeTreeNode_12 : List UInt8 := [25, 15, 25, 20, 180, 0, 39, 166, 0, 13, 25, 20, 25, 11, 181, 0, 39, 167, 0, 10, 25, 20, 25, 11]
abbrev dktJ23_removeTreeNode_12 : List UInt8 := dkwJ23_removeTreeNode_12 ++ dktJ23_removeTreeNode_13
def dkwJ23_removeTreeNode_11 : List UInt8 := [181, 0, 42, 167, 0, 66, 25, 15, 180, 0, 9, 58, 20, 25, 11, 25, 20, 90, 181, 0, 9, 198, 0, 30]
abbrev dktJ23_removeTreeNode_11 : List UInt8 := dkwJ23_removeTreeNode_11 ++ dktJ23_removeTreeNode_12
def dkwJ23_removeTreeNode_10 : List UInt8 := [180, 0, 9, 58, 19, 25, 15, 25, 13, 166, 0, 20, 25, 11, 25, 15, 181, 0, 9, 25, 15, 25, 11]
abbrev dktJ23_removeTreeNode_10 : List UInt8 := dkwJ23_removeTreeNode_10 ++ dktJ23_removeTreeNode_11
def dkwJ23_removeTreeNode_9 : List UInt8 := [180, 0, 93, 181, 0, 93, 25, 11, 21, 17, 181, 0, 93, 25, 15, 180, 0, 42, 58, 18, 25, 11]
abbrev dktJ23_removeTreeNode_9 : List UInt8 := dkwJ23_removeTreeNode_9 ++ dktJ23_removeTreeNode_10
def dkwJ23_removeTreeNode_8 : List UInt8 := [89, 58, 16, 198, 0, 10, 25, 16, 58, 15, 167, 255, 241, 25, 15, 180, 0, 93, 54, 17, 25, 15, 25, 11]
abbrev dktJ23_removeTreeNode_8 : List UInt8 := dkwJ23_removeTreeNode_8 ++ dktJ23_removeTreeNode_9
def dkwJ23_removeTreeNode_7 : List UInt8 := [180, 0, 42, 58, 13, 25, 12, 198, 1, 5, 25, 13, 198, 1, 0, 25, 13, 58, 15, 25, 15, 180, 0, 39]
abbrev dktJ23_removeTreeNode_7 : List UInt8 := dkwJ23_removeTreeNode_7 ++ dktJ23_removeTreeNode_8
def dkwJ23_removeTreeNode_6 : List UInt8 := [199, 0, 14, 44, 21, 5, 25, 6, 43, 182, 0, 119, 83, 177, 42, 58, 11, 42, 180, 0, 39, 58, 12, 42]
abbrev dktJ23_removeTreeNode_6 : List UInt8 := dkwJ23_removeTreeNode_6 ++ dktJ23_removeTreeNode_7
def dkwJ23_removeTreeNode_5 : List UInt8 := [25, 7, 180, 0, 42, 198, 0, 22, 25, 7, 180, 0, 39, 89, 58, 8, 198, 0, 11, 25, 8, 180, 0, 39]
abbrev dktJ23_removeTreeNode_5 : List UInt8 := dkwJ23_removeTreeNode_5 ++ dktJ23_removeTreeNode_6
def dkwJ23_removeTreeNode_4 : List UInt8 := [25, 7, 180, 0, 9, 198, 0, 10, 25, 7, 182, 0, 67, 58, 7, 25, 7, 198, 0, 34, 29, 153, 0, 41]
abbrev dktJ23_removeTreeNode_4 : List UInt8 := dkwJ23_removeTreeNode_4 ++ dktJ23_removeTreeNode_5
def dkwJ23_removeTreeNode_3 : List UInt8 := [25, 9, 181, 0, 22, 25, 9, 198, 0, 10, 25, 9, 25, 10, 181, 0, 19, 25, 6, 199, 0, 4, 177]
abbrev dktJ23_removeTreeNode_3 : List UInt8 := dkwJ23_removeTreeNode_3 ++ dktJ23_removeTreeNode_4
def dkwJ23_removeTreeNode_2 : List UInt8 := [180, 0, 19, 58, 10, 25, 10, 199, 0, 15, 44, 21, 5, 25, 9, 89, 58, 6, 83, 167, 0, 10, 25, 10]
abbrev dktJ23_removeTreeNode_2 : List UInt8 := dkwJ23_removeTreeNode_2 ++ dktJ23_removeTreeNode_3
def dkwJ23_removeTreeNode_1 : List UInt8 := [44, 21, 5, 50, 192, 0, 10, 58, 6, 25, 6, 58, 7, 42, 180, 0, 22, 192, 0, 10, 58, 9, 42]
abbrev dktJ23_removeTreeNode_1 : List UInt8 := dkwJ23_removeTreeNode_1 ++ dktJ23_removeTreeNode_2
def dkwJ23_removeTreeNode_0 : List UInt8 := [44, 198, 0, 11, 44, 190, 89, 54, 4, 154, 0, 4, 177, 21, 4, 4, 100, 42, 180, 0, 15, 126, 54, 5]
abbrev dktJ23_removeTreeNode_0 : List UInt8 := dkwJ23_removeTreeNode_0 ++ dktJ23_removeTreeNode_1
theorem dksJ23_removeTreeNode_0 : cJ23_removeTreeNode.data.toList.drop 0 = dktJ23_removeTreeNode_0 := by decide +kernel
theorem dksJ23_removeTreeNode_1 : cJ23_removeTreeNode.data.toList.drop 24 = dktJ23_removeTreeNode_1 := dk_seg dksJ23_removeTreeNode_0 24 rfl rfl
theorem dksJ23_removeTreeNode_2 : cJ23_removeTreeNode.data.toList.drop 47 = dktJ23_removeTreeNode_2 := dk_seg dksJ23_removeTreeNode_1 23 rfl rfl
theorem dksJ23_removeTreeNode_3 : cJ23_removeTreeNode.data.toList.drop 71 = dktJ23_removeTreeNode_3 := dk_seg dksJ23_removeTreeNode_2 24 rfl rfl
theorem dksJ23_removeTreeNode_4 : cJ23_removeTreeNode.data.toList.drop 94 = dktJ23_removeTreeNode_4 := dk_seg dksJ23_removeTreeNode_3 23 rfl rfl
theorem dksJ23_removeTreeNode_5 : cJ23_removeTreeNode.data.toList.drop 118 = dktJ23_removeTreeNode_5 := dk_seg dksJ23_removeTreeNode_4 24 rfl rfl
theorem dksJ23_removeTreeNode_6 : cJ23_removeTreeNode.data.toList.drop 142 = dktJ23_removeTreeNode_6 := dk_seg dksJ23_removeTreeNode_5 24 rfl rfl
theorem dksJ23_removeTreeNode_7 : cJ23_removeTreeNode.data.toList.drop 166 = dktJ23_removeTreeNode_7 := dk_seg dksJ23_removeTreeNode_6 24 rfl rfl
theorem dksJ23_removeTreeNode_8 : cJ23_removeTreeNode.data.toList.drop 190 = dktJ23_removeTreeNode_8 := dk_seg dksJ23_removeTreeNode_7 24 rfl rfl
theorem dksJ23_removeTreeNode_9 : cJ23_removeTreeNode.data.toList.drop 214 = dktJ23_removeTreeNode_9 := dk_seg dksJ23_removeTreeNode_8 24 rfl rfl
theorem dksJ23_removeTreeNode_10 : cJ23_removeTreeNode.data.toList.drop 236 = dktJ23_removeTreeNode_10 := dk_seg dksJ23_removeTreeNode_9 22 rfl rfl
theorem dksJ23_removeTreeNode_11 : cJ23_removeTreeNode.data.toList.drop 259 = dktJ23_removeTreeNode_11 := dk_seg dksJ23_removeTreeNode_10 23 rfl rfl
theorem dksJ23_removeTreeNode_12 : cJ23_removeTreeNode.data.toList.drop 283 = dktJ23_removeTreeNode_12 := dk_seg dksJ23_removeTreeNode_11 24 rfl rfl
theorem dksJ23_removeTreeNode_13 : cJ23_removeTreeNode.data.toList.drop 307 = dktJ23_removeTreeNode_13 := dk_seg dksJ23_removeTreeNode_12 24 rfl rfl
theorem dksJ23_removeTreeNode_14 : cJ23_removeTreeNode.data.toList.drop 331 = dktJ23_removeTreeNode_14 := dk_seg dksJ23_removeTreeNode_13 24 rfl rfl
theorem dksJ23_removeTreeNode_15 : cJ23_removeTreeNode.data.toList.drop 354 = dktJ23_removeTreeNode_15 := dk_seg dksJ23_removeTreeNode_14 23 rfl rfl
theorem dksJ23_removeTreeNode_16 : cJ23_removeTreeNode.data.toList.drop 378 = dktJ23_removeTreeNode_16 := dk_seg dksJ23_removeTreeNode_15 24 rfl rfl
theorem dksJ23_removeTreeNode_17 : cJ23_removeTreeNode.data.toList.drop 402 = dktJ23_removeTreeNode_17 := dk_seg dksJ23_removeTreeNode_16 24 rfl rfl
theorem dksJ23_removeTreeNode_18 : cJ23_removeTreeNode.data.toList.drop 424 = dktJ23_removeTreeNode_18 := dk_seg dksJ23_removeTreeNode_17 22 rfl rfl
theorem dksJ23_removeTreeNode_19 : cJ23_removeTreeNode.data.toList.drop 448 = dktJ23_removeTreeNode_19 := dk_seg dksJ23_removeTreeNode_18 24 rfl rfl
theorem dksJ23_removeTreeNode_20 : cJ23_removeTreeNode.data.toList.drop 471 = dktJ23_removeTreeNode_20 := dk_seg dksJ23_removeTreeNode_19 23 rfl rfl
theorem dksJ23_removeTreeNode_21 : cJ23_removeTreeNode.data.toList.drop 493 = dktJ23_removeTreeNode_21 := dk_seg dksJ23_removeTreeNode_20 22 rfl rfl
theorem dksJ23_removeTreeNode_22 : cJ23_removeTreeNode.data.toList.drop 516 = dktJ23_removeTreeNode_22 := dk_seg dksJ23_removeTreeNode_21 23 rfl rfl
theorem dksJ23_removeTreeNode_23 : cJ23_removeTreeNode.data.toList.drop 538 = dktJ23_removeTreeNode_23 := dk_seg dksJ23_removeTreeNode_22 22 rfl rfl
theorem dksJ23_removeTreeNode_24 : cJ23_removeTreeNode.data.toList.drop 561 = dktJ23_removeTreeNode_24 := dk_seg dksJ23_removeTreeNode_23 23 rfl rfl
theorem dksJ23_removeTreeNode_25 : cJ23_removeTreeNode.data.toList.drop 583 = dktJ23_removeTreeNode_25 := dk_seg dksJ23_removeTreeNode_24 22 rfl rfl
theorem dksJ23_removeTreeNode_26 : cJ23_removeTreeNode.data.toList.drop 607 = dktJ23_removeTreeNode_26 := dk_seg dksJ23_removeTreeNode_25 24 rfl rfl
theorem dksJ23_removeTreeNode_27 : cJ23_removeTreeNode.data.toList.drop 631 = dktJ23_removeTreeNode_27 := dk_seg dksJ23_removeTreeNode_26 24 rfl rfl
theorem dJ23_removeTreeNode_0 : decode cJ23_removeTreeNode 0 = .ok (.aload_n 2, 1) := dk_44 (dk_at dksJ23_removeTreeNode_0 0 rfl rfl)
theorem dJ23_removeTreeNode_1 : decode cJ23_removeTreeNode 1 = .ok (.ifnull 11, 3) := dk_198 0 11 (dk_at dksJ23_removeTreeNode_0 1 rfl rfl)
theorem dJ23_removeTreeNode_4 : decode cJ23_removeTreeNode 4 = .ok (.aload_n 2, 1) := dk_44 (dk_at dksJ23_removeTreeNode_0 4 rfl rfl)
theorem dJ23_removeTreeNode_5 : decode cJ23_removeTreeNode 5 = .ok (.arraylength, 1) := dk_190 (dk_at dksJ23_removeTreeNode_0 5 rfl rfl)
theorem dJ23_removeTreeNode_6 : decode cJ23_removeTreeNode 6 = .ok (.dup, 1) := dk_89 (dk_at dksJ23_removeTreeNode_0 6 rfl rfl)
theorem dJ23_removeTreeNode_7 : decode cJ23_removeTreeNode 7 = .ok (.istore 4, 2) := dk_54 4 (dk_at dksJ23_removeTreeNode_0 7 rfl rfl)
theorem dJ23_removeTreeNode_9 : decode cJ23_removeTreeNode 9 = .ok (.ifCond .ne 4, 3) := dk_154 0 4 (dk_at dksJ23_removeTreeNode_0 9 rfl rfl)
theorem dJ23_removeTreeNode_12 : decode cJ23_removeTreeNode 12 = .ok (.return_, 1) := dk_177 (dk_at dksJ23_removeTreeNode_0 12 rfl rfl)
theorem dJ23_removeTreeNode_13 : decode cJ23_removeTreeNode 13 = .ok (.iload 4, 2) := dk_21 4 (dk_at dksJ23_removeTreeNode_0 13 rfl rfl)
theorem dJ23_removeTreeNode_15 : decode cJ23_removeTreeNode 15 = .ok (.iconst 1, 1) := dk_4 (dk_at dksJ23_removeTreeNode_0 15 rfl rfl)
theorem dJ23_removeTreeNode_16 : decode cJ23_removeTreeNode 16 = .ok (.isub, 1) := dk_100 (dk_at dksJ23_removeTreeNode_0 16 rfl rfl)
theorem dJ23_removeTreeNode_17 : decode cJ23_removeTreeNode 17 = .ok (.aload_n 0, 1) := dk_42 (dk_at dksJ23_removeTreeNode_0 17 rfl rfl)
theorem dJ23_removeTreeNode_18 : decode cJ23_removeTreeNode 18 = .ok (.getfield 15, 3) := dk_180 0 15 (dk_at dksJ23_removeTreeNode_0 18 rfl rfl)
theorem dJ23_removeTreeNode_21 : decode cJ23_removeTreeNode 21 = .ok (.iand, 1) := dk_126 (dk_at dksJ23_removeTreeNode_0 21 rfl rfl)
theorem dJ23_removeTreeNode_22 : decode cJ23_removeTreeNode 22 = .ok (.istore 5, 2) := dk_54 5 (dk_at dksJ23_removeTreeNode_0 22 rfl rfl)
theorem dJ23_removeTreeNode_24 : decode cJ23_removeTreeNode 24 = .ok (.aload_n 2, 1) := dk_44 (dk_at dksJ23_removeTreeNode_1 0 rfl rfl)
theorem dJ23_removeTreeNode_25 : decode cJ23_removeTreeNode 25 = .ok (.iload 5, 2) := dk_21 5 (dk_at dksJ23_removeTreeNode_1 1 rfl rfl)
theorem dJ23_removeTreeNode_27 : decode cJ23_removeTreeNode 27 = .ok (.aaload, 1) := dk_50 (dk_at dksJ23_removeTreeNode_1 3 rfl rfl)
theorem dJ23_removeTreeNode_28 : decode cJ23_removeTreeNode 28 = .ok (.checkcast 10, 3) := dk_192 0 10 (dk_at dksJ23_removeTreeNode_1 4 rfl rfl)
theorem dJ23_removeTreeNode_31 : decode cJ23_removeTreeNode 31 = .ok (.astore 6, 2) := dk_58 6 (dk_at dksJ23_removeTreeNode_1 7 rfl rfl)
theorem dJ23_removeTreeNode_33 : decode cJ23_removeTreeNode 33 = .ok (.aload 6, 2) := dk_25 6 (dk_at dksJ23_removeTreeNode_1 9 rfl rfl)
theorem dJ23_removeTreeNode_35 : decode cJ23_removeTreeNode 35 = .ok (.astore 7, 2) := dk_58 7 (dk_at dksJ23_removeTreeNode_1 11 rfl rfl)
theorem dJ23_removeTreeNode_37 : decode cJ23_removeTreeNode 37 = .ok (.aload_n 0, 1) := dk_42 (dk_at dksJ23_removeTreeNode_1 13 rfl rfl)
theorem dJ23_removeTreeNode_38 : decode cJ23_removeTreeNode 38 = .ok (.getfield 22, 3) := dk_180 0 22 (dk_at dksJ23_removeTreeNode_1 14 rfl rfl)
theorem dJ23_removeTreeNode_41 : decode cJ23_removeTreeNode 41 = .ok (.checkcast 10, 3) := dk_192 0 10 (dk_at dksJ23_removeTreeNode_1 17 rfl rfl)
theorem dJ23_removeTreeNode_44 : decode cJ23_removeTreeNode 44 = .ok (.astore 9, 2) := dk_58 9 (dk_at dksJ23_removeTreeNode_1 20 rfl rfl)
theorem dJ23_removeTreeNode_46 : decode cJ23_removeTreeNode 46 = .ok (.aload_n 0, 1) := dk_42 (dk_at dksJ23_removeTreeNode_1 22 rfl rfl)
theorem dJ23_removeTreeNode_47 : decode cJ23_removeTreeNode 47 = .ok (.getfield 19, 3) := dk_180 0 19 (dk_at dksJ23_removeTreeNode_2 0 rfl rfl)
theorem dJ23_removeTreeNode_50 : decode cJ23_removeTreeNode 50 = .ok (.astore 10, 2) := dk_58 10 (dk_at dksJ23_removeTreeNode_2 3 rfl rfl)
theorem dJ23_removeTreeNode_52 : decode cJ23_removeTreeNode 52 = .ok (.aload 10, 2) := dk_25 10 (dk_at dksJ23_removeTreeNode_2 5 rfl rfl)
theorem dJ23_removeTreeNode_54 : decode cJ23_removeTreeNode 54 = .ok (.ifnonnull 15, 3) := dk_199 0 15 (dk_at dksJ23_removeTreeNode_2 7 rfl rfl)
theorem dJ23_removeTreeNode_57 : decode cJ23_removeTreeNode 57 = .ok (.aload_n 2, 1) := dk_44 (dk_at dksJ23_removeTreeNode_2 10 rfl rfl)
theorem dJ23_removeTreeNode_58 : decode cJ23_removeTreeNode 58 = .ok (.iload 5, 2) := dk_21 5 (dk_at dksJ23_removeTreeNode_2 11 rfl rfl)
theorem dJ23_removeTreeNode_60 : decode cJ23_removeTreeNode 60 = .ok (.aload 9, 2) := dk_25 9 (dk_at dksJ23_removeTreeNode_2 13 rfl rfl)
theorem dJ23_removeTreeNode_62 : decode cJ23_removeTreeNode 62 = .ok (.dup, 1) := dk_89 (dk_at dksJ23_removeTreeNode_2 15 rfl rfl)
theorem dJ23_removeTreeNode_63 : decode cJ23_removeTreeNode 63 = .ok (.astore 6, 2) := dk_58 6 (dk_at dksJ23_removeTreeNode_2 16 rfl rfl)
theorem dJ23_removeTreeNode_65 : decode cJ23_removeTreeNode 65 = .ok (.aastore, 1) := dk_83 (dk_at dksJ23_removeTreeNode_2 18 rfl rfl)
theorem dJ23_removeTreeNode_66 : decode cJ23_removeTreeNode 66 = .ok (.goto 10, 3) := dk_167 0 10 (dk_at dksJ23_removeTreeNode_2 19 rfl rfl)
theorem dJ23_removeTreeNode_69 : decode cJ23_removeTreeNode 69 = .ok (.aload 10, 2) := dk_25 10 (dk_at dksJ23_removeTreeNode_2 22 rfl rfl)
theorem dJ23_removeTreeNode_71 : decode cJ23_removeTreeNode 71 = .ok (.aload 9, 2) := dk_25 9 (dk_at dksJ23_removeTreeNode_3 0 rfl rfl)
theorem dJ23_removeTreeNode_73 : decode cJ23_removeTreeNode 73 = .ok (.putfield 22, 3) := dk_181 0 22 (dk_at dksJ23_removeTreeNode_3 2 rfl rfl)
theorem dJ23_removeTreeNode_76 : decode cJ23_removeTreeNode 76 = .ok (.aload 9, 2) := dk_25 9 (dk_at dksJ23_removeTreeNode_3 5 rfl rfl)
theorem dJ23_removeTreeNode_78 : decode cJ23_removeTreeNode 78 = .ok (.ifnull 10, 3) := dk_198 0 10 (dk_at dksJ23_removeTreeNode_3 7 rfl rfl)
theorem dJ23_removeTreeNode_81 : decode cJ23_removeTreeNode 81 = .ok (.aload 9, 2) := dk_25 9 (dk_at dksJ23_removeTreeNode_3 10 rfl rfl)
theorem dJ23_removeTreeNode_83 : decode cJ23_removeTreeNode 83 = .ok (.aload 10, 2) := dk_25 10 (dk_at dksJ23_removeTreeNode_3 12 rfl rfl)
theorem dJ23_removeTreeNode_85 : decode cJ23_removeTreeNode 85 = .ok (.putfield 19, 3) := dk_181 0 19 (dk_at dksJ23_removeTreeNode_3 14 rfl rfl)
theorem dJ23_removeTreeNode_88 : decode cJ23_removeTreeNode 88 = .ok (.aload 6, 2) := dk_25 6 (dk_at dksJ23_removeTreeNode_3 17 rfl rfl)
theorem dJ23_removeTreeNode_90 : decode cJ23_removeTreeNode 90 = .ok (.ifnonnull 4, 3) := dk_199 0 4 (dk_at dksJ23_removeTreeNode_3 19 rfl rfl)
theorem dJ23_removeTreeNode_93 : decode cJ23_removeTreeNode 93 = .ok (.return_, 1) := dk_177 (dk_at dksJ23_removeTreeNode_3 22 rfl rfl)
theorem dJ23_removeTreeNode_94 : decode cJ23_removeTreeNode 94 = .ok (.aload 7, 2) := dk_25 7 (dk_at dksJ23_removeTreeNode_4 0 rfl rfl)
theorem dJ23_removeTreeNode_96 : decode cJ23_removeTreeNode 96 = .ok (.getfield 9, 3) := dk_180 0 9 (dk_at dksJ23_removeTreeNode_4 2 rfl rfl)
theorem dJ23_removeTreeNode_99 : decode cJ23_removeTreeNode 99 = .ok (.ifnull 10, 3) := dk_198 0 10 (dk_at dksJ23_removeTreeNode_4 5 rfl rfl)
theorem dJ23_removeTreeNode_102 : decode cJ23_removeTreeNode 102 = .ok (.aload 7, 2) := dk_25 7 (dk_at dksJ23_removeTreeNode_4 8 rfl rfl)
theorem dJ23_removeTreeNode_104 : decode cJ23_removeTreeNode 104 = .ok (.invokevirtual 67, 3) := dk_182 0 67 (dk_at dksJ23_removeTreeNode_4 10 rfl rfl)
theorem dJ23_removeTreeNode_107 : decode cJ23_removeTreeNode 107 = .ok (.astore 7, 2) := dk_58 7 (dk_at dksJ23_removeTreeNode_4 13 rfl rfl)
theorem dJ23_removeTreeNode_109 : decode cJ23_removeTreeNode 109 = .ok (.aload 7, 2) := dk_25 7 (dk_at dksJ23_removeTreeNode_4 15 rfl rfl)
theorem dJ23_removeTreeNode_111 : decode cJ23_removeTreeNode 111 = .ok (.ifnull 34, 3) := dk_198 0 34 (dk_at dksJ23_removeTreeNode_4 17 rfl rfl)
theorem dJ23_removeTreeNode_114 : decode cJ23_removeTreeNode 114 = .ok (.iload_n 3, 1) := dk_29 (dk_at dksJ23_removeTreeNode_4 20 rfl rfl)
theorem dJ23_removeTreeNode_115 : decode cJ23_removeTreeNode 115 = .ok (.ifCond .eq 41, 3) := dk_153 0 41 (dk_at dksJ23_removeTreeNode_4 21 rfl rfl)
theorem dJ23_removeTreeNode_118 : decode cJ23_removeTreeNode 118 = .ok (.aload 7, 2) := dk_25 7 (dk_at dksJ23_removeTreeNode_5 0 rfl rfl)
theorem dJ23_removeTreeNode_120 : decode cJ23_removeTreeNode 120 = .ok (.getfield 42, 3) := dk_180 0 42 (dk_at dksJ23_removeTreeNode_5 2 rfl rfl)
theorem dJ23_removeTreeNode_123 : decode cJ23_removeTreeNode 123 = .ok (.ifnull 22, 3) := dk_198 0 22 (dk_at dksJ23_removeTreeNode_5 5 rfl rfl)
theorem dJ23_removeTreeNode_126 : decode cJ23_removeTreeNode 126 = .ok (.aload 7, 2) := dk_25 7 (dk_at dksJ23_removeTreeNode_5 8 rfl rfl)
theorem dJ23_removeTreeNode_128 : decode cJ23_removeTreeNode 128 = .ok (.getfield 39, 3) := dk_180 0 39 (dk_at dksJ23_removeTreeNode_5 10 rfl rfl)
theorem dJ23_removeTreeNode_131 : decode cJ23_removeTreeNode 131 = .ok (.dup, 1) := dk_89 (dk_at dksJ23_removeTreeNode_5 13 rfl rfl)
theorem dJ23_removeTreeNode_132 : decode cJ23_removeTreeNode 132 = .ok (.astore 8, 2) := dk_58 8 (dk_at dksJ23_removeTreeNode_5 14 rfl rfl)
theorem dJ23_removeTreeNode_134 : decode cJ23_removeTreeNode 134 = .ok (.ifnull 11, 3) := dk_198 0 11 (dk_at dksJ23_removeTreeNode_5 16 rfl rfl)
theorem dJ23_removeTreeNode_137 : decode cJ23_removeTreeNode 137 = .ok (.aload 8, 2) := dk_25 8 (dk_at dksJ23_removeTreeNode_5 19 rfl rfl)
theorem dJ23_removeTreeNode_139 : decode cJ23_removeTreeNode 139 = .ok (.getfield 39, 3) := dk_180 0 39 (dk_at dksJ23_removeTreeNode_5 21 rfl rfl)
theorem dJ23_removeTreeNode_142 : decode cJ23_removeTreeNode 142 = .ok (.ifnonnull 14, 3) := dk_199 0 14 (dk_at dksJ23_removeTreeNode_6 0 rfl rfl)
theorem dJ23_removeTreeNode_145 : decode cJ23_removeTreeNode 145 = .ok (.aload_n 2, 1) := dk_44 (dk_at dksJ23_removeTreeNode_6 3 rfl rfl)
theorem dJ23_removeTreeNode_146 : decode cJ23_removeTreeNode 146 = .ok (.iload 5, 2) := dk_21 5 (dk_at dksJ23_removeTreeNode_6 4 rfl rfl)
theorem dJ23_removeTreeNode_148 : decode cJ23_removeTreeNode 148 = .ok (.aload 6, 2) := dk_25 6 (dk_at dksJ23_removeTreeNode_6 6 rfl rfl)
theorem dJ23_removeTreeNode_150 : decode cJ23_removeTreeNode 150 = .ok (.aload_n 1, 1) := dk_43 (dk_at dksJ23_removeTreeNode_6 8 rfl rfl)
theorem dJ23_removeTreeNode_151 : decode cJ23_removeTreeNode 151 = .ok (.invokevirtual 119, 3) := dk_182 0 119 (dk_at dksJ23_removeTreeNode_6 9 rfl rfl)
theorem dJ23_removeTreeNode_154 : decode cJ23_removeTreeNode 154 = .ok (.aastore, 1) := dk_83 (dk_at dksJ23_removeTreeNode_6 12 rfl rfl)
theorem dJ23_removeTreeNode_155 : decode cJ23_removeTreeNode 155 = .ok (.return_, 1) := dk_177 (dk_at dksJ23_removeTreeNode_6 13 rfl rfl)
theorem dJ23_removeTreeNode_156 : decode cJ23_removeTreeNode 156 = .ok (.aload_n 0, 1) := dk_42 (dk_at dksJ23_removeTreeNode_6 14 rfl rfl)
theorem dJ23_removeTreeNode_157 : decode cJ23_removeTreeNode 157 = .ok (.astore 11, 2) := dk_58 11 (dk_at dksJ23_removeTreeNode_6 15 rfl rfl)
theorem dJ23_removeTreeNode_159 : decode cJ23_removeTreeNode 159 = .ok (.aload_n 0, 1) := dk_42 (dk_at dksJ23_removeTreeNode_6 17 rfl rfl)
theorem dJ23_removeTreeNode_160 : decode cJ23_removeTreeNode 160 = .ok (.getfield 39, 3) := dk_180 0 39 (dk_at dksJ23_removeTreeNode_6 18 rfl rfl)
theorem dJ23_removeTreeNode_163 : decode cJ23_removeTreeNode 163 = .ok (.astore 12, 2) := dk_58 12 (dk_at dksJ23_removeTreeNode_6 21 rfl rfl)
theorem dJ23_removeTreeNode_165 : decode cJ23_removeTreeNode 165 = .ok (.aload_n 0, 1) := dk_42 (dk_at dksJ23_removeTreeNode_6 23 rfl rfl)
theorem dJ23_removeTreeNode_166 : decode cJ23_removeTreeNode 166 = .ok (.getfield 42, 3) := dk_180 0 42 (dk_at dksJ23_removeTreeNode_7 0 rfl rfl)
theorem dJ23_removeTreeNode_169 : decode cJ23_removeTreeNode 169 = .ok (.astore 13, 2) := dk_58 13 (dk_at dksJ23_removeTreeNode_7 3 rfl rfl)
theorem dJ23_removeTreeNode_171 : decode cJ23_removeTreeNode 171 = .ok (.aload 12, 2) := dk_25 12 (dk_at dksJ23_removeTreeNode_7 5 rfl rfl)
theorem dJ23_removeTreeNode_173 : decode cJ23_removeTreeNode 173 = .ok (.ifnull 261, 3) := dk_198 1 5 (dk_at dksJ23_removeTreeNode_7 7 rfl rfl)
theorem dJ23_removeTreeNode_176 : decode cJ23_removeTreeNode 176 = .ok (.aload 13, 2) := dk_25 13 (dk_at dksJ23_removeTreeNode_7 10 rfl rfl)
theorem dJ23_removeTreeNode_178 : decode cJ23_removeTreeNode 178 = .ok (.ifnull 256, 3) := dk_198 1 0 (dk_at dksJ23_removeTreeNode_7 12 rfl rfl)
theorem dJ23_removeTreeNode_181 : decode cJ23_removeTreeNode 181 = .ok (.aload 13, 2) := dk_25 13 (dk_at dksJ23_removeTreeNode_7 15 rfl rfl)
theorem dJ23_removeTreeNode_183 : decode cJ23_removeTreeNode 183 = .ok (.astore 15, 2) := dk_58 15 (dk_at dksJ23_removeTreeNode_7 17 rfl rfl)
theorem dJ23_removeTreeNode_185 : decode cJ23_removeTreeNode 185 = .ok (.aload 15, 2) := dk_25 15 (dk_at dksJ23_removeTreeNode_7 19 rfl rfl)
theorem dJ23_removeTreeNode_187 : decode cJ23_removeTreeNode 187 = .ok (.getfield 39, 3) := dk_180 0 39 (dk_at dksJ23_removeTreeNode_7 21 rfl rfl)
theorem dJ23_removeTreeNode_190 : decode cJ23_removeTreeNode 190 = .ok (.dup, 1) := dk_89 (dk_at dksJ23_removeTreeNode_8 0 rfl rfl)
theorem dJ23_removeTreeNode_191 : decode cJ23_removeTreeNode 191 = .ok (.astore 16, 2) := dk_58 16 (dk_at dksJ23_removeTreeNode_8 1 rfl rfl)
theorem dJ23_removeTreeNode_193 : decode cJ23_removeTreeNode 193 = .ok (.ifnull 10, 3) := dk_198 0 10 (dk_at dksJ23_removeTreeNode_8 3 rfl rfl)
theorem dJ23_removeTreeNode_196 : decode cJ23_removeTreeNode 196 = .ok (.aload 16, 2) := dk_25 16 (dk_at dksJ23_removeTreeNode_8 6 rfl rfl)
theorem dJ23_removeTreeNode_198 : decode cJ23_removeTreeNode 198 = .ok (.astore 15, 2) := dk_58 15 (dk_at dksJ23_removeTreeNode_8 8 rfl rfl)
theorem dJ23_removeTreeNode_200 : decode cJ23_removeTreeNode 200 = .ok (.goto (-15), 3) := dk_167 255 241 (dk_at dksJ23_removeTreeNode_8 10 rfl rfl)
theorem dJ23_removeTreeNode_203 : decode cJ23_removeTreeNode 203 = .ok (.aload 15, 2) := dk_25 15 (dk_at dksJ23_removeTreeNode_8 13 rfl rfl)
theorem dJ23_removeTreeNode_205 : decode cJ23_removeTreeNode 205 = .ok (.getfield 93, 3) := dk_180 0 93 (dk_at dksJ23_removeTreeNode_8 15 rfl rfl)
theorem dJ23_removeTreeNode_208 : decode cJ23_removeTreeNode 208 = .ok (.istore 17, 2) := dk_54 17 (dk_at dksJ23_removeTreeNode_8 18 rfl rfl)
theorem dJ23_removeTreeNode_210 : decode cJ23_removeTreeNode 210 = .ok (.aload 15, 2) := dk_25 15 (dk_at dksJ23_removeTreeNode_8 20 rfl rfl)
theorem dJ23_removeTreeNode_212 : decode cJ23_removeTreeNode 212 = .ok (.aload 11, 2) := dk_25 11 (dk_at dksJ23_removeTreeNode_8 22 rfl rfl)
theorem dJ23_removeTreeNode_214 : decode cJ23_removeTreeNode 214 = .ok (.getfield 93, 3) := dk_180 0 93 (dk_at dksJ23_removeTreeNode_9 0 rfl rfl)
theorem dJ23_removeTreeNode_217 : decode cJ23_removeTreeNode 217 = .ok (.putfield 93, 3) := dk_181 0 93 (dk_at dksJ23_removeTreeNode_9 3 rfl rfl)
theorem dJ23_removeTreeNode_220 : decode cJ23_removeTreeNode 220 = .ok (.aload 11, 2) := dk_25 11 (dk_at dksJ23_removeTreeNode_9 6 rfl rfl)
theorem dJ23_removeTreeNode_222 : decode cJ23_removeTreeNode 222 = .ok (.iload 17, 2) := dk_21 17 (dk_at dksJ23_removeTreeNode_9 8 rfl rfl)
theorem dJ23_removeTreeNode_224 : decode cJ23_removeTreeNode 224 = .ok (.putfield 93, 3) := dk_181 0 93 (dk_at dksJ23_removeTreeNode_9 10 rfl rfl)
theorem dJ23_removeTreeNode_227 : decode cJ23_removeTreeNode 227 = .ok (.aload 15, 2) := dk_25 15 (dk_at dksJ23_removeTreeNode_9 13 rfl rfl)
theorem dJ23_removeTreeNode_229 : decode cJ23_removeTreeNode 229 = .ok (.getfield 42, 3) := dk_180 0 42 (dk_at dksJ23_removeTreeNode_9 15 rfl rfl)
theorem dJ23_removeTreeNode_232 : decode cJ23_removeTreeNode 232 = .ok (.astore 18, 2) := dk_58 18 (dk_at dksJ23_removeTreeNode_9 18 rfl rfl)
theorem dJ23_removeTreeNode_234 : decode cJ23_removeTreeNode 234 = .ok (.aload 11, 2) := dk_25 11 (dk_at dksJ23_removeTreeNode_9 20 rfl rfl)
theorem dJ23_removeTreeNode_236 : decode cJ23_removeTreeNode 236 = .ok (.getfield 9, 3) := dk_180 0 9 (dk_at dksJ23_removeTreeNode_10 0 rfl rfl)
theorem dJ23_removeTreeNode_239 : decode cJ23_removeTreeNode 239 = .ok (.astore 19, 2) := dk_58 19 (dk_at dksJ23_removeTreeNode_10 3 rfl rfl)
theorem dJ23_removeTreeNode_241 : decode cJ23_removeTreeNode 241 = .ok (.aload 15, 2) := dk_25 15 (dk_at dksJ23_removeTreeNode_10 5 rfl rfl)
theorem dJ23_removeTreeNode_243 : decode cJ23_removeTreeNode 243 = .ok (.aload 13, 2) := dk_25 13 (dk_at dksJ23_removeTreeNode_10 7 rfl rfl)
theorem dJ23_removeTreeNode_245 : decode cJ23_removeTreeNode 245 = .ok (.if_acmp .ne 20, 3) := dk_166 0 20 (dk_at dksJ23_removeTreeNode_10 9 rfl rfl)
theorem dJ23_removeTreeNode_248 : decode cJ23_removeTreeNode 248 = .ok (.aload 11, 2) := dk_25 11 (dk_at dksJ23_removeTreeNode_10 12 rfl rfl)
theorem dJ23_removeTreeNode_250 : decode cJ23_removeTreeNode 250 = .ok (.aload 15, 2) := dk_25 15 (dk_at dksJ23_removeTreeNode_10 14 rfl rfl)
theorem dJ23_removeTreeNode_252 : decode cJ23_removeTreeNode 252 = .ok (.putfield 9, 3) := dk_181 0 9 (dk_at dksJ23_removeTreeNode_10 16 rfl rfl)
theorem dJ23_removeTreeNode_255 : decode cJ23_removeTreeNode 255 = .ok (.aload 15, 2) := dk_25 15 (dk_at dksJ23_removeTreeNode_10 19 rfl rfl)
theorem dJ23_removeTreeNode_257 : decode cJ23_removeTreeNode 257 = .ok (.aload 11, 2) := dk_25 11 (dk_at dksJ23_removeTreeNode_10 21 rfl rfl)
theorem dJ23_removeTreeNode_259 : decode cJ23_removeTreeNode 259 = .ok (.putfield 42, 3) := dk_181 0 42 (dk_at dksJ23_removeTreeNode_11 0 rfl rfl)
theorem dJ23_removeTreeNode_262 : decode cJ23_removeTreeNode 262 = .ok (.goto 66, 3) := dk_167 0 66 (dk_at dksJ23_removeTreeNode_11 3 rfl rfl)
theorem dJ23_removeTreeNode_265 : decode cJ23_removeTreeNode 265 = .ok (.aload 15, 2) := dk_25 15 (dk_at dksJ23_removeTreeNode_11 6 rfl rfl)
theorem dJ23_removeTreeNode_267 : decode cJ23_removeTreeNode 267 = .ok (.getfield 9, 3) := dk_180 0 9 (dk_at dksJ23_removeTreeNode_11 8 rfl rfl)
theorem dJ23_removeTreeNode_270 : decode cJ23_removeTreeNode 270 = .ok (.astore 20, 2) := dk_58 20 (dk_at dksJ23_removeTreeNode_11 11 rfl rfl)
theorem dJ23_removeTreeNode_272 : decode cJ23_removeTreeNode 272 = .ok (.aload 11, 2) := dk_25 11 (dk_at dksJ23_removeTreeNode_11 13 rfl rfl)
theorem dJ23_removeTreeNode_274 : decode cJ23_removeTreeNode 274 = .ok (.aload 20, 2) := dk_25 20 (dk_at dksJ23_removeTreeNode_11 15 rfl rfl)
theorem dJ23_removeTreeNode_276 : decode cJ23_removeTreeNode 276 = .ok (.dup_x1, 1) := dk_90 (dk_at dksJ23_removeTreeNode_11 17 rfl rfl)
theorem dJ23_removeTreeNode_277 : decode cJ23_removeTreeNode 277 = .ok (.putfield 9, 3) := dk_181 0 9 (dk_at dksJ23_removeTreeNode_11 18 rfl rfl)
theorem dJ23_removeTreeNode_280 : decode cJ23_removeTreeNode 280 = .ok (.ifnull 30, 3) := dk_198 0 30 (dk_at dksJ23_removeTreeNode_11 21 rfl rfl)
theorem dJ23_removeTreeNode_283 : decode cJ23_removeTreeNode 283 = .ok (.aload 15, 2) := dk_25 15 (dk_at dksJ23_removeTreeNode_12 0 rfl rfl)
theorem dJ23_removeTreeNode_285 : decode cJ23_removeTreeNode 285 = .ok (.aload 20, 2) := dk_25 20 (dk_at dksJ23_removeTreeNode_12 2 rfl rfl)
theorem dJ23_removeTreeNode_287 : decode cJ23_removeTreeNode 287 = .ok (.getfield 39, 3) := dk_180 0 39 (dk_at dksJ23_removeTreeNode_12 4 rfl rfl)
theorem dJ23_removeTreeNode_290 : decode cJ23_removeTreeNode 290 = .ok (.if_acmp .ne 13, 3) := dk_166 0 13 (dk_at dksJ23_removeTreeNode_12 7 rfl rfl)
theorem dJ23_removeTreeNode_293 : decode cJ23_removeTreeNode 293 = .ok (.aload 20, 2) := dk_25 20 (dk_at dksJ23_removeTreeNode_12 10 rfl rfl)
theorem dJ23_removeTreeNode_295 : decode cJ23_removeTreeNode 295 = .ok (.aload 11, 2) := dk_25 11 (dk_at dksJ23_removeTreeNode_12 12 rfl rfl)
theorem dJ23_removeTreeNode_297 : decode cJ23_removeTreeNode 297 = .ok (.putfield 39, 3) := dk_181 0 39 (dk_at dksJ23_removeTreeNode_12 14 rfl rfl)
theorem dJ23_removeTreeNode_300 : decode cJ23_removeTreeNode 300 = .ok (.goto 10, 3) := dk_167 0 10 (dk_at dksJ23_removeTreeNode_12 17 rfl rfl)
theorem dJ23_removeTreeNode_303 : decode cJ23_removeTreeNode 303 = .ok (.aload 20, 2) := dk_25 20 (dk_at dksJ23_removeTreeNode_12 20 rfl rfl)
theorem dJ23_removeTreeNode_305 : decode cJ23_removeTreeNode 305 = .ok (.aload 11, 2) := dk_25 11 (dk_at dksJ23_removeTreeNode_12 22 rfl rfl)
theorem dJ23_removeTreeNode_307 : decode cJ23_removeTreeNode 307 = .ok (.putfield 42, 3) := dk_181 0 42 (dk_at dksJ23_removeTreeNode_13 0 rfl rfl)
theorem dJ23_removeTreeNode_310 : decode cJ23_removeTreeNode 310 = .ok (.aload 15, 2) := dk_25 15 (dk_at dksJ23_removeTreeNode_13 3 rfl rfl)
theorem dJ23_removeTreeNode_312 : decode cJ23_removeTreeNode 312 = .ok (.aload 13, 2) := dk_25 13 (dk_at dksJ23_removeTreeNode_13 5 rfl rfl)
theorem dJ23_removeTreeNode_314 : decode cJ23_removeTreeNode 314 = .ok (.dup_x1, 1) := dk_90 (dk_at dksJ23_removeTreeNode_13 7 rfl rfl)
theorem dJ23_removeTreeNode_315 : decode cJ23_removeTreeNode 315 = .ok (.putfield 42, 3) := dk_181 0 42 (dk_at dksJ23_removeTreeNode_13 8 rfl rfl)
theorem dJ23_removeTreeNode_318 : decode cJ23_removeTreeNode 318 = .ok (.ifnull 10, 3) := dk_198 0 10 (dk_at dksJ23_removeTreeNode_13 11 rfl rfl)
theorem dJ23_removeTreeNode_321 : decode cJ23_removeTreeNode 321 = .ok (.aload 13, 2) := dk_25 13 (dk_at dksJ23_removeTreeNode_13 14 rfl rfl)
theorem dJ23_removeTreeNode_323 : decode cJ23_removeTreeNode 323 = .ok (.aload 15, 2) := dk_25 15 (dk_at dksJ23_removeTreeNode_13 16 rfl rfl)
theorem dJ23_removeTreeNode_325 : decode cJ23_removeTreeNode 325 = .ok (.putfield 9, 3) := dk_181 0 9 (dk_at dksJ23_removeTreeNode_13 18 rfl rfl)
theorem dJ23_removeTreeNode_328 : decode cJ23_removeTreeNode 328 = .ok (.aload 11, 2) := dk_25 11 (dk_at dksJ23_removeTreeNode_13 21 rfl rfl)
theorem dJ23_removeTreeNode_330 : decode cJ23_removeTreeNode 330 = .ok (.aconst_null, 1) := dk_1 (dk_at dksJ23_removeTreeNode_13 23 rfl rfl)
theorem dJ23_removeTreeNode_331 : decode cJ23_removeTreeNode 331 = .ok (.putfield 39, 3) := dk_181 0 39 (dk_at dksJ23_removeTreeNode_14 0 rfl rfl)
theorem dJ23_removeTreeNode_334 : decode cJ23_removeTreeNode 334 = .ok (.aload 11, 2) := dk_25 11 (dk_at dksJ23_removeTreeNode_14 3 rfl rfl)
theorem dJ23_removeTreeNode_336 : decode cJ23_removeTreeNode 336 = .ok (.aload 18, 2) := dk_25 18 (dk_at dksJ23_removeTreeNode_14 5 rfl rfl)
theorem dJ23_removeTreeNode_338 : decode cJ23_removeTreeNode 338 = .ok (.dup_x1, 1) := dk_90 (dk_at dksJ23_removeTreeNode_14 7 rfl rfl)
theorem dJ23_removeTreeNode_339 : decode cJ23_removeTreeNode 339 = .ok (.putfield 42, 3) := dk_181 0 42 (dk_at dksJ23_removeTreeNode_14 8 rfl rfl)
theorem dJ23_removeTreeNode_342 : decode cJ23_removeTreeNode 342 = .ok (.ifnull 10, 3) := dk_198 0 10 (dk_at dksJ23_removeTreeNode_14 11 rfl rfl)
theorem dJ23_removeTreeNode_345 : decode cJ23_removeTreeNode 345 = .ok (.aload 18, 2) := dk_25 18 (dk_at dksJ23_removeTreeNode_14 14 rfl rfl)
theorem dJ23_removeTreeNode_347 : decode cJ23_removeTreeNode 347 = .ok (.aload 11, 2) := dk_25 11 (dk_at dksJ23_removeTreeNode_14 16 rfl rfl)
theorem dJ23_removeTreeNode_349 : decode cJ23_removeTreeNode 349 = .ok (.putfield 9, 3) := dk_181 0 9 (dk_at dksJ23_removeTreeNode_14 18 rfl rfl)
theorem dJ23_removeTreeNode_352 : decode cJ23_removeTreeNode 352 = .ok (.aload 15, 2) := dk_25 15 (dk_at dksJ23_removeTreeNode_14 21 rfl rfl)
theorem dJ23_removeTreeNode_354 : decode cJ23_removeTreeNode 354 = .ok (.aload 12, 2) := dk_25 12 (dk_at dksJ23_removeTreeNode_15 0 rfl rfl)
theorem dJ23_removeTreeNode_356 : decode cJ23_removeTreeNode 356 = .ok (.dup_x1, 1) := dk_90 (dk_at dksJ23_removeTreeNode_15 2 rfl rfl)
theorem dJ23_removeTreeNode_357 : decode cJ23_removeTreeNode 357 = .ok (.putfield 39, 3) := dk_181 0 39 (dk_at dksJ23_removeTreeNode_15 3 rfl rfl)
theorem dJ23_removeTreeNode_360 : decode cJ23_removeTreeNode 360 = .ok (.ifnull 10, 3) := dk_198 0 10 (dk_at dksJ23_removeTreeNode_15 6 rfl rfl)
theorem dJ23_removeTreeNode_363 : decode cJ23_removeTreeNode 363 = .ok (.aload 12, 2) := dk_25 12 (dk_at dksJ23_removeTreeNode_15 9 rfl rfl)
theorem dJ23_removeTreeNode_365 : decode cJ23_removeTreeNode 365 = .ok (.aload 15, 2) := dk_25 15 (dk_at dksJ23_removeTreeNode_15 11 rfl rfl)
theorem dJ23_removeTreeNode_367 : decode cJ23_removeTreeNode 367 = .ok (.putfield 9, 3) := dk_181 0 9 (dk_at dksJ23_removeTreeNode_15 13 rfl rfl)
theorem dJ23_removeTreeNode_370 : decode cJ23_removeTreeNode 370 = .ok (.aload 15, 2) := dk_25 15 (dk_at dksJ23_removeTreeNode_15 16 rfl rfl)
theorem dJ23_removeTreeNode_372 : decode cJ23_removeTreeNode 372 = .ok (.aload 19, 2) := dk_25 19 (dk_at dksJ23_removeTreeNode_15 18 rfl rfl)
theorem dJ23_removeTreeNode_374 : decode cJ23_removeTreeNode 374 = .ok (.dup_x1, 1) := dk_90 (dk_at dksJ23_removeTreeNode_15 20 rfl rfl)
theorem dJ23_removeTreeNode_375 : decode cJ23_removeTreeNode 375 = .ok (.putfield 9, 3) := dk_181 0 9 (dk_at dksJ23_removeTreeNode_15 21 rfl rfl)
theorem dJ23_removeTreeNode_378 : decode cJ23_removeTreeNode 378 = .ok (.ifnonnull 10, 3) := dk_199 0 10 (dk_at dksJ23_removeTreeNode_16 0 rfl rfl)
theorem dJ23_removeTreeNode_381 : decode cJ23_removeTreeNode 381 = .ok (.aload 15, 2) := dk_25 15 (dk_at dksJ23_removeTreeNode_16 3 rfl rfl)
theorem dJ23_removeTreeNode_383 : decode cJ23_removeTreeNode 383 = .ok (.astore 7, 2) := dk_58 7 (dk_at dksJ23_removeTreeNode_16 5 rfl rfl)
theorem dJ23_removeTreeNode_385 : decode cJ23_removeTreeNode 385 = .ok (.goto 30, 3) := dk_167 0 30 (dk_at dksJ23_removeTreeNode_16 7 rfl rfl)
theorem dJ23_removeTreeNode_388 : decode cJ23_removeTreeNode 388 = .ok (.aload 11, 2) := dk_25 11 (dk_at dksJ23_removeTreeNode_16 10 rfl rfl)
theorem dJ23_removeTreeNode_390 : decode cJ23_removeTreeNode 390 = .ok (.aload 19, 2) := dk_25 19 (dk_at dksJ23_removeTreeNode_16 12 rfl rfl)
theorem dJ23_removeTreeNode_392 : decode cJ23_removeTreeNode 392 = .ok (.getfield 39, 3) := dk_180 0 39 (dk_at dksJ23_removeTreeNode_16 14 rfl rfl)
theorem dJ23_removeTreeNode_395 : decode cJ23_removeTreeNode 395 = .ok (.if_acmp .ne 13, 3) := dk_166 0 13 (dk_at dksJ23_removeTreeNode_16 17 rfl rfl)
theorem dJ23_removeTreeNode_398 : decode cJ23_removeTreeNode 398 = .ok (.aload 19, 2) := dk_25 19 (dk_at dksJ23_removeTreeNode_16 20 rfl rfl)
theorem dJ23_removeTreeNode_400 : decode cJ23_removeTreeNode 400 = .ok (.aload 15, 2) := dk_25 15 (dk_at dksJ23_removeTreeNode_16 22 rfl rfl)
theorem dJ23_removeTreeNode_402 : decode cJ23_removeTreeNode 402 = .ok (.putfield 39, 3) := dk_181 0 39 (dk_at dksJ23_removeTreeNode_17 0 rfl rfl)
theorem dJ23_removeTreeNode_405 : decode cJ23_removeTreeNode 405 = .ok (.goto 10, 3) := dk_167 0 10 (dk_at dksJ23_removeTreeNode_17 3 rfl rfl)
theorem dJ23_removeTreeNode_408 : decode cJ23_removeTreeNode 408 = .ok (.aload 19, 2) := dk_25 19 (dk_at dksJ23_removeTreeNode_17 6 rfl rfl)
theorem dJ23_removeTreeNode_410 : decode cJ23_removeTreeNode 410 = .ok (.aload 15, 2) := dk_25 15 (dk_at dksJ23_removeTreeNode_17 8 rfl rfl)
theorem dJ23_removeTreeNode_412 : decode cJ23_removeTreeNode 412 = .ok (.putfield 42, 3) := dk_181 0 42 (dk_at dksJ23_removeTreeNode_17 10 rfl rfl)
theorem dJ23_removeTreeNode_415 : decode cJ23_removeTreeNode 415 = .ok (.aload 18, 2) := dk_25 18 (dk_at dksJ23_removeTreeNode_17 13 rfl rfl)
theorem dJ23_removeTreeNode_417 : decode cJ23_removeTreeNode 417 = .ok (.ifnull 10, 3) := dk_198 0 10 (dk_at dksJ23_removeTreeNode_17 15 rfl rfl)
theorem dJ23_removeTreeNode_420 : decode cJ23_removeTreeNode 420 = .ok (.aload 18, 2) := dk_25 18 (dk_at dksJ23_removeTreeNode_17 18 rfl rfl)
theorem dJ23_removeTreeNode_422 : decode cJ23_removeTreeNode 422 = .ok (.astore 14, 2) := dk_58 14 (dk_at dksJ23_removeTreeNode_17 20 rfl rfl)
theorem dJ23_removeTreeNode_424 : decode cJ23_removeTreeNode 424 = .ok (.goto 7, 3) := dk_167 0 7 (dk_at dksJ23_removeTreeNode_18 0 rfl rfl)
theorem dJ23_removeTreeNode_427 : decode cJ23_removeTreeNode 427 = .ok (.aload 11, 2) := dk_25 11 (dk_at dksJ23_removeTreeNode_18 3 rfl rfl)
theorem dJ23_removeTreeNode_429 : decode cJ23_removeTreeNode 429 = .ok (.astore 14, 2) := dk_58 14 (dk_at dksJ23_removeTreeNode_18 5 rfl rfl)
theorem dJ23_removeTreeNode_431 : decode cJ23_removeTreeNode 431 = .ok (.goto 31, 3) := dk_167 0 31 (dk_at dksJ23_removeTreeNode_18 7 rfl rfl)
theorem dJ23_removeTreeNode_434 : decode cJ23_removeTreeNode 434 = .ok (.aload 12, 2) := dk_25 12 (dk_at dksJ23_removeTreeNode_18 10 rfl rfl)
theorem dJ23_removeTreeNode_436 : decode cJ23_removeTreeNode 436 = .ok (.ifnull 10, 3) := dk_198 0 10 (dk_at dksJ23_removeTreeNode_18 12 rfl rfl)
theorem dJ23_removeTreeNode_439 : decode cJ23_removeTreeNode 439 = .ok (.aload 12, 2) := dk_25 12 (dk_at dksJ23_removeTreeNode_18 15 rfl rfl)
theorem dJ23_removeTreeNode_441 : decode cJ23_removeTreeNode 441 = .ok (.astore 14, 2) := dk_58 14 (dk_at dksJ23_removeTreeNode_18 17 rfl rfl)
theorem dJ23_removeTreeNode_443 : decode cJ23_removeTreeNode 443 = .ok (.goto 19, 3) := dk_167 0 19 (dk_at dksJ23_removeTreeNode_18 19 rfl rfl)
theorem dJ23_removeTreeNode_446 : decode cJ23_removeTreeNode 446 = .ok (.aload 13, 2) := dk_25 13 (dk_at dksJ23_removeTreeNode_18 22 rfl rfl)
theorem dJ23_removeTreeNode_448 : decode cJ23_removeTreeNode 448 = .ok (.ifnull 10, 3) := dk_198 0 10 (dk_at dksJ23_removeTreeNode_19 0 rfl rfl)
theorem dJ23_removeTreeNode_451 : decode cJ23_removeTreeNode 451 = .ok (.aload 13, 2) := dk_25 13 (dk_at dksJ23_removeTreeNode_19 3 rfl rfl)
theorem dJ23_removeTreeNode_453 : decode cJ23_removeTreeNode 453 = .ok (.astore 14, 2) := dk_58 14 (dk_at dksJ23_removeTreeNode_19 5 rfl rfl)
theorem dJ23_removeTreeNode_455 : decode cJ23_removeTreeNode 455 = .ok (.goto 7, 3) := dk_167 0 7 (dk_at dksJ23_removeTreeNode_19 7 rfl rfl)
theorem dJ23_removeTreeNode_458 : decode cJ23_removeTreeNode 458 = .ok (.aload 11, 2) := dk_25 11 (dk_at dksJ23_removeTreeNode_19 10 rfl rfl)
theorem dJ23_removeTreeNode_460 : decode cJ23_removeTreeNode 460 = .ok (.astore 14, 2) := dk_58 14 (dk_at dksJ23_removeTreeNode_19 12 rfl rfl)
theorem dJ23_removeTreeNode_462 : decode cJ23_removeTreeNode 462 = .ok (.aload 14, 2) := dk_25 14 (dk_at dksJ23_removeTreeNode_19 14 rfl rfl)
theorem dJ23_removeTreeNode_464 : decode cJ23_removeTreeNode 464 = .ok (.aload 11, 2) := dk_25 11 (dk_at dksJ23_removeTreeNode_19 16 rfl rfl)
theorem dJ23_removeTreeNode_466 : decode cJ23_removeTreeNode 466 = .ok (.if_acmp .eq 78, 3) := dk_165 0 78 (dk_at dksJ23_removeTreeNode_19 18 rfl rfl)
theorem dJ23_removeTreeNode_469 : decode cJ23_removeTreeNode 469 = .ok (.aload 14, 2) := dk_25 14 (dk_at dksJ23_removeTreeNode_19 21 rfl rfl)
theorem dJ23_removeTreeNode_471 : decode cJ23_removeTreeNode 471 = .ok (.aload 11, 2) := dk_25 11 (dk_at dksJ23_removeTreeNode_20 0 rfl rfl)
theorem dJ23_removeTreeNode_473 : decode cJ23_removeTreeNode 473 = .ok (.getfield 9, 3) := dk_180 0 9 (dk_at dksJ23_removeTreeNode_20 2 rfl rfl)
theorem dJ23_removeTreeNode_476 : decode cJ23_removeTreeNode 476 = .ok (.dup_x1, 1) := dk_90 (dk_at dksJ23_removeTreeNode_20 5 rfl rfl)
theorem dJ23_removeTreeNode_477 : decode cJ23_removeTreeNode 477 = .ok (.putfield 9, 3) := dk_181 0 9 (dk_at dksJ23_removeTreeNode_20 6 rfl rfl)
theorem dJ23_removeTreeNode_480 : decode cJ23_removeTreeNode 480 = .ok (.astore 15, 2) := dk_58 15 (dk_at dksJ23_removeTreeNode_20 9 rfl rfl)
theorem dJ23_removeTreeNode_482 : decode cJ23_removeTreeNode 482 = .ok (.aload 15, 2) := dk_25 15 (dk_at dksJ23_removeTreeNode_20 11 rfl rfl)
theorem dJ23_removeTreeNode_484 : decode cJ23_removeTreeNode 484 = .ok (.ifnonnull 15, 3) := dk_199 0 15 (dk_at dksJ23_removeTreeNode_20 13 rfl rfl)
theorem dJ23_removeTreeNode_487 : decode cJ23_removeTreeNode 487 = .ok (.aload 14, 2) := dk_25 14 (dk_at dksJ23_removeTreeNode_20 16 rfl rfl)
theorem dJ23_removeTreeNode_489 : decode cJ23_removeTreeNode 489 = .ok (.dup, 1) := dk_89 (dk_at dksJ23_removeTreeNode_20 18 rfl rfl)
theorem dJ23_removeTreeNode_490 : decode cJ23_removeTreeNode 490 = .ok (.astore 7, 2) := dk_58 7 (dk_at dksJ23_removeTreeNode_20 19 rfl rfl)
theorem dJ23_removeTreeNode_492 : decode cJ23_removeTreeNode 492 = .ok (.iconst 0, 1) := dk_3 (dk_at dksJ23_removeTreeNode_20 21 rfl rfl)
theorem dJ23_removeTreeNode_493 : decode cJ23_removeTreeNode 493 = .ok (.putfield 93, 3) := dk_181 0 93 (dk_at dksJ23_removeTreeNode_21 0 rfl rfl)
theorem dJ23_removeTreeNode_496 : decode cJ23_removeTreeNode 496 = .ok (.goto 30, 3) := dk_167 0 30 (dk_at dksJ23_removeTreeNode_21 3 rfl rfl)
theorem dJ23_removeTreeNode_499 : decode cJ23_removeTreeNode 499 = .ok (.aload 11, 2) := dk_25 11 (dk_at dksJ23_removeTreeNode_21 6 rfl rfl)
theorem dJ23_removeTreeNode_501 : decode cJ23_removeTreeNode 501 = .ok (.aload 15, 2) := dk_25 15 (dk_at dksJ23_removeTreeNode_21 8 rfl rfl)
theorem dJ23_removeTreeNode_503 : decode cJ23_removeTreeNode 503 = .ok (.getfield 39, 3) := dk_180 0 39 (dk_at dksJ23_removeTreeNode_21 10 rfl rfl)
theorem dJ23_removeTreeNode_506 : decode cJ23_removeTreeNode 506 = .ok (.if_acmp .ne 13, 3) := dk_166 0 13 (dk_at dksJ23_removeTreeNode_21 13 rfl rfl)
theorem dJ23_removeTreeNode_509 : decode cJ23_removeTreeNode 509 = .ok (.aload 15, 2) := dk_25 15 (dk_at dksJ23_removeTreeNode_21 16 rfl rfl)
theorem dJ23_removeTreeNode_511 : decode cJ23_removeTreeNode 511 = .ok (.aload 14, 2) := dk_25 14 (dk_at dksJ23_removeTreeNode_21 18 rfl rfl)
theorem dJ23_removeTreeNode_513 : decode cJ23_removeTreeNode 513 = .ok (.putfield 39, 3) := dk_181 0 39 (dk_at dksJ23_removeTreeNode_21 20 rfl rfl)
theorem dJ23_removeTreeNode_516 : decode cJ23_removeTreeNode 516 = .ok (.goto 10, 3) := dk_167 0 10 (dk_at dksJ23_removeTreeNode_22 0 rfl rfl)
theorem dJ23_removeTreeNode_519 : decode cJ23_removeTreeNode 519 = .ok (.aload 15, 2) := dk_25 15 (dk_at dksJ23_removeTreeNode_22 3 rfl rfl)
theorem dJ23_removeTreeNode_521 : decode cJ23_removeTreeNode 521 = .ok (.aload 14, 2) := dk_25 14 (dk_at dksJ23_removeTreeNode_22 5 rfl rfl)
theorem dJ23_removeTreeNode_523 : decode cJ23_removeTreeNode 523 = .ok (.putfield 42, 3) := dk_181 0 42 (dk_at dksJ23_removeTreeNode_22 7 rfl rfl)
theorem dJ23_removeTreeNode_526 : decode cJ23_removeTreeNode 526 = .ok (.aload 11, 2) := dk_25 11 (dk_at dksJ23_removeTreeNode_22 10 rfl rfl)
theorem dJ23_removeTreeNode_528 : decode cJ23_removeTreeNode 528 = .ok (.aload 11, 2) := dk_25 11 (dk_at dksJ23_removeTreeNode_22 12 rfl rfl)
theorem dJ23_removeTreeNode_530 : decode cJ23_removeTreeNode 530 = .ok (.aload 11, 2) := dk_25 11 (dk_at dksJ23_removeTreeNode_22 14 rfl rfl)
theorem dJ23_removeTreeNode_532 : decode cJ23_removeTreeNode 532 = .ok (.aconst_null, 1) := dk_1 (dk_at dksJ23_removeTreeNode_22 16 rfl rfl)
theorem dJ23_removeTreeNode_533 : decode cJ23_removeTreeNode 533 = .ok (.dup_x1, 1) := dk_90 (dk_at dksJ23_removeTreeNode_22 17 rfl rfl)
theorem dJ23_removeTreeNode_534 : decode cJ23_removeTreeNode 534 = .ok (.putfield 9, 3) := dk_181 0 9 (dk_at dksJ23_removeTreeNode_22 18 rfl rfl)
theorem dJ23_removeTreeNode_537 : decode cJ23_removeTreeNode 537 = .ok (.dup_x1, 1) := dk_90 (dk_at dksJ23_removeTreeNode_22 21 rfl rfl)
theorem dJ23_removeTreeNode_538 : decode cJ23_removeTreeNode 538 = .ok (.putfield 42, 3) := dk_181 0 42 (dk_at dksJ23_removeTreeNode_23 0 rfl rfl)
theorem dJ23_removeTreeNode_541 : decode cJ23_removeTreeNode 541 = .ok (.putfield 39, 3) := dk_181 0 39 (dk_at dksJ23_removeTreeNode_23 3 rfl rfl)
theorem dJ23_removeTreeNode_544 : decode cJ23_removeTreeNode 544 = .ok (.aload 11, 2) := dk_25 11 (dk_at dksJ23_removeTreeNode_23 6 rfl rfl)
theorem dJ23_removeTreeNode_546 : decode cJ23_removeTreeNode 546 = .ok (.getfield 93, 3) := dk_180 0 93 (dk_at dksJ23_removeTreeNode_23 8 rfl rfl)
theorem dJ23_removeTreeNode_549 : decode cJ23_removeTreeNode 549 = .ok (.ifCond .eq 8, 3) := dk_153 0 8 (dk_at dksJ23_removeTreeNode_23 11 rfl rfl)
theorem dJ23_removeTreeNode_552 : decode cJ23_removeTreeNode 552 = .ok (.aload 7, 2) := dk_25 7 (dk_at dksJ23_removeTreeNode_23 14 rfl rfl)
theorem dJ23_removeTreeNode_554 : decode cJ23_removeTreeNode 554 = .ok (.goto 10, 3) := dk_167 0 10 (dk_at dksJ23_removeTreeNode_23 16 rfl rfl)
theorem dJ23_removeTreeNode_557 : decode cJ23_removeTreeNode 557 = .ok (.aload 7, 2) := dk_25 7 (dk_at dksJ23_removeTreeNode_23 19 rfl rfl)
theorem dJ23_removeTreeNode_559 : decode cJ23_removeTreeNode 559 = .ok (.aload 14, 2) := dk_25 14 (dk_at dksJ23_removeTreeNode_23 21 rfl rfl)
theorem dJ23_removeTreeNode_561 : decode cJ23_removeTreeNode 561 = .ok (.invokestatic 123, 3) := dk_184 0 123 (dk_at dksJ23_removeTreeNode_24 0 rfl rfl)
theorem dJ23_removeTreeNode_564 : decode cJ23_removeTreeNode 564 = .ok (.astore 15, 2) := dk_58 15 (dk_at dksJ23_removeTreeNode_24 3 rfl rfl)
theorem dJ23_removeTreeNode_566 : decode cJ23_removeTreeNode 566 = .ok (.aload 14, 2) := dk_25 14 (dk_at dksJ23_removeTreeNode_24 5 rfl rfl)
theorem dJ23_removeTreeNode_568 : decode cJ23_removeTreeNode 568 = .ok (.aload 11, 2) := dk_25 11 (dk_at dksJ23_removeTreeNode_24 7 rfl rfl)
theorem dJ23_removeTreeNode_570 : decode cJ23_removeTreeNode 570 = .ok (.if_acmp .ne 56, 3) := dk_166 0 56 (dk_at dksJ23_removeTreeNode_24 9 rfl rfl)
theorem dJ23_removeTreeNode_573 : decode cJ23_removeTreeNode 573 = .ok (.aload 11, 2) := dk_25 11 (dk_at dksJ23_removeTreeNode_24 12 rfl rfl)
theorem dJ23_removeTreeNode_575 : decode cJ23_removeTreeNode 575 = .ok (.getfield 9, 3) := dk_180 0 9 (dk_at dksJ23_removeTreeNode_24 14 rfl rfl)
theorem dJ23_removeTreeNode_578 : decode cJ23_removeTreeNode 578 = .ok (.astore 16, 2) := dk_58 16 (dk_at dksJ23_removeTreeNode_24 17 rfl rfl)
theorem dJ23_removeTreeNode_580 : decode cJ23_removeTreeNode 580 = .ok (.aload 11, 2) := dk_25 11 (dk_at dksJ23_removeTreeNode_24 19 rfl rfl)
theorem dJ23_removeTreeNode_582 : decode cJ23_removeTreeNode 582 = .ok (.aconst_null, 1) := dk_1 (dk_at dksJ23_removeTreeNode_24 21 rfl rfl)
theorem dJ23_removeTreeNode_583 : decode cJ23_removeTreeNode 583 = .ok (.putfield 9, 3) := dk_181 0 9 (dk_at dksJ23_removeTreeNode_25 0 rfl rfl)
theorem dJ23_removeTreeNode_586 : decode cJ23_removeTreeNode 586 = .ok (.aload 16, 2) := dk_25 16 (dk_at dksJ23_removeTreeNode_25 3 rfl rfl)
theorem dJ23_removeTreeNode_588 : decode cJ23_removeTreeNode 588 = .ok (.ifnull 38, 3) := dk_198 0 38 (dk_at dksJ23_removeTreeNode_25 5 rfl rfl)
theorem dJ23_removeTreeNode_591 : decode cJ23_removeTreeNode 591 = .ok (.aload 11, 2) := dk_25 11 (dk_at dksJ23_removeTreeNode_25 8 rfl rfl)
theorem dJ23_removeTreeNode_593 : decode cJ23_removeTreeNode 593 = .ok (.aload 16, 2) := dk_25 16 (dk_at dksJ23_removeTreeNode_25 10 rfl rfl)
theorem dJ23_removeTreeNode_595 : decode cJ23_removeTreeNode 595 = .ok (.getfield 39, 3) := dk_180 0 39 (dk_at dksJ23_removeTreeNode_25 12 rfl rfl)
theorem dJ23_removeTreeNode_598 : decode cJ23_removeTreeNode 598 = .ok (.if_acmp .ne 12, 3) := dk_166 0 12 (dk_at dksJ23_removeTreeNode_25 15 rfl rfl)
theorem dJ23_removeTreeNode_601 : decode cJ23_removeTreeNode 601 = .ok (.aload 16, 2) := dk_25 16 (dk_at dksJ23_removeTreeNode_25 18 rfl rfl)
theorem dJ23_removeTreeNode_603 : decode cJ23_removeTreeNode 603 = .ok (.aconst_null, 1) := dk_1 (dk_at dksJ23_removeTreeNode_25 20 rfl rfl)
theorem dJ23_removeTreeNode_604 : decode cJ23_removeTreeNode 604 = .ok (.putfield 39, 3) := dk_181 0 39 (dk_at dksJ23_removeTreeNode_25 21 rfl rfl)
theorem dJ23_removeTreeNode_607 : decode cJ23_removeTreeNode 607 = .ok (.goto 19, 3) := dk_167 0 19 (dk_at dksJ23_removeTreeNode_26 0 rfl rfl)
theorem dJ23_removeTreeNode_610 : decode cJ23_removeTreeNode 610 = .ok (.aload 11, 2) := dk_25 11 (dk_at dksJ23_removeTreeNode_26 3 rfl rfl)
theorem dJ23_removeTreeNode_612 : decode cJ23_removeTreeNode 612 = .ok (.aload 16, 2) := dk_25 16 (dk_at dksJ23_removeTreeNode_26 5 rfl rfl)
theorem dJ23_removeTreeNode_614 : decode cJ23_removeTreeNode 614 = .ok (.getfield 42, 3) := dk_180 0 42 (dk_at dksJ23_removeTreeNode_26 7 rfl rfl)
theorem dJ23_removeTreeNode_617 : decode cJ23_removeTreeNode 617 = .ok (.if_acmp .ne 9, 3) := dk_166 0 9 (dk_at dksJ23_removeTreeNode_26 10 rfl rfl)
theorem dJ23_removeTreeNode_620 : decode cJ23_removeTreeNode 620 = .ok (.aload 16, 2) := dk_25 16 (dk_at dksJ23_removeTreeNode_26 13 rfl rfl)
theorem dJ23_removeTreeNode_622 : decode cJ23_removeTreeNode 622 = .ok (.aconst_null, 1) := dk_1 (dk_at dksJ23_removeTreeNode_26 15 rfl rfl)
theorem dJ23_removeTreeNode_623 : decode cJ23_removeTreeNode 623 = .ok (.putfield 42, 3) := dk_181 0 42 (dk_at dksJ23_removeTreeNode_26 16 rfl rfl)
theorem dJ23_removeTreeNode_626 : decode cJ23_removeTreeNode 626 = .ok (.iload_n 3, 1) := dk_29 (dk_at dksJ23_removeTreeNode_26 19 rfl rfl)
theorem dJ23_removeTreeNode_627 : decode cJ23_removeTreeNode 627 = .ok (.ifCond .eq 9, 3) := dk_153 0 9 (dk_at dksJ23_removeTreeNode_26 20 rfl rfl)
theorem dJ23_removeTreeNode_630 : decode cJ23_removeTreeNode 630 = .ok (.aload_n 2, 1) := dk_44 (dk_at dksJ23_removeTreeNode_26 23 rfl rfl)
theorem dJ23_removeTreeNode_631 : decode cJ23_removeTreeNode 631 = .ok (.aload 15, 2) := dk_25 15 (dk_at dksJ23_removeTreeNode_27 0 rfl rfl)
theorem dJ23_removeTreeNode_633 : decode cJ23_removeTreeNode 633 = .ok (.invokestatic 104, 3) := dk_184 0 104 (dk_at dksJ23_removeTreeNode_27 2 rfl rfl)
theorem dJ23_removeTreeNode_636 : decode cJ23_removeTreeNode 636 = .ok (.return_, 1) := dk_177 (dk_at dksJ23_removeTreeNode_27 5 rfl rfl)
abbrev cJ23_balanceDeletion : ByteArray := prog_47_method_15_code
def yJ23_balanceDeletion : MethodName := ⟨RJ23, "balanceDeletion", "(Ljava/util/HashMap$TreeNode;Ljava/util/HashMap$TreeNode;)Ljava/util/HashMap$TreeNode;"⟩
def dkwJ23_balanceDeletion_21 : List UInt8 := [167, 254, 23]
abbrev dktJ23_balanceDeletion_21 : List UInt8 := dkwJ23_balanceDeletion_21 ++ []
def dkwJ23_balanceDeletion_20 : List UInt8 := [25, 5, 3, 181, 0, 93, 44, 198, 0, 14, 44, 3, 181, 0, 93, 42, 44, 184, 0, 133, 75, 42, 76]
abbrev dktJ23_balanceDeletion_20 : List UInt8 := dkwJ23_balanceDeletion_20 ++ dktJ23_balanceDeletion_21
def dkwJ23_balanceDeletion_19 : List UInt8 := [199, 0, 7, 3, 167, 0, 7, 44, 180, 0, 93, 181, 0, 93, 45, 180, 0, 39, 89, 58, 5, 198, 0, 9]
abbrev dktJ23_balanceDeletion_19 : List UInt8 := dkwJ23_balanceDeletion_19 ++ dktJ23_balanceDeletion_20
def dkwJ23_balanceDeletion_18 : List UInt8 := [180, 0, 9, 89, 77, 199, 0, 7, 1, 167, 0, 7, 44, 180, 0, 39, 78, 45, 198, 0, 35, 45, 44]
abbrev dktJ23_balanceDeletion_18 : List UInt8 := dkwJ23_balanceDeletion_18 ++ dktJ23_balanceDeletion_19
def dkwJ23_balanceDeletion_17 : List UInt8 := [25, 6, 198, 0, 9, 25, 6, 3, 181, 0, 93, 45, 4, 181, 0, 93, 42, 45, 184, 0, 130, 75, 43]
abbrev dktJ23_balanceDeletion_17 : List UInt8 := dkwJ23_balanceDeletion_17 ++ dktJ23_balanceDeletion_18
def dkwJ23_balanceDeletion_16 : List UInt8 := [45, 4, 181, 0, 93, 44, 76, 167, 0, 109, 25, 5, 198, 0, 11, 25, 5, 180, 0, 93, 154, 0, 43]
abbrev dktJ23_balanceDeletion_16 : List UInt8 := dkwJ23_balanceDeletion_16 ++ dktJ23_balanceDeletion_17
def dkwJ23_balanceDeletion_15 : List UInt8 := [198, 0, 11, 25, 5, 180, 0, 93, 154, 0, 26, 25, 6, 198, 0, 11, 25, 6, 180, 0, 93, 154, 0, 13]
abbrev dktJ23_balanceDeletion_15 : List UInt8 := dkwJ23_balanceDeletion_15 ++ dktJ23_balanceDeletion_16
def dkwJ23_balanceDeletion_14 : List UInt8 := [199, 0, 8, 44, 76, 167, 254, 180, 45, 180, 0, 39, 58, 5, 45, 180, 0, 42, 58, 6, 25, 5]
abbrev dktJ23_balanceDeletion_14 : List UInt8 := dkwJ23_balanceDeletion_14 ++ dktJ23_balanceDeletion_15
def dkwJ23_balanceDeletion_13 : List UInt8 := [184, 0, 133, 75, 43, 180, 0, 9, 89, 77, 199, 0, 7, 1, 167, 0, 7, 44, 180, 0, 39, 78, 45]
abbrev dktJ23_balanceDeletion_13 : List UInt8 := dkwJ23_balanceDeletion_13 ++ dktJ23_balanceDeletion_14
def dkwJ23_balanceDeletion_12 : List UInt8 := [45, 198, 0, 44, 45, 180, 0, 93, 153, 0, 37, 45, 3, 181, 0, 93, 44, 4, 181, 0, 93, 42, 44]
abbrev dktJ23_balanceDeletion_12 : List UInt8 := dkwJ23_balanceDeletion_12 ++ dktJ23_balanceDeletion_13
def dkwJ23_balanceDeletion_11 : List UInt8 := [3, 181, 0, 93, 44, 198, 0, 14, 44, 3, 181, 0, 93, 42, 44, 184, 0, 130, 75, 42, 76, 167, 254, 234]
abbrev dktJ23_balanceDeletion_11 : List UInt8 := dkwJ23_balanceDeletion_11 ++ dktJ23_balanceDeletion_12
def dkwJ23_balanceDeletion_10 : List UInt8 := [3, 167, 0, 7, 44, 180, 0, 93, 181, 0, 93, 25, 4, 180, 0, 42, 89, 58, 6, 198, 0, 9, 25, 6]
abbrev dktJ23_balanceDeletion_10 : List UInt8 := dkwJ23_balanceDeletion_10 ++ dktJ23_balanceDeletion_11
def dkwJ23_balanceDeletion_9 : List UInt8 := [199, 0, 7, 1, 167, 0, 7, 44, 180, 0, 42, 58, 4, 25, 4, 198, 0, 37, 25, 4, 44, 199, 0, 7]
abbrev dktJ23_balanceDeletion_9 : List UInt8 := dkwJ23_balanceDeletion_9 ++ dktJ23_balanceDeletion_10
def dkwJ23_balanceDeletion_8 : List UInt8 := [181, 0, 93, 25, 4, 4, 181, 0, 93, 42, 25, 4, 184, 0, 133, 75, 43, 180, 0, 9, 89, 77]
abbrev dktJ23_balanceDeletion_8 : List UInt8 := dkwJ23_balanceDeletion_8 ++ dktJ23_balanceDeletion_9
def dkwJ23_balanceDeletion_7 : List UInt8 := [167, 0, 115, 25, 6, 198, 0, 11, 25, 6, 180, 0, 93, 154, 0, 46, 25, 5, 198, 0, 9, 25, 5, 3]
abbrev dktJ23_balanceDeletion_7 : List UInt8 := dkwJ23_balanceDeletion_7 ++ dktJ23_balanceDeletion_8
def dkwJ23_balanceDeletion_6 : List UInt8 := [154, 0, 27, 25, 5, 198, 0, 11, 25, 5, 180, 0, 93, 154, 0, 14, 25, 4, 4, 181, 0, 93, 44, 76]
abbrev dktJ23_balanceDeletion_6 : List UInt8 := dkwJ23_balanceDeletion_6 ++ dktJ23_balanceDeletion_7
def dkwJ23_balanceDeletion_5 : List UInt8 := [25, 4, 180, 0, 39, 58, 5, 25, 4, 180, 0, 42, 58, 6, 25, 6, 198, 0, 11, 25, 6, 180, 0, 93]
abbrev dktJ23_balanceDeletion_5 : List UInt8 := dkwJ23_balanceDeletion_5 ++ dktJ23_balanceDeletion_6
def dkwJ23_balanceDeletion_4 : List UInt8 := [199, 0, 7, 1, 167, 0, 7, 44, 180, 0, 42, 58, 4, 25, 4, 199, 0, 8, 44, 76, 167, 255, 144]
abbrev dktJ23_balanceDeletion_4 : List UInt8 := dkwJ23_balanceDeletion_4 ++ dktJ23_balanceDeletion_5
def dkwJ23_balanceDeletion_3 : List UInt8 := [25, 4, 3, 181, 0, 93, 44, 4, 181, 0, 93, 42, 44, 184, 0, 130, 75, 43, 180, 0, 9, 89, 77]
abbrev dktJ23_balanceDeletion_3 : List UInt8 := dkwJ23_balanceDeletion_3 ++ dktJ23_balanceDeletion_4
def dkwJ23_balanceDeletion_2 : List UInt8 := [78, 43, 166, 0, 233, 44, 180, 0, 42, 89, 58, 4, 198, 0, 47, 25, 4, 180, 0, 93, 153, 0, 39]
abbrev dktJ23_balanceDeletion_2 : List UInt8 := dkwJ23_balanceDeletion_2 ++ dktJ23_balanceDeletion_3
def dkwJ23_balanceDeletion_1 : List UInt8 := [181, 0, 93, 43, 176, 43, 180, 0, 93, 153, 0, 10, 43, 3, 181, 0, 93, 42, 176, 44, 180, 0, 39, 89]
abbrev dktJ23_balanceDeletion_1 : List UInt8 := dkwJ23_balanceDeletion_1 ++ dktJ23_balanceDeletion_2
def dkwJ23_balanceDeletion_0 : List UInt8 := [43, 198, 0, 8, 43, 42, 166, 0, 5, 42, 176, 43, 180, 0, 9, 89, 77, 199, 0, 10, 43, 3]
abbrev dktJ23_balanceDeletion_0 : List UInt8 := dkwJ23_balanceDeletion_0 ++ dktJ23_balanceDeletion_1
theorem dksJ23_balanceDeletion_0 : cJ23_balanceDeletion.data.toList.drop 0 = dktJ23_balanceDeletion_0 := by decide +kernel
theorem dksJ23_balanceDeletion_1 : cJ23_balanceDeletion.data.toList.drop 22 = dktJ23_balanceDeletion_1 := dk_seg dksJ23_balanceDeletion_0 22 rfl rfl
theorem dksJ23_balanceDeletion_2 : cJ23_balanceDeletion.data.toList.drop 46 = dktJ23_balanceDeletion_2 := dk_seg dksJ23_balanceDeletion_1 24 rfl rfl
theorem dksJ23_balanceDeletion_3 : cJ23_balanceDeletion.data.toList.drop 69 = dktJ23_balanceDeletion_3 := dk_seg dksJ23_balanceDeletion_2 23 rfl rfl
theorem dksJ23_balanceDeletion_4 : cJ23_balanceDeletion.data.toList.drop 92 = dktJ23_balanceDeletion_4 := dk_seg dksJ23_balanceDeletion_3 23 rfl rfl
theorem dksJ23_balanceDeletion_5 : cJ23_balanceDeletion.data.toList.drop 115 = dktJ23_balanceDeletion_5 := dk_seg dksJ23_balanceDeletion_4 23 rfl rfl
theorem dksJ23_balanceDeletion_6 : cJ23_balanceDeletion.data.toList.drop 139 = dktJ23_balanceDeletion_6 := dk_seg dksJ23_balanceDeletion_5 24 rfl rfl
theorem dksJ23_balanceDeletion_7 : cJ23_balanceDeletion.data.toList.drop 163 = dktJ23_balanceDeletion_7 := dk_seg dksJ23_balanceDeletion_6 24 rfl rfl
theorem dksJ23_balanceDeletion_8 : cJ23_balanceDeletion.data.toList.drop 187 = dktJ23_balanceDeletion_8 := dk_seg dksJ23_balanceDeletion_7 24 rfl rfl
theorem dksJ23_balanceDeletion_9 : cJ23_balanceDeletion.data.toList.drop 209 = dktJ23_balanceDeletion_9 := dk_seg dksJ23_balanceDeletion_8 22 rfl rfl
theorem dksJ23_balanceDeletion_10 : cJ23_balanceDeletion.data.toList.drop 233 = dktJ23_balanceDeletion_10 := dk_seg dksJ23_balanceDeletion_9 24 rfl rfl
theorem dksJ23_balanceDeletion_11 : cJ23_balanceDeletion.data.toList.drop 257 = dktJ23_balanceDeletion_11 := dk_seg dksJ23_balanceDeletion_10 24 rfl rfl
theorem dksJ23_balanceDeletion_12 : cJ23_balanceDeletion.data.toList.drop 281 = dktJ23_balanceDeletion_12 := dk_seg dksJ23_balanceDeletion_11 24 rfl rfl
theorem dksJ23_balanceDeletion_13 : cJ23_balanceDeletion.data.toList.drop 304 = dktJ23_balanceDeletion_13 := dk_seg dksJ23_balanceDeletion_12 23 rfl rfl
theorem dksJ23_balanceDeletion_14 : cJ23_balanceDeletion.data.toList.drop 327 = dktJ23_balanceDeletion_14 := dk_seg dksJ23_balanceDeletion_13 23 rfl rfl
theorem dksJ23_balanceDeletion_15 : cJ23_balanceDeletion.data.toList.drop 349 = dktJ23_balanceDeletion_15 := dk_seg dksJ23_balanceDeletion_14 22 rfl rfl
theorem dksJ23_balanceDeletion_16 : cJ23_balanceDeletion.data.toList.drop 373 = dktJ23_balanceDeletion_16 := dk_seg dksJ23_balanceDeletion_15 24 rfl rfl
theorem dksJ23_balanceDeletion_17 : cJ23_balanceDeletion.data.toList.drop 396 = dktJ23_balanceDeletion_17 := dk_seg dksJ23_balanceDeletion_16 23 rfl rfl
theorem dksJ23_balanceDeletion_18 : cJ23_balanceDeletion.data.toList.drop 419 = dktJ23_balanceDeletion_18 := dk_seg dksJ23_balanceDeletion_17 23 rfl rfl
theorem dksJ23_balanceDeletion_19 : cJ23_balanceDeletion.data.toList.drop 442 = dktJ23_balanceDeletion_19 := dk_seg dksJ23_balanceDeletion_18 23 rfl rfl
theorem dksJ23_balanceDeletion_20 : cJ23_balanceDeletion.data.toList.drop 466 = dktJ23_balanceDeletion_20 := dk_seg dksJ23_balanceDeletion_19 24 rfl rfl
theorem dksJ23_balanceDeletion_21 : cJ23_balanceDeletion.data.toList.drop 489 = dktJ23_balanceDeletion_21 := dk_seg dksJ23_balanceDeletion_20 23 rfl rfl
theorem dJ23_balanceDeletion_0 : decode cJ23_balanceDeletion 0 = .ok (.aload_n 1, 1) := dk_43 (dk_at dksJ23_balanceDeletion_0 0 rfl rfl)
theorem dJ23_balanceDeletion_1 : decode cJ23_balanceDeletion 1 = .ok (.ifnull 8, 3) := dk_198 0 8 (dk_at dksJ23_balanceDeletion_0 1 rfl rfl)
theorem dJ23_balanceDeletion_4 : decode cJ23_balanceDeletion 4 = .ok (.aload_n 1, 1) := dk_43 (dk_at dksJ23_balanceDeletion_0 4 rfl rfl)
theorem dJ23_balanceDeletion_5 : decode cJ23_balanceDeletion 5 = .ok (.aload_n 0, 1) := dk_42 (dk_at dksJ23_balanceDeletion_0 5 rfl rfl)
theorem dJ23_balanceDeletion_6 : decode cJ23_balanceDeletion 6 = .ok (.if_acmp .ne 5, 3) := dk_166 0 5 (dk_at dksJ23_balanceDeletion_0 6 rfl rfl)
theorem dJ23_balanceDeletion_9 : decode cJ23_balanceDeletion 9 = .ok (.aload_n 0, 1) := dk_42 (dk_at dksJ23_balanceDeletion_0 9 rfl rfl)
theorem dJ23_balanceDeletion_10 : decode cJ23_balanceDeletion 10 = .ok (.areturn, 1) := dk_176 (dk_at dksJ23_balanceDeletion_0 10 rfl rfl)
theorem dJ23_balanceDeletion_11 : decode cJ23_balanceDeletion 11 = .ok (.aload_n 1, 1) := dk_43 (dk_at dksJ23_balanceDeletion_0 11 rfl rfl)
theorem dJ23_balanceDeletion_12 : decode cJ23_balanceDeletion 12 = .ok (.getfield 9, 3) := dk_180 0 9 (dk_at dksJ23_balanceDeletion_0 12 rfl rfl)
theorem dJ23_balanceDeletion_15 : decode cJ23_balanceDeletion 15 = .ok (.dup, 1) := dk_89 (dk_at dksJ23_balanceDeletion_0 15 rfl rfl)
theorem dJ23_balanceDeletion_16 : decode cJ23_balanceDeletion 16 = .ok (.astore_n 2, 1) := dk_77 (dk_at dksJ23_balanceDeletion_0 16 rfl rfl)
theorem dJ23_balanceDeletion_17 : decode cJ23_balanceDeletion 17 = .ok (.ifnonnull 10, 3) := dk_199 0 10 (dk_at dksJ23_balanceDeletion_0 17 rfl rfl)
theorem dJ23_balanceDeletion_20 : decode cJ23_balanceDeletion 20 = .ok (.aload_n 1, 1) := dk_43 (dk_at dksJ23_balanceDeletion_0 20 rfl rfl)
theorem dJ23_balanceDeletion_21 : decode cJ23_balanceDeletion 21 = .ok (.iconst 0, 1) := dk_3 (dk_at dksJ23_balanceDeletion_0 21 rfl rfl)
theorem dJ23_balanceDeletion_22 : decode cJ23_balanceDeletion 22 = .ok (.putfield 93, 3) := dk_181 0 93 (dk_at dksJ23_balanceDeletion_1 0 rfl rfl)
theorem dJ23_balanceDeletion_25 : decode cJ23_balanceDeletion 25 = .ok (.aload_n 1, 1) := dk_43 (dk_at dksJ23_balanceDeletion_1 3 rfl rfl)
theorem dJ23_balanceDeletion_26 : decode cJ23_balanceDeletion 26 = .ok (.areturn, 1) := dk_176 (dk_at dksJ23_balanceDeletion_1 4 rfl rfl)
theorem dJ23_balanceDeletion_27 : decode cJ23_balanceDeletion 27 = .ok (.aload_n 1, 1) := dk_43 (dk_at dksJ23_balanceDeletion_1 5 rfl rfl)
theorem dJ23_balanceDeletion_28 : decode cJ23_balanceDeletion 28 = .ok (.getfield 93, 3) := dk_180 0 93 (dk_at dksJ23_balanceDeletion_1 6 rfl rfl)
theorem dJ23_balanceDeletion_31 : decode cJ23_balanceDeletion 31 = .ok (.ifCond .eq 10, 3) := dk_153 0 10 (dk_at dksJ23_balanceDeletion_1 9 rfl rfl)
theorem dJ23_balanceDeletion_34 : decode cJ23_balanceDeletion 34 = .ok (.aload_n 1, 1) := dk_43 (dk_at dksJ23_balanceDeletion_1 12 rfl rfl)
theorem dJ23_balanceDeletion_35 : decode cJ23_balanceDeletion 35 = .ok (.iconst 0, 1) := dk_3 (dk_at dksJ23_balanceDeletion_1 13 rfl rfl)
theorem dJ23_balanceDeletion_36 : decode cJ23_balanceDeletion 36 = .ok (.putfield 93, 3) := dk_181 0 93 (dk_at dksJ23_balanceDeletion_1 14 rfl rfl)
theorem dJ23_balanceDeletion_39 : decode cJ23_balanceDeletion 39 = .ok (.aload_n 0, 1) := dk_42 (dk_at dksJ23_balanceDeletion_1 17 rfl rfl)
theorem dJ23_balanceDeletion_40 : decode cJ23_balanceDeletion 40 = .ok (.areturn, 1) := dk_176 (dk_at dksJ23_balanceDeletion_1 18 rfl rfl)
theorem dJ23_balanceDeletion_41 : decode cJ23_balanceDeletion 41 = .ok (.aload_n 2, 1) := dk_44 (dk_at dksJ23_balanceDeletion_1 19 rfl rfl)
theorem dJ23_balanceDeletion_42 : decode cJ23_balanceDeletion 42 = .ok (.getfield 39, 3) := dk_180 0 39 (dk_at dksJ23_balanceDeletion_1 20 rfl rfl)
theorem dJ23_balanceDeletion_45 : decode cJ23_balanceDeletion 45 = .ok (.dup, 1) := dk_89 (dk_at dksJ23_balanceDeletion_1 23 rfl rfl)
theorem dJ23_balanceDeletion_46 : decode cJ23_balanceDeletion 46 = .ok (.astore_n 3, 1) := dk_78 (dk_at dksJ23_balanceDeletion_2 0 rfl rfl)
theorem dJ23_balanceDeletion_47 : decode cJ23_balanceDeletion 47 = .ok (.aload_n 1, 1) := dk_43 (dk_at dksJ23_balanceDeletion_2 1 rfl rfl)
theorem dJ23_balanceDeletion_48 : decode cJ23_balanceDeletion 48 = .ok (.if_acmp .ne 233, 3) := dk_166 0 233 (dk_at dksJ23_balanceDeletion_2 2 rfl rfl)
theorem dJ23_balanceDeletion_51 : decode cJ23_balanceDeletion 51 = .ok (.aload_n 2, 1) := dk_44 (dk_at dksJ23_balanceDeletion_2 5 rfl rfl)
theorem dJ23_balanceDeletion_52 : decode cJ23_balanceDeletion 52 = .ok (.getfield 42, 3) := dk_180 0 42 (dk_at dksJ23_balanceDeletion_2 6 rfl rfl)
theorem dJ23_balanceDeletion_55 : decode cJ23_balanceDeletion 55 = .ok (.dup, 1) := dk_89 (dk_at dksJ23_balanceDeletion_2 9 rfl rfl)
theorem dJ23_balanceDeletion_56 : decode cJ23_balanceDeletion 56 = .ok (.astore 4, 2) := dk_58 4 (dk_at dksJ23_balanceDeletion_2 10 rfl rfl)
theorem dJ23_balanceDeletion_58 : decode cJ23_balanceDeletion 58 = .ok (.ifnull 47, 3) := dk_198 0 47 (dk_at dksJ23_balanceDeletion_2 12 rfl rfl)
theorem dJ23_balanceDeletion_61 : decode cJ23_balanceDeletion 61 = .ok (.aload 4, 2) := dk_25 4 (dk_at dksJ23_balanceDeletion_2 15 rfl rfl)
theorem dJ23_balanceDeletion_63 : decode cJ23_balanceDeletion 63 = .ok (.getfield 93, 3) := dk_180 0 93 (dk_at dksJ23_balanceDeletion_2 17 rfl rfl)
theorem dJ23_balanceDeletion_66 : decode cJ23_balanceDeletion 66 = .ok (.ifCond .eq 39, 3) := dk_153 0 39 (dk_at dksJ23_balanceDeletion_2 20 rfl rfl)
theorem dJ23_balanceDeletion_69 : decode cJ23_balanceDeletion 69 = .ok (.aload 4, 2) := dk_25 4 (dk_at dksJ23_balanceDeletion_3 0 rfl rfl)
theorem dJ23_balanceDeletion_71 : decode cJ23_balanceDeletion 71 = .ok (.iconst 0, 1) := dk_3 (dk_at dksJ23_balanceDeletion_3 2 rfl rfl)
theorem dJ23_balanceDeletion_72 : decode cJ23_balanceDeletion 72 = .ok (.putfield 93, 3) := dk_181 0 93 (dk_at dksJ23_balanceDeletion_3 3 rfl rfl)
theorem dJ23_balanceDeletion_75 : decode cJ23_balanceDeletion 75 = .ok (.aload_n 2, 1) := dk_44 (dk_at dksJ23_balanceDeletion_3 6 rfl rfl)
theorem dJ23_balanceDeletion_76 : decode cJ23_balanceDeletion 76 = .ok (.iconst 1, 1) := dk_4 (dk_at dksJ23_balanceDeletion_3 7 rfl rfl)
theorem dJ23_balanceDeletion_77 : decode cJ23_balanceDeletion 77 = .ok (.putfield 93, 3) := dk_181 0 93 (dk_at dksJ23_balanceDeletion_3 8 rfl rfl)
theorem dJ23_balanceDeletion_80 : decode cJ23_balanceDeletion 80 = .ok (.aload_n 0, 1) := dk_42 (dk_at dksJ23_balanceDeletion_3 11 rfl rfl)
theorem dJ23_balanceDeletion_81 : decode cJ23_balanceDeletion 81 = .ok (.aload_n 2, 1) := dk_44 (dk_at dksJ23_balanceDeletion_3 12 rfl rfl)
theorem dJ23_balanceDeletion_82 : decode cJ23_balanceDeletion 82 = .ok (.invokestatic 130, 3) := dk_184 0 130 (dk_at dksJ23_balanceDeletion_3 13 rfl rfl)
theorem dJ23_balanceDeletion_85 : decode cJ23_balanceDeletion 85 = .ok (.astore_n 0, 1) := dk_75 (dk_at dksJ23_balanceDeletion_3 16 rfl rfl)
theorem dJ23_balanceDeletion_86 : decode cJ23_balanceDeletion 86 = .ok (.aload_n 1, 1) := dk_43 (dk_at dksJ23_balanceDeletion_3 17 rfl rfl)
theorem dJ23_balanceDeletion_87 : decode cJ23_balanceDeletion 87 = .ok (.getfield 9, 3) := dk_180 0 9 (dk_at dksJ23_balanceDeletion_3 18 rfl rfl)
theorem dJ23_balanceDeletion_90 : decode cJ23_balanceDeletion 90 = .ok (.dup, 1) := dk_89 (dk_at dksJ23_balanceDeletion_3 21 rfl rfl)
theorem dJ23_balanceDeletion_91 : decode cJ23_balanceDeletion 91 = .ok (.astore_n 2, 1) := dk_77 (dk_at dksJ23_balanceDeletion_3 22 rfl rfl)
theorem dJ23_balanceDeletion_92 : decode cJ23_balanceDeletion 92 = .ok (.ifnonnull 7, 3) := dk_199 0 7 (dk_at dksJ23_balanceDeletion_4 0 rfl rfl)
theorem dJ23_balanceDeletion_95 : decode cJ23_balanceDeletion 95 = .ok (.aconst_null, 1) := dk_1 (dk_at dksJ23_balanceDeletion_4 3 rfl rfl)
theorem dJ23_balanceDeletion_96 : decode cJ23_balanceDeletion 96 = .ok (.goto 7, 3) := dk_167 0 7 (dk_at dksJ23_balanceDeletion_4 4 rfl rfl)
theorem dJ23_balanceDeletion_99 : decode cJ23_balanceDeletion 99 = .ok (.aload_n 2, 1) := dk_44 (dk_at dksJ23_balanceDeletion_4 7 rfl rfl)
theorem dJ23_balanceDeletion_100 : decode cJ23_balanceDeletion 100 = .ok (.getfield 42, 3) := dk_180 0 42 (dk_at dksJ23_balanceDeletion_4 8 rfl rfl)
theorem dJ23_balanceDeletion_103 : decode cJ23_balanceDeletion 103 = .ok (.astore 4, 2) := dk_58 4 (dk_at dksJ23_balanceDeletion_4 11 rfl rfl)
theorem dJ23_balanceDeletion_105 : decode cJ23_balanceDeletion 105 = .ok (.aload 4, 2) := dk_25 4 (dk_at dksJ23_balanceDeletion_4 13 rfl rfl)
theorem dJ23_balanceDeletion_107 : decode cJ23_balanceDeletion 107 = .ok (.ifnonnull 8, 3) := dk_199 0 8 (dk_at dksJ23_balanceDeletion_4 15 rfl rfl)
theorem dJ23_balanceDeletion_110 : decode cJ23_balanceDeletion 110 = .ok (.aload_n 2, 1) := dk_44 (dk_at dksJ23_balanceDeletion_4 18 rfl rfl)
theorem dJ23_balanceDeletion_111 : decode cJ23_balanceDeletion 111 = .ok (.astore_n 1, 1) := dk_76 (dk_at dksJ23_balanceDeletion_4 19 rfl rfl)
theorem dJ23_balanceDeletion_112 : decode cJ23_balanceDeletion 112 = .ok (.goto (-112), 3) := dk_167 255 144 (dk_at dksJ23_balanceDeletion_4 20 rfl rfl)
theorem dJ23_balanceDeletion_115 : decode cJ23_balanceDeletion 115 = .ok (.aload 4, 2) := dk_25 4 (dk_at dksJ23_balanceDeletion_5 0 rfl rfl)
theorem dJ23_balanceDeletion_117 : decode cJ23_balanceDeletion 117 = .ok (.getfield 39, 3) := dk_180 0 39 (dk_at dksJ23_balanceDeletion_5 2 rfl rfl)
theorem dJ23_balanceDeletion_120 : decode cJ23_balanceDeletion 120 = .ok (.astore 5, 2) := dk_58 5 (dk_at dksJ23_balanceDeletion_5 5 rfl rfl)
theorem dJ23_balanceDeletion_122 : decode cJ23_balanceDeletion 122 = .ok (.aload 4, 2) := dk_25 4 (dk_at dksJ23_balanceDeletion_5 7 rfl rfl)
theorem dJ23_balanceDeletion_124 : decode cJ23_balanceDeletion 124 = .ok (.getfield 42, 3) := dk_180 0 42 (dk_at dksJ23_balanceDeletion_5 9 rfl rfl)
theorem dJ23_balanceDeletion_127 : decode cJ23_balanceDeletion 127 = .ok (.astore 6, 2) := dk_58 6 (dk_at dksJ23_balanceDeletion_5 12 rfl rfl)
theorem dJ23_balanceDeletion_129 : decode cJ23_balanceDeletion 129 = .ok (.aload 6, 2) := dk_25 6 (dk_at dksJ23_balanceDeletion_5 14 rfl rfl)
theorem dJ23_balanceDeletion_131 : decode cJ23_balanceDeletion 131 = .ok (.ifnull 11, 3) := dk_198 0 11 (dk_at dksJ23_balanceDeletion_5 16 rfl rfl)
theorem dJ23_balanceDeletion_134 : decode cJ23_balanceDeletion 134 = .ok (.aload 6, 2) := dk_25 6 (dk_at dksJ23_balanceDeletion_5 19 rfl rfl)
theorem dJ23_balanceDeletion_136 : decode cJ23_balanceDeletion 136 = .ok (.getfield 93, 3) := dk_180 0 93 (dk_at dksJ23_balanceDeletion_5 21 rfl rfl)
theorem dJ23_balanceDeletion_139 : decode cJ23_balanceDeletion 139 = .ok (.ifCond .ne 27, 3) := dk_154 0 27 (dk_at dksJ23_balanceDeletion_6 0 rfl rfl)
theorem dJ23_balanceDeletion_142 : decode cJ23_balanceDeletion 142 = .ok (.aload 5, 2) := dk_25 5 (dk_at dksJ23_balanceDeletion_6 3 rfl rfl)
theorem dJ23_balanceDeletion_144 : decode cJ23_balanceDeletion 144 = .ok (.ifnull 11, 3) := dk_198 0 11 (dk_at dksJ23_balanceDeletion_6 5 rfl rfl)
theorem dJ23_balanceDeletion_147 : decode cJ23_balanceDeletion 147 = .ok (.aload 5, 2) := dk_25 5 (dk_at dksJ23_balanceDeletion_6 8 rfl rfl)
theorem dJ23_balanceDeletion_149 : decode cJ23_balanceDeletion 149 = .ok (.getfield 93, 3) := dk_180 0 93 (dk_at dksJ23_balanceDeletion_6 10 rfl rfl)
theorem dJ23_balanceDeletion_152 : decode cJ23_balanceDeletion 152 = .ok (.ifCond .ne 14, 3) := dk_154 0 14 (dk_at dksJ23_balanceDeletion_6 13 rfl rfl)
theorem dJ23_balanceDeletion_155 : decode cJ23_balanceDeletion 155 = .ok (.aload 4, 2) := dk_25 4 (dk_at dksJ23_balanceDeletion_6 16 rfl rfl)
theorem dJ23_balanceDeletion_157 : decode cJ23_balanceDeletion 157 = .ok (.iconst 1, 1) := dk_4 (dk_at dksJ23_balanceDeletion_6 18 rfl rfl)
theorem dJ23_balanceDeletion_158 : decode cJ23_balanceDeletion 158 = .ok (.putfield 93, 3) := dk_181 0 93 (dk_at dksJ23_balanceDeletion_6 19 rfl rfl)
theorem dJ23_balanceDeletion_161 : decode cJ23_balanceDeletion 161 = .ok (.aload_n 2, 1) := dk_44 (dk_at dksJ23_balanceDeletion_6 22 rfl rfl)
theorem dJ23_balanceDeletion_162 : decode cJ23_balanceDeletion 162 = .ok (.astore_n 1, 1) := dk_76 (dk_at dksJ23_balanceDeletion_6 23 rfl rfl)
theorem dJ23_balanceDeletion_163 : decode cJ23_balanceDeletion 163 = .ok (.goto 115, 3) := dk_167 0 115 (dk_at dksJ23_balanceDeletion_7 0 rfl rfl)
theorem dJ23_balanceDeletion_166 : decode cJ23_balanceDeletion 166 = .ok (.aload 6, 2) := dk_25 6 (dk_at dksJ23_balanceDeletion_7 3 rfl rfl)
theorem dJ23_balanceDeletion_168 : decode cJ23_balanceDeletion 168 = .ok (.ifnull 11, 3) := dk_198 0 11 (dk_at dksJ23_balanceDeletion_7 5 rfl rfl)
theorem dJ23_balanceDeletion_171 : decode cJ23_balanceDeletion 171 = .ok (.aload 6, 2) := dk_25 6 (dk_at dksJ23_balanceDeletion_7 8 rfl rfl)
theorem dJ23_balanceDeletion_173 : decode cJ23_balanceDeletion 173 = .ok (.getfield 93, 3) := dk_180 0 93 (dk_at dksJ23_balanceDeletion_7 10 rfl rfl)
theorem dJ23_balanceDeletion_176 : decode cJ23_balanceDeletion 176 = .ok (.ifCond .ne 46, 3) := dk_154 0 46 (dk_at dksJ23_balanceDeletion_7 13 rfl rfl)
theorem dJ23_balanceDeletion_179 : decode cJ23_balanceDeletion 179 = .ok (.aload 5, 2) := dk_25 5 (dk_at dksJ23_balanceDeletion_7 16 rfl rfl)
theorem dJ23_balanceDeletion_181 : decode cJ23_balanceDeletion 181 = .ok (.ifnull 9, 3) := dk_198 0 9 (dk_at dksJ23_balanceDeletion_7 18 rfl rfl)
theorem dJ23_balanceDeletion_184 : decode cJ23_balanceDeletion 184 = .ok (.aload 5, 2) := dk_25 5 (dk_at dksJ23_balanceDeletion_7 21 rfl rfl)
theorem dJ23_balanceDeletion_186 : decode cJ23_balanceDeletion 186 = .ok (.iconst 0, 1) := dk_3 (dk_at dksJ23_balanceDeletion_7 23 rfl rfl)
theorem dJ23_balanceDeletion_187 : decode cJ23_balanceDeletion 187 = .ok (.putfield 93, 3) := dk_181 0 93 (dk_at dksJ23_balanceDeletion_8 0 rfl rfl)
theorem dJ23_balanceDeletion_190 : decode cJ23_balanceDeletion 190 = .ok (.aload 4, 2) := dk_25 4 (dk_at dksJ23_balanceDeletion_8 3 rfl rfl)
theorem dJ23_balanceDeletion_192 : decode cJ23_balanceDeletion 192 = .ok (.iconst 1, 1) := dk_4 (dk_at dksJ23_balanceDeletion_8 5 rfl rfl)
theorem dJ23_balanceDeletion_193 : decode cJ23_balanceDeletion 193 = .ok (.putfield 93, 3) := dk_181 0 93 (dk_at dksJ23_balanceDeletion_8 6 rfl rfl)
theorem dJ23_balanceDeletion_196 : decode cJ23_balanceDeletion 196 = .ok (.aload_n 0, 1) := dk_42 (dk_at dksJ23_balanceDeletion_8 9 rfl rfl)
theorem dJ23_balanceDeletion_197 : decode cJ23_balanceDeletion 197 = .ok (.aload 4, 2) := dk_25 4 (dk_at dksJ23_balanceDeletion_8 10 rfl rfl)
theorem dJ23_balanceDeletion_199 : decode cJ23_balanceDeletion 199 = .ok (.invokestatic 133, 3) := dk_184 0 133 (dk_at dksJ23_balanceDeletion_8 12 rfl rfl)
theorem dJ23_balanceDeletion_202 : decode cJ23_balanceDeletion 202 = .ok (.astore_n 0, 1) := dk_75 (dk_at dksJ23_balanceDeletion_8 15 rfl rfl)
theorem dJ23_balanceDeletion_203 : decode cJ23_balanceDeletion 203 = .ok (.aload_n 1, 1) := dk_43 (dk_at dksJ23_balanceDeletion_8 16 rfl rfl)
theorem dJ23_balanceDeletion_204 : decode cJ23_balanceDeletion 204 = .ok (.getfield 9, 3) := dk_180 0 9 (dk_at dksJ23_balanceDeletion_8 17 rfl rfl)
theorem dJ23_balanceDeletion_207 : decode cJ23_balanceDeletion 207 = .ok (.dup, 1) := dk_89 (dk_at dksJ23_balanceDeletion_8 20 rfl rfl)
theorem dJ23_balanceDeletion_208 : decode cJ23_balanceDeletion 208 = .ok (.astore_n 2, 1) := dk_77 (dk_at dksJ23_balanceDeletion_8 21 rfl rfl)
theorem dJ23_balanceDeletion_209 : decode cJ23_balanceDeletion 209 = .ok (.ifnonnull 7, 3) := dk_199 0 7 (dk_at dksJ23_balanceDeletion_9 0 rfl rfl)
theorem dJ23_balanceDeletion_212 : decode cJ23_balanceDeletion 212 = .ok (.aconst_null, 1) := dk_1 (dk_at dksJ23_balanceDeletion_9 3 rfl rfl)
theorem dJ23_balanceDeletion_213 : decode cJ23_balanceDeletion 213 = .ok (.goto 7, 3) := dk_167 0 7 (dk_at dksJ23_balanceDeletion_9 4 rfl rfl)
theorem dJ23_balanceDeletion_216 : decode cJ23_balanceDeletion 216 = .ok (.aload_n 2, 1) := dk_44 (dk_at dksJ23_balanceDeletion_9 7 rfl rfl)
theorem dJ23_balanceDeletion_217 : decode cJ23_balanceDeletion 217 = .ok (.getfield 42, 3) := dk_180 0 42 (dk_at dksJ23_balanceDeletion_9 8 rfl rfl)
theorem dJ23_balanceDeletion_220 : decode cJ23_balanceDeletion 220 = .ok (.astore 4, 2) := dk_58 4 (dk_at dksJ23_balanceDeletion_9 11 rfl rfl)
theorem dJ23_balanceDeletion_222 : decode cJ23_balanceDeletion 222 = .ok (.aload 4, 2) := dk_25 4 (dk_at dksJ23_balanceDeletion_9 13 rfl rfl)
theorem dJ23_balanceDeletion_224 : decode cJ23_balanceDeletion 224 = .ok (.ifnull 37, 3) := dk_198 0 37 (dk_at dksJ23_balanceDeletion_9 15 rfl rfl)
theorem dJ23_balanceDeletion_227 : decode cJ23_balanceDeletion 227 = .ok (.aload 4, 2) := dk_25 4 (dk_at dksJ23_balanceDeletion_9 18 rfl rfl)
theorem dJ23_balanceDeletion_229 : decode cJ23_balanceDeletion 229 = .ok (.aload_n 2, 1) := dk_44 (dk_at dksJ23_balanceDeletion_9 20 rfl rfl)
theorem dJ23_balanceDeletion_230 : decode cJ23_balanceDeletion 230 = .ok (.ifnonnull 7, 3) := dk_199 0 7 (dk_at dksJ23_balanceDeletion_9 21 rfl rfl)
theorem dJ23_balanceDeletion_233 : decode cJ23_balanceDeletion 233 = .ok (.iconst 0, 1) := dk_3 (dk_at dksJ23_balanceDeletion_10 0 rfl rfl)
theorem dJ23_balanceDeletion_234 : decode cJ23_balanceDeletion 234 = .ok (.goto 7, 3) := dk_167 0 7 (dk_at dksJ23_balanceDeletion_10 1 rfl rfl)
theorem dJ23_balanceDeletion_237 : decode cJ23_balanceDeletion 237 = .ok (.aload_n 2, 1) := dk_44 (dk_at dksJ23_balanceDeletion_10 4 rfl rfl)
theorem dJ23_balanceDeletion_238 : decode cJ23_balanceDeletion 238 = .ok (.getfield 93, 3) := dk_180 0 93 (dk_at dksJ23_balanceDeletion_10 5 rfl rfl)
theorem dJ23_balanceDeletion_241 : decode cJ23_balanceDeletion 241 = .ok (.putfield 93, 3) := dk_181 0 93 (dk_at dksJ23_balanceDeletion_10 8 rfl rfl)
theorem dJ23_balanceDeletion_244 : decode cJ23_balanceDeletion 244 = .ok (.aload 4, 2) := dk_25 4 (dk_at dksJ23_balanceDeletion_10 11 rfl rfl)
theorem dJ23_balanceDeletion_246 : decode cJ23_balanceDeletion 246 = .ok (.getfield 42, 3) := dk_180 0 42 (dk_at dksJ23_balanceDeletion_10 13 rfl rfl)
theorem dJ23_balanceDeletion_249 : decode cJ23_balanceDeletion 249 = .ok (.dup, 1) := dk_89 (dk_at dksJ23_balanceDeletion_10 16 rfl rfl)
theorem dJ23_balanceDeletion_250 : decode cJ23_balanceDeletion 250 = .ok (.astore 6, 2) := dk_58 6 (dk_at dksJ23_balanceDeletion_10 17 rfl rfl)
theorem dJ23_balanceDeletion_252 : decode cJ23_balanceDeletion 252 = .ok (.ifnull 9, 3) := dk_198 0 9 (dk_at dksJ23_balanceDeletion_10 19 rfl rfl)
theorem dJ23_balanceDeletion_255 : decode cJ23_balanceDeletion 255 = .ok (.aload 6, 2) := dk_25 6 (dk_at dksJ23_balanceDeletion_10 22 rfl rfl)
theorem dJ23_balanceDeletion_257 : decode cJ23_balanceDeletion 257 = .ok (.iconst 0, 1) := dk_3 (dk_at dksJ23_balanceDeletion_11 0 rfl rfl)
theorem dJ23_balanceDeletion_258 : decode cJ23_balanceDeletion 258 = .ok (.putfield 93, 3) := dk_181 0 93 (dk_at dksJ23_balanceDeletion_11 1 rfl rfl)
theorem dJ23_balanceDeletion_261 : decode cJ23_balanceDeletion 261 = .ok (.aload_n 2, 1) := dk_44 (dk_at dksJ23_balanceDeletion_11 4 rfl rfl)
theorem dJ23_balanceDeletion_262 : decode cJ23_balanceDeletion 262 = .ok (.ifnull 14, 3) := dk_198 0 14 (dk_at dksJ23_balanceDeletion_11 5 rfl rfl)
theorem dJ23_balanceDeletion_265 : decode cJ23_balanceDeletion 265 = .ok (.aload_n 2, 1) := dk_44 (dk_at dksJ23_balanceDeletion_11 8 rfl rfl)
theorem dJ23_balanceDeletion_266 : decode cJ23_balanceDeletion 266 = .ok (.iconst 0, 1) := dk_3 (dk_at dksJ23_balanceDeletion_11 9 rfl rfl)
theorem dJ23_balanceDeletion_267 : decode cJ23_balanceDeletion 267 = .ok (.putfield 93, 3) := dk_181 0 93 (dk_at dksJ23_balanceDeletion_11 10 rfl rfl)
theorem dJ23_balanceDeletion_270 : decode cJ23_balanceDeletion 270 = .ok (.aload_n 0, 1) := dk_42 (dk_at dksJ23_balanceDeletion_11 13 rfl rfl)
theorem dJ23_balanceDeletion_271 : decode cJ23_balanceDeletion 271 = .ok (.aload_n 2, 1) := dk_44 (dk_at dksJ23_balanceDeletion_11 14 rfl rfl)
theorem dJ23_balanceDeletion_272 : decode cJ23_balanceDeletion 272 = .ok (.invokestatic 130, 3) := dk_184 0 130 (dk_at dksJ23_balanceDeletion_11 15 rfl rfl)
theorem dJ23_balanceDeletion_275 : decode cJ23_balanceDeletion 275 = .ok (.astore_n 0, 1) := dk_75 (dk_at dksJ23_balanceDeletion_11 18 rfl rfl)
theorem dJ23_balanceDeletion_276 : decode cJ23_balanceDeletion 276 = .ok (.aload_n 0, 1) := dk_42 (dk_at dksJ23_balanceDeletion_11 19 rfl rfl)
theorem dJ23_balanceDeletion_277 : decode cJ23_balanceDeletion 277 = .ok (.astore_n 1, 1) := dk_76 (dk_at dksJ23_balanceDeletion_11 20 rfl rfl)
theorem dJ23_balanceDeletion_278 : decode cJ23_balanceDeletion 278 = .ok (.goto (-278), 3) := dk_167 254 234 (dk_at dksJ23_balanceDeletion_11 21 rfl rfl)
theorem dJ23_balanceDeletion_281 : decode cJ23_balanceDeletion 281 = .ok (.aload_n 3, 1) := dk_45 (dk_at dksJ23_balanceDeletion_12 0 rfl rfl)
theorem dJ23_balanceDeletion_282 : decode cJ23_balanceDeletion 282 = .ok (.ifnull 44, 3) := dk_198 0 44 (dk_at dksJ23_balanceDeletion_12 1 rfl rfl)
theorem dJ23_balanceDeletion_285 : decode cJ23_balanceDeletion 285 = .ok (.aload_n 3, 1) := dk_45 (dk_at dksJ23_balanceDeletion_12 4 rfl rfl)
theorem dJ23_balanceDeletion_286 : decode cJ23_balanceDeletion 286 = .ok (.getfield 93, 3) := dk_180 0 93 (dk_at dksJ23_balanceDeletion_12 5 rfl rfl)
theorem dJ23_balanceDeletion_289 : decode cJ23_balanceDeletion 289 = .ok (.ifCond .eq 37, 3) := dk_153 0 37 (dk_at dksJ23_balanceDeletion_12 8 rfl rfl)
theorem dJ23_balanceDeletion_292 : decode cJ23_balanceDeletion 292 = .ok (.aload_n 3, 1) := dk_45 (dk_at dksJ23_balanceDeletion_12 11 rfl rfl)
theorem dJ23_balanceDeletion_293 : decode cJ23_balanceDeletion 293 = .ok (.iconst 0, 1) := dk_3 (dk_at dksJ23_balanceDeletion_12 12 rfl rfl)
theorem dJ23_balanceDeletion_294 : decode cJ23_balanceDeletion 294 = .ok (.putfield 93, 3) := dk_181 0 93 (dk_at dksJ23_balanceDeletion_12 13 rfl rfl)
theorem dJ23_balanceDeletion_297 : decode cJ23_balanceDeletion 297 = .ok (.aload_n 2, 1) := dk_44 (dk_at dksJ23_balanceDeletion_12 16 rfl rfl)
theorem dJ23_balanceDeletion_298 : decode cJ23_balanceDeletion 298 = .ok (.iconst 1, 1) := dk_4 (dk_at dksJ23_balanceDeletion_12 17 rfl rfl)
theorem dJ23_balanceDeletion_299 : decode cJ23_balanceDeletion 299 = .ok (.putfield 93, 3) := dk_181 0 93 (dk_at dksJ23_balanceDeletion_12 18 rfl rfl)
theorem dJ23_balanceDeletion_302 : decode cJ23_balanceDeletion 302 = .ok (.aload_n 0, 1) := dk_42 (dk_at dksJ23_balanceDeletion_12 21 rfl rfl)
theorem dJ23_balanceDeletion_303 : decode cJ23_balanceDeletion 303 = .ok (.aload_n 2, 1) := dk_44 (dk_at dksJ23_balanceDeletion_12 22 rfl rfl)
theorem dJ23_balanceDeletion_304 : decode cJ23_balanceDeletion 304 = .ok (.invokestatic 133, 3) := dk_184 0 133 (dk_at dksJ23_balanceDeletion_13 0 rfl rfl)
theorem dJ23_balanceDeletion_307 : decode cJ23_balanceDeletion 307 = .ok (.astore_n 0, 1) := dk_75 (dk_at dksJ23_balanceDeletion_13 3 rfl rfl)
theorem dJ23_balanceDeletion_308 : decode cJ23_balanceDeletion 308 = .ok (.aload_n 1, 1) := dk_43 (dk_at dksJ23_balanceDeletion_13 4 rfl rfl)
theorem dJ23_balanceDeletion_309 : decode cJ23_balanceDeletion 309 = .ok (.getfield 9, 3) := dk_180 0 9 (dk_at dksJ23_balanceDeletion_13 5 rfl rfl)
theorem dJ23_balanceDeletion_312 : decode cJ23_balanceDeletion 312 = .ok (.dup, 1) := dk_89 (dk_at dksJ23_balanceDeletion_13 8 rfl rfl)
theorem dJ23_balanceDeletion_313 : decode cJ23_balanceDeletion 313 = .ok (.astore_n 2, 1) := dk_77 (dk_at dksJ23_balanceDeletion_13 9 rfl rfl)
theorem dJ23_balanceDeletion_314 : decode cJ23_balanceDeletion 314 = .ok (.ifnonnull 7, 3) := dk_199 0 7 (dk_at dksJ23_balanceDeletion_13 10 rfl rfl)
theorem dJ23_balanceDeletion_317 : decode cJ23_balanceDeletion 317 = .ok (.aconst_null, 1) := dk_1 (dk_at dksJ23_balanceDeletion_13 13 rfl rfl)
theorem dJ23_balanceDeletion_318 : decode cJ23_balanceDeletion 318 = .ok (.goto 7, 3) := dk_167 0 7 (dk_at dksJ23_balanceDeletion_13 14 rfl rfl)
theorem dJ23_balanceDeletion_321 : decode cJ23_balanceDeletion 321 = .ok (.aload_n 2, 1) := dk_44 (dk_at dksJ23_balanceDeletion_13 17 rfl rfl)
theorem dJ23_balanceDeletion_322 : decode cJ23_balanceDeletion 322 = .ok (.getfield 39, 3) := dk_180 0 39 (dk_at dksJ23_balanceDeletion_13 18 rfl rfl)
theorem dJ23_balanceDeletion_325 : decode cJ23_balanceDeletion 325 = .ok (.astore_n 3, 1) := dk_78 (dk_at dksJ23_balanceDeletion_13 21 rfl rfl)
theorem dJ23_balanceDeletion_326 : decode cJ23_balanceDeletion 326 = .ok (.aload_n 3, 1) := dk_45 (dk_at dksJ23_balanceDeletion_13 22 rfl rfl)
theorem dJ23_balanceDeletion_327 : decode cJ23_balanceDeletion 327 = .ok (.ifnonnull 8, 3) := dk_199 0 8 (dk_at dksJ23_balanceDeletion_14 0 rfl rfl)
theorem dJ23_balanceDeletion_330 : decode cJ23_balanceDeletion 330 = .ok (.aload_n 2, 1) := dk_44 (dk_at dksJ23_balanceDeletion_14 3 rfl rfl)
theorem dJ23_balanceDeletion_331 : decode cJ23_balanceDeletion 331 = .ok (.astore_n 1, 1) := dk_76 (dk_at dksJ23_balanceDeletion_14 4 rfl rfl)
theorem dJ23_balanceDeletion_332 : decode cJ23_balanceDeletion 332 = .ok (.goto (-332), 3) := dk_167 254 180 (dk_at dksJ23_balanceDeletion_14 5 rfl rfl)
theorem dJ23_balanceDeletion_335 : decode cJ23_balanceDeletion 335 = .ok (.aload_n 3, 1) := dk_45 (dk_at dksJ23_balanceDeletion_14 8 rfl rfl)
theorem dJ23_balanceDeletion_336 : decode cJ23_balanceDeletion 336 = .ok (.getfield 39, 3) := dk_180 0 39 (dk_at dksJ23_balanceDeletion_14 9 rfl rfl)
theorem dJ23_balanceDeletion_339 : decode cJ23_balanceDeletion 339 = .ok (.astore 5, 2) := dk_58 5 (dk_at dksJ23_balanceDeletion_14 12 rfl rfl)
theorem dJ23_balanceDeletion_341 : decode cJ23_balanceDeletion 341 = .ok (.aload_n 3, 1) := dk_45 (dk_at dksJ23_balanceDeletion_14 14 rfl rfl)
theorem dJ23_balanceDeletion_342 : decode cJ23_balanceDeletion 342 = .ok (.getfield 42, 3) := dk_180 0 42 (dk_at dksJ23_balanceDeletion_14 15 rfl rfl)
theorem dJ23_balanceDeletion_345 : decode cJ23_balanceDeletion 345 = .ok (.astore 6, 2) := dk_58 6 (dk_at dksJ23_balanceDeletion_14 18 rfl rfl)
theorem dJ23_balanceDeletion_347 : decode cJ23_balanceDeletion 347 = .ok (.aload 5, 2) := dk_25 5 (dk_at dksJ23_balanceDeletion_14 20 rfl rfl)
theorem dJ23_balanceDeletion_349 : decode cJ23_balanceDeletion 349 = .ok (.ifnull 11, 3) := dk_198 0 11 (dk_at dksJ23_balanceDeletion_15 0 rfl rfl)
theorem dJ23_balanceDeletion_352 : decode cJ23_balanceDeletion 352 = .ok (.aload 5, 2) := dk_25 5 (dk_at dksJ23_balanceDeletion_15 3 rfl rfl)
theorem dJ23_balanceDeletion_354 : decode cJ23_balanceDeletion 354 = .ok (.getfield 93, 3) := dk_180 0 93 (dk_at dksJ23_balanceDeletion_15 5 rfl rfl)
theorem dJ23_balanceDeletion_357 : decode cJ23_balanceDeletion 357 = .ok (.ifCond .ne 26, 3) := dk_154 0 26 (dk_at dksJ23_balanceDeletion_15 8 rfl rfl)
theorem dJ23_balanceDeletion_360 : decode cJ23_balanceDeletion 360 = .ok (.aload 6, 2) := dk_25 6 (dk_at dksJ23_balanceDeletion_15 11 rfl rfl)
theorem dJ23_balanceDeletion_362 : decode cJ23_balanceDeletion 362 = .ok (.ifnull 11, 3) := dk_198 0 11 (dk_at dksJ23_balanceDeletion_15 13 rfl rfl)
theorem dJ23_balanceDeletion_365 : decode cJ23_balanceDeletion 365 = .ok (.aload 6, 2) := dk_25 6 (dk_at dksJ23_balanceDeletion_15 16 rfl rfl)
theorem dJ23_balanceDeletion_367 : decode cJ23_balanceDeletion 367 = .ok (.getfield 93, 3) := dk_180 0 93 (dk_at dksJ23_balanceDeletion_15 18 rfl rfl)
theorem dJ23_balanceDeletion_370 : decode cJ23_balanceDeletion 370 = .ok (.ifCond .ne 13, 3) := dk_154 0 13 (dk_at dksJ23_balanceDeletion_15 21 rfl rfl)
theorem dJ23_balanceDeletion_373 : decode cJ23_balanceDeletion 373 = .ok (.aload_n 3, 1) := dk_45 (dk_at dksJ23_balanceDeletion_16 0 rfl rfl)
theorem dJ23_balanceDeletion_374 : decode cJ23_balanceDeletion 374 = .ok (.iconst 1, 1) := dk_4 (dk_at dksJ23_balanceDeletion_16 1 rfl rfl)
theorem dJ23_balanceDeletion_375 : decode cJ23_balanceDeletion 375 = .ok (.putfield 93, 3) := dk_181 0 93 (dk_at dksJ23_balanceDeletion_16 2 rfl rfl)
theorem dJ23_balanceDeletion_378 : decode cJ23_balanceDeletion 378 = .ok (.aload_n 2, 1) := dk_44 (dk_at dksJ23_balanceDeletion_16 5 rfl rfl)
theorem dJ23_balanceDeletion_379 : decode cJ23_balanceDeletion 379 = .ok (.astore_n 1, 1) := dk_76 (dk_at dksJ23_balanceDeletion_16 6 rfl rfl)
theorem dJ23_balanceDeletion_380 : decode cJ23_balanceDeletion 380 = .ok (.goto 109, 3) := dk_167 0 109 (dk_at dksJ23_balanceDeletion_16 7 rfl rfl)
theorem dJ23_balanceDeletion_383 : decode cJ23_balanceDeletion 383 = .ok (.aload 5, 2) := dk_25 5 (dk_at dksJ23_balanceDeletion_16 10 rfl rfl)
theorem dJ23_balanceDeletion_385 : decode cJ23_balanceDeletion 385 = .ok (.ifnull 11, 3) := dk_198 0 11 (dk_at dksJ23_balanceDeletion_16 12 rfl rfl)
theorem dJ23_balanceDeletion_388 : decode cJ23_balanceDeletion 388 = .ok (.aload 5, 2) := dk_25 5 (dk_at dksJ23_balanceDeletion_16 15 rfl rfl)
theorem dJ23_balanceDeletion_390 : decode cJ23_balanceDeletion 390 = .ok (.getfield 93, 3) := dk_180 0 93 (dk_at dksJ23_balanceDeletion_16 17 rfl rfl)
theorem dJ23_balanceDeletion_393 : decode cJ23_balanceDeletion 393 = .ok (.ifCond .ne 43, 3) := dk_154 0 43 (dk_at dksJ23_balanceDeletion_16 20 rfl rfl)
theorem dJ23_balanceDeletion_396 : decode cJ23_balanceDeletion 396 = .ok (.aload 6, 2) := dk_25 6 (dk_at dksJ23_balanceDeletion_17 0 rfl rfl)
theorem dJ23_balanceDeletion_398 : decode cJ23_balanceDeletion 398 = .ok (.ifnull 9, 3) := dk_198 0 9 (dk_at dksJ23_balanceDeletion_17 2 rfl rfl)
theorem dJ23_balanceDeletion_401 : decode cJ23_balanceDeletion 401 = .ok (.aload 6, 2) := dk_25 6 (dk_at dksJ23_balanceDeletion_17 5 rfl rfl)
theorem dJ23_balanceDeletion_403 : decode cJ23_balanceDeletion 403 = .ok (.iconst 0, 1) := dk_3 (dk_at dksJ23_balanceDeletion_17 7 rfl rfl)
theorem dJ23_balanceDeletion_404 : decode cJ23_balanceDeletion 404 = .ok (.putfield 93, 3) := dk_181 0 93 (dk_at dksJ23_balanceDeletion_17 8 rfl rfl)
theorem dJ23_balanceDeletion_407 : decode cJ23_balanceDeletion 407 = .ok (.aload_n 3, 1) := dk_45 (dk_at dksJ23_balanceDeletion_17 11 rfl rfl)
theorem dJ23_balanceDeletion_408 : decode cJ23_balanceDeletion 408 = .ok (.iconst 1, 1) := dk_4 (dk_at dksJ23_balanceDeletion_17 12 rfl rfl)
theorem dJ23_balanceDeletion_409 : decode cJ23_balanceDeletion 409 = .ok (.putfield 93, 3) := dk_181 0 93 (dk_at dksJ23_balanceDeletion_17 13 rfl rfl)
theorem dJ23_balanceDeletion_412 : decode cJ23_balanceDeletion 412 = .ok (.aload_n 0, 1) := dk_42 (dk_at dksJ23_balanceDeletion_17 16 rfl rfl)
theorem dJ23_balanceDeletion_413 : decode cJ23_balanceDeletion 413 = .ok (.aload_n 3, 1) := dk_45 (dk_at dksJ23_balanceDeletion_17 17 rfl rfl)
theorem dJ23_balanceDeletion_414 : decode cJ23_balanceDeletion 414 = .ok (.invokestatic 130, 3) := dk_184 0 130 (dk_at dksJ23_balanceDeletion_17 18 rfl rfl)
theorem dJ23_balanceDeletion_417 : decode cJ23_balanceDeletion 417 = .ok (.astore_n 0, 1) := dk_75 (dk_at dksJ23_balanceDeletion_17 21 rfl rfl)
theorem dJ23_balanceDeletion_418 : decode cJ23_balanceDeletion 418 = .ok (.aload_n 1, 1) := dk_43 (dk_at dksJ23_balanceDeletion_17 22 rfl rfl)
theorem dJ23_balanceDeletion_419 : decode cJ23_balanceDeletion 419 = .ok (.getfield 9, 3) := dk_180 0 9 (dk_at dksJ23_balanceDeletion_18 0 rfl rfl)
theorem dJ23_balanceDeletion_422 : decode cJ23_balanceDeletion 422 = .ok (.dup, 1) := dk_89 (dk_at dksJ23_balanceDeletion_18 3 rfl rfl)
theorem dJ23_balanceDeletion_423 : decode cJ23_balanceDeletion 423 = .ok (.astore_n 2, 1) := dk_77 (dk_at dksJ23_balanceDeletion_18 4 rfl rfl)
theorem dJ23_balanceDeletion_424 : decode cJ23_balanceDeletion 424 = .ok (.ifnonnull 7, 3) := dk_199 0 7 (dk_at dksJ23_balanceDeletion_18 5 rfl rfl)
theorem dJ23_balanceDeletion_427 : decode cJ23_balanceDeletion 427 = .ok (.aconst_null, 1) := dk_1 (dk_at dksJ23_balanceDeletion_18 8 rfl rfl)
theorem dJ23_balanceDeletion_428 : decode cJ23_balanceDeletion 428 = .ok (.goto 7, 3) := dk_167 0 7 (dk_at dksJ23_balanceDeletion_18 9 rfl rfl)
theorem dJ23_balanceDeletion_431 : decode cJ23_balanceDeletion 431 = .ok (.aload_n 2, 1) := dk_44 (dk_at dksJ23_balanceDeletion_18 12 rfl rfl)
theorem dJ23_balanceDeletion_432 : decode cJ23_balanceDeletion 432 = .ok (.getfield 39, 3) := dk_180 0 39 (dk_at dksJ23_balanceDeletion_18 13 rfl rfl)
theorem dJ23_balanceDeletion_435 : decode cJ23_balanceDeletion 435 = .ok (.astore_n 3, 1) := dk_78 (dk_at dksJ23_balanceDeletion_18 16 rfl rfl)
theorem dJ23_balanceDeletion_436 : decode cJ23_balanceDeletion 436 = .ok (.aload_n 3, 1) := dk_45 (dk_at dksJ23_balanceDeletion_18 17 rfl rfl)
theorem dJ23_balanceDeletion_437 : decode cJ23_balanceDeletion 437 = .ok (.ifnull 35, 3) := dk_198 0 35 (dk_at dksJ23_balanceDeletion_18 18 rfl rfl)
theorem dJ23_balanceDeletion_440 : decode cJ23_balanceDeletion 440 = .ok (.aload_n 3, 1) := dk_45 (dk_at dksJ23_balanceDeletion_18 21 rfl rfl)
theorem dJ23_balanceDeletion_441 : decode cJ23_balanceDeletion 441 = .ok (.aload_n 2, 1) := dk_44 (dk_at dksJ23_balanceDeletion_18 22 rfl rfl)
theorem dJ23_balanceDeletion_442 : decode cJ23_balanceDeletion 442 = .ok (.ifnonnull 7, 3) := dk_199 0 7 (dk_at dksJ23_balanceDeletion_19 0 rfl rfl)
theorem dJ23_balanceDeletion_445 : decode cJ23_balanceDeletion 445 = .ok (.iconst 0, 1) := dk_3 (dk_at dksJ23_balanceDeletion_19 3 rfl rfl)
theorem dJ23_balanceDeletion_446 : decode cJ23_balanceDeletion 446 = .ok (.goto 7, 3) := dk_167 0 7 (dk_at dksJ23_balanceDeletion_19 4 rfl rfl)
theorem dJ23_balanceDeletion_449 : decode cJ23_balanceDeletion 449 = .ok (.aload_n 2, 1) := dk_44 (dk_at dksJ23_balanceDeletion_19 7 rfl rfl)
theorem dJ23_balanceDeletion_450 : decode cJ23_balanceDeletion 450 = .ok (.getfield 93, 3) := dk_180 0 93 (dk_at dksJ23_balanceDeletion_19 8 rfl rfl)
theorem dJ23_balanceDeletion_453 : decode cJ23_balanceDeletion 453 = .ok (.putfield 93, 3) := dk_181 0 93 (dk_at dksJ23_balanceDeletion_19 11 rfl rfl)
theorem dJ23_balanceDeletion_456 : decode cJ23_balanceDeletion 456 = .ok (.aload_n 3, 1) := dk_45 (dk_at dksJ23_balanceDeletion_19 14 rfl rfl)
theorem dJ23_balanceDeletion_457 : decode cJ23_balanceDeletion 457 = .ok (.getfield 39, 3) := dk_180 0 39 (dk_at dksJ23_balanceDeletion_19 15 rfl rfl)
theorem dJ23_balanceDeletion_460 : decode cJ23_balanceDeletion 460 = .ok (.dup, 1) := dk_89 (dk_at dksJ23_balanceDeletion_19 18 rfl rfl)
theorem dJ23_balanceDeletion_461 : decode cJ23_balanceDeletion 461 = .ok (.astore 5, 2) := dk_58 5 (dk_at dksJ23_balanceDeletion_19 19 rfl rfl)
theorem dJ23_balanceDeletion_463 : decode cJ23_balanceDeletion 463 = .ok (.ifnull 9, 3) := dk_198 0 9 (dk_at dksJ23_balanceDeletion_19 21 rfl rfl)
theorem dJ23_balanceDeletion_466 : decode cJ23_balanceDeletion 466 = .ok (.aload 5, 2) := dk_25 5 (dk_at dksJ23_balanceDeletion_20 0 rfl rfl)
theorem dJ23_balanceDeletion_468 : decode cJ23_balanceDeletion 468 = .ok (.iconst 0, 1) := dk_3 (dk_at dksJ23_balanceDeletion_20 2 rfl rfl)
theorem dJ23_balanceDeletion_469 : decode cJ23_balanceDeletion 469 = .ok (.putfield 93, 3) := dk_181 0 93 (dk_at dksJ23_balanceDeletion_20 3 rfl rfl)
theorem dJ23_balanceDeletion_472 : decode cJ23_balanceDeletion 472 = .ok (.aload_n 2, 1) := dk_44 (dk_at dksJ23_balanceDeletion_20 6 rfl rfl)
theorem dJ23_balanceDeletion_473 : decode cJ23_balanceDeletion 473 = .ok (.ifnull 14, 3) := dk_198 0 14 (dk_at dksJ23_balanceDeletion_20 7 rfl rfl)
theorem dJ23_balanceDeletion_476 : decode cJ23_balanceDeletion 476 = .ok (.aload_n 2, 1) := dk_44 (dk_at dksJ23_balanceDeletion_20 10 rfl rfl)
theorem dJ23_balanceDeletion_477 : decode cJ23_balanceDeletion 477 = .ok (.iconst 0, 1) := dk_3 (dk_at dksJ23_balanceDeletion_20 11 rfl rfl)
theorem dJ23_balanceDeletion_478 : decode cJ23_balanceDeletion 478 = .ok (.putfield 93, 3) := dk_181 0 93 (dk_at dksJ23_balanceDeletion_20 12 rfl rfl)
theorem dJ23_balanceDeletion_481 : decode cJ23_balanceDeletion 481 = .ok (.aload_n 0, 1) := dk_42 (dk_at dksJ23_balanceDeletion_20 15 rfl rfl)
theorem dJ23_balanceDeletion_482 : decode cJ23_balanceDeletion 482 = .ok (.aload_n 2, 1) := dk_44 (dk_at dksJ23_balanceDeletion_20 16 rfl rfl)
theorem dJ23_balanceDeletion_483 : decode cJ23_balanceDeletion 483 = .ok (.invokestatic 133, 3) := dk_184 0 133 (dk_at dksJ23_balanceDeletion_20 17 rfl rfl)
theorem dJ23_balanceDeletion_486 : decode cJ23_balanceDeletion 486 = .ok (.astore_n 0, 1) := dk_75 (dk_at dksJ23_balanceDeletion_20 20 rfl rfl)
theorem dJ23_balanceDeletion_487 : decode cJ23_balanceDeletion 487 = .ok (.aload_n 0, 1) := dk_42 (dk_at dksJ23_balanceDeletion_20 21 rfl rfl)
theorem dJ23_balanceDeletion_488 : decode cJ23_balanceDeletion 488 = .ok (.astore_n 1, 1) := dk_76 (dk_at dksJ23_balanceDeletion_20 22 rfl rfl)
theorem dJ23_balanceDeletion_489 : decode cJ23_balanceDeletion 489 = .ok (.goto (-489), 3) := dk_167 254 23 (dk_at dksJ23_balanceDeletion_21 0 rfl rfl)
theorem q111 : (Jvm.Cond.initialized "java/util/HashMap$TreeNode") ∈ lw_all := lw_g (lw_at lw_m1 35 rfl) rfl
theorem q496 : (Jvm.Cond.selects "java/util/HashMap$TreeNode" ({ cls := "java/lang/Object", name := "getClass", desc := "()Ljava/lang/Class;" } : Jvm.MethodName) ({ cls := "java/lang/Object", name := "getClass", desc := "()Ljava/lang/Class;" } : Jvm.MethodName)) ∈ lw_all := lw_g (lw_at lw_m2 180 rfl) rfl
theorem q741 : (Jvm.Cond.instanceMethod ({ cls := "java/util/HashMap$TreeNode", name := "split", desc := "(Ljava/util/HashMap;[Ljava/util/HashMap$Node;II)V" } : Jvm.MethodName)) ∈ lw_all := lw_g (lw_at lw_m3 185 rfl) rfl
theorem q742 : (Jvm.Cond.selects "java/util/HashMap$TreeNode" ({ cls := "java/util/HashMap$TreeNode", name := "split", desc := "(Ljava/util/HashMap;[Ljava/util/HashMap$Node;II)V" } : Jvm.MethodName) ({ cls := "java/util/HashMap$TreeNode", name := "split", desc := "(Ljava/util/HashMap;[Ljava/util/HashMap$Node;II)V" } : Jvm.MethodName)) ∈ lw_all := lw_g (lw_at lw_m3 186 rfl) rfl
theorem q743 : (Jvm.Cond.code ({ cls := "java/util/HashMap$TreeNode", name := "split", desc := "(Ljava/util/HashMap;[Ljava/util/HashMap$Node;II)V" } : Jvm.MethodName) prog_47_method_11_code (14 : Nat) (Option.none : Option Jvm.ClassFile.FieldType)) ∈ lw_all := lw_g (lw_at lw_m3 187 rfl) rfl
theorem q744 : (Jvm.Cond.classLink "java/util/HashMap$TreeNode" (10 : Nat) "java/util/HashMap$TreeNode") ∈ lw_all := lw_g (lw_at lw_m3 188 rfl) rfl
theorem q745 : (Jvm.Cond.methodLink "java/util/HashMap$TreeNode" (119 : Nat) ({ cls := "java/util/HashMap$TreeNode", name := "untreeify", desc := "(Ljava/util/HashMap;)Ljava/util/HashMap$Node;" } : Jvm.MethodName)) ∈ lw_all := lw_g (lw_at lw_m3 189 rfl) rfl
theorem q746 : (Jvm.Cond.instanceMethod ({ cls := "java/util/HashMap$TreeNode", name := "untreeify", desc := "(Ljava/util/HashMap;)Ljava/util/HashMap$Node;" } : Jvm.MethodName)) ∈ lw_all := lw_g (lw_at lw_m3 190 rfl) rfl
theorem q747 : (Jvm.Cond.selects "java/util/HashMap$TreeNode" ({ cls := "java/util/HashMap$TreeNode", name := "untreeify", desc := "(Ljava/util/HashMap;)Ljava/util/HashMap$Node;" } : Jvm.MethodName) ({ cls := "java/util/HashMap$TreeNode", name := "untreeify", desc := "(Ljava/util/HashMap;)Ljava/util/HashMap$Node;" } : Jvm.MethodName)) ∈ lw_all := lw_g (lw_at lw_m3 191 rfl) rfl
theorem q748 : (Jvm.Cond.code ({ cls := "java/util/HashMap$TreeNode", name := "untreeify", desc := "(Ljava/util/HashMap;)Ljava/util/HashMap$Node;" } : Jvm.MethodName) prog_47_method_8_code (6 : Nat) (Option.some (Jvm.ClassFile.FieldType.object "java/util/HashMap$Node"))) ∈ lw_all := lw_g (lw_at lw_m3 192 rfl) rfl
theorem q749 : (Jvm.Cond.methodLink "java/util/HashMap$TreeNode" (108 : Nat) ({ cls := "java/util/HashMap", name := "replacementNode", desc := "(Ljava/util/HashMap$Node;Ljava/util/HashMap$Node;)Ljava/util/HashMap$Node;" } : Jvm.MethodName)) ∈ lw_all := lw_g (lw_at lw_m3 193 rfl) rfl
theorem q759 : (Jvm.Cond.fieldLink "java/util/HashMap$TreeNode" (15 : Nat) "java/util/HashMap$TreeNode" "hash" "I") ∈ lw_all := lw_g (lw_at lw_m3 203 rfl) rfl
theorem q760 : (Jvm.Cond.sameField "java/util/HashMap$TreeNode" "java/util/HashMap$Node" "hash" "I") ∈ lw_all := lw_g (lw_at lw_m3 204 rfl) rfl
theorem q763 : (Jvm.Cond.fieldLink "java/util/HashMap$TreeNode" (45 : Nat) "java/util/HashMap$TreeNode" "key" "Ljava/lang/Object;") ∈ lw_all := lw_g (lw_at lw_m3 207 rfl) rfl
theorem q764 : (Jvm.Cond.sameField "java/util/HashMap$TreeNode" "java/util/HashMap$Node" "key" "Ljava/lang/Object;") ∈ lw_all := lw_g (lw_at lw_m3 208 rfl) rfl
theorem q770 : (Jvm.Cond.fieldLink "java/util/HashMap$TreeNode" (22 : Nat) "java/util/HashMap$TreeNode" "next" "Ljava/util/HashMap$Node;") ∈ lw_all := lw_g (lw_at lw_m3 214 rfl) rfl
theorem q771 : (Jvm.Cond.sameField "java/util/HashMap$TreeNode" "java/util/HashMap$Node" "next" "Ljava/util/HashMap$Node;") ∈ lw_all := lw_g (lw_at lw_m3 215 rfl) rfl
theorem q772 : (Jvm.Cond.fieldLink "java/util/HashMap$TreeNode" (112 : Nat) "java/util/HashMap$Node" "next" "Ljava/util/HashMap$Node;") ∈ lw_all := lw_g (lw_at lw_m3 216 rfl) rfl
theorem q784 : (Jvm.Cond.methodLink "java/util/HashMap$TreeNode" (126 : Nat) ({ cls := "java/util/HashMap$TreeNode", name := "treeify", desc := "([Ljava/util/HashMap$Node;)V" } : Jvm.MethodName)) ∈ lw_all := lw_g (lw_at lw_m3 228 rfl) rfl
theorem q785 : (Jvm.Cond.instanceMethod ({ cls := "java/util/HashMap$TreeNode", name := "treeify", desc := "([Ljava/util/HashMap$Node;)V" } : Jvm.MethodName)) ∈ lw_all := lw_g (lw_at lw_m3 229 rfl) rfl
theorem q786 : (Jvm.Cond.selects "java/util/HashMap$TreeNode" ({ cls := "java/util/HashMap$TreeNode", name := "treeify", desc := "([Ljava/util/HashMap$Node;)V" } : Jvm.MethodName) ({ cls := "java/util/HashMap$TreeNode", name := "treeify", desc := "([Ljava/util/HashMap$Node;)V" } : Jvm.MethodName)) ∈ lw_all := lw_g (lw_at lw_m3 230 rfl) rfl
theorem q787 : (Jvm.Cond.code ({ cls := "java/util/HashMap$TreeNode", name := "treeify", desc := "([Ljava/util/HashMap$Node;)V" } : Jvm.MethodName) prog_47_method_7_code (13 : Nat) (Option.none : Option Jvm.ClassFile.FieldType)) ∈ lw_all := lw_g (lw_at lw_m3 231 rfl) rfl
theorem q788 : (Jvm.Cond.methodLink "java/util/HashMap$TreeNode" (55 : Nat) ({ cls := "java/util/HashMap", name := "comparableClassFor", desc := "(Ljava/lang/Object;)Ljava/lang/Class;" } : Jvm.MethodName)) ∈ lw_all := lw_g (lw_at lw_m3 232 rfl) rfl
theorem q794 : (Jvm.Cond.methodLink "java/util/HashMap$TreeNode" (59 : Nat) ({ cls := "java/util/HashMap", name := "compareComparables", desc := "(Ljava/lang/Class;Ljava/lang/Object;Ljava/lang/Object;)I" } : Jvm.MethodName)) ∈ lw_all := lw_g (lw_at lw_m3 238 rfl) rfl
theorem q988 : (Jvm.Cond.methodLink "java/util/HashMap$TreeNode" (100 : Nat) ({ cls := "java/util/HashMap$TreeNode", name := "balanceInsertion", desc := "(Ljava/util/HashMap$TreeNode;Ljava/util/HashMap$TreeNode;)Ljava/util/HashMap$TreeNode;" } : Jvm.MethodName)) ∈ lw_all := lw_g (lw_at lw_m4 192 rfl) rfl
theorem q989 : (Jvm.Cond.static ({ cls := "java/util/HashMap$TreeNode", name := "balanceInsertion", desc := "(Ljava/util/HashMap$TreeNode;Ljava/util/HashMap$TreeNode;)Ljava/util/HashMap$TreeNode;" } : Jvm.MethodName)) ∈ lw_all := lw_g (lw_at lw_m4 193 rfl) rfl
theorem q990 : (Jvm.Cond.code ({ cls := "java/util/HashMap$TreeNode", name := "balanceInsertion", desc := "(Ljava/util/HashMap$TreeNode;Ljava/util/HashMap$TreeNode;)Ljava/util/HashMap$TreeNode;" } : Jvm.MethodName) prog_47_method_14_code (6 : Nat) (Option.some (Jvm.ClassFile.FieldType.object "java/util/HashMap$TreeNode"))) ∈ lw_all := lw_g (lw_at lw_m4 194 rfl) rfl
theorem q991 : (Jvm.Cond.methodLink "java/util/HashMap$TreeNode" (130 : Nat) ({ cls := "java/util/HashMap$TreeNode", name := "rotateLeft", desc := "(Ljava/util/HashMap$TreeNode;Ljava/util/HashMap$TreeNode;)Ljava/util/HashMap$TreeNode;" } : Jvm.MethodName)) ∈ lw_all := lw_g (lw_at lw_m4 195 rfl) rfl
theorem q992 : (Jvm.Cond.static ({ cls := "java/util/HashMap$TreeNode", name := "rotateLeft", desc := "(Ljava/util/HashMap$TreeNode;Ljava/util/HashMap$TreeNode;)Ljava/util/HashMap$TreeNode;" } : Jvm.MethodName)) ∈ lw_all := lw_g (lw_at lw_m4 196 rfl) rfl
theorem q993 : (Jvm.Cond.code ({ cls := "java/util/HashMap$TreeNode", name := "rotateLeft", desc := "(Ljava/util/HashMap$TreeNode;Ljava/util/HashMap$TreeNode;)Ljava/util/HashMap$TreeNode;" } : Jvm.MethodName) prog_47_method_12_code (5 : Nat) (Option.some (Jvm.ClassFile.FieldType.object "java/util/HashMap$TreeNode"))) ∈ lw_all := lw_g (lw_at lw_m4 197 rfl) rfl
theorem q994 : (Jvm.Cond.methodLink "java/util/HashMap$TreeNode" (133 : Nat) ({ cls := "java/util/HashMap$TreeNode", name := "rotateRight", desc := "(Ljava/util/HashMap$TreeNode;Ljava/util/HashMap$TreeNode;)Ljava/util/HashMap$TreeNode;" } : Jvm.MethodName)) ∈ lw_all := lw_g (lw_at lw_m4 198 rfl) rfl
theorem q995 : (Jvm.Cond.static ({ cls := "java/util/HashMap$TreeNode", name := "rotateRight", desc := "(Ljava/util/HashMap$TreeNode;Ljava/util/HashMap$TreeNode;)Ljava/util/HashMap$TreeNode;" } : Jvm.MethodName)) ∈ lw_all := lw_g (lw_at lw_m4 199 rfl) rfl
theorem q996 : (Jvm.Cond.code ({ cls := "java/util/HashMap$TreeNode", name := "rotateRight", desc := "(Ljava/util/HashMap$TreeNode;Ljava/util/HashMap$TreeNode;)Ljava/util/HashMap$TreeNode;" } : Jvm.MethodName) prog_47_method_13_code (5 : Nat) (Option.some (Jvm.ClassFile.FieldType.object "java/util/HashMap$TreeNode"))) ∈ lw_all := lw_g (lw_at lw_m4 200 rfl) rfl
theorem q997 : (Jvm.Cond.methodLink "java/util/HashMap$TreeNode" (104 : Nat) ({ cls := "java/util/HashMap$TreeNode", name := "moveRootToFront", desc := "([Ljava/util/HashMap$Node;Ljava/util/HashMap$TreeNode;)V" } : Jvm.MethodName)) ∈ lw_all := lw_g (lw_at lw_m4 201 rfl) rfl
theorem q998 : (Jvm.Cond.static ({ cls := "java/util/HashMap$TreeNode", name := "moveRootToFront", desc := "([Ljava/util/HashMap$Node;Ljava/util/HashMap$TreeNode;)V" } : Jvm.MethodName)) ∈ lw_all := lw_g (lw_at lw_m4 202 rfl) rfl
theorem q999 : (Jvm.Cond.code ({ cls := "java/util/HashMap$TreeNode", name := "moveRootToFront", desc := "([Ljava/util/HashMap$Node;Ljava/util/HashMap$TreeNode;)V" } : Jvm.MethodName) prog_47_method_3_code (7 : Nat) (Option.none : Option Jvm.ClassFile.FieldType)) ∈ lw_all := lw_g (lw_at lw_m4 203 rfl) rfl
theorem q1000 : (Jvm.Cond.fieldLink "java/util/HashMap$TreeNode" (26 : Nat) "java/util/HashMap$TreeNode" "$assertionsDisabled" "Z") ∈ lw_all := lw_g (lw_at lw_m4 204 rfl) rfl
theorem q1001 : (Jvm.Cond.laysStatic "java/util/HashMap$TreeNode" "$assertionsDisabled" "Z") ∈ lw_tbl := lw_at lw_m4 205 rfl
theorem q1074 : (Jvm.Cond.castable "java/util/HashMap$TreeNode" "java/util/Map$Entry") ∈ lw_tbl := lw_at lw_m5 38 rfl
theorem q1075 : (Jvm.Cond.selects "java/util/HashMap$TreeNode" ({ cls := "java/util/Map$Entry", name := "getKey", desc := "()Ljava/lang/Object;" } : Jvm.MethodName) ({ cls := "java/util/HashMap$Node", name := "getKey", desc := "()Ljava/lang/Object;" } : Jvm.MethodName)) ∈ lw_all := lw_g (lw_at lw_m5 39 rfl) rfl
theorem q1076 : (Jvm.Cond.unhidden "java/util/HashMap$TreeNode" "getKey" "()Ljava/lang/Object;") ∈ lw_tbl := lw_at lw_m5 40 rfl
theorem q1086 : (Jvm.Cond.selects "java/util/HashMap$TreeNode" ({ cls := "java/util/Map$Entry", name := "getValue", desc := "()Ljava/lang/Object;" } : Jvm.MethodName) ({ cls := "java/util/HashMap$Node", name := "getValue", desc := "()Ljava/lang/Object;" } : Jvm.MethodName)) ∈ lw_all := lw_g (lw_at lw_m5 50 rfl) rfl
theorem q1087 : (Jvm.Cond.unhidden "java/util/HashMap$TreeNode" "getValue" "()Ljava/lang/Object;") ∈ lw_tbl := lw_at lw_m5 51 rfl
theorem q1154 : (Jvm.Cond.instanceMethod ({ cls := "java/util/HashMap$TreeNode", name := "putTreeVal", desc := "(Ljava/util/HashMap;[Ljava/util/HashMap$Node;ILjava/lang/Object;Ljava/lang/Object;)Ljava/util/HashMap$TreeNode;" } : Jvm.MethodName)) ∈ lw_all := lw_g (lw_at lw_m5 118 rfl) rfl
theorem q1155 : (Jvm.Cond.selects "java/util/HashMap$TreeNode" ({ cls := "java/util/HashMap$TreeNode", name := "putTreeVal", desc := "(Ljava/util/HashMap;[Ljava/util/HashMap$Node;ILjava/lang/Object;Ljava/lang/Object;)Ljava/util/HashMap$TreeNode;" } : Jvm.MethodName) ({ cls := "java/util/HashMap$TreeNode", name := "putTreeVal", desc := "(Ljava/util/HashMap;[Ljava/util/HashMap$Node;ILjava/lang/Object;Ljava/lang/Object;)Ljava/util/HashMap$TreeNode;" } : Jvm.MethodName)) ∈ lw_all := lw_g (lw_at lw_m5 119 rfl) rfl
theorem q1156 : (Jvm.Cond.code ({ cls := "java/util/HashMap$TreeNode", name := "putTreeVal", desc := "(Ljava/util/HashMap;[Ljava/util/HashMap$Node;ILjava/lang/Object;Ljava/lang/Object;)Ljava/util/HashMap$TreeNode;" } : Jvm.MethodName) prog_47_method_9_code (16 : Nat) (Option.some (Jvm.ClassFile.FieldType.object "java/util/HashMap$TreeNode"))) ∈ lw_all := lw_g (lw_at lw_m5 120 rfl) rfl
theorem q1157 : (Jvm.Cond.methodLink "java/util/HashMap$TreeNode" (67 : Nat) ({ cls := "java/util/HashMap$TreeNode", name := "root", desc := "()Ljava/util/HashMap$TreeNode;" } : Jvm.MethodName)) ∈ lw_all := lw_g (lw_at lw_m5 121 rfl) rfl
theorem q1158 : (Jvm.Cond.instanceMethod ({ cls := "java/util/HashMap$TreeNode", name := "root", desc := "()Ljava/util/HashMap$TreeNode;" } : Jvm.MethodName)) ∈ lw_all := lw_g (lw_at lw_m5 122 rfl) rfl
theorem q1159 : (Jvm.Cond.selects "java/util/HashMap$TreeNode" ({ cls := "java/util/HashMap$TreeNode", name := "root", desc := "()Ljava/util/HashMap$TreeNode;" } : Jvm.MethodName) ({ cls := "java/util/HashMap$TreeNode", name := "root", desc := "()Ljava/util/HashMap$TreeNode;" } : Jvm.MethodName)) ∈ lw_all := lw_g (lw_at lw_m5 123 rfl) rfl
theorem q1160 : (Jvm.Cond.code ({ cls := "java/util/HashMap$TreeNode", name := "root", desc := "()Ljava/util/HashMap$TreeNode;" } : Jvm.MethodName) prog_47_method_2_code (3 : Nat) (Option.some (Jvm.ClassFile.FieldType.object "java/util/HashMap$TreeNode"))) ∈ lw_all := lw_g (lw_at lw_m5 124 rfl) rfl
theorem q1161 : (Jvm.Cond.methodLink "java/util/HashMap$TreeNode" (49 : Nat) ({ cls := "java/lang/Object", name := "equals", desc := "(Ljava/lang/Object;)Z" } : Jvm.MethodName)) ∈ lw_all := lw_g (lw_at lw_m5 125 rfl) rfl
theorem q1162 : (Jvm.Cond.methodLink "java/util/HashMap$TreeNode" (63 : Nat) ({ cls := "java/util/HashMap$TreeNode", name := "find", desc := "(ILjava/lang/Object;Ljava/lang/Class;)Ljava/util/HashMap$TreeNode;" } : Jvm.MethodName)) ∈ lw_all := lw_g (lw_at lw_m5 126 rfl) rfl
theorem q1163 : (Jvm.Cond.instanceMethod ({ cls := "java/util/HashMap$TreeNode", name := "find", desc := "(ILjava/lang/Object;Ljava/lang/Class;)Ljava/util/HashMap$TreeNode;" } : Jvm.MethodName)) ∈ lw_all := lw_g (lw_at lw_m5 127 rfl) rfl
theorem q1164 : (Jvm.Cond.selects "java/util/HashMap$TreeNode" ({ cls := "java/util/HashMap$TreeNode", name := "find", desc := "(ILjava/lang/Object;Ljava/lang/Class;)Ljava/util/HashMap$TreeNode;" } : Jvm.MethodName) ({ cls := "java/util/HashMap$TreeNode", name := "find", desc := "(ILjava/lang/Object;Ljava/lang/Class;)Ljava/util/HashMap$TreeNode;" } : Jvm.MethodName)) ∈ lw_all := lw_g (lw_at lw_m5 128 rfl) rfl
theorem q1165 : (Jvm.Cond.code ({ cls := "java/util/HashMap$TreeNode", name := "find", desc := "(ILjava/lang/Object;Ljava/lang/Class;)Ljava/util/HashMap$TreeNode;" } : Jvm.MethodName) prog_47_method_4_code (11 : Nat) (Option.some (Jvm.ClassFile.FieldType.object "java/util/HashMap$TreeNode"))) ∈ lw_all := lw_g (lw_at lw_m5 129 rfl) rfl
theorem q1166 : (Jvm.Cond.methodLink "java/util/HashMap$TreeNode" (115 : Nat) ({ cls := "java/util/HashMap", name := "newTreeNode", desc := "(ILjava/lang/Object;Ljava/lang/Object;Ljava/util/HashMap$Node;)Ljava/util/HashMap$TreeNode;" } : Jvm.MethodName)) ∈ lw_all := lw_g (lw_at lw_m5 130 rfl) rfl
theorem q1170 : (Jvm.Cond.instantiable "java/util/HashMap$TreeNode" (11 : Nat)) ∈ lw_all := lw_g (lw_at lw_m5 134 rfl) rfl
theorem q1172 : (Jvm.Cond.instanceMethod ({ cls := "java/util/HashMap$TreeNode", name := "<init>", desc := "(ILjava/lang/Object;Ljava/lang/Object;Ljava/util/HashMap$Node;)V" } : Jvm.MethodName)) ∈ lw_all := lw_g (lw_at lw_m5 136 rfl) rfl
theorem q1173 : (Jvm.Cond.code ({ cls := "java/util/HashMap$TreeNode", name := "<init>", desc := "(ILjava/lang/Object;Ljava/lang/Object;Ljava/util/HashMap$Node;)V" } : Jvm.MethodName) prog_47_method_1_code (5 : Nat) (Option.none : Option Jvm.ClassFile.FieldType)) ∈ lw_all := lw_g (lw_at lw_m5 137 rfl) rfl
theorem q1174 : (Jvm.Cond.methodLink "java/util/HashMap$TreeNode" (3 : Nat) ({ cls := "java/util/LinkedHashMap$Entry", name := "<init>", desc := "(ILjava/lang/Object;Ljava/lang/Object;Ljava/util/HashMap$Node;)V" } : Jvm.MethodName)) ∈ lw_all := lw_g (lw_at lw_m5 138 rfl) rfl
theorem q1178 : (Jvm.Cond.fieldLink "java/util/HashMap$TreeNode" (9 : Nat) "java/util/HashMap$TreeNode" "parent" "Ljava/util/HashMap$TreeNode;") ∈ lw_all := lw_g (lw_at lw_m5 142 rfl) rfl
theorem q1179 : (Jvm.Cond.fieldLink "java/util/HashMap$TreeNode" (39 : Nat) "java/util/HashMap$TreeNode" "left" "Ljava/util/HashMap$TreeNode;") ∈ lw_all := lw_g (lw_at lw_m5 143 rfl) rfl
theorem q1180 : (Jvm.Cond.fieldLink "java/util/HashMap$TreeNode" (42 : Nat) "java/util/HashMap$TreeNode" "right" "Ljava/util/HashMap$TreeNode;") ∈ lw_all := lw_g (lw_at lw_m5 144 rfl) rfl
theorem q1181 : (Jvm.Cond.fieldLink "java/util/HashMap$TreeNode" (19 : Nat) "java/util/HashMap$TreeNode" "prev" "Ljava/util/HashMap$TreeNode;") ∈ lw_all := lw_g (lw_at lw_m5 145 rfl) rfl
theorem q1183 : (Jvm.Cond.fieldLink "java/util/HashMap$TreeNode" (93 : Nat) "java/util/HashMap$TreeNode" "red" "Z") ∈ lw_all := lw_g (lw_at lw_m5 147 rfl) rfl
theorem q1184 : (Jvm.Cond.lays "java/util/HashMap$TreeNode" "java/util/HashMap$TreeNode" "parent" "Ljava/util/HashMap$TreeNode;") ∈ lw_all := lw_g (lw_at lw_m5 148 rfl) rfl
theorem q1185 : (Jvm.Cond.soleField "java/util/HashMap$TreeNode" "parent") ∈ lw_all := lw_g (lw_at lw_m5 149 rfl) rfl
theorem q1186 : (Jvm.Cond.lays "java/util/HashMap$TreeNode" "java/util/HashMap$TreeNode" "left" "Ljava/util/HashMap$TreeNode;") ∈ lw_all := lw_g (lw_at lw_m5 150 rfl) rfl
theorem q1187 : (Jvm.Cond.soleField "java/util/HashMap$TreeNode" "left") ∈ lw_all := lw_g (lw_at lw_m5 151 rfl) rfl
theorem q1188 : (Jvm.Cond.lays "java/util/HashMap$TreeNode" "java/util/HashMap$TreeNode" "right" "Ljava/util/HashMap$TreeNode;") ∈ lw_all := lw_g (lw_at lw_m5 152 rfl) rfl
theorem q1189 : (Jvm.Cond.soleField "java/util/HashMap$TreeNode" "right") ∈ lw_all := lw_g (lw_at lw_m5 153 rfl) rfl
theorem q1190 : (Jvm.Cond.lays "java/util/HashMap$TreeNode" "java/util/HashMap$TreeNode" "prev" "Ljava/util/HashMap$TreeNode;") ∈ lw_all := lw_g (lw_at lw_m5 154 rfl) rfl
theorem q1191 : (Jvm.Cond.soleField "java/util/HashMap$TreeNode" "prev") ∈ lw_all := lw_g (lw_at lw_m5 155 rfl) rfl
theorem q1192 : (Jvm.Cond.lays "java/util/HashMap$TreeNode" "java/util/HashMap$TreeNode" "red" "Z") ∈ lw_all := lw_g (lw_at lw_m5 156 rfl) rfl
theorem q1193 : (Jvm.Cond.soleField "java/util/HashMap$TreeNode" "red") ∈ lw_all := lw_g (lw_at lw_m5 157 rfl) rfl
theorem q1194 : (Jvm.Cond.lays "java/util/HashMap$TreeNode" "java/util/LinkedHashMap$Entry" "before" "Ljava/util/LinkedHashMap$Entry;") ∈ lw_all := lw_g (lw_at lw_m5 158 rfl) rfl
theorem q1196 : (Jvm.Cond.lays "java/util/HashMap$TreeNode" "java/util/LinkedHashMap$Entry" "after" "Ljava/util/LinkedHashMap$Entry;") ∈ lw_all := lw_g (lw_at lw_m5 160 rfl) rfl
theorem q1198 : (Jvm.Cond.laysFinal "java/util/HashMap$TreeNode" "java/util/HashMap$Node" "hash" "I") ∈ lw_all := lw_g (lw_at lw_m5 162 rfl) rfl
theorem q1199 : (Jvm.Cond.laysFinal "java/util/HashMap$TreeNode" "java/util/HashMap$Node" "key" "Ljava/lang/Object;") ∈ lw_all := lw_g (lw_at lw_m5 163 rfl) rfl
theorem q1200 : (Jvm.Cond.lays "java/util/HashMap$TreeNode" "java/util/HashMap$Node" "value" "Ljava/lang/Object;") ∈ lw_all := lw_g (lw_at lw_m5 164 rfl) rfl
theorem q1201 : (Jvm.Cond.lays "java/util/HashMap$TreeNode" "java/util/HashMap$Node" "next" "Ljava/util/HashMap$Node;") ∈ lw_all := lw_g (lw_at lw_m5 165 rfl) rfl
theorem q1202 : (Jvm.Cond.superclass "java/util/HashMap$TreeNode" "java/util/LinkedHashMap$Entry") ∈ lw_all := lw_g (lw_at lw_m5 166 rfl) rfl
theorem q1324 : (Jvm.Cond.instanceMethod ({ cls := "java/util/HashMap$TreeNode", name := "getTreeNode", desc := "(ILjava/lang/Object;)Ljava/util/HashMap$TreeNode;" } : Jvm.MethodName)) ∈ lw_all := lw_g (lw_at lw_m6 48 rfl) rfl
theorem q1325 : (Jvm.Cond.selects "java/util/HashMap$TreeNode" ({ cls := "java/util/HashMap$TreeNode", name := "getTreeNode", desc := "(ILjava/lang/Object;)Ljava/util/HashMap$TreeNode;" } : Jvm.MethodName) ({ cls := "java/util/HashMap$TreeNode", name := "getTreeNode", desc := "(ILjava/lang/Object;)Ljava/util/HashMap$TreeNode;" } : Jvm.MethodName)) ∈ lw_all := lw_g (lw_at lw_m6 49 rfl) rfl
theorem q1326 : (Jvm.Cond.code ({ cls := "java/util/HashMap$TreeNode", name := "getTreeNode", desc := "(ILjava/lang/Object;)Ljava/util/HashMap$TreeNode;" } : Jvm.MethodName) prog_47_method_5_code (3 : Nat) (Option.some (Jvm.ClassFile.FieldType.object "java/util/HashMap$TreeNode"))) ∈ lw_all := lw_g (lw_at lw_m6 50 rfl) rfl
theorem q1394 : (Jvm.Cond.instanceMethod ({ cls := "java/util/HashMap$TreeNode", name := "removeTreeNode", desc := "(Ljava/util/HashMap;[Ljava/util/HashMap$Node;Z)V" } : Jvm.MethodName)) ∈ lw_all := lw_g (lw_at lw_m6 118 rfl) rfl
theorem q1395 : (Jvm.Cond.selects "java/util/HashMap$TreeNode" ({ cls := "java/util/HashMap$TreeNode", name := "removeTreeNode", desc := "(Ljava/util/HashMap;[Ljava/util/HashMap$Node;Z)V" } : Jvm.MethodName) ({ cls := "java/util/HashMap$TreeNode", name := "removeTreeNode", desc := "(Ljava/util/HashMap;[Ljava/util/HashMap$Node;Z)V" } : Jvm.MethodName)) ∈ lw_all := lw_g (lw_at lw_m6 119 rfl) rfl
theorem q1396 : (Jvm.Cond.code ({ cls := "java/util/HashMap$TreeNode", name := "removeTreeNode", desc := "(Ljava/util/HashMap;[Ljava/util/HashMap$Node;Z)V" } : Jvm.MethodName) prog_47_method_10_code (21 : Nat) (Option.none : Option Jvm.ClassFile.FieldType)) ∈ lw_all := lw_g (lw_at lw_m6 120 rfl) rfl
theorem q1397 : (Jvm.Cond.methodLink "java/util/HashMap$TreeNode" (123 : Nat) ({ cls := "java/util/HashMap$TreeNode", name := "balanceDeletion", desc := "(Ljava/util/HashMap$TreeNode;Ljava/util/HashMap$TreeNode;)Ljava/util/HashMap$TreeNode;" } : Jvm.MethodName)) ∈ lw_all := lw_g (lw_at lw_m6 121 rfl) rfl
theorem q1398 : (Jvm.Cond.static ({ cls := "java/util/HashMap$TreeNode", name := "balanceDeletion", desc := "(Ljava/util/HashMap$TreeNode;Ljava/util/HashMap$TreeNode;)Ljava/util/HashMap$TreeNode;" } : Jvm.MethodName)) ∈ lw_all := lw_g (lw_at lw_m6 122 rfl) rfl
theorem q1399 : (Jvm.Cond.code ({ cls := "java/util/HashMap$TreeNode", name := "balanceDeletion", desc := "(Ljava/util/HashMap$TreeNode;Ljava/util/HashMap$TreeNode;)Ljava/util/HashMap$TreeNode;" } : Jvm.MethodName) prog_47_method_15_code (7 : Nat) (Option.some (Jvm.ClassFile.FieldType.object "java/util/HashMap$TreeNode"))) ∈ lw_all := lw_g (lw_at lw_m6 123 rfl) rfl
theorem q2364 : (Jvm.Cond.castable "java/util/HashMap$TreeNode" "java/lang/Object") ∈ lw_tbl := lw_at lw_m10 128 rfl
theorem q2370 : (Jvm.Cond.castable "java/util/HashMap$TreeNode" "java/util/HashMap$Node") ∈ lw_tbl := lw_at lw_m10 134 rfl
theorem in_J23 : ∀ w ∈ wsJ230, w ∈ lw_all := lw_in wsJ230 [1194, 1196, 1198, 1199, 1200, 1201, 1184, 1186, 1188, 1190, 1192] (by decide +kernel) (by decide +kernel)
