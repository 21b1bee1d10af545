/-! NamesWeather$Reader -/
set_option maxRecDepth 100000
def RX3 : String := "NamesWeather$Reader"
def TX3 : u_T := fun k => match k with
  | 0 => ("NamesWeather$Reader", "which", "I", true)
  | 1 => ("NamesWeather$Reader", "at", "I", false)
  | 2 => ("NamesWeather$Reader", "start", "I", false)
  | 3 => ("NamesWeather$Reader", "token", "I", false)
  | 4 => ("NamesWeather$Reader", "value", "I", false)
  | 5 => ("NamesWeather$Reader", "open", "I", false)
  | _ => ("NamesWeather$Reader", "this$0", "LNamesWeather;", true)
def tyX3 : Nat → FieldType := fun k => match k with
  | 0 => .int
  | 1 => .int
  | 2 => .int
  | 3 => .int
  | 4 => .int
  | 5 => .int
  | _ => .object "NamesWeather"
abbrev wsX30 : List Cond := u_ws RX3 TX3 7
theorem nmX3 : ∀ a, a < 7 → ∀ b, b < 7 → a ≠ b → (TX3 a).2.1 ≠ (TX3 b).2.1 := by decide +kernel
theorem tyX3_ok : ∀ k, k < 7 → parseFieldDescriptor (TX3 k).2.2.1 = some (tyX3 k) := by decide +kernel
abbrev cX3_init : ByteArray := prog_15_method_1_code
def yX3_init : MethodName := ⟨RX3, "<init>", "(LNamesWeather;I)V"⟩
def dkwX3_init_0 : List UInt8 := [42, 43, 181, 0, 3, 42, 183, 0, 9, 42, 28, 181, 0, 15, 177]
abbrev dktX3_init_0 : List UInt8 := dkwX3_init_0 ++ []
theorem dksX3_init_0 : cX3_init.data.toList.drop 0 = dktX3_init_0 := by decide +kernel
theorem dX3_init_0 : decode cX3_init 0 = .ok (.aload_n 0, 1) := dk_42 (dk_at dksX3_init_0 0 rfl rfl)
theorem dX3_init_1 : decode cX3_init 1 = .ok (.aload_n 1, 1) := dk_43 (dk_at dksX3_init_0 1 rfl rfl)
theorem dX3_init_2 : decode cX3_init 2 = .ok (.putfield 3, 3) := dk_181 0 3 (dk_at dksX3_init_0 2 rfl rfl)
theorem dX3_init_5 : decode cX3_init 5 = .ok (.aload_n 0, 1) := dk_42 (dk_at dksX3_init_0 5 rfl rfl)
theorem dX3_init_6 : decode cX3_init 6 = .ok (.invokespecial 9, 3) := dk_183 0 9 (dk_at dksX3_init_0 6 rfl rfl)
theorem dX3_init_9 : decode cX3_init 9 = .ok (.aload_n 0, 1) := dk_42 (dk_at dksX3_init_0 9 rfl rfl)
theorem dX3_init_10 : decode cX3_init 10 = .ok (.iload_n 2, 1) := dk_28 (dk_at dksX3_init_0 10 rfl rfl)
theorem dX3_init_11 : decode cX3_init 11 = .ok (.putfield 15, 3) := dk_181 0 15 (dk_at dksX3_init_0 11 rfl rfl)
theorem dX3_init_14 : decode cX3_init 14 = .ok (.return_, 1) := dk_177 (dk_at dksX3_init_0 14 rfl rfl)
abbrev cX3_law : ByteArray := prog_15_method_26_code
def yX3_law : MethodName := ⟨RX3, "law", "()Ljava/util/ArrayList;"⟩
def dkwX3_law_5 : List UInt8 := [187, 0, 217, 89, 28, 45, 25, 4, 183, 0, 219, 182, 0, 222, 87, 167, 255, 138, 43, 176]
abbrev dktX3_law_5 : List UInt8 := dkwX3_law_5 ++ []
def dkwX3_law_4 : List UInt8 := [180, 0, 134, 6, 160, 0, 13, 42, 182, 0, 145, 42, 182, 0, 205, 58, 4, 42, 16, 59, 182, 0, 148, 43]
abbrev dktX3_law_4 : List UInt8 := dkwX3_law_4 ++ dktX3_law_5
def dkwX3_law_3 : List UInt8 := [180, 0, 134, 61, 42, 3, 181, 0, 170, 42, 182, 0, 145, 42, 182, 0, 208, 78, 1, 58, 4, 42]
abbrev dktX3_law_3 : List UInt8 := dkwX3_law_3 ++ dktX3_law_4
def dkwX3_law_2 : List UInt8 := [182, 0, 214, 16, 16, 160, 0, 16, 187, 0, 137, 89, 6, 42, 180, 0, 37, 183, 0, 139, 191, 42]
abbrev dktX3_law_2 : List UInt8 := dkwX3_law_2 ++ dktX3_law_3
def dkwX3_law_1 : List UInt8 := [16, 7, 16, 9, 184, 0, 33, 154, 0, 16, 187, 0, 137, 89, 4, 42, 180, 0, 37, 183, 0, 139, 191, 43]
abbrev dktX3_law_1 : List UInt8 := dkwX3_law_1 ++ dktX3_law_2
def dkwX3_law_0 : List UInt8 := [187, 0, 211, 89, 183, 0, 213, 76, 42, 182, 0, 145, 42, 180, 0, 134, 153, 0, 117, 42, 180, 0, 134]
abbrev dktX3_law_0 : List UInt8 := dkwX3_law_0 ++ dktX3_law_1
theorem dksX3_law_0 : cX3_law.data.toList.drop 0 = dktX3_law_0 := by decide +kernel
theorem dksX3_law_1 : cX3_law.data.toList.drop 23 = dktX3_law_1 := dk_seg dksX3_law_0 23 rfl rfl
theorem dksX3_law_2 : cX3_law.data.toList.drop 47 = dktX3_law_2 := dk_seg dksX3_law_1 24 rfl rfl
theorem dksX3_law_3 : cX3_law.data.toList.drop 69 = dktX3_law_3 := dk_seg dksX3_law_2 22 rfl rfl
theorem dksX3_law_4 : cX3_law.data.toList.drop 91 = dktX3_law_4 := dk_seg dksX3_law_3 22 rfl rfl
theorem dksX3_law_5 : cX3_law.data.toList.drop 115 = dktX3_law_5 := dk_seg dksX3_law_4 24 rfl rfl
theorem dX3_law_0 : decode cX3_law 0 = .ok (.new 211, 3) := dk_187 0 211 (dk_at dksX3_law_0 0 rfl rfl)
theorem dX3_law_3 : decode cX3_law 3 = .ok (.dup, 1) := dk_89 (dk_at dksX3_law_0 3 rfl rfl)
theorem dX3_law_4 : decode cX3_law 4 = .ok (.invokespecial 213, 3) := dk_183 0 213 (dk_at dksX3_law_0 4 rfl rfl)
theorem dX3_law_7 : decode cX3_law 7 = .ok (.astore_n 1, 1) := dk_76 (dk_at dksX3_law_0 7 rfl rfl)
theorem dX3_law_8 : decode cX3_law 8 = .ok (.aload_n 0, 1) := dk_42 (dk_at dksX3_law_0 8 rfl rfl)
theorem dX3_law_9 : decode cX3_law 9 = .ok (.invokevirtual 145, 3) := dk_182 0 145 (dk_at dksX3_law_0 9 rfl rfl)
theorem dX3_law_12 : decode cX3_law 12 = .ok (.aload_n 0, 1) := dk_42 (dk_at dksX3_law_0 12 rfl rfl)
theorem dX3_law_13 : decode cX3_law 13 = .ok (.getfield 134, 3) := dk_180 0 134 (dk_at dksX3_law_0 13 rfl rfl)
theorem dX3_law_16 : decode cX3_law 16 = .ok (.ifCond .eq 117, 3) := dk_153 0 117 (dk_at dksX3_law_0 16 rfl rfl)
theorem dX3_law_19 : decode cX3_law 19 = .ok (.aload_n 0, 1) := dk_42 (dk_at dksX3_law_0 19 rfl rfl)
theorem dX3_law_20 : decode cX3_law 20 = .ok (.getfield 134, 3) := dk_180 0 134 (dk_at dksX3_law_0 20 rfl rfl)
theorem dX3_law_23 : decode cX3_law 23 = .ok (.bipush 7, 2) := dk_16 7 (dk_at dksX3_law_1 0 rfl rfl)
theorem dX3_law_25 : decode cX3_law 25 = .ok (.bipush 9, 2) := dk_16 9 (dk_at dksX3_law_1 2 rfl rfl)
theorem dX3_law_27 : decode cX3_law 27 = .ok (.invokestatic 33, 3) := dk_184 0 33 (dk_at dksX3_law_1 4 rfl rfl)
theorem dX3_law_30 : decode cX3_law 30 = .ok (.ifCond .ne 16, 3) := dk_154 0 16 (dk_at dksX3_law_1 7 rfl rfl)
theorem dX3_law_33 : decode cX3_law 33 = .ok (.new 137, 3) := dk_187 0 137 (dk_at dksX3_law_1 10 rfl rfl)
theorem dX3_law_36 : decode cX3_law 36 = .ok (.dup, 1) := dk_89 (dk_at dksX3_law_1 13 rfl rfl)
theorem dX3_law_37 : decode cX3_law 37 = .ok (.iconst 1, 1) := dk_4 (dk_at dksX3_law_1 14 rfl rfl)
theorem dX3_law_38 : decode cX3_law 38 = .ok (.aload_n 0, 1) := dk_42 (dk_at dksX3_law_1 15 rfl rfl)
theorem dX3_law_39 : decode cX3_law 39 = .ok (.getfield 37, 3) := dk_180 0 37 (dk_at dksX3_law_1 16 rfl rfl)
theorem dX3_law_42 : decode cX3_law 42 = .ok (.invokespecial 139, 3) := dk_183 0 139 (dk_at dksX3_law_1 19 rfl rfl)
theorem dX3_law_45 : decode cX3_law 45 = .ok (.athrow, 1) := dk_191 (dk_at dksX3_law_1 22 rfl rfl)
theorem dX3_law_46 : decode cX3_law 46 = .ok (.aload_n 1, 1) := dk_43 (dk_at dksX3_law_1 23 rfl rfl)
theorem dX3_law_47 : decode cX3_law 47 = .ok (.invokevirtual 214, 3) := dk_182 0 214 (dk_at dksX3_law_2 0 rfl rfl)
theorem dX3_law_50 : decode cX3_law 50 = .ok (.bipush 16, 2) := dk_16 16 (dk_at dksX3_law_2 3 rfl rfl)
theorem dX3_law_52 : decode cX3_law 52 = .ok (.if_icmp .ne 16, 3) := dk_160 0 16 (dk_at dksX3_law_2 5 rfl rfl)
theorem dX3_law_55 : decode cX3_law 55 = .ok (.new 137, 3) := dk_187 0 137 (dk_at dksX3_law_2 8 rfl rfl)
theorem dX3_law_58 : decode cX3_law 58 = .ok (.dup, 1) := dk_89 (dk_at dksX3_law_2 11 rfl rfl)
theorem dX3_law_59 : decode cX3_law 59 = .ok (.iconst 3, 1) := dk_6 (dk_at dksX3_law_2 12 rfl rfl)
theorem dX3_law_60 : decode cX3_law 60 = .ok (.aload_n 0, 1) := dk_42 (dk_at dksX3_law_2 13 rfl rfl)
theorem dX3_law_61 : decode cX3_law 61 = .ok (.getfield 37, 3) := dk_180 0 37 (dk_at dksX3_law_2 14 rfl rfl)
theorem dX3_law_64 : decode cX3_law 64 = .ok (.invokespecial 139, 3) := dk_183 0 139 (dk_at dksX3_law_2 17 rfl rfl)
theorem dX3_law_67 : decode cX3_law 67 = .ok (.athrow, 1) := dk_191 (dk_at dksX3_law_2 20 rfl rfl)
theorem dX3_law_68 : decode cX3_law 68 = .ok (.aload_n 0, 1) := dk_42 (dk_at dksX3_law_2 21 rfl rfl)
theorem dX3_law_69 : decode cX3_law 69 = .ok (.getfield 134, 3) := dk_180 0 134 (dk_at dksX3_law_3 0 rfl rfl)
theorem dX3_law_72 : decode cX3_law 72 = .ok (.istore_n 2, 1) := dk_61 (dk_at dksX3_law_3 3 rfl rfl)
theorem dX3_law_73 : decode cX3_law 73 = .ok (.aload_n 0, 1) := dk_42 (dk_at dksX3_law_3 4 rfl rfl)
theorem dX3_law_74 : decode cX3_law 74 = .ok (.iconst 0, 1) := dk_3 (dk_at dksX3_law_3 5 rfl rfl)
theorem dX3_law_75 : decode cX3_law 75 = .ok (.putfield 170, 3) := dk_181 0 170 (dk_at dksX3_law_3 6 rfl rfl)
theorem dX3_law_78 : decode cX3_law 78 = .ok (.aload_n 0, 1) := dk_42 (dk_at dksX3_law_3 9 rfl rfl)
theorem dX3_law_79 : decode cX3_law 79 = .ok (.invokevirtual 145, 3) := dk_182 0 145 (dk_at dksX3_law_3 10 rfl rfl)
theorem dX3_law_82 : decode cX3_law 82 = .ok (.aload_n 0, 1) := dk_42 (dk_at dksX3_law_3 13 rfl rfl)
theorem dX3_law_83 : decode cX3_law 83 = .ok (.invokevirtual 208, 3) := dk_182 0 208 (dk_at dksX3_law_3 14 rfl rfl)
theorem dX3_law_86 : decode cX3_law 86 = .ok (.astore_n 3, 1) := dk_78 (dk_at dksX3_law_3 17 rfl rfl)
theorem dX3_law_87 : decode cX3_law 87 = .ok (.aconst_null, 1) := dk_1 (dk_at dksX3_law_3 18 rfl rfl)
theorem dX3_law_88 : decode cX3_law 88 = .ok (.astore 4, 2) := dk_58 4 (dk_at dksX3_law_3 19 rfl rfl)
theorem dX3_law_90 : decode cX3_law 90 = .ok (.aload_n 0, 1) := dk_42 (dk_at dksX3_law_3 21 rfl rfl)
theorem dX3_law_91 : decode cX3_law 91 = .ok (.getfield 134, 3) := dk_180 0 134 (dk_at dksX3_law_4 0 rfl rfl)
theorem dX3_law_94 : decode cX3_law 94 = .ok (.iconst 3, 1) := dk_6 (dk_at dksX3_law_4 3 rfl rfl)
theorem dX3_law_95 : decode cX3_law 95 = .ok (.if_icmp .ne 13, 3) := dk_160 0 13 (dk_at dksX3_law_4 4 rfl rfl)
theorem dX3_law_98 : decode cX3_law 98 = .ok (.aload_n 0, 1) := dk_42 (dk_at dksX3_law_4 7 rfl rfl)
theorem dX3_law_99 : decode cX3_law 99 = .ok (.invokevirtual 145, 3) := dk_182 0 145 (dk_at dksX3_law_4 8 rfl rfl)
theorem dX3_law_102 : decode cX3_law 102 = .ok (.aload_n 0, 1) := dk_42 (dk_at dksX3_law_4 11 rfl rfl)
theorem dX3_law_103 : decode cX3_law 103 = .ok (.invokevirtual 205, 3) := dk_182 0 205 (dk_at dksX3_law_4 12 rfl rfl)
theorem dX3_law_106 : decode cX3_law 106 = .ok (.astore 4, 2) := dk_58 4 (dk_at dksX3_law_4 15 rfl rfl)
theorem dX3_law_108 : decode cX3_law 108 = .ok (.aload_n 0, 1) := dk_42 (dk_at dksX3_law_4 17 rfl rfl)
theorem dX3_law_109 : decode cX3_law 109 = .ok (.bipush 59, 2) := dk_16 59 (dk_at dksX3_law_4 18 rfl rfl)
theorem dX3_law_111 : decode cX3_law 111 = .ok (.invokevirtual 148, 3) := dk_182 0 148 (dk_at dksX3_law_4 20 rfl rfl)
theorem dX3_law_114 : decode cX3_law 114 = .ok (.aload_n 1, 1) := dk_43 (dk_at dksX3_law_4 23 rfl rfl)
theorem dX3_law_115 : decode cX3_law 115 = .ok (.new 217, 3) := dk_187 0 217 (dk_at dksX3_law_5 0 rfl rfl)
theorem dX3_law_118 : decode cX3_law 118 = .ok (.dup, 1) := dk_89 (dk_at dksX3_law_5 3 rfl rfl)
theorem dX3_law_119 : decode cX3_law 119 = .ok (.iload_n 2, 1) := dk_28 (dk_at dksX3_law_5 4 rfl rfl)
theorem dX3_law_120 : decode cX3_law 120 = .ok (.aload_n 3, 1) := dk_45 (dk_at dksX3_law_5 5 rfl rfl)
theorem dX3_law_121 : decode cX3_law 121 = .ok (.aload 4, 2) := dk_25 4 (dk_at dksX3_law_5 6 rfl rfl)
theorem dX3_law_123 : decode cX3_law 123 = .ok (.invokespecial 219, 3) := dk_183 0 219 (dk_at dksX3_law_5 8 rfl rfl)
theorem dX3_law_126 : decode cX3_law 126 = .ok (.invokevirtual 222, 3) := dk_182 0 222 (dk_at dksX3_law_5 11 rfl rfl)
theorem dX3_law_129 : decode cX3_law 129 = .ok (.pop, 1) := dk_87 (dk_at dksX3_law_5 14 rfl rfl)
theorem dX3_law_130 : decode cX3_law 130 = .ok (.goto (-118), 3) := dk_167 255 138 (dk_at dksX3_law_5 15 rfl rfl)
theorem dX3_law_133 : decode cX3_law 133 = .ok (.aload_n 1, 1) := dk_43 (dk_at dksX3_law_5 18 rfl rfl)
theorem dX3_law_134 : decode cX3_law 134 = .ok (.areturn, 1) := dk_176 (dk_at dksX3_law_5 19 rfl rfl)
abbrev cX3_next : ByteArray := prog_15_method_17_code
def yX3_next : MethodName := ⟨RX3, "next", "()V"⟩
def dkwX3_next_9 : List UInt8 := [180, 0, 19, 4, 96, 181, 0, 19, 177]
abbrev dktX3_next_9 : List UInt8 := dkwX3_next_9 ++ []
def dkwX3_next_8 : List UInt8 := [182, 0, 29, 182, 0, 166, 153, 0, 10, 42, 182, 0, 29, 167, 0, 4, 4, 181, 0, 134, 42, 89]
abbrev dktX3_next_8 : List UInt8 := dkwX3_next_8 ++ dktX3_next_9
def dkwX3_next_7 : List UInt8 := [180, 0, 37, 100, 8, 162, 0, 7, 5, 167, 0, 4, 4, 181, 0, 134, 167, 0, 36, 42, 42, 42]
abbrev dktX3_next_7 : List UInt8 := dkwX3_next_7 ++ dktX3_next_8
def dkwX3_next_6 : List UInt8 := [181, 0, 142, 42, 89, 180, 0, 19, 4, 96, 181, 0, 19, 167, 255, 207, 42, 42, 180, 0, 19, 42]
abbrev dktX3_next_6 : List UInt8 := dkwX3_next_6 ++ dktX3_next_7
def dkwX3_next_5 : List UInt8 := [180, 0, 37, 7, 96, 162, 0, 22, 42, 16, 10, 42, 180, 0, 142, 104, 42, 182, 0, 29, 96, 16, 48, 100]
abbrev dktX3_next_5 : List UInt8 := dkwX3_next_5 ++ dktX3_next_6
def dkwX3_next_4 : List UInt8 := [182, 0, 163, 153, 0, 85, 42, 3, 181, 0, 142, 42, 182, 0, 163, 153, 0, 48, 42, 180, 0, 19, 42]
abbrev dktX3_next_4 : List UInt8 := dkwX3_next_4 ++ dktX3_next_5
def dkwX3_next_3 : List UInt8 := [180, 0, 19, 4, 96, 181, 0, 19, 167, 255, 239, 42, 42, 182, 0, 160, 181, 0, 134, 167, 0, 125, 42]
abbrev dktX3_next_3 : List UInt8 := dkwX3_next_3 ++ dktX3_next_4
def dkwX3_next_2 : List UInt8 := [3, 181, 0, 134, 167, 0, 163, 42, 182, 0, 156, 153, 0, 34, 42, 182, 0, 156, 153, 0, 16, 42, 89]
abbrev dktX3_next_2 : List UInt8 := dkwX3_next_2 ++ dktX3_next_3
def dkwX3_next_1 : List UInt8 := [96, 181, 0, 19, 167, 255, 228, 42, 42, 180, 0, 19, 181, 0, 37, 42, 182, 0, 29, 2, 160, 0, 11, 42]
abbrev dktX3_next_1 : List UInt8 := dkwX3_next_1 ++ dktX3_next_2
def dkwX3_next_0 : List UInt8 := [42, 182, 0, 29, 16, 32, 159, 0, 12, 42, 182, 0, 29, 16, 10, 160, 0, 16, 42, 89, 180, 0, 19, 4]
abbrev dktX3_next_0 : List UInt8 := dkwX3_next_0 ++ dktX3_next_1
theorem dksX3_next_0 : cX3_next.data.toList.drop 0 = dktX3_next_0 := by decide +kernel
theorem dksX3_next_1 : cX3_next.data.toList.drop 24 = dktX3_next_1 := dk_seg dksX3_next_0 24 rfl rfl
theorem dksX3_next_2 : cX3_next.data.toList.drop 48 = dktX3_next_2 := dk_seg dksX3_next_1 24 rfl rfl
theorem dksX3_next_3 : cX3_next.data.toList.drop 71 = dktX3_next_3 := dk_seg dksX3_next_2 23 rfl rfl
theorem dksX3_next_4 : cX3_next.data.toList.drop 94 = dktX3_next_4 := dk_seg dksX3_next_3 23 rfl rfl
theorem dksX3_next_5 : cX3_next.data.toList.drop 117 = dktX3_next_5 := dk_seg dksX3_next_4 23 rfl rfl
theorem dksX3_next_6 : cX3_next.data.toList.drop 141 = dktX3_next_6 := dk_seg dksX3_next_5 24 rfl rfl
theorem dksX3_next_7 : cX3_next.data.toList.drop 163 = dktX3_next_7 := dk_seg dksX3_next_6 22 rfl rfl
theorem dksX3_next_8 : cX3_next.data.toList.drop 185 = dktX3_next_8 := dk_seg dksX3_next_7 22 rfl rfl
theorem dksX3_next_9 : cX3_next.data.toList.drop 207 = dktX3_next_9 := dk_seg dksX3_next_8 22 rfl rfl
theorem dX3_next_0 : decode cX3_next 0 = .ok (.aload_n 0, 1) := dk_42 (dk_at dksX3_next_0 0 rfl rfl)
theorem dX3_next_1 : decode cX3_next 1 = .ok (.invokevirtual 29, 3) := dk_182 0 29 (dk_at dksX3_next_0 1 rfl rfl)
theorem dX3_next_4 : decode cX3_next 4 = .ok (.bipush 32, 2) := dk_16 32 (dk_at dksX3_next_0 4 rfl rfl)
theorem dX3_next_6 : decode cX3_next 6 = .ok (.if_icmp .eq 12, 3) := dk_159 0 12 (dk_at dksX3_next_0 6 rfl rfl)
theorem dX3_next_9 : decode cX3_next 9 = .ok (.aload_n 0, 1) := dk_42 (dk_at dksX3_next_0 9 rfl rfl)
theorem dX3_next_10 : decode cX3_next 10 = .ok (.invokevirtual 29, 3) := dk_182 0 29 (dk_at dksX3_next_0 10 rfl rfl)
theorem dX3_next_13 : decode cX3_next 13 = .ok (.bipush 10, 2) := dk_16 10 (dk_at dksX3_next_0 13 rfl rfl)
theorem dX3_next_15 : decode cX3_next 15 = .ok (.if_icmp .ne 16, 3) := dk_160 0 16 (dk_at dksX3_next_0 15 rfl rfl)
theorem dX3_next_18 : decode cX3_next 18 = .ok (.aload_n 0, 1) := dk_42 (dk_at dksX3_next_0 18 rfl rfl)
theorem dX3_next_19 : decode cX3_next 19 = .ok (.dup, 1) := dk_89 (dk_at dksX3_next_0 19 rfl rfl)
theorem dX3_next_20 : decode cX3_next 20 = .ok (.getfield 19, 3) := dk_180 0 19 (dk_at dksX3_next_0 20 rfl rfl)
theorem dX3_next_23 : decode cX3_next 23 = .ok (.iconst 1, 1) := dk_4 (dk_at dksX3_next_0 23 rfl rfl)
theorem dX3_next_24 : decode cX3_next 24 = .ok (.iadd, 1) := dk_96 (dk_at dksX3_next_1 0 rfl rfl)
theorem dX3_next_25 : decode cX3_next 25 = .ok (.putfield 19, 3) := dk_181 0 19 (dk_at dksX3_next_1 1 rfl rfl)
theorem dX3_next_28 : decode cX3_next 28 = .ok (.goto (-28), 3) := dk_167 255 228 (dk_at dksX3_next_1 4 rfl rfl)
theorem dX3_next_31 : decode cX3_next 31 = .ok (.aload_n 0, 1) := dk_42 (dk_at dksX3_next_1 7 rfl rfl)
theorem dX3_next_32 : decode cX3_next 32 = .ok (.aload_n 0, 1) := dk_42 (dk_at dksX3_next_1 8 rfl rfl)
theorem dX3_next_33 : decode cX3_next 33 = .ok (.getfield 19, 3) := dk_180 0 19 (dk_at dksX3_next_1 9 rfl rfl)
theorem dX3_next_36 : decode cX3_next 36 = .ok (.putfield 37, 3) := dk_181 0 37 (dk_at dksX3_next_1 12 rfl rfl)
theorem dX3_next_39 : decode cX3_next 39 = .ok (.aload_n 0, 1) := dk_42 (dk_at dksX3_next_1 15 rfl rfl)
theorem dX3_next_40 : decode cX3_next 40 = .ok (.invokevirtual 29, 3) := dk_182 0 29 (dk_at dksX3_next_1 16 rfl rfl)
theorem dX3_next_43 : decode cX3_next 43 = .ok (.iconst (-1), 1) := dk_2 (dk_at dksX3_next_1 19 rfl rfl)
theorem dX3_next_44 : decode cX3_next 44 = .ok (.if_icmp .ne 11, 3) := dk_160 0 11 (dk_at dksX3_next_1 20 rfl rfl)
theorem dX3_next_47 : decode cX3_next 47 = .ok (.aload_n 0, 1) := dk_42 (dk_at dksX3_next_1 23 rfl rfl)
theorem dX3_next_48 : decode cX3_next 48 = .ok (.iconst 0, 1) := dk_3 (dk_at dksX3_next_2 0 rfl rfl)
theorem dX3_next_49 : decode cX3_next 49 = .ok (.putfield 134, 3) := dk_181 0 134 (dk_at dksX3_next_2 1 rfl rfl)
theorem dX3_next_52 : decode cX3_next 52 = .ok (.goto 163, 3) := dk_167 0 163 (dk_at dksX3_next_2 4 rfl rfl)
theorem dX3_next_55 : decode cX3_next 55 = .ok (.aload_n 0, 1) := dk_42 (dk_at dksX3_next_2 7 rfl rfl)
theorem dX3_next_56 : decode cX3_next 56 = .ok (.invokevirtual 156, 3) := dk_182 0 156 (dk_at dksX3_next_2 8 rfl rfl)
theorem dX3_next_59 : decode cX3_next 59 = .ok (.ifCond .eq 34, 3) := dk_153 0 34 (dk_at dksX3_next_2 11 rfl rfl)
theorem dX3_next_62 : decode cX3_next 62 = .ok (.aload_n 0, 1) := dk_42 (dk_at dksX3_next_2 14 rfl rfl)
theorem dX3_next_63 : decode cX3_next 63 = .ok (.invokevirtual 156, 3) := dk_182 0 156 (dk_at dksX3_next_2 15 rfl rfl)
theorem dX3_next_66 : decode cX3_next 66 = .ok (.ifCond .eq 16, 3) := dk_153 0 16 (dk_at dksX3_next_2 18 rfl rfl)
theorem dX3_next_69 : decode cX3_next 69 = .ok (.aload_n 0, 1) := dk_42 (dk_at dksX3_next_2 21 rfl rfl)
theorem dX3_next_70 : decode cX3_next 70 = .ok (.dup, 1) := dk_89 (dk_at dksX3_next_2 22 rfl rfl)
theorem dX3_next_71 : decode cX3_next 71 = .ok (.getfield 19, 3) := dk_180 0 19 (dk_at dksX3_next_3 0 rfl rfl)
theorem dX3_next_74 : decode cX3_next 74 = .ok (.iconst 1, 1) := dk_4 (dk_at dksX3_next_3 3 rfl rfl)
theorem dX3_next_75 : decode cX3_next 75 = .ok (.iadd, 1) := dk_96 (dk_at dksX3_next_3 4 rfl rfl)
theorem dX3_next_76 : decode cX3_next 76 = .ok (.putfield 19, 3) := dk_181 0 19 (dk_at dksX3_next_3 5 rfl rfl)
theorem dX3_next_79 : decode cX3_next 79 = .ok (.goto (-17), 3) := dk_167 255 239 (dk_at dksX3_next_3 8 rfl rfl)
theorem dX3_next_82 : decode cX3_next 82 = .ok (.aload_n 0, 1) := dk_42 (dk_at dksX3_next_3 11 rfl rfl)
theorem dX3_next_83 : decode cX3_next 83 = .ok (.aload_n 0, 1) := dk_42 (dk_at dksX3_next_3 12 rfl rfl)
theorem dX3_next_84 : decode cX3_next 84 = .ok (.invokevirtual 160, 3) := dk_182 0 160 (dk_at dksX3_next_3 13 rfl rfl)
theorem dX3_next_87 : decode cX3_next 87 = .ok (.putfield 134, 3) := dk_181 0 134 (dk_at dksX3_next_3 16 rfl rfl)
theorem dX3_next_90 : decode cX3_next 90 = .ok (.goto 125, 3) := dk_167 0 125 (dk_at dksX3_next_3 19 rfl rfl)
theorem dX3_next_93 : decode cX3_next 93 = .ok (.aload_n 0, 1) := dk_42 (dk_at dksX3_next_3 22 rfl rfl)
theorem dX3_next_94 : decode cX3_next 94 = .ok (.invokevirtual 163, 3) := dk_182 0 163 (dk_at dksX3_next_4 0 rfl rfl)
theorem dX3_next_97 : decode cX3_next 97 = .ok (.ifCond .eq 85, 3) := dk_153 0 85 (dk_at dksX3_next_4 3 rfl rfl)
theorem dX3_next_100 : decode cX3_next 100 = .ok (.aload_n 0, 1) := dk_42 (dk_at dksX3_next_4 6 rfl rfl)
theorem dX3_next_101 : decode cX3_next 101 = .ok (.iconst 0, 1) := dk_3 (dk_at dksX3_next_4 7 rfl rfl)
theorem dX3_next_102 : decode cX3_next 102 = .ok (.putfield 142, 3) := dk_181 0 142 (dk_at dksX3_next_4 8 rfl rfl)
theorem dX3_next_105 : decode cX3_next 105 = .ok (.aload_n 0, 1) := dk_42 (dk_at dksX3_next_4 11 rfl rfl)
theorem dX3_next_106 : decode cX3_next 106 = .ok (.invokevirtual 163, 3) := dk_182 0 163 (dk_at dksX3_next_4 12 rfl rfl)
theorem dX3_next_109 : decode cX3_next 109 = .ok (.ifCond .eq 48, 3) := dk_153 0 48 (dk_at dksX3_next_4 15 rfl rfl)
theorem dX3_next_112 : decode cX3_next 112 = .ok (.aload_n 0, 1) := dk_42 (dk_at dksX3_next_4 18 rfl rfl)
theorem dX3_next_113 : decode cX3_next 113 = .ok (.getfield 19, 3) := dk_180 0 19 (dk_at dksX3_next_4 19 rfl rfl)
theorem dX3_next_116 : decode cX3_next 116 = .ok (.aload_n 0, 1) := dk_42 (dk_at dksX3_next_4 22 rfl rfl)
theorem dX3_next_117 : decode cX3_next 117 = .ok (.getfield 37, 3) := dk_180 0 37 (dk_at dksX3_next_5 0 rfl rfl)
theorem dX3_next_120 : decode cX3_next 120 = .ok (.iconst 4, 1) := dk_7 (dk_at dksX3_next_5 3 rfl rfl)
theorem dX3_next_121 : decode cX3_next 121 = .ok (.iadd, 1) := dk_96 (dk_at dksX3_next_5 4 rfl rfl)
theorem dX3_next_122 : decode cX3_next 122 = .ok (.if_icmp .ge 22, 3) := dk_162 0 22 (dk_at dksX3_next_5 5 rfl rfl)
theorem dX3_next_125 : decode cX3_next 125 = .ok (.aload_n 0, 1) := dk_42 (dk_at dksX3_next_5 8 rfl rfl)
theorem dX3_next_126 : decode cX3_next 126 = .ok (.bipush 10, 2) := dk_16 10 (dk_at dksX3_next_5 9 rfl rfl)
theorem dX3_next_128 : decode cX3_next 128 = .ok (.aload_n 0, 1) := dk_42 (dk_at dksX3_next_5 11 rfl rfl)
theorem dX3_next_129 : decode cX3_next 129 = .ok (.getfield 142, 3) := dk_180 0 142 (dk_at dksX3_next_5 12 rfl rfl)
theorem dX3_next_132 : decode cX3_next 132 = .ok (.imul, 1) := dk_104 (dk_at dksX3_next_5 15 rfl rfl)
theorem dX3_next_133 : decode cX3_next 133 = .ok (.aload_n 0, 1) := dk_42 (dk_at dksX3_next_5 16 rfl rfl)
theorem dX3_next_134 : decode cX3_next 134 = .ok (.invokevirtual 29, 3) := dk_182 0 29 (dk_at dksX3_next_5 17 rfl rfl)
theorem dX3_next_137 : decode cX3_next 137 = .ok (.iadd, 1) := dk_96 (dk_at dksX3_next_5 20 rfl rfl)
theorem dX3_next_138 : decode cX3_next 138 = .ok (.bipush 48, 2) := dk_16 48 (dk_at dksX3_next_5 21 rfl rfl)
theorem dX3_next_140 : decode cX3_next 140 = .ok (.isub, 1) := dk_100 (dk_at dksX3_next_5 23 rfl rfl)
theorem dX3_next_141 : decode cX3_next 141 = .ok (.putfield 142, 3) := dk_181 0 142 (dk_at dksX3_next_6 0 rfl rfl)
theorem dX3_next_144 : decode cX3_next 144 = .ok (.aload_n 0, 1) := dk_42 (dk_at dksX3_next_6 3 rfl rfl)
theorem dX3_next_145 : decode cX3_next 145 = .ok (.dup, 1) := dk_89 (dk_at dksX3_next_6 4 rfl rfl)
theorem dX3_next_146 : decode cX3_next 146 = .ok (.getfield 19, 3) := dk_180 0 19 (dk_at dksX3_next_6 5 rfl rfl)
theorem dX3_next_149 : decode cX3_next 149 = .ok (.iconst 1, 1) := dk_4 (dk_at dksX3_next_6 8 rfl rfl)
theorem dX3_next_150 : decode cX3_next 150 = .ok (.iadd, 1) := dk_96 (dk_at dksX3_next_6 9 rfl rfl)
theorem dX3_next_151 : decode cX3_next 151 = .ok (.putfield 19, 3) := dk_181 0 19 (dk_at dksX3_next_6 10 rfl rfl)
theorem dX3_next_154 : decode cX3_next 154 = .ok (.goto (-49), 3) := dk_167 255 207 (dk_at dksX3_next_6 13 rfl rfl)
theorem dX3_next_157 : decode cX3_next 157 = .ok (.aload_n 0, 1) := dk_42 (dk_at dksX3_next_6 16 rfl rfl)
theorem dX3_next_158 : decode cX3_next 158 = .ok (.aload_n 0, 1) := dk_42 (dk_at dksX3_next_6 17 rfl rfl)
theorem dX3_next_159 : decode cX3_next 159 = .ok (.getfield 19, 3) := dk_180 0 19 (dk_at dksX3_next_6 18 rfl rfl)
theorem dX3_next_162 : decode cX3_next 162 = .ok (.aload_n 0, 1) := dk_42 (dk_at dksX3_next_6 21 rfl rfl)
theorem dX3_next_163 : decode cX3_next 163 = .ok (.getfield 37, 3) := dk_180 0 37 (dk_at dksX3_next_7 0 rfl rfl)
theorem dX3_next_166 : decode cX3_next 166 = .ok (.isub, 1) := dk_100 (dk_at dksX3_next_7 3 rfl rfl)
theorem dX3_next_167 : decode cX3_next 167 = .ok (.iconst 5, 1) := dk_8 (dk_at dksX3_next_7 4 rfl rfl)
theorem dX3_next_168 : decode cX3_next 168 = .ok (.if_icmp .ge 7, 3) := dk_162 0 7 (dk_at dksX3_next_7 5 rfl rfl)
theorem dX3_next_171 : decode cX3_next 171 = .ok (.iconst 2, 1) := dk_5 (dk_at dksX3_next_7 8 rfl rfl)
theorem dX3_next_172 : decode cX3_next 172 = .ok (.goto 4, 3) := dk_167 0 4 (dk_at dksX3_next_7 9 rfl rfl)
theorem dX3_next_175 : decode cX3_next 175 = .ok (.iconst 1, 1) := dk_4 (dk_at dksX3_next_7 12 rfl rfl)
theorem dX3_next_176 : decode cX3_next 176 = .ok (.putfield 134, 3) := dk_181 0 134 (dk_at dksX3_next_7 13 rfl rfl)
theorem dX3_next_179 : decode cX3_next 179 = .ok (.goto 36, 3) := dk_167 0 36 (dk_at dksX3_next_7 16 rfl rfl)
theorem dX3_next_182 : decode cX3_next 182 = .ok (.aload_n 0, 1) := dk_42 (dk_at dksX3_next_7 19 rfl rfl)
theorem dX3_next_183 : decode cX3_next 183 = .ok (.aload_n 0, 1) := dk_42 (dk_at dksX3_next_7 20 rfl rfl)
theorem dX3_next_184 : decode cX3_next 184 = .ok (.aload_n 0, 1) := dk_42 (dk_at dksX3_next_7 21 rfl rfl)
theorem dX3_next_185 : decode cX3_next 185 = .ok (.invokevirtual 29, 3) := dk_182 0 29 (dk_at dksX3_next_8 0 rfl rfl)
theorem dX3_next_188 : decode cX3_next 188 = .ok (.invokevirtual 166, 3) := dk_182 0 166 (dk_at dksX3_next_8 3 rfl rfl)
theorem dX3_next_191 : decode cX3_next 191 = .ok (.ifCond .eq 10, 3) := dk_153 0 10 (dk_at dksX3_next_8 6 rfl rfl)
theorem dX3_next_194 : decode cX3_next 194 = .ok (.aload_n 0, 1) := dk_42 (dk_at dksX3_next_8 9 rfl rfl)
theorem dX3_next_195 : decode cX3_next 195 = .ok (.invokevirtual 29, 3) := dk_182 0 29 (dk_at dksX3_next_8 10 rfl rfl)
theorem dX3_next_198 : decode cX3_next 198 = .ok (.goto 4, 3) := dk_167 0 4 (dk_at dksX3_next_8 13 rfl rfl)
theorem dX3_next_201 : decode cX3_next 201 = .ok (.iconst 1, 1) := dk_4 (dk_at dksX3_next_8 16 rfl rfl)
theorem dX3_next_202 : decode cX3_next 202 = .ok (.putfield 134, 3) := dk_181 0 134 (dk_at dksX3_next_8 17 rfl rfl)
theorem dX3_next_205 : decode cX3_next 205 = .ok (.aload_n 0, 1) := dk_42 (dk_at dksX3_next_8 20 rfl rfl)
theorem dX3_next_206 : decode cX3_next 206 = .ok (.dup, 1) := dk_89 (dk_at dksX3_next_8 21 rfl rfl)
theorem dX3_next_207 : decode cX3_next 207 = .ok (.getfield 19, 3) := dk_180 0 19 (dk_at dksX3_next_9 0 rfl rfl)
theorem dX3_next_210 : decode cX3_next 210 = .ok (.iconst 1, 1) := dk_4 (dk_at dksX3_next_9 3 rfl rfl)
theorem dX3_next_211 : decode cX3_next 211 = .ok (.iadd, 1) := dk_96 (dk_at dksX3_next_9 4 rfl rfl)
theorem dX3_next_212 : decode cX3_next 212 = .ok (.putfield 19, 3) := dk_181 0 19 (dk_at dksX3_next_9 5 rfl rfl)
theorem dX3_next_215 : decode cX3_next 215 = .ok (.return_, 1) := dk_177 (dk_at dksX3_next_9 8 rfl rfl)
abbrev cX3_see : ByteArray := prog_15_method_2_code
def yX3_see : MethodName := ⟨RX3, "see", "()I"⟩
def dkwX3_see_1 : List UInt8 := [180, 0, 19, 51, 17, 0, 255, 126, 167, 0, 4, 2, 172]
abbrev dktX3_see_1 : List UInt8 := dkwX3_see_1 ++ []
def dkwX3_see_0 : List UInt8 := [42, 180, 0, 19, 42, 180, 0, 3, 180, 0, 22, 162, 0, 22, 42, 180, 0, 3, 180, 0, 25, 42]
abbrev dktX3_see_0 : List UInt8 := dkwX3_see_0 ++ dktX3_see_1
theorem dksX3_see_0 : cX3_see.data.toList.drop 0 = dktX3_see_0 := by decide +kernel
theorem dksX3_see_1 : cX3_see.data.toList.drop 22 = dktX3_see_1 := dk_seg dksX3_see_0 22 rfl rfl
theorem dX3_see_0 : decode cX3_see 0 = .ok (.aload_n 0, 1) := dk_42 (dk_at dksX3_see_0 0 rfl rfl)
theorem dX3_see_1 : decode cX3_see 1 = .ok (.getfield 19, 3) := dk_180 0 19 (dk_at dksX3_see_0 1 rfl rfl)
theorem dX3_see_4 : decode cX3_see 4 = .ok (.aload_n 0, 1) := dk_42 (dk_at dksX3_see_0 4 rfl rfl)
theorem dX3_see_5 : decode cX3_see 5 = .ok (.getfield 3, 3) := dk_180 0 3 (dk_at dksX3_see_0 5 rfl rfl)
theorem dX3_see_8 : decode cX3_see 8 = .ok (.getfield 22, 3) := dk_180 0 22 (dk_at dksX3_see_0 8 rfl rfl)
theorem dX3_see_11 : decode cX3_see 11 = .ok (.if_icmp .ge 22, 3) := dk_162 0 22 (dk_at dksX3_see_0 11 rfl rfl)
theorem dX3_see_14 : decode cX3_see 14 = .ok (.aload_n 0, 1) := dk_42 (dk_at dksX3_see_0 14 rfl rfl)
theorem dX3_see_15 : decode cX3_see 15 = .ok (.getfield 3, 3) := dk_180 0 3 (dk_at dksX3_see_0 15 rfl rfl)
theorem dX3_see_18 : decode cX3_see 18 = .ok (.getfield 25, 3) := dk_180 0 25 (dk_at dksX3_see_0 18 rfl rfl)
theorem dX3_see_21 : decode cX3_see 21 = .ok (.aload_n 0, 1) := dk_42 (dk_at dksX3_see_0 21 rfl rfl)
theorem dX3_see_22 : decode cX3_see 22 = .ok (.getfield 19, 3) := dk_180 0 19 (dk_at dksX3_see_1 0 rfl rfl)
theorem dX3_see_25 : decode cX3_see 25 = .ok (.baload, 1) := dk_51 (dk_at dksX3_see_1 3 rfl rfl)
theorem dX3_see_26 : decode cX3_see 26 = .ok (.sipush 255, 3) := dk_17 0 255 (dk_at dksX3_see_1 4 rfl rfl)
theorem dX3_see_29 : decode cX3_see 29 = .ok (.iand, 1) := dk_126 (dk_at dksX3_see_1 7 rfl rfl)
theorem dX3_see_30 : decode cX3_see 30 = .ok (.goto 4, 3) := dk_167 0 4 (dk_at dksX3_see_1 8 rfl rfl)
theorem dX3_see_33 : decode cX3_see 33 = .ok (.iconst (-1), 1) := dk_2 (dk_at dksX3_see_1 11 rfl rfl)
theorem dX3_see_34 : decode cX3_see 34 = .ok (.ireturn, 1) := dk_172 (dk_at dksX3_see_1 12 rfl rfl)
abbrev cX3_isLetter : ByteArray := prog_15_method_3_code
def yX3_isLetter : MethodName := ⟨RX3, "isLetter", "()Z"⟩
def dkwX3_isLetter_1 : List UInt8 := [184, 0, 33, 153, 0, 7, 4, 167, 0, 4, 3, 172]
abbrev dktX3_isLetter_1 : List UInt8 := dkwX3_isLetter_1 ++ []
def dkwX3_isLetter_0 : List UInt8 := [42, 182, 0, 29, 16, 97, 16, 122, 184, 0, 33, 154, 0, 17, 42, 182, 0, 29, 16, 65, 16, 90]
abbrev dktX3_isLetter_0 : List UInt8 := dkwX3_isLetter_0 ++ dktX3_isLetter_1
theorem dksX3_isLetter_0 : cX3_isLetter.data.toList.drop 0 = dktX3_isLetter_0 := by decide +kernel
theorem dksX3_isLetter_1 : cX3_isLetter.data.toList.drop 22 = dktX3_isLetter_1 := dk_seg dksX3_isLetter_0 22 rfl rfl
theorem dX3_isLetter_0 : decode cX3_isLetter 0 = .ok (.aload_n 0, 1) := dk_42 (dk_at dksX3_isLetter_0 0 rfl rfl)
theorem dX3_isLetter_1 : decode cX3_isLetter 1 = .ok (.invokevirtual 29, 3) := dk_182 0 29 (dk_at dksX3_isLetter_0 1 rfl rfl)
theorem dX3_isLetter_4 : decode cX3_isLetter 4 = .ok (.bipush 97, 2) := dk_16 97 (dk_at dksX3_isLetter_0 4 rfl rfl)
theorem dX3_isLetter_6 : decode cX3_isLetter 6 = .ok (.bipush 122, 2) := dk_16 122 (dk_at dksX3_isLetter_0 6 rfl rfl)
theorem dX3_isLetter_8 : decode cX3_isLetter 8 = .ok (.invokestatic 33, 3) := dk_184 0 33 (dk_at dksX3_isLetter_0 8 rfl rfl)
theorem dX3_isLetter_11 : decode cX3_isLetter 11 = .ok (.ifCond .ne 17, 3) := dk_154 0 17 (dk_at dksX3_isLetter_0 11 rfl rfl)
theorem dX3_isLetter_14 : decode cX3_isLetter 14 = .ok (.aload_n 0, 1) := dk_42 (dk_at dksX3_isLetter_0 14 rfl rfl)
theorem dX3_isLetter_15 : decode cX3_isLetter 15 = .ok (.invokevirtual 29, 3) := dk_182 0 29 (dk_at dksX3_isLetter_0 15 rfl rfl)
theorem dX3_isLetter_18 : decode cX3_isLetter 18 = .ok (.bipush 65, 2) := dk_16 65 (dk_at dksX3_isLetter_0 18 rfl rfl)
theorem dX3_isLetter_20 : decode cX3_isLetter 20 = .ok (.bipush 90, 2) := dk_16 90 (dk_at dksX3_isLetter_0 20 rfl rfl)
theorem dX3_isLetter_22 : decode cX3_isLetter 22 = .ok (.invokestatic 33, 3) := dk_184 0 33 (dk_at dksX3_isLetter_1 0 rfl rfl)
theorem dX3_isLetter_25 : decode cX3_isLetter 25 = .ok (.ifCond .eq 7, 3) := dk_153 0 7 (dk_at dksX3_isLetter_1 3 rfl rfl)
theorem dX3_isLetter_28 : decode cX3_isLetter 28 = .ok (.iconst 1, 1) := dk_4 (dk_at dksX3_isLetter_1 6 rfl rfl)
theorem dX3_isLetter_29 : decode cX3_isLetter 29 = .ok (.goto 4, 3) := dk_167 0 4 (dk_at dksX3_isLetter_1 7 rfl rfl)
theorem dX3_isLetter_32 : decode cX3_isLetter 32 = .ok (.iconst 0, 1) := dk_3 (dk_at dksX3_isLetter_1 10 rfl rfl)
theorem dX3_isLetter_33 : decode cX3_isLetter 33 = .ok (.ireturn, 1) := dk_172 (dk_at dksX3_isLetter_1 11 rfl rfl)
abbrev cX3_keyword : ByteArray := prog_15_method_12_code
def yX3_keyword : MethodName := ⟨RX3, "keyword", "()I"⟩
def dkwX3_keyword_2 : List UInt8 := [42, 182, 0, 122, 172, 42, 182, 0, 125, 172, 42, 182, 0, 128, 172, 42, 182, 0, 131, 172]
abbrev dktX3_keyword_2 : List UInt8 := dkwX3_keyword_2 ++ []
def dkwX3_keyword_1 : List UInt8 := [170, 0, 0, 0, 0, 0, 0, 43, 0, 0, 0, 0, 0, 0, 0, 2, 0, 0, 0, 28, 0, 0, 0, 33, 0, 0, 0, 38]
abbrev dktX3_keyword_1 : List UInt8 := dkwX3_keyword_1 ++ dktX3_keyword_2
def dkwX3_keyword_0 : List UInt8 := [42, 180, 0, 15]
abbrev dktX3_keyword_0 : List UInt8 := dkwX3_keyword_0 ++ dktX3_keyword_1
theorem dksX3_keyword_0 : cX3_keyword.data.toList.drop 0 = dktX3_keyword_0 := by decide +kernel
theorem dksX3_keyword_1 : cX3_keyword.data.toList.drop 4 = dktX3_keyword_1 := dk_seg dksX3_keyword_0 4 rfl rfl
theorem dksX3_keyword_2 : cX3_keyword.data.toList.drop 32 = dktX3_keyword_2 := dk_seg dksX3_keyword_1 28 rfl rfl
theorem dX3_keyword_0 : decode cX3_keyword 0 = .ok (.aload_n 0, 1) := dk_42 (dk_at dksX3_keyword_0 0 rfl rfl)
theorem dX3_keyword_1 : decode cX3_keyword 1 = .ok (.getfield 15, 3) := dk_180 0 15 (dk_at dksX3_keyword_0 1 rfl rfl)
theorem dX3_keyword_4 : decode cX3_keyword 4 = .ok (.tableswitch 43 0 2 #[28, 33, 38], 28) := by decide +kernel
theorem dX3_keyword_32 : decode cX3_keyword 32 = .ok (.aload_n 0, 1) := dk_42 (dk_at dksX3_keyword_2 0 rfl rfl)
theorem dX3_keyword_33 : decode cX3_keyword 33 = .ok (.invokevirtual 122, 3) := dk_182 0 122 (dk_at dksX3_keyword_2 1 rfl rfl)
theorem dX3_keyword_36 : decode cX3_keyword 36 = .ok (.ireturn, 1) := dk_172 (dk_at dksX3_keyword_2 4 rfl rfl)
theorem dX3_keyword_37 : decode cX3_keyword 37 = .ok (.aload_n 0, 1) := dk_42 (dk_at dksX3_keyword_2 5 rfl rfl)
theorem dX3_keyword_38 : decode cX3_keyword 38 = .ok (.invokevirtual 125, 3) := dk_182 0 125 (dk_at dksX3_keyword_2 6 rfl rfl)
theorem dX3_keyword_41 : decode cX3_keyword 41 = .ok (.ireturn, 1) := dk_172 (dk_at dksX3_keyword_2 9 rfl rfl)
theorem dX3_keyword_42 : decode cX3_keyword 42 = .ok (.aload_n 0, 1) := dk_42 (dk_at dksX3_keyword_2 10 rfl rfl)
theorem dX3_keyword_43 : decode cX3_keyword 43 = .ok (.invokevirtual 128, 3) := dk_182 0 128 (dk_at dksX3_keyword_2 11 rfl rfl)
theorem dX3_keyword_46 : decode cX3_keyword 46 = .ok (.ireturn, 1) := dk_172 (dk_at dksX3_keyword_2 14 rfl rfl)
theorem dX3_keyword_47 : decode cX3_keyword 47 = .ok (.aload_n 0, 1) := dk_42 (dk_at dksX3_keyword_2 15 rfl rfl)
theorem dX3_keyword_48 : decode cX3_keyword 48 = .ok (.invokevirtual 131, 3) := dk_182 0 131 (dk_at dksX3_keyword_2 16 rfl rfl)
theorem dX3_keyword_51 : decode cX3_keyword 51 = .ok (.ireturn, 1) := dk_172 (dk_at dksX3_keyword_2 19 rfl rfl)
abbrev cX3_lawWord : ByteArray := prog_15_method_7_code
def yX3_lawWord : MethodName := ⟨RX3, "lawWord", "()I"⟩
def dkwX3_lawWord_3 : List UInt8 := [18, 83, 182, 0, 51, 153, 0, 8, 16, 9, 167, 0, 7, 42, 182, 0, 85, 172]
abbrev dktX3_lawWord_3 : List UInt8 := dkwX3_lawWord_3 ++ []
def dkwX3_lawWord_2 : List UInt8 := [18, 79, 182, 0, 51, 153, 0, 6, 16, 7, 172, 42, 18, 81, 182, 0, 51, 153, 0, 6, 16, 8, 172, 42]
abbrev dktX3_lawWord_2 : List UInt8 := dkwX3_lawWord_2 ++ dktX3_lawWord_3
def dkwX3_lawWord_1 : List UInt8 := [18, 75, 182, 0, 51, 153, 0, 5, 8, 172, 42, 18, 77, 182, 0, 51, 153, 0, 6, 16, 6, 172, 42]
abbrev dktX3_lawWord_1 : List UInt8 := dkwX3_lawWord_1 ++ dktX3_lawWord_2
def dkwX3_lawWord_0 : List UInt8 := [42, 18, 71, 182, 0, 51, 153, 0, 5, 6, 172, 42, 18, 73, 182, 0, 51, 153, 0, 5, 7, 172, 42]
abbrev dktX3_lawWord_0 : List UInt8 := dkwX3_lawWord_0 ++ dktX3_lawWord_1
theorem dksX3_lawWord_0 : cX3_lawWord.data.toList.drop 0 = dktX3_lawWord_0 := by decide +kernel
theorem dksX3_lawWord_1 : cX3_lawWord.data.toList.drop 23 = dktX3_lawWord_1 := dk_seg dksX3_lawWord_0 23 rfl rfl
theorem dksX3_lawWord_2 : cX3_lawWord.data.toList.drop 46 = dktX3_lawWord_2 := dk_seg dksX3_lawWord_1 23 rfl rfl
theorem dksX3_lawWord_3 : cX3_lawWord.data.toList.drop 70 = dktX3_lawWord_3 := dk_seg dksX3_lawWord_2 24 rfl rfl
theorem dX3_lawWord_0 : decode cX3_lawWord 0 = .ok (.aload_n 0, 1) := dk_42 (dk_at dksX3_lawWord_0 0 rfl rfl)
theorem dX3_lawWord_1 : decode cX3_lawWord 1 = .ok (.ldc 71, 2) := dk_18 71 (dk_at dksX3_lawWord_0 1 rfl rfl)
theorem dX3_lawWord_3 : decode cX3_lawWord 3 = .ok (.invokevirtual 51, 3) := dk_182 0 51 (dk_at dksX3_lawWord_0 3 rfl rfl)
theorem dX3_lawWord_6 : decode cX3_lawWord 6 = .ok (.ifCond .eq 5, 3) := dk_153 0 5 (dk_at dksX3_lawWord_0 6 rfl rfl)
theorem dX3_lawWord_9 : decode cX3_lawWord 9 = .ok (.iconst 3, 1) := dk_6 (dk_at dksX3_lawWord_0 9 rfl rfl)
theorem dX3_lawWord_10 : decode cX3_lawWord 10 = .ok (.ireturn, 1) := dk_172 (dk_at dksX3_lawWord_0 10 rfl rfl)
theorem dX3_lawWord_11 : decode cX3_lawWord 11 = .ok (.aload_n 0, 1) := dk_42 (dk_at dksX3_lawWord_0 11 rfl rfl)
theorem dX3_lawWord_12 : decode cX3_lawWord 12 = .ok (.ldc 73, 2) := dk_18 73 (dk_at dksX3_lawWord_0 12 rfl rfl)
theorem dX3_lawWord_14 : decode cX3_lawWord 14 = .ok (.invokevirtual 51, 3) := dk_182 0 51 (dk_at dksX3_lawWord_0 14 rfl rfl)
theorem dX3_lawWord_17 : decode cX3_lawWord 17 = .ok (.ifCond .eq 5, 3) := dk_153 0 5 (dk_at dksX3_lawWord_0 17 rfl rfl)
theorem dX3_lawWord_20 : decode cX3_lawWord 20 = .ok (.iconst 4, 1) := dk_7 (dk_at dksX3_lawWord_0 20 rfl rfl)
theorem dX3_lawWord_21 : decode cX3_lawWord 21 = .ok (.ireturn, 1) := dk_172 (dk_at dksX3_lawWord_0 21 rfl rfl)
theorem dX3_lawWord_22 : decode cX3_lawWord 22 = .ok (.aload_n 0, 1) := dk_42 (dk_at dksX3_lawWord_0 22 rfl rfl)
theorem dX3_lawWord_23 : decode cX3_lawWord 23 = .ok (.ldc 75, 2) := dk_18 75 (dk_at dksX3_lawWord_1 0 rfl rfl)
theorem dX3_lawWord_25 : decode cX3_lawWord 25 = .ok (.invokevirtual 51, 3) := dk_182 0 51 (dk_at dksX3_lawWord_1 2 rfl rfl)
theorem dX3_lawWord_28 : decode cX3_lawWord 28 = .ok (.ifCond .eq 5, 3) := dk_153 0 5 (dk_at dksX3_lawWord_1 5 rfl rfl)
theorem dX3_lawWord_31 : decode cX3_lawWord 31 = .ok (.iconst 5, 1) := dk_8 (dk_at dksX3_lawWord_1 8 rfl rfl)
theorem dX3_lawWord_32 : decode cX3_lawWord 32 = .ok (.ireturn, 1) := dk_172 (dk_at dksX3_lawWord_1 9 rfl rfl)
theorem dX3_lawWord_33 : decode cX3_lawWord 33 = .ok (.aload_n 0, 1) := dk_42 (dk_at dksX3_lawWord_1 10 rfl rfl)
theorem dX3_lawWord_34 : decode cX3_lawWord 34 = .ok (.ldc 77, 2) := dk_18 77 (dk_at dksX3_lawWord_1 11 rfl rfl)
theorem dX3_lawWord_36 : decode cX3_lawWord 36 = .ok (.invokevirtual 51, 3) := dk_182 0 51 (dk_at dksX3_lawWord_1 13 rfl rfl)
theorem dX3_lawWord_39 : decode cX3_lawWord 39 = .ok (.ifCond .eq 6, 3) := dk_153 0 6 (dk_at dksX3_lawWord_1 16 rfl rfl)
theorem dX3_lawWord_42 : decode cX3_lawWord 42 = .ok (.bipush 6, 2) := dk_16 6 (dk_at dksX3_lawWord_1 19 rfl rfl)
theorem dX3_lawWord_44 : decode cX3_lawWord 44 = .ok (.ireturn, 1) := dk_172 (dk_at dksX3_lawWord_1 21 rfl rfl)
theorem dX3_lawWord_45 : decode cX3_lawWord 45 = .ok (.aload_n 0, 1) := dk_42 (dk_at dksX3_lawWord_1 22 rfl rfl)
theorem dX3_lawWord_46 : decode cX3_lawWord 46 = .ok (.ldc 79, 2) := dk_18 79 (dk_at dksX3_lawWord_2 0 rfl rfl)
theorem dX3_lawWord_48 : decode cX3_lawWord 48 = .ok (.invokevirtual 51, 3) := dk_182 0 51 (dk_at dksX3_lawWord_2 2 rfl rfl)
theorem dX3_lawWord_51 : decode cX3_lawWord 51 = .ok (.ifCond .eq 6, 3) := dk_153 0 6 (dk_at dksX3_lawWord_2 5 rfl rfl)
theorem dX3_lawWord_54 : decode cX3_lawWord 54 = .ok (.bipush 7, 2) := dk_16 7 (dk_at dksX3_lawWord_2 8 rfl rfl)
theorem dX3_lawWord_56 : decode cX3_lawWord 56 = .ok (.ireturn, 1) := dk_172 (dk_at dksX3_lawWord_2 10 rfl rfl)
theorem dX3_lawWord_57 : decode cX3_lawWord 57 = .ok (.aload_n 0, 1) := dk_42 (dk_at dksX3_lawWord_2 11 rfl rfl)
theorem dX3_lawWord_58 : decode cX3_lawWord 58 = .ok (.ldc 81, 2) := dk_18 81 (dk_at dksX3_lawWord_2 12 rfl rfl)
theorem dX3_lawWord_60 : decode cX3_lawWord 60 = .ok (.invokevirtual 51, 3) := dk_182 0 51 (dk_at dksX3_lawWord_2 14 rfl rfl)
theorem dX3_lawWord_63 : decode cX3_lawWord 63 = .ok (.ifCond .eq 6, 3) := dk_153 0 6 (dk_at dksX3_lawWord_2 17 rfl rfl)
theorem dX3_lawWord_66 : decode cX3_lawWord 66 = .ok (.bipush 8, 2) := dk_16 8 (dk_at dksX3_lawWord_2 20 rfl rfl)
theorem dX3_lawWord_68 : decode cX3_lawWord 68 = .ok (.ireturn, 1) := dk_172 (dk_at dksX3_lawWord_2 22 rfl rfl)
theorem dX3_lawWord_69 : decode cX3_lawWord 69 = .ok (.aload_n 0, 1) := dk_42 (dk_at dksX3_lawWord_2 23 rfl rfl)
theorem dX3_lawWord_70 : decode cX3_lawWord 70 = .ok (.ldc 83, 2) := dk_18 83 (dk_at dksX3_lawWord_3 0 rfl rfl)
theorem dX3_lawWord_72 : decode cX3_lawWord 72 = .ok (.invokevirtual 51, 3) := dk_182 0 51 (dk_at dksX3_lawWord_3 2 rfl rfl)
theorem dX3_lawWord_75 : decode cX3_lawWord 75 = .ok (.ifCond .eq 8, 3) := dk_153 0 8 (dk_at dksX3_lawWord_3 5 rfl rfl)
theorem dX3_lawWord_78 : decode cX3_lawWord 78 = .ok (.bipush 9, 2) := dk_16 9 (dk_at dksX3_lawWord_3 8 rfl rfl)
theorem dX3_lawWord_80 : decode cX3_lawWord 80 = .ok (.goto 7, 3) := dk_167 0 7 (dk_at dksX3_lawWord_3 10 rfl rfl)
theorem dX3_lawWord_83 : decode cX3_lawWord 83 = .ok (.aload_n 0, 1) := dk_42 (dk_at dksX3_lawWord_3 13 rfl rfl)
theorem dX3_lawWord_84 : decode cX3_lawWord 84 = .ok (.invokevirtual 85, 3) := dk_182 0 85 (dk_at dksX3_lawWord_3 14 rfl rfl)
theorem dX3_lawWord_87 : decode cX3_lawWord 87 = .ok (.ireturn, 1) := dk_172 (dk_at dksX3_lawWord_3 17 rfl rfl)
abbrev cX3_is : ByteArray := prog_15_method_5_code
def yX3_is : MethodName := ⟨RX3, "is", "(Ljava/lang/String;)Z"⟩
def dkwX3_is_2 : List UInt8 := [96, 51, 43, 29, 182, 0, 45, 160, 0, 7, 4, 167, 0, 4, 3, 61, 132, 3, 1, 167, 255, 213, 28, 172]
abbrev dktX3_is_2 : List UInt8 := dkwX3_is_2 ++ []
def dkwX3_is_1 : List UInt8 := [29, 43, 182, 0, 40, 162, 0, 41, 28, 153, 0, 37, 42, 180, 0, 3, 180, 0, 25, 42, 180, 0, 37, 29]
abbrev dktX3_is_1 : List UInt8 := dkwX3_is_1 ++ dktX3_is_2
def dkwX3_is_0 : List UInt8 := [42, 180, 0, 19, 42, 180, 0, 37, 100, 43, 182, 0, 40, 160, 0, 7, 4, 167, 0, 4, 3, 61, 3, 62]
abbrev dktX3_is_0 : List UInt8 := dkwX3_is_0 ++ dktX3_is_1
theorem dksX3_is_0 : cX3_is.data.toList.drop 0 = dktX3_is_0 := by decide +kernel
theorem dksX3_is_1 : cX3_is.data.toList.drop 24 = dktX3_is_1 := dk_seg dksX3_is_0 24 rfl rfl
theorem dksX3_is_2 : cX3_is.data.toList.drop 48 = dktX3_is_2 := dk_seg dksX3_is_1 24 rfl rfl
theorem dX3_is_0 : decode cX3_is 0 = .ok (.aload_n 0, 1) := dk_42 (dk_at dksX3_is_0 0 rfl rfl)
theorem dX3_is_1 : decode cX3_is 1 = .ok (.getfield 19, 3) := dk_180 0 19 (dk_at dksX3_is_0 1 rfl rfl)
theorem dX3_is_4 : decode cX3_is 4 = .ok (.aload_n 0, 1) := dk_42 (dk_at dksX3_is_0 4 rfl rfl)
theorem dX3_is_5 : decode cX3_is 5 = .ok (.getfield 37, 3) := dk_180 0 37 (dk_at dksX3_is_0 5 rfl rfl)
theorem dX3_is_8 : decode cX3_is 8 = .ok (.isub, 1) := dk_100 (dk_at dksX3_is_0 8 rfl rfl)
theorem dX3_is_9 : decode cX3_is 9 = .ok (.aload_n 1, 1) := dk_43 (dk_at dksX3_is_0 9 rfl rfl)
theorem dX3_is_10 : decode cX3_is 10 = .ok (.invokevirtual 40, 3) := dk_182 0 40 (dk_at dksX3_is_0 10 rfl rfl)
theorem dX3_is_13 : decode cX3_is 13 = .ok (.if_icmp .ne 7, 3) := dk_160 0 7 (dk_at dksX3_is_0 13 rfl rfl)
theorem dX3_is_16 : decode cX3_is 16 = .ok (.iconst 1, 1) := dk_4 (dk_at dksX3_is_0 16 rfl rfl)
theorem dX3_is_17 : decode cX3_is 17 = .ok (.goto 4, 3) := dk_167 0 4 (dk_at dksX3_is_0 17 rfl rfl)
theorem dX3_is_20 : decode cX3_is 20 = .ok (.iconst 0, 1) := dk_3 (dk_at dksX3_is_0 20 rfl rfl)
theorem dX3_is_21 : decode cX3_is 21 = .ok (.istore_n 2, 1) := dk_61 (dk_at dksX3_is_0 21 rfl rfl)
theorem dX3_is_22 : decode cX3_is 22 = .ok (.iconst 0, 1) := dk_3 (dk_at dksX3_is_0 22 rfl rfl)
theorem dX3_is_23 : decode cX3_is 23 = .ok (.istore_n 3, 1) := dk_62 (dk_at dksX3_is_0 23 rfl rfl)
theorem dX3_is_24 : decode cX3_is 24 = .ok (.iload_n 3, 1) := dk_29 (dk_at dksX3_is_1 0 rfl rfl)
theorem dX3_is_25 : decode cX3_is 25 = .ok (.aload_n 1, 1) := dk_43 (dk_at dksX3_is_1 1 rfl rfl)
theorem dX3_is_26 : decode cX3_is 26 = .ok (.invokevirtual 40, 3) := dk_182 0 40 (dk_at dksX3_is_1 2 rfl rfl)
theorem dX3_is_29 : decode cX3_is 29 = .ok (.if_icmp .ge 41, 3) := dk_162 0 41 (dk_at dksX3_is_1 5 rfl rfl)
theorem dX3_is_32 : decode cX3_is 32 = .ok (.iload_n 2, 1) := dk_28 (dk_at dksX3_is_1 8 rfl rfl)
theorem dX3_is_33 : decode cX3_is 33 = .ok (.ifCond .eq 37, 3) := dk_153 0 37 (dk_at dksX3_is_1 9 rfl rfl)
theorem dX3_is_36 : decode cX3_is 36 = .ok (.aload_n 0, 1) := dk_42 (dk_at dksX3_is_1 12 rfl rfl)
theorem dX3_is_37 : decode cX3_is 37 = .ok (.getfield 3, 3) := dk_180 0 3 (dk_at dksX3_is_1 13 rfl rfl)
theorem dX3_is_40 : decode cX3_is 40 = .ok (.getfield 25, 3) := dk_180 0 25 (dk_at dksX3_is_1 16 rfl rfl)
theorem dX3_is_43 : decode cX3_is 43 = .ok (.aload_n 0, 1) := dk_42 (dk_at dksX3_is_1 19 rfl rfl)
theorem dX3_is_44 : decode cX3_is 44 = .ok (.getfield 37, 3) := dk_180 0 37 (dk_at dksX3_is_1 20 rfl rfl)
theorem dX3_is_47 : decode cX3_is 47 = .ok (.iload_n 3, 1) := dk_29 (dk_at dksX3_is_1 23 rfl rfl)
theorem dX3_is_48 : decode cX3_is 48 = .ok (.iadd, 1) := dk_96 (dk_at dksX3_is_2 0 rfl rfl)
theorem dX3_is_49 : decode cX3_is 49 = .ok (.baload, 1) := dk_51 (dk_at dksX3_is_2 1 rfl rfl)
theorem dX3_is_50 : decode cX3_is 50 = .ok (.aload_n 1, 1) := dk_43 (dk_at dksX3_is_2 2 rfl rfl)
theorem dX3_is_51 : decode cX3_is 51 = .ok (.iload_n 3, 1) := dk_29 (dk_at dksX3_is_2 3 rfl rfl)
theorem dX3_is_52 : decode cX3_is 52 = .ok (.invokevirtual 45, 3) := dk_182 0 45 (dk_at dksX3_is_2 4 rfl rfl)
theorem dX3_is_55 : decode cX3_is 55 = .ok (.if_icmp .ne 7, 3) := dk_160 0 7 (dk_at dksX3_is_2 7 rfl rfl)
theorem dX3_is_58 : decode cX3_is 58 = .ok (.iconst 1, 1) := dk_4 (dk_at dksX3_is_2 10 rfl rfl)
theorem dX3_is_59 : decode cX3_is 59 = .ok (.goto 4, 3) := dk_167 0 4 (dk_at dksX3_is_2 11 rfl rfl)
theorem dX3_is_62 : decode cX3_is 62 = .ok (.iconst 0, 1) := dk_3 (dk_at dksX3_is_2 14 rfl rfl)
theorem dX3_is_63 : decode cX3_is 63 = .ok (.istore_n 2, 1) := dk_61 (dk_at dksX3_is_2 15 rfl rfl)
theorem dX3_is_64 : decode cX3_is 64 = .ok (.iinc 3 1, 3) := dk_132 3 1 (dk_at dksX3_is_2 16 rfl rfl)
theorem dX3_is_67 : decode cX3_is 67 = .ok (.goto (-43), 3) := dk_167 255 213 (dk_at dksX3_is_2 19 rfl rfl)
theorem dX3_is_70 : decode cX3_is 70 = .ok (.iload_n 2, 1) := dk_28 (dk_at dksX3_is_2 22 rfl rfl)
theorem dX3_is_71 : decode cX3_is 71 = .ok (.ireturn, 1) := dk_172 (dk_at dksX3_is_2 23 rfl rfl)
abbrev cX3_asked : ByteArray := prog_15_method_6_code
def yX3_asked : MethodName := ⟨RX3, "asked", "()I"⟩
def dkwX3_asked_5 : List UInt8 := [167, 0, 4, 4, 172]
abbrev dktX3_asked_5 : List UInt8 := dkwX3_asked_5 ++ []
def dkwX3_asked_4 : List UInt8 := [18, 67, 182, 0, 51, 153, 0, 7, 17, 0, 187, 172, 42, 18, 69, 182, 0, 51, 153, 0, 9, 17, 0, 188]
abbrev dktX3_asked_4 : List UInt8 := dkwX3_asked_4 ++ dktX3_asked_5
def dkwX3_asked_3 : List UInt8 := [182, 0, 51, 153, 0, 7, 17, 0, 185, 172, 42, 18, 65, 182, 0, 51, 153, 0, 7, 17, 0, 186, 172, 42]
abbrev dktX3_asked_3 : List UInt8 := dkwX3_asked_3 ++ dktX3_asked_4
def dkwX3_asked_2 : List UInt8 := [153, 0, 7, 17, 0, 183, 172, 42, 18, 61, 182, 0, 51, 153, 0, 7, 17, 0, 184, 172, 42, 18, 63]
abbrev dktX3_asked_2 : List UInt8 := dkwX3_asked_2 ++ dktX3_asked_3
def dkwX3_asked_1 : List UInt8 := [17, 0, 181, 172, 42, 18, 57, 182, 0, 51, 153, 0, 7, 17, 0, 182, 172, 42, 18, 59, 182, 0, 51]
abbrev dktX3_asked_1 : List UInt8 := dkwX3_asked_1 ++ dktX3_asked_2
def dkwX3_asked_0 : List UInt8 := [42, 18, 49, 182, 0, 51, 153, 0, 7, 17, 0, 180, 172, 42, 18, 55, 182, 0, 51, 153, 0, 7]
abbrev dktX3_asked_0 : List UInt8 := dkwX3_asked_0 ++ dktX3_asked_1
theorem dksX3_asked_0 : cX3_asked.data.toList.drop 0 = dktX3_asked_0 := by decide +kernel
theorem dksX3_asked_1 : cX3_asked.data.toList.drop 22 = dktX3_asked_1 := dk_seg dksX3_asked_0 22 rfl rfl
theorem dksX3_asked_2 : cX3_asked.data.toList.drop 45 = dktX3_asked_2 := dk_seg dksX3_asked_1 23 rfl rfl
theorem dksX3_asked_3 : cX3_asked.data.toList.drop 68 = dktX3_asked_3 := dk_seg dksX3_asked_2 23 rfl rfl
theorem dksX3_asked_4 : cX3_asked.data.toList.drop 92 = dktX3_asked_4 := dk_seg dksX3_asked_3 24 rfl rfl
theorem dksX3_asked_5 : cX3_asked.data.toList.drop 116 = dktX3_asked_5 := dk_seg dksX3_asked_4 24 rfl rfl
theorem dX3_asked_0 : decode cX3_asked 0 = .ok (.aload_n 0, 1) := dk_42 (dk_at dksX3_asked_0 0 rfl rfl)
theorem dX3_asked_1 : decode cX3_asked 1 = .ok (.ldc 49, 2) := dk_18 49 (dk_at dksX3_asked_0 1 rfl rfl)
theorem dX3_asked_3 : decode cX3_asked 3 = .ok (.invokevirtual 51, 3) := dk_182 0 51 (dk_at dksX3_asked_0 3 rfl rfl)
theorem dX3_asked_6 : decode cX3_asked 6 = .ok (.ifCond .eq 7, 3) := dk_153 0 7 (dk_at dksX3_asked_0 6 rfl rfl)
theorem dX3_asked_9 : decode cX3_asked 9 = .ok (.sipush 180, 3) := dk_17 0 180 (dk_at dksX3_asked_0 9 rfl rfl)
theorem dX3_asked_12 : decode cX3_asked 12 = .ok (.ireturn, 1) := dk_172 (dk_at dksX3_asked_0 12 rfl rfl)
theorem dX3_asked_13 : decode cX3_asked 13 = .ok (.aload_n 0, 1) := dk_42 (dk_at dksX3_asked_0 13 rfl rfl)
theorem dX3_asked_14 : decode cX3_asked 14 = .ok (.ldc 55, 2) := dk_18 55 (dk_at dksX3_asked_0 14 rfl rfl)
theorem dX3_asked_16 : decode cX3_asked 16 = .ok (.invokevirtual 51, 3) := dk_182 0 51 (dk_at dksX3_asked_0 16 rfl rfl)
theorem dX3_asked_19 : decode cX3_asked 19 = .ok (.ifCond .eq 7, 3) := dk_153 0 7 (dk_at dksX3_asked_0 19 rfl rfl)
theorem dX3_asked_22 : decode cX3_asked 22 = .ok (.sipush 181, 3) := dk_17 0 181 (dk_at dksX3_asked_1 0 rfl rfl)
theorem dX3_asked_25 : decode cX3_asked 25 = .ok (.ireturn, 1) := dk_172 (dk_at dksX3_asked_1 3 rfl rfl)
theorem dX3_asked_26 : decode cX3_asked 26 = .ok (.aload_n 0, 1) := dk_42 (dk_at dksX3_asked_1 4 rfl rfl)
theorem dX3_asked_27 : decode cX3_asked 27 = .ok (.ldc 57, 2) := dk_18 57 (dk_at dksX3_asked_1 5 rfl rfl)
theorem dX3_asked_29 : decode cX3_asked 29 = .ok (.invokevirtual 51, 3) := dk_182 0 51 (dk_at dksX3_asked_1 7 rfl rfl)
theorem dX3_asked_32 : decode cX3_asked 32 = .ok (.ifCond .eq 7, 3) := dk_153 0 7 (dk_at dksX3_asked_1 10 rfl rfl)
theorem dX3_asked_35 : decode cX3_asked 35 = .ok (.sipush 182, 3) := dk_17 0 182 (dk_at dksX3_asked_1 13 rfl rfl)
theorem dX3_asked_38 : decode cX3_asked 38 = .ok (.ireturn, 1) := dk_172 (dk_at dksX3_asked_1 16 rfl rfl)
theorem dX3_asked_39 : decode cX3_asked 39 = .ok (.aload_n 0, 1) := dk_42 (dk_at dksX3_asked_1 17 rfl rfl)
theorem dX3_asked_40 : decode cX3_asked 40 = .ok (.ldc 59, 2) := dk_18 59 (dk_at dksX3_asked_1 18 rfl rfl)
theorem dX3_asked_42 : decode cX3_asked 42 = .ok (.invokevirtual 51, 3) := dk_182 0 51 (dk_at dksX3_asked_1 20 rfl rfl)
theorem dX3_asked_45 : decode cX3_asked 45 = .ok (.ifCond .eq 7, 3) := dk_153 0 7 (dk_at dksX3_asked_2 0 rfl rfl)
theorem dX3_asked_48 : decode cX3_asked 48 = .ok (.sipush 183, 3) := dk_17 0 183 (dk_at dksX3_asked_2 3 rfl rfl)
theorem dX3_asked_51 : decode cX3_asked 51 = .ok (.ireturn, 1) := dk_172 (dk_at dksX3_asked_2 6 rfl rfl)
theorem dX3_asked_52 : decode cX3_asked 52 = .ok (.aload_n 0, 1) := dk_42 (dk_at dksX3_asked_2 7 rfl rfl)
theorem dX3_asked_53 : decode cX3_asked 53 = .ok (.ldc 61, 2) := dk_18 61 (dk_at dksX3_asked_2 8 rfl rfl)
theorem dX3_asked_55 : decode cX3_asked 55 = .ok (.invokevirtual 51, 3) := dk_182 0 51 (dk_at dksX3_asked_2 10 rfl rfl)
theorem dX3_asked_58 : decode cX3_asked 58 = .ok (.ifCond .eq 7, 3) := dk_153 0 7 (dk_at dksX3_asked_2 13 rfl rfl)
theorem dX3_asked_61 : decode cX3_asked 61 = .ok (.sipush 184, 3) := dk_17 0 184 (dk_at dksX3_asked_2 16 rfl rfl)
theorem dX3_asked_64 : decode cX3_asked 64 = .ok (.ireturn, 1) := dk_172 (dk_at dksX3_asked_2 19 rfl rfl)
theorem dX3_asked_65 : decode cX3_asked 65 = .ok (.aload_n 0, 1) := dk_42 (dk_at dksX3_asked_2 20 rfl rfl)
theorem dX3_asked_66 : decode cX3_asked 66 = .ok (.ldc 63, 2) := dk_18 63 (dk_at dksX3_asked_2 21 rfl rfl)
theorem dX3_asked_68 : decode cX3_asked 68 = .ok (.invokevirtual 51, 3) := dk_182 0 51 (dk_at dksX3_asked_3 0 rfl rfl)
theorem dX3_asked_71 : decode cX3_asked 71 = .ok (.ifCond .eq 7, 3) := dk_153 0 7 (dk_at dksX3_asked_3 3 rfl rfl)
theorem dX3_asked_74 : decode cX3_asked 74 = .ok (.sipush 185, 3) := dk_17 0 185 (dk_at dksX3_asked_3 6 rfl rfl)
theorem dX3_asked_77 : decode cX3_asked 77 = .ok (.ireturn, 1) := dk_172 (dk_at dksX3_asked_3 9 rfl rfl)
theorem dX3_asked_78 : decode cX3_asked 78 = .ok (.aload_n 0, 1) := dk_42 (dk_at dksX3_asked_3 10 rfl rfl)
theorem dX3_asked_79 : decode cX3_asked 79 = .ok (.ldc 65, 2) := dk_18 65 (dk_at dksX3_asked_3 11 rfl rfl)
theorem dX3_asked_81 : decode cX3_asked 81 = .ok (.invokevirtual 51, 3) := dk_182 0 51 (dk_at dksX3_asked_3 13 rfl rfl)
theorem dX3_asked_84 : decode cX3_asked 84 = .ok (.ifCond .eq 7, 3) := dk_153 0 7 (dk_at dksX3_asked_3 16 rfl rfl)
theorem dX3_asked_87 : decode cX3_asked 87 = .ok (.sipush 186, 3) := dk_17 0 186 (dk_at dksX3_asked_3 19 rfl rfl)
theorem dX3_asked_90 : decode cX3_asked 90 = .ok (.ireturn, 1) := dk_172 (dk_at dksX3_asked_3 22 rfl rfl)
theorem dX3_asked_91 : decode cX3_asked 91 = .ok (.aload_n 0, 1) := dk_42 (dk_at dksX3_asked_3 23 rfl rfl)
theorem dX3_asked_92 : decode cX3_asked 92 = .ok (.ldc 67, 2) := dk_18 67 (dk_at dksX3_asked_4 0 rfl rfl)
theorem dX3_asked_94 : decode cX3_asked 94 = .ok (.invokevirtual 51, 3) := dk_182 0 51 (dk_at dksX3_asked_4 2 rfl rfl)
theorem dX3_asked_97 : decode cX3_asked 97 = .ok (.ifCond .eq 7, 3) := dk_153 0 7 (dk_at dksX3_asked_4 5 rfl rfl)
theorem dX3_asked_100 : decode cX3_asked 100 = .ok (.sipush 187, 3) := dk_17 0 187 (dk_at dksX3_asked_4 8 rfl rfl)
theorem dX3_asked_103 : decode cX3_asked 103 = .ok (.ireturn, 1) := dk_172 (dk_at dksX3_asked_4 11 rfl rfl)
theorem dX3_asked_104 : decode cX3_asked 104 = .ok (.aload_n 0, 1) := dk_42 (dk_at dksX3_asked_4 12 rfl rfl)
theorem dX3_asked_105 : decode cX3_asked 105 = .ok (.ldc 69, 2) := dk_18 69 (dk_at dksX3_asked_4 13 rfl rfl)
theorem dX3_asked_107 : decode cX3_asked 107 = .ok (.invokevirtual 51, 3) := dk_182 0 51 (dk_at dksX3_asked_4 15 rfl rfl)
theorem dX3_asked_110 : decode cX3_asked 110 = .ok (.ifCond .eq 9, 3) := dk_153 0 9 (dk_at dksX3_asked_4 18 rfl rfl)
theorem dX3_asked_113 : decode cX3_asked 113 = .ok (.sipush 188, 3) := dk_17 0 188 (dk_at dksX3_asked_4 21 rfl rfl)
theorem dX3_asked_116 : decode cX3_asked 116 = .ok (.goto 4, 3) := dk_167 0 4 (dk_at dksX3_asked_5 0 rfl rfl)
theorem dX3_asked_119 : decode cX3_asked 119 = .ok (.iconst 1, 1) := dk_4 (dk_at dksX3_asked_5 3 rfl rfl)
theorem dX3_asked_120 : decode cX3_asked 120 = .ok (.ireturn, 1) := dk_172 (dk_at dksX3_asked_5 4 rfl rfl)
abbrev cX3_quenchWord : ByteArray := prog_15_method_9_code
def yX3_quenchWord : MethodName := ⟨RX3, "quenchWord", "()I"⟩
def dkwX3_quenchWord_1 : List UInt8 := [167, 0, 7, 42, 182, 0, 102, 172]
abbrev dktX3_quenchWord_1 : List UInt8 := dkwX3_quenchWord_1 ++ []
def dkwX3_quenchWord_0 : List UInt8 := [42, 18, 98, 182, 0, 51, 153, 0, 6, 16, 10, 172, 42, 18, 100, 182, 0, 51, 153, 0, 8, 16, 11]
abbrev dktX3_quenchWord_0 : List UInt8 := dkwX3_quenchWord_0 ++ dktX3_quenchWord_1
theorem dksX3_quenchWord_0 : cX3_quenchWord.data.toList.drop 0 = dktX3_quenchWord_0 := by decide +kernel
theorem dksX3_quenchWord_1 : cX3_quenchWord.data.toList.drop 23 = dktX3_quenchWord_1 := dk_seg dksX3_quenchWord_0 23 rfl rfl
theorem dX3_quenchWord_0 : decode cX3_quenchWord 0 = .ok (.aload_n 0, 1) := dk_42 (dk_at dksX3_quenchWord_0 0 rfl rfl)
theorem dX3_quenchWord_1 : decode cX3_quenchWord 1 = .ok (.ldc 98, 2) := dk_18 98 (dk_at dksX3_quenchWord_0 1 rfl rfl)
theorem dX3_quenchWord_3 : decode cX3_quenchWord 3 = .ok (.invokevirtual 51, 3) := dk_182 0 51 (dk_at dksX3_quenchWord_0 3 rfl rfl)
theorem dX3_quenchWord_6 : decode cX3_quenchWord 6 = .ok (.ifCond .eq 6, 3) := dk_153 0 6 (dk_at dksX3_quenchWord_0 6 rfl rfl)
theorem dX3_quenchWord_9 : decode cX3_quenchWord 9 = .ok (.bipush 10, 2) := dk_16 10 (dk_at dksX3_quenchWord_0 9 rfl rfl)
theorem dX3_quenchWord_11 : decode cX3_quenchWord 11 = .ok (.ireturn, 1) := dk_172 (dk_at dksX3_quenchWord_0 11 rfl rfl)
theorem dX3_quenchWord_12 : decode cX3_quenchWord 12 = .ok (.aload_n 0, 1) := dk_42 (dk_at dksX3_quenchWord_0 12 rfl rfl)
theorem dX3_quenchWord_13 : decode cX3_quenchWord 13 = .ok (.ldc 100, 2) := dk_18 100 (dk_at dksX3_quenchWord_0 13 rfl rfl)
theorem dX3_quenchWord_15 : decode cX3_quenchWord 15 = .ok (.invokevirtual 51, 3) := dk_182 0 51 (dk_at dksX3_quenchWord_0 15 rfl rfl)
theorem dX3_quenchWord_18 : decode cX3_quenchWord 18 = .ok (.ifCond .eq 8, 3) := dk_153 0 8 (dk_at dksX3_quenchWord_0 18 rfl rfl)
theorem dX3_quenchWord_21 : decode cX3_quenchWord 21 = .ok (.bipush 11, 2) := dk_16 11 (dk_at dksX3_quenchWord_0 21 rfl rfl)
theorem dX3_quenchWord_23 : decode cX3_quenchWord 23 = .ok (.goto 7, 3) := dk_167 0 7 (dk_at dksX3_quenchWord_1 0 rfl rfl)
theorem dX3_quenchWord_26 : decode cX3_quenchWord 26 = .ok (.aload_n 0, 1) := dk_42 (dk_at dksX3_quenchWord_1 3 rfl rfl)
theorem dX3_quenchWord_27 : decode cX3_quenchWord 27 = .ok (.invokevirtual 102, 3) := dk_182 0 102 (dk_at dksX3_quenchWord_1 4 rfl rfl)
theorem dX3_quenchWord_30 : decode cX3_quenchWord 30 = .ok (.ireturn, 1) := dk_172 (dk_at dksX3_quenchWord_1 7 rfl rfl)
abbrev cX3_kindWord : ByteArray := prog_15_method_8_code
def yX3_kindWord : MethodName := ⟨RX3, "kindWord", "()I"⟩
def dkwX3_kindWord_2 : List UInt8 := [42, 18, 96, 182, 0, 51, 153, 0, 8, 16, 34, 167, 0, 4, 4, 172]
abbrev dktX3_kindWord_2 : List UInt8 := dkwX3_kindWord_2 ++ []
def dkwX3_kindWord_1 : List UInt8 := [42, 18, 92, 182, 0, 51, 153, 0, 6, 16, 32, 172, 42, 18, 94, 182, 0, 51, 153, 0, 6, 16, 33, 172]
abbrev dktX3_kindWord_1 : List UInt8 := dkwX3_kindWord_1 ++ dktX3_kindWord_2
def dkwX3_kindWord_0 : List UInt8 := [42, 18, 88, 182, 0, 51, 153, 0, 6, 16, 30, 172, 42, 18, 90, 182, 0, 51, 153, 0, 6, 16, 31, 172]
abbrev dktX3_kindWord_0 : List UInt8 := dkwX3_kindWord_0 ++ dktX3_kindWord_1
theorem dksX3_kindWord_0 : cX3_kindWord.data.toList.drop 0 = dktX3_kindWord_0 := by decide +kernel
theorem dksX3_kindWord_1 : cX3_kindWord.data.toList.drop 24 = dktX3_kindWord_1 := dk_seg dksX3_kindWord_0 24 rfl rfl
theorem dksX3_kindWord_2 : cX3_kindWord.data.toList.drop 48 = dktX3_kindWord_2 := dk_seg dksX3_kindWord_1 24 rfl rfl
theorem dX3_kindWord_0 : decode cX3_kindWord 0 = .ok (.aload_n 0, 1) := dk_42 (dk_at dksX3_kindWord_0 0 rfl rfl)
theorem dX3_kindWord_1 : decode cX3_kindWord 1 = .ok (.ldc 88, 2) := dk_18 88 (dk_at dksX3_kindWord_0 1 rfl rfl)
theorem dX3_kindWord_3 : decode cX3_kindWord 3 = .ok (.invokevirtual 51, 3) := dk_182 0 51 (dk_at dksX3_kindWord_0 3 rfl rfl)
theorem dX3_kindWord_6 : decode cX3_kindWord 6 = .ok (.ifCond .eq 6, 3) := dk_153 0 6 (dk_at dksX3_kindWord_0 6 rfl rfl)
theorem dX3_kindWord_9 : decode cX3_kindWord 9 = .ok (.bipush 30, 2) := dk_16 30 (dk_at dksX3_kindWord_0 9 rfl rfl)
theorem dX3_kindWord_11 : decode cX3_kindWord 11 = .ok (.ireturn, 1) := dk_172 (dk_at dksX3_kindWord_0 11 rfl rfl)
theorem dX3_kindWord_12 : decode cX3_kindWord 12 = .ok (.aload_n 0, 1) := dk_42 (dk_at dksX3_kindWord_0 12 rfl rfl)
theorem dX3_kindWord_13 : decode cX3_kindWord 13 = .ok (.ldc 90, 2) := dk_18 90 (dk_at dksX3_kindWord_0 13 rfl rfl)
theorem dX3_kindWord_15 : decode cX3_kindWord 15 = .ok (.invokevirtual 51, 3) := dk_182 0 51 (dk_at dksX3_kindWord_0 15 rfl rfl)
theorem dX3_kindWord_18 : decode cX3_kindWord 18 = .ok (.ifCond .eq 6, 3) := dk_153 0 6 (dk_at dksX3_kindWord_0 18 rfl rfl)
theorem dX3_kindWord_21 : decode cX3_kindWord 21 = .ok (.bipush 31, 2) := dk_16 31 (dk_at dksX3_kindWord_0 21 rfl rfl)
theorem dX3_kindWord_23 : decode cX3_kindWord 23 = .ok (.ireturn, 1) := dk_172 (dk_at dksX3_kindWord_0 23 rfl rfl)
theorem dX3_kindWord_24 : decode cX3_kindWord 24 = .ok (.aload_n 0, 1) := dk_42 (dk_at dksX3_kindWord_1 0 rfl rfl)
theorem dX3_kindWord_25 : decode cX3_kindWord 25 = .ok (.ldc 92, 2) := dk_18 92 (dk_at dksX3_kindWord_1 1 rfl rfl)
theorem dX3_kindWord_27 : decode cX3_kindWord 27 = .ok (.invokevirtual 51, 3) := dk_182 0 51 (dk_at dksX3_kindWord_1 3 rfl rfl)
theorem dX3_kindWord_30 : decode cX3_kindWord 30 = .ok (.ifCond .eq 6, 3) := dk_153 0 6 (dk_at dksX3_kindWord_1 6 rfl rfl)
theorem dX3_kindWord_33 : decode cX3_kindWord 33 = .ok (.bipush 32, 2) := dk_16 32 (dk_at dksX3_kindWord_1 9 rfl rfl)
theorem dX3_kindWord_35 : decode cX3_kindWord 35 = .ok (.ireturn, 1) := dk_172 (dk_at dksX3_kindWord_1 11 rfl rfl)
theorem dX3_kindWord_36 : decode cX3_kindWord 36 = .ok (.aload_n 0, 1) := dk_42 (dk_at dksX3_kindWord_1 12 rfl rfl)
theorem dX3_kindWord_37 : decode cX3_kindWord 37 = .ok (.ldc 94, 2) := dk_18 94 (dk_at dksX3_kindWord_1 13 rfl rfl)
theorem dX3_kindWord_39 : decode cX3_kindWord 39 = .ok (.invokevirtual 51, 3) := dk_182 0 51 (dk_at dksX3_kindWord_1 15 rfl rfl)
theorem dX3_kindWord_42 : decode cX3_kindWord 42 = .ok (.ifCond .eq 6, 3) := dk_153 0 6 (dk_at dksX3_kindWord_1 18 rfl rfl)
theorem dX3_kindWord_45 : decode cX3_kindWord 45 = .ok (.bipush 33, 2) := dk_16 33 (dk_at dksX3_kindWord_1 21 rfl rfl)
theorem dX3_kindWord_47 : decode cX3_kindWord 47 = .ok (.ireturn, 1) := dk_172 (dk_at dksX3_kindWord_1 23 rfl rfl)
theorem dX3_kindWord_48 : decode cX3_kindWord 48 = .ok (.aload_n 0, 1) := dk_42 (dk_at dksX3_kindWord_2 0 rfl rfl)
theorem dX3_kindWord_49 : decode cX3_kindWord 49 = .ok (.ldc 96, 2) := dk_18 96 (dk_at dksX3_kindWord_2 1 rfl rfl)
theorem dX3_kindWord_51 : decode cX3_kindWord 51 = .ok (.invokevirtual 51, 3) := dk_182 0 51 (dk_at dksX3_kindWord_2 3 rfl rfl)
theorem dX3_kindWord_54 : decode cX3_kindWord 54 = .ok (.ifCond .eq 8, 3) := dk_153 0 8 (dk_at dksX3_kindWord_2 6 rfl rfl)
theorem dX3_kindWord_57 : decode cX3_kindWord 57 = .ok (.bipush 34, 2) := dk_16 34 (dk_at dksX3_kindWord_2 9 rfl rfl)
theorem dX3_kindWord_59 : decode cX3_kindWord 59 = .ok (.goto 4, 3) := dk_167 0 4 (dk_at dksX3_kindWord_2 11 rfl rfl)
theorem dX3_kindWord_62 : decode cX3_kindWord 62 = .ok (.iconst 1, 1) := dk_4 (dk_at dksX3_kindWord_2 14 rfl rfl)
theorem dX3_kindWord_63 : decode cX3_kindWord 63 = .ok (.ireturn, 1) := dk_172 (dk_at dksX3_kindWord_2 15 rfl rfl)
abbrev cX3_wantWord : ByteArray := prog_15_method_10_code
def yX3_wantWord : MethodName := ⟨RX3, "wantWord", "()I"⟩
def dkwX3_wantWord_2 : List UInt8 := [42, 18, 112, 182, 0, 51, 153, 0, 8, 16, 16, 167, 0, 7, 42, 182, 0, 102, 172]
abbrev dktX3_wantWord_2 : List UInt8 := dkwX3_wantWord_2 ++ []
def dkwX3_wantWord_1 : List UInt8 := [42, 18, 109, 182, 0, 51, 153, 0, 6, 16, 14, 172, 42, 18, 110, 182, 0, 51, 153, 0, 6, 16, 15, 172]
abbrev dktX3_wantWord_1 : List UInt8 := dkwX3_wantWord_1 ++ dktX3_wantWord_2
def dkwX3_wantWord_0 : List UInt8 := [42, 18, 105, 182, 0, 51, 153, 0, 6, 16, 12, 172, 42, 18, 107, 182, 0, 51, 153, 0, 6, 16, 13, 172]
abbrev dktX3_wantWord_0 : List UInt8 := dkwX3_wantWord_0 ++ dktX3_wantWord_1
theorem dksX3_wantWord_0 : cX3_wantWord.data.toList.drop 0 = dktX3_wantWord_0 := by decide +kernel
theorem dksX3_wantWord_1 : cX3_wantWord.data.toList.drop 24 = dktX3_wantWord_1 := dk_seg dksX3_wantWord_0 24 rfl rfl
theorem dksX3_wantWord_2 : cX3_wantWord.data.toList.drop 48 = dktX3_wantWord_2 := dk_seg dksX3_wantWord_1 24 rfl rfl
theorem dX3_wantWord_0 : decode cX3_wantWord 0 = .ok (.aload_n 0, 1) := dk_42 (dk_at dksX3_wantWord_0 0 rfl rfl)
theorem dX3_wantWord_1 : decode cX3_wantWord 1 = .ok (.ldc 105, 2) := dk_18 105 (dk_at dksX3_wantWord_0 1 rfl rfl)
theorem dX3_wantWord_3 : decode cX3_wantWord 3 = .ok (.invokevirtual 51, 3) := dk_182 0 51 (dk_at dksX3_wantWord_0 3 rfl rfl)
theorem dX3_wantWord_6 : decode cX3_wantWord 6 = .ok (.ifCond .eq 6, 3) := dk_153 0 6 (dk_at dksX3_wantWord_0 6 rfl rfl)
theorem dX3_wantWord_9 : decode cX3_wantWord 9 = .ok (.bipush 12, 2) := dk_16 12 (dk_at dksX3_wantWord_0 9 rfl rfl)
theorem dX3_wantWord_11 : decode cX3_wantWord 11 = .ok (.ireturn, 1) := dk_172 (dk_at dksX3_wantWord_0 11 rfl rfl)
theorem dX3_wantWord_12 : decode cX3_wantWord 12 = .ok (.aload_n 0, 1) := dk_42 (dk_at dksX3_wantWord_0 12 rfl rfl)
theorem dX3_wantWord_13 : decode cX3_wantWord 13 = .ok (.ldc 107, 2) := dk_18 107 (dk_at dksX3_wantWord_0 13 rfl rfl)
theorem dX3_wantWord_15 : decode cX3_wantWord 15 = .ok (.invokevirtual 51, 3) := dk_182 0 51 (dk_at dksX3_wantWord_0 15 rfl rfl)
theorem dX3_wantWord_18 : decode cX3_wantWord 18 = .ok (.ifCond .eq 6, 3) := dk_153 0 6 (dk_at dksX3_wantWord_0 18 rfl rfl)
theorem dX3_wantWord_21 : decode cX3_wantWord 21 = .ok (.bipush 13, 2) := dk_16 13 (dk_at dksX3_wantWord_0 21 rfl rfl)
theorem dX3_wantWord_23 : decode cX3_wantWord 23 = .ok (.ireturn, 1) := dk_172 (dk_at dksX3_wantWord_0 23 rfl rfl)
theorem dX3_wantWord_24 : decode cX3_wantWord 24 = .ok (.aload_n 0, 1) := dk_42 (dk_at dksX3_wantWord_1 0 rfl rfl)
theorem dX3_wantWord_25 : decode cX3_wantWord 25 = .ok (.ldc 109, 2) := dk_18 109 (dk_at dksX3_wantWord_1 1 rfl rfl)
theorem dX3_wantWord_27 : decode cX3_wantWord 27 = .ok (.invokevirtual 51, 3) := dk_182 0 51 (dk_at dksX3_wantWord_1 3 rfl rfl)
theorem dX3_wantWord_30 : decode cX3_wantWord 30 = .ok (.ifCond .eq 6, 3) := dk_153 0 6 (dk_at dksX3_wantWord_1 6 rfl rfl)
theorem dX3_wantWord_33 : decode cX3_wantWord 33 = .ok (.bipush 14, 2) := dk_16 14 (dk_at dksX3_wantWord_1 9 rfl rfl)
theorem dX3_wantWord_35 : decode cX3_wantWord 35 = .ok (.ireturn, 1) := dk_172 (dk_at dksX3_wantWord_1 11 rfl rfl)
theorem dX3_wantWord_36 : decode cX3_wantWord 36 = .ok (.aload_n 0, 1) := dk_42 (dk_at dksX3_wantWord_1 12 rfl rfl)
theorem dX3_wantWord_37 : decode cX3_wantWord 37 = .ok (.ldc 110, 2) := dk_18 110 (dk_at dksX3_wantWord_1 13 rfl rfl)
theorem dX3_wantWord_39 : decode cX3_wantWord 39 = .ok (.invokevirtual 51, 3) := dk_182 0 51 (dk_at dksX3_wantWord_1 15 rfl rfl)
theorem dX3_wantWord_42 : decode cX3_wantWord 42 = .ok (.ifCond .eq 6, 3) := dk_153 0 6 (dk_at dksX3_wantWord_1 18 rfl rfl)
theorem dX3_wantWord_45 : decode cX3_wantWord 45 = .ok (.bipush 15, 2) := dk_16 15 (dk_at dksX3_wantWord_1 21 rfl rfl)
theorem dX3_wantWord_47 : decode cX3_wantWord 47 = .ok (.ireturn, 1) := dk_172 (dk_at dksX3_wantWord_1 23 rfl rfl)
theorem dX3_wantWord_48 : decode cX3_wantWord 48 = .ok (.aload_n 0, 1) := dk_42 (dk_at dksX3_wantWord_2 0 rfl rfl)
theorem dX3_wantWord_49 : decode cX3_wantWord 49 = .ok (.ldc 112, 2) := dk_18 112 (dk_at dksX3_wantWord_2 1 rfl rfl)
theorem dX3_wantWord_51 : decode cX3_wantWord 51 = .ok (.invokevirtual 51, 3) := dk_182 0 51 (dk_at dksX3_wantWord_2 3 rfl rfl)
theorem dX3_wantWord_54 : decode cX3_wantWord 54 = .ok (.ifCond .eq 8, 3) := dk_153 0 8 (dk_at dksX3_wantWord_2 6 rfl rfl)
theorem dX3_wantWord_57 : decode cX3_wantWord 57 = .ok (.bipush 16, 2) := dk_16 16 (dk_at dksX3_wantWord_2 9 rfl rfl)
theorem dX3_wantWord_59 : decode cX3_wantWord 59 = .ok (.goto 7, 3) := dk_167 0 7 (dk_at dksX3_wantWord_2 11 rfl rfl)
theorem dX3_wantWord_62 : decode cX3_wantWord 62 = .ok (.aload_n 0, 1) := dk_42 (dk_at dksX3_wantWord_2 14 rfl rfl)
theorem dX3_wantWord_63 : decode cX3_wantWord 63 = .ok (.invokevirtual 102, 3) := dk_182 0 102 (dk_at dksX3_wantWord_2 15 rfl rfl)
theorem dX3_wantWord_66 : decode cX3_wantWord 66 = .ok (.ireturn, 1) := dk_172 (dk_at dksX3_wantWord_2 18 rfl rfl)
abbrev cX3_planWord : ByteArray := prog_15_method_11_code
def yX3_planWord : MethodName := ⟨RX3, "planWord", "()I"⟩
def dkwX3_planWord_3 : List UInt8 := [167, 0, 4, 4, 172]
abbrev dktX3_planWord_3 : List UInt8 := dkwX3_planWord_3 ++ []
def dkwX3_planWord_2 : List UInt8 := [42, 18, 118, 182, 0, 51, 153, 0, 6, 16, 20, 172, 42, 18, 120, 182, 0, 51, 153, 0, 8, 16, 19]
abbrev dktX3_planWord_2 : List UInt8 := dkwX3_planWord_2 ++ dktX3_planWord_3
def dkwX3_planWord_1 : List UInt8 := [42, 18, 109, 182, 0, 51, 153, 0, 6, 16, 14, 172, 42, 18, 116, 182, 0, 51, 153, 0, 6, 16, 18, 172]
abbrev dktX3_planWord_1 : List UInt8 := dkwX3_planWord_1 ++ dktX3_planWord_2
def dkwX3_planWord_0 : List UInt8 := [42, 18, 110, 182, 0, 51, 153, 0, 6, 16, 15, 172, 42, 18, 114, 182, 0, 51, 153, 0, 6, 16, 17, 172]
abbrev dktX3_planWord_0 : List UInt8 := dkwX3_planWord_0 ++ dktX3_planWord_1
theorem dksX3_planWord_0 : cX3_planWord.data.toList.drop 0 = dktX3_planWord_0 := by decide +kernel
theorem dksX3_planWord_1 : cX3_planWord.data.toList.drop 24 = dktX3_planWord_1 := dk_seg dksX3_planWord_0 24 rfl rfl
theorem dksX3_planWord_2 : cX3_planWord.data.toList.drop 48 = dktX3_planWord_2 := dk_seg dksX3_planWord_1 24 rfl rfl
theorem dksX3_planWord_3 : cX3_planWord.data.toList.drop 71 = dktX3_planWord_3 := dk_seg dksX3_planWord_2 23 rfl rfl
theorem dX3_planWord_0 : decode cX3_planWord 0 = .ok (.aload_n 0, 1) := dk_42 (dk_at dksX3_planWord_0 0 rfl rfl)
theorem dX3_planWord_1 : decode cX3_planWord 1 = .ok (.ldc 110, 2) := dk_18 110 (dk_at dksX3_planWord_0 1 rfl rfl)
theorem dX3_planWord_3 : decode cX3_planWord 3 = .ok (.invokevirtual 51, 3) := dk_182 0 51 (dk_at dksX3_planWord_0 3 rfl rfl)
theorem dX3_planWord_6 : decode cX3_planWord 6 = .ok (.ifCond .eq 6, 3) := dk_153 0 6 (dk_at dksX3_planWord_0 6 rfl rfl)
theorem dX3_planWord_9 : decode cX3_planWord 9 = .ok (.bipush 15, 2) := dk_16 15 (dk_at dksX3_planWord_0 9 rfl rfl)
theorem dX3_planWord_11 : decode cX3_planWord 11 = .ok (.ireturn, 1) := dk_172 (dk_at dksX3_planWord_0 11 rfl rfl)
theorem dX3_planWord_12 : decode cX3_planWord 12 = .ok (.aload_n 0, 1) := dk_42 (dk_at dksX3_planWord_0 12 rfl rfl)
theorem dX3_planWord_13 : decode cX3_planWord 13 = .ok (.ldc 114, 2) := dk_18 114 (dk_at dksX3_planWord_0 13 rfl rfl)
theorem dX3_planWord_15 : decode cX3_planWord 15 = .ok (.invokevirtual 51, 3) := dk_182 0 51 (dk_at dksX3_planWord_0 15 rfl rfl)
theorem dX3_planWord_18 : decode cX3_planWord 18 = .ok (.ifCond .eq 6, 3) := dk_153 0 6 (dk_at dksX3_planWord_0 18 rfl rfl)
theorem dX3_planWord_21 : decode cX3_planWord 21 = .ok (.bipush 17, 2) := dk_16 17 (dk_at dksX3_planWord_0 21 rfl rfl)
theorem dX3_planWord_23 : decode cX3_planWord 23 = .ok (.ireturn, 1) := dk_172 (dk_at dksX3_planWord_0 23 rfl rfl)
theorem dX3_planWord_24 : decode cX3_planWord 24 = .ok (.aload_n 0, 1) := dk_42 (dk_at dksX3_planWord_1 0 rfl rfl)
theorem dX3_planWord_25 : decode cX3_planWord 25 = .ok (.ldc 109, 2) := dk_18 109 (dk_at dksX3_planWord_1 1 rfl rfl)
theorem dX3_planWord_27 : decode cX3_planWord 27 = .ok (.invokevirtual 51, 3) := dk_182 0 51 (dk_at dksX3_planWord_1 3 rfl rfl)
theorem dX3_planWord_30 : decode cX3_planWord 30 = .ok (.ifCond .eq 6, 3) := dk_153 0 6 (dk_at dksX3_planWord_1 6 rfl rfl)
theorem dX3_planWord_33 : decode cX3_planWord 33 = .ok (.bipush 14, 2) := dk_16 14 (dk_at dksX3_planWord_1 9 rfl rfl)
theorem dX3_planWord_35 : decode cX3_planWord 35 = .ok (.ireturn, 1) := dk_172 (dk_at dksX3_planWord_1 11 rfl rfl)
theorem dX3_planWord_36 : decode cX3_planWord 36 = .ok (.aload_n 0, 1) := dk_42 (dk_at dksX3_planWord_1 12 rfl rfl)
theorem dX3_planWord_37 : decode cX3_planWord 37 = .ok (.ldc 116, 2) := dk_18 116 (dk_at dksX3_planWord_1 13 rfl rfl)
theorem dX3_planWord_39 : decode cX3_planWord 39 = .ok (.invokevirtual 51, 3) := dk_182 0 51 (dk_at dksX3_planWord_1 15 rfl rfl)
theorem dX3_planWord_42 : decode cX3_planWord 42 = .ok (.ifCond .eq 6, 3) := dk_153 0 6 (dk_at dksX3_planWord_1 18 rfl rfl)
theorem dX3_planWord_45 : decode cX3_planWord 45 = .ok (.bipush 18, 2) := dk_16 18 (dk_at dksX3_planWord_1 21 rfl rfl)
theorem dX3_planWord_47 : decode cX3_planWord 47 = .ok (.ireturn, 1) := dk_172 (dk_at dksX3_planWord_1 23 rfl rfl)
theorem dX3_planWord_48 : decode cX3_planWord 48 = .ok (.aload_n 0, 1) := dk_42 (dk_at dksX3_planWord_2 0 rfl rfl)
theorem dX3_planWord_49 : decode cX3_planWord 49 = .ok (.ldc 118, 2) := dk_18 118 (dk_at dksX3_planWord_2 1 rfl rfl)
theorem dX3_planWord_51 : decode cX3_planWord 51 = .ok (.invokevirtual 51, 3) := dk_182 0 51 (dk_at dksX3_planWord_2 3 rfl rfl)
theorem dX3_planWord_54 : decode cX3_planWord 54 = .ok (.ifCond .eq 6, 3) := dk_153 0 6 (dk_at dksX3_planWord_2 6 rfl rfl)
theorem dX3_planWord_57 : decode cX3_planWord 57 = .ok (.bipush 20, 2) := dk_16 20 (dk_at dksX3_planWord_2 9 rfl rfl)
theorem dX3_planWord_59 : decode cX3_planWord 59 = .ok (.ireturn, 1) := dk_172 (dk_at dksX3_planWord_2 11 rfl rfl)
theorem dX3_planWord_60 : decode cX3_planWord 60 = .ok (.aload_n 0, 1) := dk_42 (dk_at dksX3_planWord_2 12 rfl rfl)
theorem dX3_planWord_61 : decode cX3_planWord 61 = .ok (.ldc 120, 2) := dk_18 120 (dk_at dksX3_planWord_2 13 rfl rfl)
theorem dX3_planWord_63 : decode cX3_planWord 63 = .ok (.invokevirtual 51, 3) := dk_182 0 51 (dk_at dksX3_planWord_2 15 rfl rfl)
theorem dX3_planWord_66 : decode cX3_planWord 66 = .ok (.ifCond .eq 8, 3) := dk_153 0 8 (dk_at dksX3_planWord_2 18 rfl rfl)
theorem dX3_planWord_69 : decode cX3_planWord 69 = .ok (.bipush 19, 2) := dk_16 19 (dk_at dksX3_planWord_2 21 rfl rfl)
theorem dX3_planWord_71 : decode cX3_planWord 71 = .ok (.goto 4, 3) := dk_167 0 4 (dk_at dksX3_planWord_3 0 rfl rfl)
theorem dX3_planWord_74 : decode cX3_planWord 74 = .ok (.iconst 1, 1) := dk_4 (dk_at dksX3_planWord_3 3 rfl rfl)
theorem dX3_planWord_75 : decode cX3_planWord 75 = .ok (.ireturn, 1) := dk_172 (dk_at dksX3_planWord_3 4 rfl rfl)
abbrev cX3_isDigit : ByteArray := prog_15_method_4_code
def yX3_isDigit : MethodName := ⟨RX3, "isDigit", "()Z"⟩
def dkwX3_isDigit_0 : List UInt8 := [42, 182, 0, 29, 16, 48, 16, 57, 184, 0, 33, 172]
abbrev dktX3_isDigit_0 : List UInt8 := dkwX3_isDigit_0 ++ []
theorem dksX3_isDigit_0 : cX3_isDigit.data.toList.drop 0 = dktX3_isDigit_0 := by decide +kernel
theorem dX3_isDigit_0 : decode cX3_isDigit 0 = .ok (.aload_n 0, 1) := dk_42 (dk_at dksX3_isDigit_0 0 rfl rfl)
theorem dX3_isDigit_1 : decode cX3_isDigit 1 = .ok (.invokevirtual 29, 3) := dk_182 0 29 (dk_at dksX3_isDigit_0 1 rfl rfl)
theorem dX3_isDigit_4 : decode cX3_isDigit 4 = .ok (.bipush 48, 2) := dk_16 48 (dk_at dksX3_isDigit_0 4 rfl rfl)
theorem dX3_isDigit_6 : decode cX3_isDigit 6 = .ok (.bipush 57, 2) := dk_16 57 (dk_at dksX3_isDigit_0 6 rfl rfl)
theorem dX3_isDigit_8 : decode cX3_isDigit 8 = .ok (.invokestatic 33, 3) := dk_184 0 33 (dk_at dksX3_isDigit_0 8 rfl rfl)
theorem dX3_isDigit_11 : decode cX3_isDigit 11 = .ok (.ireturn, 1) := dk_172 (dk_at dksX3_isDigit_0 11 rfl rfl)
abbrev cX3_isMark : ByteArray := prog_15_method_16_code
def yX3_isMark : MethodName := ⟨RX3, "isMark", "(I)Z"⟩
def dkwX3_isMark_2 : List UInt8 := [27, 16, 61, 159, 0, 9, 27, 16, 62, 160, 0, 7, 4, 167, 0, 4, 3, 172]
abbrev dktX3_isMark_2 : List UInt8 := dkwX3_isMark_2 ++ []
def dkwX3_isMark_1 : List UInt8 := [27, 16, 47, 159, 0, 33, 27, 16, 40, 159, 0, 27, 27, 16, 41, 159, 0, 21, 27, 16, 60, 159, 0, 15]
abbrev dktX3_isMark_1 : List UInt8 := dkwX3_isMark_1 ++ dktX3_isMark_2
def dkwX3_isMark_0 : List UInt8 := [27, 16, 59, 159, 0, 57, 27, 16, 43, 159, 0, 51, 27, 16, 45, 159, 0, 45, 27, 16, 42, 159, 0, 39]
abbrev dktX3_isMark_0 : List UInt8 := dkwX3_isMark_0 ++ dktX3_isMark_1
theorem dksX3_isMark_0 : cX3_isMark.data.toList.drop 0 = dktX3_isMark_0 := by decide +kernel
theorem dksX3_isMark_1 : cX3_isMark.data.toList.drop 24 = dktX3_isMark_1 := dk_seg dksX3_isMark_0 24 rfl rfl
theorem dksX3_isMark_2 : cX3_isMark.data.toList.drop 48 = dktX3_isMark_2 := dk_seg dksX3_isMark_1 24 rfl rfl
theorem dX3_isMark_0 : decode cX3_isMark 0 = .ok (.iload_n 1, 1) := dk_27 (dk_at dksX3_isMark_0 0 rfl rfl)
theorem dX3_isMark_1 : decode cX3_isMark 1 = .ok (.bipush 59, 2) := dk_16 59 (dk_at dksX3_isMark_0 1 rfl rfl)
theorem dX3_isMark_3 : decode cX3_isMark 3 = .ok (.if_icmp .eq 57, 3) := dk_159 0 57 (dk_at dksX3_isMark_0 3 rfl rfl)
theorem dX3_isMark_6 : decode cX3_isMark 6 = .ok (.iload_n 1, 1) := dk_27 (dk_at dksX3_isMark_0 6 rfl rfl)
theorem dX3_isMark_7 : decode cX3_isMark 7 = .ok (.bipush 43, 2) := dk_16 43 (dk_at dksX3_isMark_0 7 rfl rfl)
theorem dX3_isMark_9 : decode cX3_isMark 9 = .ok (.if_icmp .eq 51, 3) := dk_159 0 51 (dk_at dksX3_isMark_0 9 rfl rfl)
theorem dX3_isMark_12 : decode cX3_isMark 12 = .ok (.iload_n 1, 1) := dk_27 (dk_at dksX3_isMark_0 12 rfl rfl)
theorem dX3_isMark_13 : decode cX3_isMark 13 = .ok (.bipush 45, 2) := dk_16 45 (dk_at dksX3_isMark_0 13 rfl rfl)
theorem dX3_isMark_15 : decode cX3_isMark 15 = .ok (.if_icmp .eq 45, 3) := dk_159 0 45 (dk_at dksX3_isMark_0 15 rfl rfl)
theorem dX3_isMark_18 : decode cX3_isMark 18 = .ok (.iload_n 1, 1) := dk_27 (dk_at dksX3_isMark_0 18 rfl rfl)
theorem dX3_isMark_19 : decode cX3_isMark 19 = .ok (.bipush 42, 2) := dk_16 42 (dk_at dksX3_isMark_0 19 rfl rfl)
theorem dX3_isMark_21 : decode cX3_isMark 21 = .ok (.if_icmp .eq 39, 3) := dk_159 0 39 (dk_at dksX3_isMark_0 21 rfl rfl)
theorem dX3_isMark_24 : decode cX3_isMark 24 = .ok (.iload_n 1, 1) := dk_27 (dk_at dksX3_isMark_1 0 rfl rfl)
theorem dX3_isMark_25 : decode cX3_isMark 25 = .ok (.bipush 47, 2) := dk_16 47 (dk_at dksX3_isMark_1 1 rfl rfl)
theorem dX3_isMark_27 : decode cX3_isMark 27 = .ok (.if_icmp .eq 33, 3) := dk_159 0 33 (dk_at dksX3_isMark_1 3 rfl rfl)
theorem dX3_isMark_30 : decode cX3_isMark 30 = .ok (.iload_n 1, 1) := dk_27 (dk_at dksX3_isMark_1 6 rfl rfl)
theorem dX3_isMark_31 : decode cX3_isMark 31 = .ok (.bipush 40, 2) := dk_16 40 (dk_at dksX3_isMark_1 7 rfl rfl)
theorem dX3_isMark_33 : decode cX3_isMark 33 = .ok (.if_icmp .eq 27, 3) := dk_159 0 27 (dk_at dksX3_isMark_1 9 rfl rfl)
theorem dX3_isMark_36 : decode cX3_isMark 36 = .ok (.iload_n 1, 1) := dk_27 (dk_at dksX3_isMark_1 12 rfl rfl)
theorem dX3_isMark_37 : decode cX3_isMark 37 = .ok (.bipush 41, 2) := dk_16 41 (dk_at dksX3_isMark_1 13 rfl rfl)
theorem dX3_isMark_39 : decode cX3_isMark 39 = .ok (.if_icmp .eq 21, 3) := dk_159 0 21 (dk_at dksX3_isMark_1 15 rfl rfl)
theorem dX3_isMark_42 : decode cX3_isMark 42 = .ok (.iload_n 1, 1) := dk_27 (dk_at dksX3_isMark_1 18 rfl rfl)
theorem dX3_isMark_43 : decode cX3_isMark 43 = .ok (.bipush 60, 2) := dk_16 60 (dk_at dksX3_isMark_1 19 rfl rfl)
theorem dX3_isMark_45 : decode cX3_isMark 45 = .ok (.if_icmp .eq 15, 3) := dk_159 0 15 (dk_at dksX3_isMark_1 21 rfl rfl)
theorem dX3_isMark_48 : decode cX3_isMark 48 = .ok (.iload_n 1, 1) := dk_27 (dk_at dksX3_isMark_2 0 rfl rfl)
theorem dX3_isMark_49 : decode cX3_isMark 49 = .ok (.bipush 61, 2) := dk_16 61 (dk_at dksX3_isMark_2 1 rfl rfl)
theorem dX3_isMark_51 : decode cX3_isMark 51 = .ok (.if_icmp .eq 9, 3) := dk_159 0 9 (dk_at dksX3_isMark_2 3 rfl rfl)
theorem dX3_isMark_54 : decode cX3_isMark 54 = .ok (.iload_n 1, 1) := dk_27 (dk_at dksX3_isMark_2 6 rfl rfl)
theorem dX3_isMark_55 : decode cX3_isMark 55 = .ok (.bipush 62, 2) := dk_16 62 (dk_at dksX3_isMark_2 7 rfl rfl)
theorem dX3_isMark_57 : decode cX3_isMark 57 = .ok (.if_icmp .ne 7, 3) := dk_160 0 7 (dk_at dksX3_isMark_2 9 rfl rfl)
theorem dX3_isMark_60 : decode cX3_isMark 60 = .ok (.iconst 1, 1) := dk_4 (dk_at dksX3_isMark_2 12 rfl rfl)
theorem dX3_isMark_61 : decode cX3_isMark 61 = .ok (.goto 4, 3) := dk_167 0 4 (dk_at dksX3_isMark_2 13 rfl rfl)
theorem dX3_isMark_64 : decode cX3_isMark 64 = .ok (.iconst 0, 1) := dk_3 (dk_at dksX3_isMark_2 16 rfl rfl)
theorem dX3_isMark_65 : decode cX3_isMark 65 = .ok (.ireturn, 1) := dk_172 (dk_at dksX3_isMark_2 17 rfl rfl)
abbrev cX3_sum : ByteArray := prog_15_method_20_code
def yX3_sum : MethodName := ⟨RX3, "sum", "()LNamesWeather$Term;"⟩
def dkwX3_sum_2 : List UInt8 := [167, 255, 215, 43, 176]
abbrev dktX3_sum_2 : List UInt8 := dkwX3_sum_2 ++ []
def dkwX3_sum_1 : List UInt8 := [180, 0, 134, 61, 42, 182, 0, 145, 187, 0, 177, 89, 43, 28, 42, 182, 0, 173, 183, 0, 179, 76]
abbrev dktX3_sum_1 : List UInt8 := dkwX3_sum_1 ++ dktX3_sum_2
def dkwX3_sum_0 : List UInt8 := [42, 182, 0, 173, 76, 42, 180, 0, 134, 16, 43, 159, 0, 12, 42, 180, 0, 134, 16, 45, 160, 0, 29, 42]
abbrev dktX3_sum_0 : List UInt8 := dkwX3_sum_0 ++ dktX3_sum_1
theorem dksX3_sum_0 : cX3_sum.data.toList.drop 0 = dktX3_sum_0 := by decide +kernel
theorem dksX3_sum_1 : cX3_sum.data.toList.drop 24 = dktX3_sum_1 := dk_seg dksX3_sum_0 24 rfl rfl
theorem dksX3_sum_2 : cX3_sum.data.toList.drop 46 = dktX3_sum_2 := dk_seg dksX3_sum_1 22 rfl rfl
theorem dX3_sum_0 : decode cX3_sum 0 = .ok (.aload_n 0, 1) := dk_42 (dk_at dksX3_sum_0 0 rfl rfl)
theorem dX3_sum_1 : decode cX3_sum 1 = .ok (.invokevirtual 173, 3) := dk_182 0 173 (dk_at dksX3_sum_0 1 rfl rfl)
theorem dX3_sum_4 : decode cX3_sum 4 = .ok (.astore_n 1, 1) := dk_76 (dk_at dksX3_sum_0 4 rfl rfl)
theorem dX3_sum_5 : decode cX3_sum 5 = .ok (.aload_n 0, 1) := dk_42 (dk_at dksX3_sum_0 5 rfl rfl)
theorem dX3_sum_6 : decode cX3_sum 6 = .ok (.getfield 134, 3) := dk_180 0 134 (dk_at dksX3_sum_0 6 rfl rfl)
theorem dX3_sum_9 : decode cX3_sum 9 = .ok (.bipush 43, 2) := dk_16 43 (dk_at dksX3_sum_0 9 rfl rfl)
theorem dX3_sum_11 : decode cX3_sum 11 = .ok (.if_icmp .eq 12, 3) := dk_159 0 12 (dk_at dksX3_sum_0 11 rfl rfl)
theorem dX3_sum_14 : decode cX3_sum 14 = .ok (.aload_n 0, 1) := dk_42 (dk_at dksX3_sum_0 14 rfl rfl)
theorem dX3_sum_15 : decode cX3_sum 15 = .ok (.getfield 134, 3) := dk_180 0 134 (dk_at dksX3_sum_0 15 rfl rfl)
theorem dX3_sum_18 : decode cX3_sum 18 = .ok (.bipush 45, 2) := dk_16 45 (dk_at dksX3_sum_0 18 rfl rfl)
theorem dX3_sum_20 : decode cX3_sum 20 = .ok (.if_icmp .ne 29, 3) := dk_160 0 29 (dk_at dksX3_sum_0 20 rfl rfl)
theorem dX3_sum_23 : decode cX3_sum 23 = .ok (.aload_n 0, 1) := dk_42 (dk_at dksX3_sum_0 23 rfl rfl)
theorem dX3_sum_24 : decode cX3_sum 24 = .ok (.getfield 134, 3) := dk_180 0 134 (dk_at dksX3_sum_1 0 rfl rfl)
theorem dX3_sum_27 : decode cX3_sum 27 = .ok (.istore_n 2, 1) := dk_61 (dk_at dksX3_sum_1 3 rfl rfl)
theorem dX3_sum_28 : decode cX3_sum 28 = .ok (.aload_n 0, 1) := dk_42 (dk_at dksX3_sum_1 4 rfl rfl)
theorem dX3_sum_29 : decode cX3_sum 29 = .ok (.invokevirtual 145, 3) := dk_182 0 145 (dk_at dksX3_sum_1 5 rfl rfl)
theorem dX3_sum_32 : decode cX3_sum 32 = .ok (.new 177, 3) := dk_187 0 177 (dk_at dksX3_sum_1 8 rfl rfl)
theorem dX3_sum_35 : decode cX3_sum 35 = .ok (.dup, 1) := dk_89 (dk_at dksX3_sum_1 11 rfl rfl)
theorem dX3_sum_36 : decode cX3_sum 36 = .ok (.aload_n 1, 1) := dk_43 (dk_at dksX3_sum_1 12 rfl rfl)
theorem dX3_sum_37 : decode cX3_sum 37 = .ok (.iload_n 2, 1) := dk_28 (dk_at dksX3_sum_1 13 rfl rfl)
theorem dX3_sum_38 : decode cX3_sum 38 = .ok (.aload_n 0, 1) := dk_42 (dk_at dksX3_sum_1 14 rfl rfl)
theorem dX3_sum_39 : decode cX3_sum 39 = .ok (.invokevirtual 173, 3) := dk_182 0 173 (dk_at dksX3_sum_1 15 rfl rfl)
theorem dX3_sum_42 : decode cX3_sum 42 = .ok (.invokespecial 179, 3) := dk_183 0 179 (dk_at dksX3_sum_1 18 rfl rfl)
theorem dX3_sum_45 : decode cX3_sum 45 = .ok (.astore_n 1, 1) := dk_76 (dk_at dksX3_sum_1 21 rfl rfl)
theorem dX3_sum_46 : decode cX3_sum 46 = .ok (.goto (-41), 3) := dk_167 255 215 (dk_at dksX3_sum_2 0 rfl rfl)
theorem dX3_sum_49 : decode cX3_sum 49 = .ok (.aload_n 1, 1) := dk_43 (dk_at dksX3_sum_2 3 rfl rfl)
theorem dX3_sum_50 : decode cX3_sum 50 = .ok (.areturn, 1) := dk_176 (dk_at dksX3_sum_2 4 rfl rfl)
abbrev cX3_product : ByteArray := prog_15_method_21_code
def yX3_product : MethodName := ⟨RX3, "product", "()LNamesWeather$Term;"⟩
def dkwX3_product_3 : List UInt8 := [167, 255, 191, 43, 176]
abbrev dktX3_product_3 : List UInt8 := dkwX3_product_3 ++ []
def dkwX3_product_2 : List UInt8 := [42, 4, 17, 39, 15, 182, 0, 152, 183, 0, 187, 167, 0, 7, 42, 182, 0, 182, 183, 0, 179, 76]
abbrev dktX3_product_2 : List UInt8 := dkwX3_product_2 ++ dktX3_product_3
def dkwX3_product_1 : List UInt8 := [180, 0, 134, 61, 42, 182, 0, 145, 187, 0, 177, 89, 43, 28, 28, 16, 47, 160, 0, 21, 187, 0, 185, 89]
abbrev dktX3_product_1 : List UInt8 := dkwX3_product_1 ++ dktX3_product_2
def dkwX3_product_0 : List UInt8 := [42, 182, 0, 182, 76, 42, 180, 0, 134, 16, 42, 159, 0, 12, 42, 180, 0, 134, 16, 47, 160, 0, 53, 42]
abbrev dktX3_product_0 : List UInt8 := dkwX3_product_0 ++ dktX3_product_1
theorem dksX3_product_0 : cX3_product.data.toList.drop 0 = dktX3_product_0 := by decide +kernel
theorem dksX3_product_1 : cX3_product.data.toList.drop 24 = dktX3_product_1 := dk_seg dksX3_product_0 24 rfl rfl
theorem dksX3_product_2 : cX3_product.data.toList.drop 48 = dktX3_product_2 := dk_seg dksX3_product_1 24 rfl rfl
theorem dksX3_product_3 : cX3_product.data.toList.drop 70 = dktX3_product_3 := dk_seg dksX3_product_2 22 rfl rfl
theorem dX3_product_0 : decode cX3_product 0 = .ok (.aload_n 0, 1) := dk_42 (dk_at dksX3_product_0 0 rfl rfl)
theorem dX3_product_1 : decode cX3_product 1 = .ok (.invokevirtual 182, 3) := dk_182 0 182 (dk_at dksX3_product_0 1 rfl rfl)
theorem dX3_product_4 : decode cX3_product 4 = .ok (.astore_n 1, 1) := dk_76 (dk_at dksX3_product_0 4 rfl rfl)
theorem dX3_product_5 : decode cX3_product 5 = .ok (.aload_n 0, 1) := dk_42 (dk_at dksX3_product_0 5 rfl rfl)
theorem dX3_product_6 : decode cX3_product 6 = .ok (.getfield 134, 3) := dk_180 0 134 (dk_at dksX3_product_0 6 rfl rfl)
theorem dX3_product_9 : decode cX3_product 9 = .ok (.bipush 42, 2) := dk_16 42 (dk_at dksX3_product_0 9 rfl rfl)
theorem dX3_product_11 : decode cX3_product 11 = .ok (.if_icmp .eq 12, 3) := dk_159 0 12 (dk_at dksX3_product_0 11 rfl rfl)
theorem dX3_product_14 : decode cX3_product 14 = .ok (.aload_n 0, 1) := dk_42 (dk_at dksX3_product_0 14 rfl rfl)
theorem dX3_product_15 : decode cX3_product 15 = .ok (.getfield 134, 3) := dk_180 0 134 (dk_at dksX3_product_0 15 rfl rfl)
theorem dX3_product_18 : decode cX3_product 18 = .ok (.bipush 47, 2) := dk_16 47 (dk_at dksX3_product_0 18 rfl rfl)
theorem dX3_product_20 : decode cX3_product 20 = .ok (.if_icmp .ne 53, 3) := dk_160 0 53 (dk_at dksX3_product_0 20 rfl rfl)
theorem dX3_product_23 : decode cX3_product 23 = .ok (.aload_n 0, 1) := dk_42 (dk_at dksX3_product_0 23 rfl rfl)
theorem dX3_product_24 : decode cX3_product 24 = .ok (.getfield 134, 3) := dk_180 0 134 (dk_at dksX3_product_1 0 rfl rfl)
theorem dX3_product_27 : decode cX3_product 27 = .ok (.istore_n 2, 1) := dk_61 (dk_at dksX3_product_1 3 rfl rfl)
theorem dX3_product_28 : decode cX3_product 28 = .ok (.aload_n 0, 1) := dk_42 (dk_at dksX3_product_1 4 rfl rfl)
theorem dX3_product_29 : decode cX3_product 29 = .ok (.invokevirtual 145, 3) := dk_182 0 145 (dk_at dksX3_product_1 5 rfl rfl)
theorem dX3_product_32 : decode cX3_product 32 = .ok (.new 177, 3) := dk_187 0 177 (dk_at dksX3_product_1 8 rfl rfl)
theorem dX3_product_35 : decode cX3_product 35 = .ok (.dup, 1) := dk_89 (dk_at dksX3_product_1 11 rfl rfl)
theorem dX3_product_36 : decode cX3_product 36 = .ok (.aload_n 1, 1) := dk_43 (dk_at dksX3_product_1 12 rfl rfl)
theorem dX3_product_37 : decode cX3_product 37 = .ok (.iload_n 2, 1) := dk_28 (dk_at dksX3_product_1 13 rfl rfl)
theorem dX3_product_38 : decode cX3_product 38 = .ok (.iload_n 2, 1) := dk_28 (dk_at dksX3_product_1 14 rfl rfl)
theorem dX3_product_39 : decode cX3_product 39 = .ok (.bipush 47, 2) := dk_16 47 (dk_at dksX3_product_1 15 rfl rfl)
theorem dX3_product_41 : decode cX3_product 41 = .ok (.if_icmp .ne 21, 3) := dk_160 0 21 (dk_at dksX3_product_1 17 rfl rfl)
theorem dX3_product_44 : decode cX3_product 44 = .ok (.new 185, 3) := dk_187 0 185 (dk_at dksX3_product_1 20 rfl rfl)
theorem dX3_product_47 : decode cX3_product 47 = .ok (.dup, 1) := dk_89 (dk_at dksX3_product_1 23 rfl rfl)
theorem dX3_product_48 : decode cX3_product 48 = .ok (.aload_n 0, 1) := dk_42 (dk_at dksX3_product_2 0 rfl rfl)
theorem dX3_product_49 : decode cX3_product 49 = .ok (.iconst 1, 1) := dk_4 (dk_at dksX3_product_2 1 rfl rfl)
theorem dX3_product_50 : decode cX3_product 50 = .ok (.sipush 9999, 3) := dk_17 39 15 (dk_at dksX3_product_2 2 rfl rfl)
theorem dX3_product_53 : decode cX3_product 53 = .ok (.invokevirtual 152, 3) := dk_182 0 152 (dk_at dksX3_product_2 5 rfl rfl)
theorem dX3_product_56 : decode cX3_product 56 = .ok (.invokespecial 187, 3) := dk_183 0 187 (dk_at dksX3_product_2 8 rfl rfl)
theorem dX3_product_59 : decode cX3_product 59 = .ok (.goto 7, 3) := dk_167 0 7 (dk_at dksX3_product_2 11 rfl rfl)
theorem dX3_product_62 : decode cX3_product 62 = .ok (.aload_n 0, 1) := dk_42 (dk_at dksX3_product_2 14 rfl rfl)
theorem dX3_product_63 : decode cX3_product 63 = .ok (.invokevirtual 182, 3) := dk_182 0 182 (dk_at dksX3_product_2 15 rfl rfl)
theorem dX3_product_66 : decode cX3_product 66 = .ok (.invokespecial 179, 3) := dk_183 0 179 (dk_at dksX3_product_2 18 rfl rfl)
theorem dX3_product_69 : decode cX3_product 69 = .ok (.astore_n 1, 1) := dk_76 (dk_at dksX3_product_2 21 rfl rfl)
theorem dX3_product_70 : decode cX3_product 70 = .ok (.goto (-65), 3) := dk_167 255 191 (dk_at dksX3_product_3 0 rfl rfl)
theorem dX3_product_73 : decode cX3_product 73 = .ok (.aload_n 1, 1) := dk_43 (dk_at dksX3_product_3 3 rfl rfl)
theorem dX3_product_74 : decode cX3_product 74 = .ok (.areturn, 1) := dk_176 (dk_at dksX3_product_3 4 rfl rfl)
abbrev cX3_unit : ByteArray := prog_15_method_22_code
def yX3_unit : MethodName := ⟨RX3, "unit", "()LNamesWeather$Term;"⟩
def dkwX3_unit_3 : List UInt8 := [27, 183, 0, 191, 176]
abbrev dktX3_unit_3 : List UInt8 := dkwX3_unit_3 ++ []
def dkwX3_unit_2 : List UInt8 := [180, 0, 37, 183, 0, 139, 191, 42, 180, 0, 134, 17, 0, 180, 100, 60, 42, 182, 0, 145, 187, 0, 189, 89]
abbrev dktX3_unit_2 : List UInt8 := dkwX3_unit_2 ++ dktX3_unit_3
def dkwX3_unit_1 : List UInt8 := [42, 180, 0, 134, 17, 0, 180, 17, 0, 188, 184, 0, 33, 154, 0, 16, 187, 0, 137, 89, 4, 42]
abbrev dktX3_unit_1 : List UInt8 := dkwX3_unit_1 ++ dktX3_unit_2
def dkwX3_unit_0 : List UInt8 := [42, 180, 0, 134, 5, 160, 0, 19, 187, 0, 185, 89, 42, 3, 17, 39, 15, 182, 0, 152, 183, 0, 187, 176]
abbrev dktX3_unit_0 : List UInt8 := dkwX3_unit_0 ++ dktX3_unit_1
theorem dksX3_unit_0 : cX3_unit.data.toList.drop 0 = dktX3_unit_0 := by decide +kernel
theorem dksX3_unit_1 : cX3_unit.data.toList.drop 24 = dktX3_unit_1 := dk_seg dksX3_unit_0 24 rfl rfl
theorem dksX3_unit_2 : cX3_unit.data.toList.drop 46 = dktX3_unit_2 := dk_seg dksX3_unit_1 22 rfl rfl
theorem dksX3_unit_3 : cX3_unit.data.toList.drop 70 = dktX3_unit_3 := dk_seg dksX3_unit_2 24 rfl rfl
theorem dX3_unit_0 : decode cX3_unit 0 = .ok (.aload_n 0, 1) := dk_42 (dk_at dksX3_unit_0 0 rfl rfl)
theorem dX3_unit_1 : decode cX3_unit 1 = .ok (.getfield 134, 3) := dk_180 0 134 (dk_at dksX3_unit_0 1 rfl rfl)
theorem dX3_unit_4 : decode cX3_unit 4 = .ok (.iconst 2, 1) := dk_5 (dk_at dksX3_unit_0 4 rfl rfl)
theorem dX3_unit_5 : decode cX3_unit 5 = .ok (.if_icmp .ne 19, 3) := dk_160 0 19 (dk_at dksX3_unit_0 5 rfl rfl)
theorem dX3_unit_8 : decode cX3_unit 8 = .ok (.new 185, 3) := dk_187 0 185 (dk_at dksX3_unit_0 8 rfl rfl)
theorem dX3_unit_11 : decode cX3_unit 11 = .ok (.dup, 1) := dk_89 (dk_at dksX3_unit_0 11 rfl rfl)
theorem dX3_unit_12 : decode cX3_unit 12 = .ok (.aload_n 0, 1) := dk_42 (dk_at dksX3_unit_0 12 rfl rfl)
theorem dX3_unit_13 : decode cX3_unit 13 = .ok (.iconst 0, 1) := dk_3 (dk_at dksX3_unit_0 13 rfl rfl)
theorem dX3_unit_14 : decode cX3_unit 14 = .ok (.sipush 9999, 3) := dk_17 39 15 (dk_at dksX3_unit_0 14 rfl rfl)
theorem dX3_unit_17 : decode cX3_unit 17 = .ok (.invokevirtual 152, 3) := dk_182 0 152 (dk_at dksX3_unit_0 17 rfl rfl)
theorem dX3_unit_20 : decode cX3_unit 20 = .ok (.invokespecial 187, 3) := dk_183 0 187 (dk_at dksX3_unit_0 20 rfl rfl)
theorem dX3_unit_23 : decode cX3_unit 23 = .ok (.areturn, 1) := dk_176 (dk_at dksX3_unit_0 23 rfl rfl)
theorem dX3_unit_24 : decode cX3_unit 24 = .ok (.aload_n 0, 1) := dk_42 (dk_at dksX3_unit_1 0 rfl rfl)
theorem dX3_unit_25 : decode cX3_unit 25 = .ok (.getfield 134, 3) := dk_180 0 134 (dk_at dksX3_unit_1 1 rfl rfl)
theorem dX3_unit_28 : decode cX3_unit 28 = .ok (.sipush 180, 3) := dk_17 0 180 (dk_at dksX3_unit_1 4 rfl rfl)
theorem dX3_unit_31 : decode cX3_unit 31 = .ok (.sipush 188, 3) := dk_17 0 188 (dk_at dksX3_unit_1 7 rfl rfl)
theorem dX3_unit_34 : decode cX3_unit 34 = .ok (.invokestatic 33, 3) := dk_184 0 33 (dk_at dksX3_unit_1 10 rfl rfl)
theorem dX3_unit_37 : decode cX3_unit 37 = .ok (.ifCond .ne 16, 3) := dk_154 0 16 (dk_at dksX3_unit_1 13 rfl rfl)
theorem dX3_unit_40 : decode cX3_unit 40 = .ok (.new 137, 3) := dk_187 0 137 (dk_at dksX3_unit_1 16 rfl rfl)
theorem dX3_unit_43 : decode cX3_unit 43 = .ok (.dup, 1) := dk_89 (dk_at dksX3_unit_1 19 rfl rfl)
theorem dX3_unit_44 : decode cX3_unit 44 = .ok (.iconst 1, 1) := dk_4 (dk_at dksX3_unit_1 20 rfl rfl)
theorem dX3_unit_45 : decode cX3_unit 45 = .ok (.aload_n 0, 1) := dk_42 (dk_at dksX3_unit_1 21 rfl rfl)
theorem dX3_unit_46 : decode cX3_unit 46 = .ok (.getfield 37, 3) := dk_180 0 37 (dk_at dksX3_unit_2 0 rfl rfl)
theorem dX3_unit_49 : decode cX3_unit 49 = .ok (.invokespecial 139, 3) := dk_183 0 139 (dk_at dksX3_unit_2 3 rfl rfl)
theorem dX3_unit_52 : decode cX3_unit 52 = .ok (.athrow, 1) := dk_191 (dk_at dksX3_unit_2 6 rfl rfl)
theorem dX3_unit_53 : decode cX3_unit 53 = .ok (.aload_n 0, 1) := dk_42 (dk_at dksX3_unit_2 7 rfl rfl)
theorem dX3_unit_54 : decode cX3_unit 54 = .ok (.getfield 134, 3) := dk_180 0 134 (dk_at dksX3_unit_2 8 rfl rfl)
theorem dX3_unit_57 : decode cX3_unit 57 = .ok (.sipush 180, 3) := dk_17 0 180 (dk_at dksX3_unit_2 11 rfl rfl)
theorem dX3_unit_60 : decode cX3_unit 60 = .ok (.isub, 1) := dk_100 (dk_at dksX3_unit_2 14 rfl rfl)
theorem dX3_unit_61 : decode cX3_unit 61 = .ok (.istore_n 1, 1) := dk_60 (dk_at dksX3_unit_2 15 rfl rfl)
theorem dX3_unit_62 : decode cX3_unit 62 = .ok (.aload_n 0, 1) := dk_42 (dk_at dksX3_unit_2 16 rfl rfl)
theorem dX3_unit_63 : decode cX3_unit 63 = .ok (.invokevirtual 145, 3) := dk_182 0 145 (dk_at dksX3_unit_2 17 rfl rfl)
theorem dX3_unit_66 : decode cX3_unit 66 = .ok (.new 189, 3) := dk_187 0 189 (dk_at dksX3_unit_2 20 rfl rfl)
theorem dX3_unit_69 : decode cX3_unit 69 = .ok (.dup, 1) := dk_89 (dk_at dksX3_unit_2 23 rfl rfl)
theorem dX3_unit_70 : decode cX3_unit 70 = .ok (.iload_n 1, 1) := dk_27 (dk_at dksX3_unit_3 0 rfl rfl)
theorem dX3_unit_71 : decode cX3_unit 71 = .ok (.invokespecial 191, 3) := dk_183 0 191 (dk_at dksX3_unit_3 1 rfl rfl)
theorem dX3_unit_74 : decode cX3_unit 74 = .ok (.areturn, 1) := dk_176 (dk_at dksX3_unit_3 4 rfl rfl)
abbrev cX3_number : ByteArray := prog_15_method_13_code
def yX3_number : MethodName := ⟨RX3, "number", "(II)I"⟩
def dkwX3_number_2 : List UInt8 := [42, 180, 0, 142, 62, 42, 182, 0, 145, 29, 172]
abbrev dktX3_number_2 : List UInt8 := dkwX3_number_2 ++ []
def dkwX3_number_1 : List UInt8 := [180, 0, 142, 27, 28, 184, 0, 33, 154, 0, 16, 187, 0, 137, 89, 5, 42, 180, 0, 37, 183, 0, 139, 191]
abbrev dktX3_number_1 : List UInt8 := dkwX3_number_1 ++ dktX3_number_2
def dkwX3_number_0 : List UInt8 := [42, 180, 0, 134, 5, 159, 0, 16, 187, 0, 137, 89, 4, 42, 180, 0, 37, 183, 0, 139, 191, 42]
abbrev dktX3_number_0 : List UInt8 := dkwX3_number_0 ++ dktX3_number_1
theorem dksX3_number_0 : cX3_number.data.toList.drop 0 = dktX3_number_0 := by decide +kernel
theorem dksX3_number_1 : cX3_number.data.toList.drop 22 = dktX3_number_1 := dk_seg dksX3_number_0 22 rfl rfl
theorem dksX3_number_2 : cX3_number.data.toList.drop 46 = dktX3_number_2 := dk_seg dksX3_number_1 24 rfl rfl
theorem dX3_number_0 : decode cX3_number 0 = .ok (.aload_n 0, 1) := dk_42 (dk_at dksX3_number_0 0 rfl rfl)
theorem dX3_number_1 : decode cX3_number 1 = .ok (.getfield 134, 3) := dk_180 0 134 (dk_at dksX3_number_0 1 rfl rfl)
theorem dX3_number_4 : decode cX3_number 4 = .ok (.iconst 2, 1) := dk_5 (dk_at dksX3_number_0 4 rfl rfl)
theorem dX3_number_5 : decode cX3_number 5 = .ok (.if_icmp .eq 16, 3) := dk_159 0 16 (dk_at dksX3_number_0 5 rfl rfl)
theorem dX3_number_8 : decode cX3_number 8 = .ok (.new 137, 3) := dk_187 0 137 (dk_at dksX3_number_0 8 rfl rfl)
theorem dX3_number_11 : decode cX3_number 11 = .ok (.dup, 1) := dk_89 (dk_at dksX3_number_0 11 rfl rfl)
theorem dX3_number_12 : decode cX3_number 12 = .ok (.iconst 1, 1) := dk_4 (dk_at dksX3_number_0 12 rfl rfl)
theorem dX3_number_13 : decode cX3_number 13 = .ok (.aload_n 0, 1) := dk_42 (dk_at dksX3_number_0 13 rfl rfl)
theorem dX3_number_14 : decode cX3_number 14 = .ok (.getfield 37, 3) := dk_180 0 37 (dk_at dksX3_number_0 14 rfl rfl)
theorem dX3_number_17 : decode cX3_number 17 = .ok (.invokespecial 139, 3) := dk_183 0 139 (dk_at dksX3_number_0 17 rfl rfl)
theorem dX3_number_20 : decode cX3_number 20 = .ok (.athrow, 1) := dk_191 (dk_at dksX3_number_0 20 rfl rfl)
theorem dX3_number_21 : decode cX3_number 21 = .ok (.aload_n 0, 1) := dk_42 (dk_at dksX3_number_0 21 rfl rfl)
theorem dX3_number_22 : decode cX3_number 22 = .ok (.getfield 142, 3) := dk_180 0 142 (dk_at dksX3_number_1 0 rfl rfl)
theorem dX3_number_25 : decode cX3_number 25 = .ok (.iload_n 1, 1) := dk_27 (dk_at dksX3_number_1 3 rfl rfl)
theorem dX3_number_26 : decode cX3_number 26 = .ok (.iload_n 2, 1) := dk_28 (dk_at dksX3_number_1 4 rfl rfl)
theorem dX3_number_27 : decode cX3_number 27 = .ok (.invokestatic 33, 3) := dk_184 0 33 (dk_at dksX3_number_1 5 rfl rfl)
theorem dX3_number_30 : decode cX3_number 30 = .ok (.ifCond .ne 16, 3) := dk_154 0 16 (dk_at dksX3_number_1 8 rfl rfl)
theorem dX3_number_33 : decode cX3_number 33 = .ok (.new 137, 3) := dk_187 0 137 (dk_at dksX3_number_1 11 rfl rfl)
theorem dX3_number_36 : decode cX3_number 36 = .ok (.dup, 1) := dk_89 (dk_at dksX3_number_1 14 rfl rfl)
theorem dX3_number_37 : decode cX3_number 37 = .ok (.iconst 2, 1) := dk_5 (dk_at dksX3_number_1 15 rfl rfl)
theorem dX3_number_38 : decode cX3_number 38 = .ok (.aload_n 0, 1) := dk_42 (dk_at dksX3_number_1 16 rfl rfl)
theorem dX3_number_39 : decode cX3_number 39 = .ok (.getfield 37, 3) := dk_180 0 37 (dk_at dksX3_number_1 17 rfl rfl)
theorem dX3_number_42 : decode cX3_number 42 = .ok (.invokespecial 139, 3) := dk_183 0 139 (dk_at dksX3_number_1 20 rfl rfl)
theorem dX3_number_45 : decode cX3_number 45 = .ok (.athrow, 1) := dk_191 (dk_at dksX3_number_1 23 rfl rfl)
theorem dX3_number_46 : decode cX3_number 46 = .ok (.aload_n 0, 1) := dk_42 (dk_at dksX3_number_2 0 rfl rfl)
theorem dX3_number_47 : decode cX3_number 47 = .ok (.getfield 142, 3) := dk_180 0 142 (dk_at dksX3_number_2 1 rfl rfl)
theorem dX3_number_50 : decode cX3_number 50 = .ok (.istore_n 3, 1) := dk_62 (dk_at dksX3_number_2 4 rfl rfl)
theorem dX3_number_51 : decode cX3_number 51 = .ok (.aload_n 0, 1) := dk_42 (dk_at dksX3_number_2 5 rfl rfl)
theorem dX3_number_52 : decode cX3_number 52 = .ok (.invokevirtual 145, 3) := dk_182 0 145 (dk_at dksX3_number_2 6 rfl rfl)
theorem dX3_number_55 : decode cX3_number 55 = .ok (.iload_n 3, 1) := dk_29 (dk_at dksX3_number_2 9 rfl rfl)
theorem dX3_number_56 : decode cX3_number 56 = .ok (.ireturn, 1) := dk_172 (dk_at dksX3_number_2 10 rfl rfl)
abbrev cX3_any : ByteArray := prog_15_method_23_code
def yX3_any : MethodName := ⟨RX3, "any", "()LNamesWeather$Term;"⟩
def dkwX3_any_1 : List UInt8 := [182, 0, 192, 183, 0, 179, 76, 167, 255, 230, 43, 176]
abbrev dktX3_any_1 : List UInt8 := dkwX3_any_1 ++ []
def dkwX3_any_0 : List UInt8 := [42, 182, 0, 192, 76, 42, 180, 0, 134, 7, 160, 0, 24, 42, 182, 0, 145, 187, 0, 177, 89, 43, 7, 42]
abbrev dktX3_any_0 : List UInt8 := dkwX3_any_0 ++ dktX3_any_1
theorem dksX3_any_0 : cX3_any.data.toList.drop 0 = dktX3_any_0 := by decide +kernel
theorem dksX3_any_1 : cX3_any.data.toList.drop 24 = dktX3_any_1 := dk_seg dksX3_any_0 24 rfl rfl
theorem dX3_any_0 : decode cX3_any 0 = .ok (.aload_n 0, 1) := dk_42 (dk_at dksX3_any_0 0 rfl rfl)
theorem dX3_any_1 : decode cX3_any 1 = .ok (.invokevirtual 192, 3) := dk_182 0 192 (dk_at dksX3_any_0 1 rfl rfl)
theorem dX3_any_4 : decode cX3_any 4 = .ok (.astore_n 1, 1) := dk_76 (dk_at dksX3_any_0 4 rfl rfl)
theorem dX3_any_5 : decode cX3_any 5 = .ok (.aload_n 0, 1) := dk_42 (dk_at dksX3_any_0 5 rfl rfl)
theorem dX3_any_6 : decode cX3_any 6 = .ok (.getfield 134, 3) := dk_180 0 134 (dk_at dksX3_any_0 6 rfl rfl)
theorem dX3_any_9 : decode cX3_any 9 = .ok (.iconst 4, 1) := dk_7 (dk_at dksX3_any_0 9 rfl rfl)
theorem dX3_any_10 : decode cX3_any 10 = .ok (.if_icmp .ne 24, 3) := dk_160 0 24 (dk_at dksX3_any_0 10 rfl rfl)
theorem dX3_any_13 : decode cX3_any 13 = .ok (.aload_n 0, 1) := dk_42 (dk_at dksX3_any_0 13 rfl rfl)
theorem dX3_any_14 : decode cX3_any 14 = .ok (.invokevirtual 145, 3) := dk_182 0 145 (dk_at dksX3_any_0 14 rfl rfl)
theorem dX3_any_17 : decode cX3_any 17 = .ok (.new 177, 3) := dk_187 0 177 (dk_at dksX3_any_0 17 rfl rfl)
theorem dX3_any_20 : decode cX3_any 20 = .ok (.dup, 1) := dk_89 (dk_at dksX3_any_0 20 rfl rfl)
theorem dX3_any_21 : decode cX3_any 21 = .ok (.aload_n 1, 1) := dk_43 (dk_at dksX3_any_0 21 rfl rfl)
theorem dX3_any_22 : decode cX3_any 22 = .ok (.iconst 4, 1) := dk_7 (dk_at dksX3_any_0 22 rfl rfl)
theorem dX3_any_23 : decode cX3_any 23 = .ok (.aload_n 0, 1) := dk_42 (dk_at dksX3_any_0 23 rfl rfl)
theorem dX3_any_24 : decode cX3_any 24 = .ok (.invokevirtual 192, 3) := dk_182 0 192 (dk_at dksX3_any_1 0 rfl rfl)
theorem dX3_any_27 : decode cX3_any 27 = .ok (.invokespecial 179, 3) := dk_183 0 179 (dk_at dksX3_any_1 3 rfl rfl)
theorem dX3_any_30 : decode cX3_any 30 = .ok (.astore_n 1, 1) := dk_76 (dk_at dksX3_any_1 6 rfl rfl)
theorem dX3_any_31 : decode cX3_any 31 = .ok (.goto (-26), 3) := dk_167 255 230 (dk_at dksX3_any_1 7 rfl rfl)
theorem dX3_any_34 : decode cX3_any 34 = .ok (.aload_n 1, 1) := dk_43 (dk_at dksX3_any_1 10 rfl rfl)
theorem dX3_any_35 : decode cX3_any 35 = .ok (.areturn, 1) := dk_176 (dk_at dksX3_any_1 11 rfl rfl)
abbrev cX3_all : ByteArray := prog_15_method_24_code
def yX3_all : MethodName := ⟨RX3, "all", "()LNamesWeather$Term;"⟩
def dkwX3_all_1 : List UInt8 := [182, 0, 194, 183, 0, 179, 76, 167, 255, 230, 43, 176]
abbrev dktX3_all_1 : List UInt8 := dkwX3_all_1 ++ []
def dkwX3_all_0 : List UInt8 := [42, 182, 0, 194, 76, 42, 180, 0, 134, 8, 160, 0, 24, 42, 182, 0, 145, 187, 0, 177, 89, 43, 8, 42]
abbrev dktX3_all_0 : List UInt8 := dkwX3_all_0 ++ dktX3_all_1
theorem dksX3_all_0 : cX3_all.data.toList.drop 0 = dktX3_all_0 := by decide +kernel
theorem dksX3_all_1 : cX3_all.data.toList.drop 24 = dktX3_all_1 := dk_seg dksX3_all_0 24 rfl rfl
theorem dX3_all_0 : decode cX3_all 0 = .ok (.aload_n 0, 1) := dk_42 (dk_at dksX3_all_0 0 rfl rfl)
theorem dX3_all_1 : decode cX3_all 1 = .ok (.invokevirtual 194, 3) := dk_182 0 194 (dk_at dksX3_all_0 1 rfl rfl)
theorem dX3_all_4 : decode cX3_all 4 = .ok (.astore_n 1, 1) := dk_76 (dk_at dksX3_all_0 4 rfl rfl)
theorem dX3_all_5 : decode cX3_all 5 = .ok (.aload_n 0, 1) := dk_42 (dk_at dksX3_all_0 5 rfl rfl)
theorem dX3_all_6 : decode cX3_all 6 = .ok (.getfield 134, 3) := dk_180 0 134 (dk_at dksX3_all_0 6 rfl rfl)
theorem dX3_all_9 : decode cX3_all 9 = .ok (.iconst 5, 1) := dk_8 (dk_at dksX3_all_0 9 rfl rfl)
theorem dX3_all_10 : decode cX3_all 10 = .ok (.if_icmp .ne 24, 3) := dk_160 0 24 (dk_at dksX3_all_0 10 rfl rfl)
theorem dX3_all_13 : decode cX3_all 13 = .ok (.aload_n 0, 1) := dk_42 (dk_at dksX3_all_0 13 rfl rfl)
theorem dX3_all_14 : decode cX3_all 14 = .ok (.invokevirtual 145, 3) := dk_182 0 145 (dk_at dksX3_all_0 14 rfl rfl)
theorem dX3_all_17 : decode cX3_all 17 = .ok (.new 177, 3) := dk_187 0 177 (dk_at dksX3_all_0 17 rfl rfl)
theorem dX3_all_20 : decode cX3_all 20 = .ok (.dup, 1) := dk_89 (dk_at dksX3_all_0 20 rfl rfl)
theorem dX3_all_21 : decode cX3_all 21 = .ok (.aload_n 1, 1) := dk_43 (dk_at dksX3_all_0 21 rfl rfl)
theorem dX3_all_22 : decode cX3_all 22 = .ok (.iconst 5, 1) := dk_8 (dk_at dksX3_all_0 22 rfl rfl)
theorem dX3_all_23 : decode cX3_all 23 = .ok (.aload_n 0, 1) := dk_42 (dk_at dksX3_all_0 23 rfl rfl)
theorem dX3_all_24 : decode cX3_all 24 = .ok (.invokevirtual 194, 3) := dk_182 0 194 (dk_at dksX3_all_1 0 rfl rfl)
theorem dX3_all_27 : decode cX3_all 27 = .ok (.invokespecial 179, 3) := dk_183 0 179 (dk_at dksX3_all_1 3 rfl rfl)
theorem dX3_all_30 : decode cX3_all 30 = .ok (.astore_n 1, 1) := dk_76 (dk_at dksX3_all_1 6 rfl rfl)
theorem dX3_all_31 : decode cX3_all 31 = .ok (.goto (-26), 3) := dk_167 255 230 (dk_at dksX3_all_1 7 rfl rfl)
theorem dX3_all_34 : decode cX3_all 34 = .ok (.aload_n 1, 1) := dk_43 (dk_at dksX3_all_1 10 rfl rfl)
theorem dX3_all_35 : decode cX3_all 35 = .ok (.areturn, 1) := dk_176 (dk_at dksX3_all_1 11 rfl rfl)
abbrev cX3_one : ByteArray := prog_15_method_25_code
def yX3_one : MethodName := ⟨RX3, "one", "()LNamesWeather$Term;"⟩
def dkwX3_one_6 : List UInt8 := [176]
abbrev dktX3_one_6 : List UInt8 := dkwX3_one_6 ++ []
def dkwX3_one_5 : List UInt8 := [180, 0, 37, 183, 0, 139, 191, 42, 182, 0, 145, 187, 0, 177, 89, 43, 28, 42, 182, 0, 208, 183, 0, 179]
abbrev dktX3_one_5 : List UInt8 := dkwX3_one_5 ++ dktX3_one_6
def dkwX3_one_4 : List UInt8 := [16, 60, 159, 0, 28, 28, 16, 61, 159, 0, 22, 28, 16, 62, 159, 0, 16, 187, 0, 137, 89, 4, 42]
abbrev dktX3_one_4 : List UInt8 := dkwX3_one_4 ++ dktX3_one_5
def dkwX3_one_3 : List UInt8 := [42, 89, 180, 0, 170, 4, 100, 181, 0, 170, 44, 176, 42, 182, 0, 208, 76, 42, 180, 0, 134, 61, 28]
abbrev dktX3_one_3 : List UInt8 := dkwX3_one_3 ++ dktX3_one_4
def dkwX3_one_2 : List UInt8 := [182, 0, 194, 183, 0, 202, 167, 0, 7, 42, 182, 0, 205, 77, 27, 154, 0, 9, 42, 16, 41, 182, 0, 148]
abbrev dktX3_one_2 : List UInt8 := dkwX3_one_2 ++ dktX3_one_3
def dkwX3_one_1 : List UInt8 := [160, 0, 7, 4, 167, 0, 4, 3, 60, 42, 182, 0, 197, 27, 153, 0, 17, 187, 0, 200, 89, 42]
abbrev dktX3_one_1 : List UInt8 := dkwX3_one_1 ++ dktX3_one_2
def dkwX3_one_0 : List UInt8 := [42, 180, 0, 134, 16, 6, 159, 0, 12, 42, 180, 0, 134, 16, 40, 160, 0, 67, 42, 180, 0, 134, 16, 6]
abbrev dktX3_one_0 : List UInt8 := dkwX3_one_0 ++ dktX3_one_1
theorem dksX3_one_0 : cX3_one.data.toList.drop 0 = dktX3_one_0 := by decide +kernel
theorem dksX3_one_1 : cX3_one.data.toList.drop 24 = dktX3_one_1 := dk_seg dksX3_one_0 24 rfl rfl
theorem dksX3_one_2 : cX3_one.data.toList.drop 46 = dktX3_one_2 := dk_seg dksX3_one_1 22 rfl rfl
theorem dksX3_one_3 : cX3_one.data.toList.drop 70 = dktX3_one_3 := dk_seg dksX3_one_2 24 rfl rfl
theorem dksX3_one_4 : cX3_one.data.toList.drop 93 = dktX3_one_4 := dk_seg dksX3_one_3 23 rfl rfl
theorem dksX3_one_5 : cX3_one.data.toList.drop 116 = dktX3_one_5 := dk_seg dksX3_one_4 23 rfl rfl
theorem dksX3_one_6 : cX3_one.data.toList.drop 140 = dktX3_one_6 := dk_seg dksX3_one_5 24 rfl rfl
theorem dX3_one_0 : decode cX3_one 0 = .ok (.aload_n 0, 1) := dk_42 (dk_at dksX3_one_0 0 rfl rfl)
theorem dX3_one_1 : decode cX3_one 1 = .ok (.getfield 134, 3) := dk_180 0 134 (dk_at dksX3_one_0 1 rfl rfl)
theorem dX3_one_4 : decode cX3_one 4 = .ok (.bipush 6, 2) := dk_16 6 (dk_at dksX3_one_0 4 rfl rfl)
theorem dX3_one_6 : decode cX3_one 6 = .ok (.if_icmp .eq 12, 3) := dk_159 0 12 (dk_at dksX3_one_0 6 rfl rfl)
theorem dX3_one_9 : decode cX3_one 9 = .ok (.aload_n 0, 1) := dk_42 (dk_at dksX3_one_0 9 rfl rfl)
theorem dX3_one_10 : decode cX3_one 10 = .ok (.getfield 134, 3) := dk_180 0 134 (dk_at dksX3_one_0 10 rfl rfl)
theorem dX3_one_13 : decode cX3_one 13 = .ok (.bipush 40, 2) := dk_16 40 (dk_at dksX3_one_0 13 rfl rfl)
theorem dX3_one_15 : decode cX3_one 15 = .ok (.if_icmp .ne 67, 3) := dk_160 0 67 (dk_at dksX3_one_0 15 rfl rfl)
theorem dX3_one_18 : decode cX3_one 18 = .ok (.aload_n 0, 1) := dk_42 (dk_at dksX3_one_0 18 rfl rfl)
theorem dX3_one_19 : decode cX3_one 19 = .ok (.getfield 134, 3) := dk_180 0 134 (dk_at dksX3_one_0 19 rfl rfl)
theorem dX3_one_22 : decode cX3_one 22 = .ok (.bipush 6, 2) := dk_16 6 (dk_at dksX3_one_0 22 rfl rfl)
theorem dX3_one_24 : decode cX3_one 24 = .ok (.if_icmp .ne 7, 3) := dk_160 0 7 (dk_at dksX3_one_1 0 rfl rfl)
theorem dX3_one_27 : decode cX3_one 27 = .ok (.iconst 1, 1) := dk_4 (dk_at dksX3_one_1 3 rfl rfl)
theorem dX3_one_28 : decode cX3_one 28 = .ok (.goto 4, 3) := dk_167 0 4 (dk_at dksX3_one_1 4 rfl rfl)
theorem dX3_one_31 : decode cX3_one 31 = .ok (.iconst 0, 1) := dk_3 (dk_at dksX3_one_1 7 rfl rfl)
theorem dX3_one_32 : decode cX3_one 32 = .ok (.istore_n 1, 1) := dk_60 (dk_at dksX3_one_1 8 rfl rfl)
theorem dX3_one_33 : decode cX3_one 33 = .ok (.aload_n 0, 1) := dk_42 (dk_at dksX3_one_1 9 rfl rfl)
theorem dX3_one_34 : decode cX3_one 34 = .ok (.invokevirtual 197, 3) := dk_182 0 197 (dk_at dksX3_one_1 10 rfl rfl)
theorem dX3_one_37 : decode cX3_one 37 = .ok (.iload_n 1, 1) := dk_27 (dk_at dksX3_one_1 13 rfl rfl)
theorem dX3_one_38 : decode cX3_one 38 = .ok (.ifCond .eq 17, 3) := dk_153 0 17 (dk_at dksX3_one_1 14 rfl rfl)
theorem dX3_one_41 : decode cX3_one 41 = .ok (.new 200, 3) := dk_187 0 200 (dk_at dksX3_one_1 17 rfl rfl)
theorem dX3_one_44 : decode cX3_one 44 = .ok (.dup, 1) := dk_89 (dk_at dksX3_one_1 20 rfl rfl)
theorem dX3_one_45 : decode cX3_one 45 = .ok (.aload_n 0, 1) := dk_42 (dk_at dksX3_one_1 21 rfl rfl)
theorem dX3_one_46 : decode cX3_one 46 = .ok (.invokevirtual 194, 3) := dk_182 0 194 (dk_at dksX3_one_2 0 rfl rfl)
theorem dX3_one_49 : decode cX3_one 49 = .ok (.invokespecial 202, 3) := dk_183 0 202 (dk_at dksX3_one_2 3 rfl rfl)
theorem dX3_one_52 : decode cX3_one 52 = .ok (.goto 7, 3) := dk_167 0 7 (dk_at dksX3_one_2 6 rfl rfl)
theorem dX3_one_55 : decode cX3_one 55 = .ok (.aload_n 0, 1) := dk_42 (dk_at dksX3_one_2 9 rfl rfl)
theorem dX3_one_56 : decode cX3_one 56 = .ok (.invokevirtual 205, 3) := dk_182 0 205 (dk_at dksX3_one_2 10 rfl rfl)
theorem dX3_one_59 : decode cX3_one 59 = .ok (.astore_n 2, 1) := dk_77 (dk_at dksX3_one_2 13 rfl rfl)
theorem dX3_one_60 : decode cX3_one 60 = .ok (.iload_n 1, 1) := dk_27 (dk_at dksX3_one_2 14 rfl rfl)
theorem dX3_one_61 : decode cX3_one 61 = .ok (.ifCond .ne 9, 3) := dk_154 0 9 (dk_at dksX3_one_2 15 rfl rfl)
theorem dX3_one_64 : decode cX3_one 64 = .ok (.aload_n 0, 1) := dk_42 (dk_at dksX3_one_2 18 rfl rfl)
theorem dX3_one_65 : decode cX3_one 65 = .ok (.bipush 41, 2) := dk_16 41 (dk_at dksX3_one_2 19 rfl rfl)
theorem dX3_one_67 : decode cX3_one 67 = .ok (.invokevirtual 148, 3) := dk_182 0 148 (dk_at dksX3_one_2 21 rfl rfl)
theorem dX3_one_70 : decode cX3_one 70 = .ok (.aload_n 0, 1) := dk_42 (dk_at dksX3_one_3 0 rfl rfl)
theorem dX3_one_71 : decode cX3_one 71 = .ok (.dup, 1) := dk_89 (dk_at dksX3_one_3 1 rfl rfl)
theorem dX3_one_72 : decode cX3_one 72 = .ok (.getfield 170, 3) := dk_180 0 170 (dk_at dksX3_one_3 2 rfl rfl)
theorem dX3_one_75 : decode cX3_one 75 = .ok (.iconst 1, 1) := dk_4 (dk_at dksX3_one_3 5 rfl rfl)
theorem dX3_one_76 : decode cX3_one 76 = .ok (.isub, 1) := dk_100 (dk_at dksX3_one_3 6 rfl rfl)
theorem dX3_one_77 : decode cX3_one 77 = .ok (.putfield 170, 3) := dk_181 0 170 (dk_at dksX3_one_3 7 rfl rfl)
theorem dX3_one_80 : decode cX3_one 80 = .ok (.aload_n 2, 1) := dk_44 (dk_at dksX3_one_3 10 rfl rfl)
theorem dX3_one_81 : decode cX3_one 81 = .ok (.areturn, 1) := dk_176 (dk_at dksX3_one_3 11 rfl rfl)
theorem dX3_one_82 : decode cX3_one 82 = .ok (.aload_n 0, 1) := dk_42 (dk_at dksX3_one_3 12 rfl rfl)
theorem dX3_one_83 : decode cX3_one 83 = .ok (.invokevirtual 208, 3) := dk_182 0 208 (dk_at dksX3_one_3 13 rfl rfl)
theorem dX3_one_86 : decode cX3_one 86 = .ok (.astore_n 1, 1) := dk_76 (dk_at dksX3_one_3 16 rfl rfl)
theorem dX3_one_87 : decode cX3_one 87 = .ok (.aload_n 0, 1) := dk_42 (dk_at dksX3_one_3 17 rfl rfl)
theorem dX3_one_88 : decode cX3_one 88 = .ok (.getfield 134, 3) := dk_180 0 134 (dk_at dksX3_one_3 18 rfl rfl)
theorem dX3_one_91 : decode cX3_one 91 = .ok (.istore_n 2, 1) := dk_61 (dk_at dksX3_one_3 21 rfl rfl)
theorem dX3_one_92 : decode cX3_one 92 = .ok (.iload_n 2, 1) := dk_28 (dk_at dksX3_one_3 22 rfl rfl)
theorem dX3_one_93 : decode cX3_one 93 = .ok (.bipush 60, 2) := dk_16 60 (dk_at dksX3_one_4 0 rfl rfl)
theorem dX3_one_95 : decode cX3_one 95 = .ok (.if_icmp .eq 28, 3) := dk_159 0 28 (dk_at dksX3_one_4 2 rfl rfl)
theorem dX3_one_98 : decode cX3_one 98 = .ok (.iload_n 2, 1) := dk_28 (dk_at dksX3_one_4 5 rfl rfl)
theorem dX3_one_99 : decode cX3_one 99 = .ok (.bipush 61, 2) := dk_16 61 (dk_at dksX3_one_4 6 rfl rfl)
theorem dX3_one_101 : decode cX3_one 101 = .ok (.if_icmp .eq 22, 3) := dk_159 0 22 (dk_at dksX3_one_4 8 rfl rfl)
theorem dX3_one_104 : decode cX3_one 104 = .ok (.iload_n 2, 1) := dk_28 (dk_at dksX3_one_4 11 rfl rfl)
theorem dX3_one_105 : decode cX3_one 105 = .ok (.bipush 62, 2) := dk_16 62 (dk_at dksX3_one_4 12 rfl rfl)
theorem dX3_one_107 : decode cX3_one 107 = .ok (.if_icmp .eq 16, 3) := dk_159 0 16 (dk_at dksX3_one_4 14 rfl rfl)
theorem dX3_one_110 : decode cX3_one 110 = .ok (.new 137, 3) := dk_187 0 137 (dk_at dksX3_one_4 17 rfl rfl)
theorem dX3_one_113 : decode cX3_one 113 = .ok (.dup, 1) := dk_89 (dk_at dksX3_one_4 20 rfl rfl)
theorem dX3_one_114 : decode cX3_one 114 = .ok (.iconst 1, 1) := dk_4 (dk_at dksX3_one_4 21 rfl rfl)
theorem dX3_one_115 : decode cX3_one 115 = .ok (.aload_n 0, 1) := dk_42 (dk_at dksX3_one_4 22 rfl rfl)
theorem dX3_one_116 : decode cX3_one 116 = .ok (.getfield 37, 3) := dk_180 0 37 (dk_at dksX3_one_5 0 rfl rfl)
theorem dX3_one_119 : decode cX3_one 119 = .ok (.invokespecial 139, 3) := dk_183 0 139 (dk_at dksX3_one_5 3 rfl rfl)
theorem dX3_one_122 : decode cX3_one 122 = .ok (.athrow, 1) := dk_191 (dk_at dksX3_one_5 6 rfl rfl)
theorem dX3_one_123 : decode cX3_one 123 = .ok (.aload_n 0, 1) := dk_42 (dk_at dksX3_one_5 7 rfl rfl)
theorem dX3_one_124 : decode cX3_one 124 = .ok (.invokevirtual 145, 3) := dk_182 0 145 (dk_at dksX3_one_5 8 rfl rfl)
theorem dX3_one_127 : decode cX3_one 127 = .ok (.new 177, 3) := dk_187 0 177 (dk_at dksX3_one_5 11 rfl rfl)
theorem dX3_one_130 : decode cX3_one 130 = .ok (.dup, 1) := dk_89 (dk_at dksX3_one_5 14 rfl rfl)
theorem dX3_one_131 : decode cX3_one 131 = .ok (.aload_n 1, 1) := dk_43 (dk_at dksX3_one_5 15 rfl rfl)
theorem dX3_one_132 : decode cX3_one 132 = .ok (.iload_n 2, 1) := dk_28 (dk_at dksX3_one_5 16 rfl rfl)
theorem dX3_one_133 : decode cX3_one 133 = .ok (.aload_n 0, 1) := dk_42 (dk_at dksX3_one_5 17 rfl rfl)
theorem dX3_one_134 : decode cX3_one 134 = .ok (.invokevirtual 208, 3) := dk_182 0 208 (dk_at dksX3_one_5 18 rfl rfl)
theorem dX3_one_137 : decode cX3_one 137 = .ok (.invokespecial 179, 3) := dk_183 0 179 (dk_at dksX3_one_5 21 rfl rfl)
theorem dX3_one_140 : decode cX3_one 140 = .ok (.areturn, 1) := dk_176 (dk_at dksX3_one_6 0 rfl rfl)
abbrev cX3_opens : ByteArray := prog_15_method_19_code
def yX3_opens : MethodName := ⟨RX3, "opens", "()V"⟩
def dkwX3_opens_1 : List UInt8 := [180, 0, 170, 4, 96, 181, 0, 170, 42, 182, 0, 145, 177]
abbrev dktX3_opens_1 : List UInt8 := dkwX3_opens_1 ++ []
def dkwX3_opens_0 : List UInt8 := [42, 180, 0, 170, 16, 8, 160, 0, 16, 187, 0, 137, 89, 6, 42, 180, 0, 37, 183, 0, 139, 191, 42, 89]
abbrev dktX3_opens_0 : List UInt8 := dkwX3_opens_0 ++ dktX3_opens_1
theorem dksX3_opens_0 : cX3_opens.data.toList.drop 0 = dktX3_opens_0 := by decide +kernel
theorem dksX3_opens_1 : cX3_opens.data.toList.drop 24 = dktX3_opens_1 := dk_seg dksX3_opens_0 24 rfl rfl
theorem dX3_opens_0 : decode cX3_opens 0 = .ok (.aload_n 0, 1) := dk_42 (dk_at dksX3_opens_0 0 rfl rfl)
theorem dX3_opens_1 : decode cX3_opens 1 = .ok (.getfield 170, 3) := dk_180 0 170 (dk_at dksX3_opens_0 1 rfl rfl)
theorem dX3_opens_4 : decode cX3_opens 4 = .ok (.bipush 8, 2) := dk_16 8 (dk_at dksX3_opens_0 4 rfl rfl)
theorem dX3_opens_6 : decode cX3_opens 6 = .ok (.if_icmp .ne 16, 3) := dk_160 0 16 (dk_at dksX3_opens_0 6 rfl rfl)
theorem dX3_opens_9 : decode cX3_opens 9 = .ok (.new 137, 3) := dk_187 0 137 (dk_at dksX3_opens_0 9 rfl rfl)
theorem dX3_opens_12 : decode cX3_opens 12 = .ok (.dup, 1) := dk_89 (dk_at dksX3_opens_0 12 rfl rfl)
theorem dX3_opens_13 : decode cX3_opens 13 = .ok (.iconst 3, 1) := dk_6 (dk_at dksX3_opens_0 13 rfl rfl)
theorem dX3_opens_14 : decode cX3_opens 14 = .ok (.aload_n 0, 1) := dk_42 (dk_at dksX3_opens_0 14 rfl rfl)
theorem dX3_opens_15 : decode cX3_opens 15 = .ok (.getfield 37, 3) := dk_180 0 37 (dk_at dksX3_opens_0 15 rfl rfl)
theorem dX3_opens_18 : decode cX3_opens 18 = .ok (.invokespecial 139, 3) := dk_183 0 139 (dk_at dksX3_opens_0 18 rfl rfl)
theorem dX3_opens_21 : decode cX3_opens 21 = .ok (.athrow, 1) := dk_191 (dk_at dksX3_opens_0 21 rfl rfl)
theorem dX3_opens_22 : decode cX3_opens 22 = .ok (.aload_n 0, 1) := dk_42 (dk_at dksX3_opens_0 22 rfl rfl)
theorem dX3_opens_23 : decode cX3_opens 23 = .ok (.dup, 1) := dk_89 (dk_at dksX3_opens_0 23 rfl rfl)
theorem dX3_opens_24 : decode cX3_opens 24 = .ok (.getfield 170, 3) := dk_180 0 170 (dk_at dksX3_opens_1 0 rfl rfl)
theorem dX3_opens_27 : decode cX3_opens 27 = .ok (.iconst 1, 1) := dk_4 (dk_at dksX3_opens_1 3 rfl rfl)
theorem dX3_opens_28 : decode cX3_opens 28 = .ok (.iadd, 1) := dk_96 (dk_at dksX3_opens_1 4 rfl rfl)
theorem dX3_opens_29 : decode cX3_opens 29 = .ok (.putfield 170, 3) := dk_181 0 170 (dk_at dksX3_opens_1 5 rfl rfl)
theorem dX3_opens_32 : decode cX3_opens 32 = .ok (.aload_n 0, 1) := dk_42 (dk_at dksX3_opens_1 8 rfl rfl)
theorem dX3_opens_33 : decode cX3_opens 33 = .ok (.invokevirtual 145, 3) := dk_182 0 145 (dk_at dksX3_opens_1 9 rfl rfl)
theorem dX3_opens_36 : decode cX3_opens 36 = .ok (.return_, 1) := dk_177 (dk_at dksX3_opens_1 12 rfl rfl)
abbrev cX3_must : ByteArray := prog_15_method_18_code
def yX3_must : MethodName := ⟨RX3, "must", "(I)V"⟩
def dkwX3_must_1 : List UInt8 := [182, 0, 145, 177]
abbrev dktX3_must_1 : List UInt8 := dkwX3_must_1 ++ []
def dkwX3_must_0 : List UInt8 := [42, 180, 0, 134, 27, 159, 0, 16, 187, 0, 137, 89, 4, 42, 180, 0, 37, 183, 0, 139, 191, 42]
abbrev dktX3_must_0 : List UInt8 := dkwX3_must_0 ++ dktX3_must_1
theorem dksX3_must_0 : cX3_must.data.toList.drop 0 = dktX3_must_0 := by decide +kernel
theorem dksX3_must_1 : cX3_must.data.toList.drop 22 = dktX3_must_1 := dk_seg dksX3_must_0 22 rfl rfl
theorem dX3_must_0 : decode cX3_must 0 = .ok (.aload_n 0, 1) := dk_42 (dk_at dksX3_must_0 0 rfl rfl)
theorem dX3_must_1 : decode cX3_must 1 = .ok (.getfield 134, 3) := dk_180 0 134 (dk_at dksX3_must_0 1 rfl rfl)
theorem dX3_must_4 : decode cX3_must 4 = .ok (.iload_n 1, 1) := dk_27 (dk_at dksX3_must_0 4 rfl rfl)
theorem dX3_must_5 : decode cX3_must 5 = .ok (.if_icmp .eq 16, 3) := dk_159 0 16 (dk_at dksX3_must_0 5 rfl rfl)
theorem dX3_must_8 : decode cX3_must 8 = .ok (.new 137, 3) := dk_187 0 137 (dk_at dksX3_must_0 8 rfl rfl)
theorem dX3_must_11 : decode cX3_must 11 = .ok (.dup, 1) := dk_89 (dk_at dksX3_must_0 11 rfl rfl)
theorem dX3_must_12 : decode cX3_must 12 = .ok (.iconst 1, 1) := dk_4 (dk_at dksX3_must_0 12 rfl rfl)
theorem dX3_must_13 : decode cX3_must 13 = .ok (.aload_n 0, 1) := dk_42 (dk_at dksX3_must_0 13 rfl rfl)
theorem dX3_must_14 : decode cX3_must 14 = .ok (.getfield 37, 3) := dk_180 0 37 (dk_at dksX3_must_0 14 rfl rfl)
theorem dX3_must_17 : decode cX3_must 17 = .ok (.invokespecial 139, 3) := dk_183 0 139 (dk_at dksX3_must_0 17 rfl rfl)
theorem dX3_must_20 : decode cX3_must 20 = .ok (.athrow, 1) := dk_191 (dk_at dksX3_must_0 20 rfl rfl)
theorem dX3_must_21 : decode cX3_must 21 = .ok (.aload_n 0, 1) := dk_42 (dk_at dksX3_must_0 21 rfl rfl)
theorem dX3_must_22 : decode cX3_must 22 = .ok (.invokevirtual 145, 3) := dk_182 0 145 (dk_at dksX3_must_1 0 rfl rfl)
theorem dX3_must_25 : decode cX3_must 25 = .ok (.return_, 1) := dk_177 (dk_at dksX3_must_1 3 rfl rfl)
abbrev cX3_quenching : ByteArray := prog_15_method_28_code
def yX3_quenching : MethodName := ⟨RX3, "quenching", "()Ljava/util/ArrayList;"⟩
def dkwX3_quenching_2 : List UInt8 := [42, 180, 0, 37, 183, 0, 139, 191, 43, 42, 182, 0, 236, 182, 0, 222, 87, 167, 255, 204, 43, 176]
abbrev dktX3_quenching_2 : List UInt8 := dkwX3_quenching_2 ++ []
def dkwX3_quenching_1 : List UInt8 := [16, 30, 16, 34, 184, 0, 33, 153, 0, 25, 43, 182, 0, 214, 16, 16, 160, 0, 16, 187, 0, 137, 89, 6]
abbrev dktX3_quenching_1 : List UInt8 := dkwX3_quenching_1 ++ dktX3_quenching_2
def dkwX3_quenching_0 : List UInt8 := [187, 0, 211, 89, 183, 0, 213, 76, 42, 182, 0, 145, 42, 180, 0, 134, 153, 0, 51, 42, 180, 0, 134]
abbrev dktX3_quenching_0 : List UInt8 := dkwX3_quenching_0 ++ dktX3_quenching_1
theorem dksX3_quenching_0 : cX3_quenching.data.toList.drop 0 = dktX3_quenching_0 := by decide +kernel
theorem dksX3_quenching_1 : cX3_quenching.data.toList.drop 23 = dktX3_quenching_1 := dk_seg dksX3_quenching_0 23 rfl rfl
theorem dksX3_quenching_2 : cX3_quenching.data.toList.drop 47 = dktX3_quenching_2 := dk_seg dksX3_quenching_1 24 rfl rfl
theorem dX3_quenching_0 : decode cX3_quenching 0 = .ok (.new 211, 3) := dk_187 0 211 (dk_at dksX3_quenching_0 0 rfl rfl)
theorem dX3_quenching_3 : decode cX3_quenching 3 = .ok (.dup, 1) := dk_89 (dk_at dksX3_quenching_0 3 rfl rfl)
theorem dX3_quenching_4 : decode cX3_quenching 4 = .ok (.invokespecial 213, 3) := dk_183 0 213 (dk_at dksX3_quenching_0 4 rfl rfl)
theorem dX3_quenching_7 : decode cX3_quenching 7 = .ok (.astore_n 1, 1) := dk_76 (dk_at dksX3_quenching_0 7 rfl rfl)
theorem dX3_quenching_8 : decode cX3_quenching 8 = .ok (.aload_n 0, 1) := dk_42 (dk_at dksX3_quenching_0 8 rfl rfl)
theorem dX3_quenching_9 : decode cX3_quenching 9 = .ok (.invokevirtual 145, 3) := dk_182 0 145 (dk_at dksX3_quenching_0 9 rfl rfl)
theorem dX3_quenching_12 : decode cX3_quenching 12 = .ok (.aload_n 0, 1) := dk_42 (dk_at dksX3_quenching_0 12 rfl rfl)
theorem dX3_quenching_13 : decode cX3_quenching 13 = .ok (.getfield 134, 3) := dk_180 0 134 (dk_at dksX3_quenching_0 13 rfl rfl)
theorem dX3_quenching_16 : decode cX3_quenching 16 = .ok (.ifCond .eq 51, 3) := dk_153 0 51 (dk_at dksX3_quenching_0 16 rfl rfl)
theorem dX3_quenching_19 : decode cX3_quenching 19 = .ok (.aload_n 0, 1) := dk_42 (dk_at dksX3_quenching_0 19 rfl rfl)
theorem dX3_quenching_20 : decode cX3_quenching 20 = .ok (.getfield 134, 3) := dk_180 0 134 (dk_at dksX3_quenching_0 20 rfl rfl)
theorem dX3_quenching_23 : decode cX3_quenching 23 = .ok (.bipush 30, 2) := dk_16 30 (dk_at dksX3_quenching_1 0 rfl rfl)
theorem dX3_quenching_25 : decode cX3_quenching 25 = .ok (.bipush 34, 2) := dk_16 34 (dk_at dksX3_quenching_1 2 rfl rfl)
theorem dX3_quenching_27 : decode cX3_quenching 27 = .ok (.invokestatic 33, 3) := dk_184 0 33 (dk_at dksX3_quenching_1 4 rfl rfl)
theorem dX3_quenching_30 : decode cX3_quenching 30 = .ok (.ifCond .eq 25, 3) := dk_153 0 25 (dk_at dksX3_quenching_1 7 rfl rfl)
theorem dX3_quenching_33 : decode cX3_quenching 33 = .ok (.aload_n 1, 1) := dk_43 (dk_at dksX3_quenching_1 10 rfl rfl)
theorem dX3_quenching_34 : decode cX3_quenching 34 = .ok (.invokevirtual 214, 3) := dk_182 0 214 (dk_at dksX3_quenching_1 11 rfl rfl)
theorem dX3_quenching_37 : decode cX3_quenching 37 = .ok (.bipush 16, 2) := dk_16 16 (dk_at dksX3_quenching_1 14 rfl rfl)
theorem dX3_quenching_39 : decode cX3_quenching 39 = .ok (.if_icmp .ne 16, 3) := dk_160 0 16 (dk_at dksX3_quenching_1 16 rfl rfl)
theorem dX3_quenching_42 : decode cX3_quenching 42 = .ok (.new 137, 3) := dk_187 0 137 (dk_at dksX3_quenching_1 19 rfl rfl)
theorem dX3_quenching_45 : decode cX3_quenching 45 = .ok (.dup, 1) := dk_89 (dk_at dksX3_quenching_1 22 rfl rfl)
theorem dX3_quenching_46 : decode cX3_quenching 46 = .ok (.iconst 3, 1) := dk_6 (dk_at dksX3_quenching_1 23 rfl rfl)
theorem dX3_quenching_47 : decode cX3_quenching 47 = .ok (.aload_n 0, 1) := dk_42 (dk_at dksX3_quenching_2 0 rfl rfl)
theorem dX3_quenching_48 : decode cX3_quenching 48 = .ok (.getfield 37, 3) := dk_180 0 37 (dk_at dksX3_quenching_2 1 rfl rfl)
theorem dX3_quenching_51 : decode cX3_quenching 51 = .ok (.invokespecial 139, 3) := dk_183 0 139 (dk_at dksX3_quenching_2 4 rfl rfl)
theorem dX3_quenching_54 : decode cX3_quenching 54 = .ok (.athrow, 1) := dk_191 (dk_at dksX3_quenching_2 7 rfl rfl)
theorem dX3_quenching_55 : decode cX3_quenching 55 = .ok (.aload_n 1, 1) := dk_43 (dk_at dksX3_quenching_2 8 rfl rfl)
theorem dX3_quenching_56 : decode cX3_quenching 56 = .ok (.aload_n 0, 1) := dk_42 (dk_at dksX3_quenching_2 9 rfl rfl)
theorem dX3_quenching_57 : decode cX3_quenching 57 = .ok (.invokevirtual 236, 3) := dk_182 0 236 (dk_at dksX3_quenching_2 10 rfl rfl)
theorem dX3_quenching_60 : decode cX3_quenching 60 = .ok (.invokevirtual 222, 3) := dk_182 0 222 (dk_at dksX3_quenching_2 13 rfl rfl)
theorem dX3_quenching_63 : decode cX3_quenching 63 = .ok (.pop, 1) := dk_87 (dk_at dksX3_quenching_2 16 rfl rfl)
theorem dX3_quenching_64 : decode cX3_quenching 64 = .ok (.goto (-52), 3) := dk_167 255 204 (dk_at dksX3_quenching_2 17 rfl rfl)
theorem dX3_quenching_67 : decode cX3_quenching 67 = .ok (.aload_n 1, 1) := dk_43 (dk_at dksX3_quenching_2 20 rfl rfl)
theorem dX3_quenching_68 : decode cX3_quenching 68 = .ok (.areturn, 1) := dk_176 (dk_at dksX3_quenching_2 21 rfl rfl)
abbrev cX3_quench : ByteArray := prog_15_method_27_code
def yX3_quench : MethodName := ⟨RX3, "quench", "()LNamesWeather$Quench;"⟩
def dkwX3_quench_2 : List UInt8 := [182, 0, 227, 62, 42, 16, 59, 182, 0, 148, 187, 0, 231, 89, 27, 28, 29, 183, 0, 233, 176]
abbrev dktX3_quench_2 : List UInt8 := dkwX3_quench_2 ++ []
def dkwX3_quench_1 : List UInt8 := [187, 0, 137, 89, 4, 42, 180, 0, 37, 183, 0, 139, 191, 42, 182, 0, 225, 61, 42, 16, 11, 4, 16, 50]
abbrev dktX3_quench_1 : List UInt8 := dkwX3_quench_1 ++ dktX3_quench_2
def dkwX3_quench_0 : List UInt8 := [42, 182, 0, 225, 60, 42, 16, 10, 182, 0, 148, 42, 180, 0, 134, 16, 30, 27, 96, 160, 0, 16]
abbrev dktX3_quench_0 : List UInt8 := dkwX3_quench_0 ++ dktX3_quench_1
theorem dksX3_quench_0 : cX3_quench.data.toList.drop 0 = dktX3_quench_0 := by decide +kernel
theorem dksX3_quench_1 : cX3_quench.data.toList.drop 22 = dktX3_quench_1 := dk_seg dksX3_quench_0 22 rfl rfl
theorem dksX3_quench_2 : cX3_quench.data.toList.drop 46 = dktX3_quench_2 := dk_seg dksX3_quench_1 24 rfl rfl
theorem dX3_quench_0 : decode cX3_quench 0 = .ok (.aload_n 0, 1) := dk_42 (dk_at dksX3_quench_0 0 rfl rfl)
theorem dX3_quench_1 : decode cX3_quench 1 = .ok (.invokevirtual 225, 3) := dk_182 0 225 (dk_at dksX3_quench_0 1 rfl rfl)
theorem dX3_quench_4 : decode cX3_quench 4 = .ok (.istore_n 1, 1) := dk_60 (dk_at dksX3_quench_0 4 rfl rfl)
theorem dX3_quench_5 : decode cX3_quench 5 = .ok (.aload_n 0, 1) := dk_42 (dk_at dksX3_quench_0 5 rfl rfl)
theorem dX3_quench_6 : decode cX3_quench 6 = .ok (.bipush 10, 2) := dk_16 10 (dk_at dksX3_quench_0 6 rfl rfl)
theorem dX3_quench_8 : decode cX3_quench 8 = .ok (.invokevirtual 148, 3) := dk_182 0 148 (dk_at dksX3_quench_0 8 rfl rfl)
theorem dX3_quench_11 : decode cX3_quench 11 = .ok (.aload_n 0, 1) := dk_42 (dk_at dksX3_quench_0 11 rfl rfl)
theorem dX3_quench_12 : decode cX3_quench 12 = .ok (.getfield 134, 3) := dk_180 0 134 (dk_at dksX3_quench_0 12 rfl rfl)
theorem dX3_quench_15 : decode cX3_quench 15 = .ok (.bipush 30, 2) := dk_16 30 (dk_at dksX3_quench_0 15 rfl rfl)
theorem dX3_quench_17 : decode cX3_quench 17 = .ok (.iload_n 1, 1) := dk_27 (dk_at dksX3_quench_0 17 rfl rfl)
theorem dX3_quench_18 : decode cX3_quench 18 = .ok (.iadd, 1) := dk_96 (dk_at dksX3_quench_0 18 rfl rfl)
theorem dX3_quench_19 : decode cX3_quench 19 = .ok (.if_icmp .ne 16, 3) := dk_160 0 16 (dk_at dksX3_quench_0 19 rfl rfl)
theorem dX3_quench_22 : decode cX3_quench 22 = .ok (.new 137, 3) := dk_187 0 137 (dk_at dksX3_quench_1 0 rfl rfl)
theorem dX3_quench_25 : decode cX3_quench 25 = .ok (.dup, 1) := dk_89 (dk_at dksX3_quench_1 3 rfl rfl)
theorem dX3_quench_26 : decode cX3_quench 26 = .ok (.iconst 1, 1) := dk_4 (dk_at dksX3_quench_1 4 rfl rfl)
theorem dX3_quench_27 : decode cX3_quench 27 = .ok (.aload_n 0, 1) := dk_42 (dk_at dksX3_quench_1 5 rfl rfl)
theorem dX3_quench_28 : decode cX3_quench 28 = .ok (.getfield 37, 3) := dk_180 0 37 (dk_at dksX3_quench_1 6 rfl rfl)
theorem dX3_quench_31 : decode cX3_quench 31 = .ok (.invokespecial 139, 3) := dk_183 0 139 (dk_at dksX3_quench_1 9 rfl rfl)
theorem dX3_quench_34 : decode cX3_quench 34 = .ok (.athrow, 1) := dk_191 (dk_at dksX3_quench_1 12 rfl rfl)
theorem dX3_quench_35 : decode cX3_quench 35 = .ok (.aload_n 0, 1) := dk_42 (dk_at dksX3_quench_1 13 rfl rfl)
theorem dX3_quench_36 : decode cX3_quench 36 = .ok (.invokevirtual 225, 3) := dk_182 0 225 (dk_at dksX3_quench_1 14 rfl rfl)
theorem dX3_quench_39 : decode cX3_quench 39 = .ok (.istore_n 2, 1) := dk_61 (dk_at dksX3_quench_1 17 rfl rfl)
theorem dX3_quench_40 : decode cX3_quench 40 = .ok (.aload_n 0, 1) := dk_42 (dk_at dksX3_quench_1 18 rfl rfl)
theorem dX3_quench_41 : decode cX3_quench 41 = .ok (.bipush 11, 2) := dk_16 11 (dk_at dksX3_quench_1 19 rfl rfl)
theorem dX3_quench_43 : decode cX3_quench 43 = .ok (.iconst 1, 1) := dk_4 (dk_at dksX3_quench_1 21 rfl rfl)
theorem dX3_quench_44 : decode cX3_quench 44 = .ok (.bipush 50, 2) := dk_16 50 (dk_at dksX3_quench_1 22 rfl rfl)
theorem dX3_quench_46 : decode cX3_quench 46 = .ok (.invokevirtual 227, 3) := dk_182 0 227 (dk_at dksX3_quench_2 0 rfl rfl)
theorem dX3_quench_49 : decode cX3_quench 49 = .ok (.istore_n 3, 1) := dk_62 (dk_at dksX3_quench_2 3 rfl rfl)
theorem dX3_quench_50 : decode cX3_quench 50 = .ok (.aload_n 0, 1) := dk_42 (dk_at dksX3_quench_2 4 rfl rfl)
theorem dX3_quench_51 : decode cX3_quench 51 = .ok (.bipush 59, 2) := dk_16 59 (dk_at dksX3_quench_2 5 rfl rfl)
theorem dX3_quench_53 : decode cX3_quench 53 = .ok (.invokevirtual 148, 3) := dk_182 0 148 (dk_at dksX3_quench_2 7 rfl rfl)
theorem dX3_quench_56 : decode cX3_quench 56 = .ok (.new 231, 3) := dk_187 0 231 (dk_at dksX3_quench_2 10 rfl rfl)
theorem dX3_quench_59 : decode cX3_quench 59 = .ok (.dup, 1) := dk_89 (dk_at dksX3_quench_2 13 rfl rfl)
theorem dX3_quench_60 : decode cX3_quench 60 = .ok (.iload_n 1, 1) := dk_27 (dk_at dksX3_quench_2 14 rfl rfl)
theorem dX3_quench_61 : decode cX3_quench 61 = .ok (.iload_n 2, 1) := dk_28 (dk_at dksX3_quench_2 15 rfl rfl)
theorem dX3_quench_62 : decode cX3_quench 62 = .ok (.iload_n 3, 1) := dk_29 (dk_at dksX3_quench_2 16 rfl rfl)
theorem dX3_quench_63 : decode cX3_quench 63 = .ok (.invokespecial 233, 3) := dk_183 0 233 (dk_at dksX3_quench_2 17 rfl rfl)
theorem dX3_quench_66 : decode cX3_quench 66 = .ok (.areturn, 1) := dk_176 (dk_at dksX3_quench_2 20 rfl rfl)
abbrev cX3_kind : ByteArray := prog_15_method_15_code
def yX3_kind : MethodName := ⟨RX3, "kind", "()I"⟩
def dkwX3_kind_1 : List UInt8 := [183, 0, 139, 191, 42, 180, 0, 134, 16, 30, 100, 60, 42, 182, 0, 145, 27, 172]
abbrev dktX3_kind_1 : List UInt8 := dkwX3_kind_1 ++ []
def dkwX3_kind_0 : List UInt8 := [42, 180, 0, 134, 16, 30, 16, 34, 184, 0, 33, 154, 0, 16, 187, 0, 137, 89, 4, 42, 180, 0, 37]
abbrev dktX3_kind_0 : List UInt8 := dkwX3_kind_0 ++ dktX3_kind_1
theorem dksX3_kind_0 : cX3_kind.data.toList.drop 0 = dktX3_kind_0 := by decide +kernel
theorem dksX3_kind_1 : cX3_kind.data.toList.drop 23 = dktX3_kind_1 := dk_seg dksX3_kind_0 23 rfl rfl
theorem dX3_kind_0 : decode cX3_kind 0 = .ok (.aload_n 0, 1) := dk_42 (dk_at dksX3_kind_0 0 rfl rfl)
theorem dX3_kind_1 : decode cX3_kind 1 = .ok (.getfield 134, 3) := dk_180 0 134 (dk_at dksX3_kind_0 1 rfl rfl)
theorem dX3_kind_4 : decode cX3_kind 4 = .ok (.bipush 30, 2) := dk_16 30 (dk_at dksX3_kind_0 4 rfl rfl)
theorem dX3_kind_6 : decode cX3_kind 6 = .ok (.bipush 34, 2) := dk_16 34 (dk_at dksX3_kind_0 6 rfl rfl)
theorem dX3_kind_8 : decode cX3_kind 8 = .ok (.invokestatic 33, 3) := dk_184 0 33 (dk_at dksX3_kind_0 8 rfl rfl)
theorem dX3_kind_11 : decode cX3_kind 11 = .ok (.ifCond .ne 16, 3) := dk_154 0 16 (dk_at dksX3_kind_0 11 rfl rfl)
theorem dX3_kind_14 : decode cX3_kind 14 = .ok (.new 137, 3) := dk_187 0 137 (dk_at dksX3_kind_0 14 rfl rfl)
theorem dX3_kind_17 : decode cX3_kind 17 = .ok (.dup, 1) := dk_89 (dk_at dksX3_kind_0 17 rfl rfl)
theorem dX3_kind_18 : decode cX3_kind 18 = .ok (.iconst 1, 1) := dk_4 (dk_at dksX3_kind_0 18 rfl rfl)
theorem dX3_kind_19 : decode cX3_kind 19 = .ok (.aload_n 0, 1) := dk_42 (dk_at dksX3_kind_0 19 rfl rfl)
theorem dX3_kind_20 : decode cX3_kind 20 = .ok (.getfield 37, 3) := dk_180 0 37 (dk_at dksX3_kind_0 20 rfl rfl)
theorem dX3_kind_23 : decode cX3_kind 23 = .ok (.invokespecial 139, 3) := dk_183 0 139 (dk_at dksX3_kind_1 0 rfl rfl)
theorem dX3_kind_26 : decode cX3_kind 26 = .ok (.athrow, 1) := dk_191 (dk_at dksX3_kind_1 3 rfl rfl)
theorem dX3_kind_27 : decode cX3_kind 27 = .ok (.aload_n 0, 1) := dk_42 (dk_at dksX3_kind_1 4 rfl rfl)
theorem dX3_kind_28 : decode cX3_kind 28 = .ok (.getfield 134, 3) := dk_180 0 134 (dk_at dksX3_kind_1 5 rfl rfl)
theorem dX3_kind_31 : decode cX3_kind 31 = .ok (.bipush 30, 2) := dk_16 30 (dk_at dksX3_kind_1 8 rfl rfl)
theorem dX3_kind_33 : decode cX3_kind 33 = .ok (.isub, 1) := dk_100 (dk_at dksX3_kind_1 10 rfl rfl)
theorem dX3_kind_34 : decode cX3_kind 34 = .ok (.istore_n 1, 1) := dk_60 (dk_at dksX3_kind_1 11 rfl rfl)
theorem dX3_kind_35 : decode cX3_kind 35 = .ok (.aload_n 0, 1) := dk_42 (dk_at dksX3_kind_1 12 rfl rfl)
theorem dX3_kind_36 : decode cX3_kind 36 = .ok (.invokevirtual 145, 3) := dk_182 0 145 (dk_at dksX3_kind_1 13 rfl rfl)
theorem dX3_kind_39 : decode cX3_kind 39 = .ok (.iload_n 1, 1) := dk_27 (dk_at dksX3_kind_1 16 rfl rfl)
theorem dX3_kind_40 : decode cX3_kind 40 = .ok (.ireturn, 1) := dk_172 (dk_at dksX3_kind_1 17 rfl rfl)
abbrev cX3_behind : ByteArray := prog_15_method_14_code
def yX3_behind : MethodName := ⟨RX3, "behind", "(III)I"⟩
def dkwX3_behind_0 : List UInt8 := [42, 27, 182, 0, 148, 42, 28, 29, 182, 0, 152, 172]
abbrev dktX3_behind_0 : List UInt8 := dkwX3_behind_0 ++ []
theorem dksX3_behind_0 : cX3_behind.data.toList.drop 0 = dktX3_behind_0 := by decide +kernel
theorem dX3_behind_0 : decode cX3_behind 0 = .ok (.aload_n 0, 1) := dk_42 (dk_at dksX3_behind_0 0 rfl rfl)
theorem dX3_behind_1 : decode cX3_behind 1 = .ok (.iload_n 1, 1) := dk_27 (dk_at dksX3_behind_0 1 rfl rfl)
theorem dX3_behind_2 : decode cX3_behind 2 = .ok (.invokevirtual 148, 3) := dk_182 0 148 (dk_at dksX3_behind_0 2 rfl rfl)
theorem dX3_behind_5 : decode cX3_behind 5 = .ok (.aload_n 0, 1) := dk_42 (dk_at dksX3_behind_0 5 rfl rfl)
theorem dX3_behind_6 : decode cX3_behind 6 = .ok (.iload_n 2, 1) := dk_28 (dk_at dksX3_behind_0 6 rfl rfl)
theorem dX3_behind_7 : decode cX3_behind 7 = .ok (.iload_n 3, 1) := dk_29 (dk_at dksX3_behind_0 7 rfl rfl)
theorem dX3_behind_8 : decode cX3_behind 8 = .ok (.invokevirtual 152, 3) := dk_182 0 152 (dk_at dksX3_behind_0 8 rfl rfl)
theorem dX3_behind_11 : decode cX3_behind 11 = .ok (.ireturn, 1) := dk_172 (dk_at dksX3_behind_0 11 rfl rfl)
abbrev cX3_wants : ByteArray := prog_15_method_30_code
def yX3_wants : MethodName := ⟨RX3, "wants", "()Ljava/util/ArrayList;"⟩
def dkwX3_wants_3 : List UInt8 := [87, 167, 255, 196, 43, 176]
abbrev dktX3_wants_3 : List UInt8 := dkwX3_wants_3 ++ []
def dkwX3_wants_2 : List UInt8 := [160, 0, 16, 187, 0, 137, 89, 6, 42, 180, 0, 37, 183, 0, 139, 191, 43, 42, 182, 0, 248, 182, 0, 222]
abbrev dktX3_wants_2 : List UInt8 := dkwX3_wants_2 ++ dktX3_wants_3
def dkwX3_wants_1 : List UInt8 := [16, 12, 159, 0, 16, 187, 0, 137, 89, 4, 42, 180, 0, 37, 183, 0, 139, 191, 43, 182, 0, 214, 16, 10]
abbrev dktX3_wants_1 : List UInt8 := dkwX3_wants_1 ++ dktX3_wants_2
def dkwX3_wants_0 : List UInt8 := [187, 0, 211, 89, 183, 0, 213, 76, 42, 182, 0, 145, 42, 180, 0, 134, 153, 0, 59, 42, 180, 0, 134]
abbrev dktX3_wants_0 : List UInt8 := dkwX3_wants_0 ++ dktX3_wants_1
theorem dksX3_wants_0 : cX3_wants.data.toList.drop 0 = dktX3_wants_0 := by decide +kernel
theorem dksX3_wants_1 : cX3_wants.data.toList.drop 23 = dktX3_wants_1 := dk_seg dksX3_wants_0 23 rfl rfl
theorem dksX3_wants_2 : cX3_wants.data.toList.drop 47 = dktX3_wants_2 := dk_seg dksX3_wants_1 24 rfl rfl
theorem dksX3_wants_3 : cX3_wants.data.toList.drop 71 = dktX3_wants_3 := dk_seg dksX3_wants_2 24 rfl rfl
theorem dX3_wants_0 : decode cX3_wants 0 = .ok (.new 211, 3) := dk_187 0 211 (dk_at dksX3_wants_0 0 rfl rfl)
theorem dX3_wants_3 : decode cX3_wants 3 = .ok (.dup, 1) := dk_89 (dk_at dksX3_wants_0 3 rfl rfl)
theorem dX3_wants_4 : decode cX3_wants 4 = .ok (.invokespecial 213, 3) := dk_183 0 213 (dk_at dksX3_wants_0 4 rfl rfl)
theorem dX3_wants_7 : decode cX3_wants 7 = .ok (.astore_n 1, 1) := dk_76 (dk_at dksX3_wants_0 7 rfl rfl)
theorem dX3_wants_8 : decode cX3_wants 8 = .ok (.aload_n 0, 1) := dk_42 (dk_at dksX3_wants_0 8 rfl rfl)
theorem dX3_wants_9 : decode cX3_wants 9 = .ok (.invokevirtual 145, 3) := dk_182 0 145 (dk_at dksX3_wants_0 9 rfl rfl)
theorem dX3_wants_12 : decode cX3_wants 12 = .ok (.aload_n 0, 1) := dk_42 (dk_at dksX3_wants_0 12 rfl rfl)
theorem dX3_wants_13 : decode cX3_wants 13 = .ok (.getfield 134, 3) := dk_180 0 134 (dk_at dksX3_wants_0 13 rfl rfl)
theorem dX3_wants_16 : decode cX3_wants 16 = .ok (.ifCond .eq 59, 3) := dk_153 0 59 (dk_at dksX3_wants_0 16 rfl rfl)
theorem dX3_wants_19 : decode cX3_wants 19 = .ok (.aload_n 0, 1) := dk_42 (dk_at dksX3_wants_0 19 rfl rfl)
theorem dX3_wants_20 : decode cX3_wants 20 = .ok (.getfield 134, 3) := dk_180 0 134 (dk_at dksX3_wants_0 20 rfl rfl)
theorem dX3_wants_23 : decode cX3_wants 23 = .ok (.bipush 12, 2) := dk_16 12 (dk_at dksX3_wants_1 0 rfl rfl)
theorem dX3_wants_25 : decode cX3_wants 25 = .ok (.if_icmp .eq 16, 3) := dk_159 0 16 (dk_at dksX3_wants_1 2 rfl rfl)
theorem dX3_wants_28 : decode cX3_wants 28 = .ok (.new 137, 3) := dk_187 0 137 (dk_at dksX3_wants_1 5 rfl rfl)
theorem dX3_wants_31 : decode cX3_wants 31 = .ok (.dup, 1) := dk_89 (dk_at dksX3_wants_1 8 rfl rfl)
theorem dX3_wants_32 : decode cX3_wants 32 = .ok (.iconst 1, 1) := dk_4 (dk_at dksX3_wants_1 9 rfl rfl)
theorem dX3_wants_33 : decode cX3_wants 33 = .ok (.aload_n 0, 1) := dk_42 (dk_at dksX3_wants_1 10 rfl rfl)
theorem dX3_wants_34 : decode cX3_wants 34 = .ok (.getfield 37, 3) := dk_180 0 37 (dk_at dksX3_wants_1 11 rfl rfl)
theorem dX3_wants_37 : decode cX3_wants 37 = .ok (.invokespecial 139, 3) := dk_183 0 139 (dk_at dksX3_wants_1 14 rfl rfl)
theorem dX3_wants_40 : decode cX3_wants 40 = .ok (.athrow, 1) := dk_191 (dk_at dksX3_wants_1 17 rfl rfl)
theorem dX3_wants_41 : decode cX3_wants 41 = .ok (.aload_n 1, 1) := dk_43 (dk_at dksX3_wants_1 18 rfl rfl)
theorem dX3_wants_42 : decode cX3_wants 42 = .ok (.invokevirtual 214, 3) := dk_182 0 214 (dk_at dksX3_wants_1 19 rfl rfl)
theorem dX3_wants_45 : decode cX3_wants 45 = .ok (.bipush 10, 2) := dk_16 10 (dk_at dksX3_wants_1 22 rfl rfl)
theorem dX3_wants_47 : decode cX3_wants 47 = .ok (.if_icmp .ne 16, 3) := dk_160 0 16 (dk_at dksX3_wants_2 0 rfl rfl)
theorem dX3_wants_50 : decode cX3_wants 50 = .ok (.new 137, 3) := dk_187 0 137 (dk_at dksX3_wants_2 3 rfl rfl)
theorem dX3_wants_53 : decode cX3_wants 53 = .ok (.dup, 1) := dk_89 (dk_at dksX3_wants_2 6 rfl rfl)
theorem dX3_wants_54 : decode cX3_wants 54 = .ok (.iconst 3, 1) := dk_6 (dk_at dksX3_wants_2 7 rfl rfl)
theorem dX3_wants_55 : decode cX3_wants 55 = .ok (.aload_n 0, 1) := dk_42 (dk_at dksX3_wants_2 8 rfl rfl)
theorem dX3_wants_56 : decode cX3_wants 56 = .ok (.getfield 37, 3) := dk_180 0 37 (dk_at dksX3_wants_2 9 rfl rfl)
theorem dX3_wants_59 : decode cX3_wants 59 = .ok (.invokespecial 139, 3) := dk_183 0 139 (dk_at dksX3_wants_2 12 rfl rfl)
theorem dX3_wants_62 : decode cX3_wants 62 = .ok (.athrow, 1) := dk_191 (dk_at dksX3_wants_2 15 rfl rfl)
theorem dX3_wants_63 : decode cX3_wants 63 = .ok (.aload_n 1, 1) := dk_43 (dk_at dksX3_wants_2 16 rfl rfl)
theorem dX3_wants_64 : decode cX3_wants 64 = .ok (.aload_n 0, 1) := dk_42 (dk_at dksX3_wants_2 17 rfl rfl)
theorem dX3_wants_65 : decode cX3_wants 65 = .ok (.invokevirtual 248, 3) := dk_182 0 248 (dk_at dksX3_wants_2 18 rfl rfl)
theorem dX3_wants_68 : decode cX3_wants 68 = .ok (.invokevirtual 222, 3) := dk_182 0 222 (dk_at dksX3_wants_2 21 rfl rfl)
theorem dX3_wants_71 : decode cX3_wants 71 = .ok (.pop, 1) := dk_87 (dk_at dksX3_wants_3 0 rfl rfl)
theorem dX3_wants_72 : decode cX3_wants 72 = .ok (.goto (-60), 3) := dk_167 255 196 (dk_at dksX3_wants_3 1 rfl rfl)
theorem dX3_wants_75 : decode cX3_wants 75 = .ok (.aload_n 1, 1) := dk_43 (dk_at dksX3_wants_3 4 rfl rfl)
theorem dX3_wants_76 : decode cX3_wants 76 = .ok (.areturn, 1) := dk_176 (dk_at dksX3_wants_3 5 rfl rfl)
abbrev cX3_want : ByteArray := prog_15_method_29_code
def yX3_want : MethodName := ⟨RX3, "want", "()LNamesWeather$Want;"⟩
def dkwX3_want_5 : List UInt8 := [183, 0, 245, 176]
abbrev dktX3_want_5 : List UInt8 := dkwX3_want_5 ++ []
def dkwX3_want_4 : List UInt8 := [21, 4, 21, 5, 21, 6, 183, 0, 242, 167, 0, 18, 187, 0, 243, 89, 28, 29, 21, 4, 21, 5, 21, 6]
abbrev dktX3_want_4 : List UInt8 := dkwX3_want_4 ++ dktX3_want_5
def dkwX3_want_3 : List UInt8 := [16, 16, 4, 16, 99, 182, 0, 227, 54, 6, 42, 16, 59, 182, 0, 148, 27, 153, 0, 19, 187, 0, 240, 89]
abbrev dktX3_want_3 : List UInt8 := dkwX3_want_3 ++ dktX3_want_4
def dkwX3_want_2 : List UInt8 := [16, 14, 3, 16, 7, 182, 0, 227, 54, 4, 42, 16, 15, 3, 17, 3, 231, 182, 0, 227, 54, 5, 42]
abbrev dktX3_want_2 : List UInt8 := dkwX3_want_2 ++ dktX3_want_3
def dkwX3_want_1 : List UInt8 := [153, 0, 10, 42, 182, 0, 145, 167, 0, 16, 42, 182, 0, 225, 61, 42, 4, 16, 99, 182, 0, 152, 62, 42]
abbrev dktX3_want_1 : List UInt8 := dkwX3_want_1 ++ dktX3_want_2
def dkwX3_want_0 : List UInt8 := [42, 182, 0, 145, 42, 180, 0, 134, 16, 13, 160, 0, 7, 4, 167, 0, 4, 3, 60, 2, 61, 3, 62, 27]
abbrev dktX3_want_0 : List UInt8 := dkwX3_want_0 ++ dktX3_want_1
theorem dksX3_want_0 : cX3_want.data.toList.drop 0 = dktX3_want_0 := by decide +kernel
theorem dksX3_want_1 : cX3_want.data.toList.drop 24 = dktX3_want_1 := dk_seg dksX3_want_0 24 rfl rfl
theorem dksX3_want_2 : cX3_want.data.toList.drop 48 = dktX3_want_2 := dk_seg dksX3_want_1 24 rfl rfl
theorem dksX3_want_3 : cX3_want.data.toList.drop 71 = dktX3_want_3 := dk_seg dksX3_want_2 23 rfl rfl
theorem dksX3_want_4 : cX3_want.data.toList.drop 95 = dktX3_want_4 := dk_seg dksX3_want_3 24 rfl rfl
theorem dksX3_want_5 : cX3_want.data.toList.drop 119 = dktX3_want_5 := dk_seg dksX3_want_4 24 rfl rfl
theorem dX3_want_0 : decode cX3_want 0 = .ok (.aload_n 0, 1) := dk_42 (dk_at dksX3_want_0 0 rfl rfl)
theorem dX3_want_1 : decode cX3_want 1 = .ok (.invokevirtual 145, 3) := dk_182 0 145 (dk_at dksX3_want_0 1 rfl rfl)
theorem dX3_want_4 : decode cX3_want 4 = .ok (.aload_n 0, 1) := dk_42 (dk_at dksX3_want_0 4 rfl rfl)
theorem dX3_want_5 : decode cX3_want 5 = .ok (.getfield 134, 3) := dk_180 0 134 (dk_at dksX3_want_0 5 rfl rfl)
theorem dX3_want_8 : decode cX3_want 8 = .ok (.bipush 13, 2) := dk_16 13 (dk_at dksX3_want_0 8 rfl rfl)
theorem dX3_want_10 : decode cX3_want 10 = .ok (.if_icmp .ne 7, 3) := dk_160 0 7 (dk_at dksX3_want_0 10 rfl rfl)
theorem dX3_want_13 : decode cX3_want 13 = .ok (.iconst 1, 1) := dk_4 (dk_at dksX3_want_0 13 rfl rfl)
theorem dX3_want_14 : decode cX3_want 14 = .ok (.goto 4, 3) := dk_167 0 4 (dk_at dksX3_want_0 14 rfl rfl)
theorem dX3_want_17 : decode cX3_want 17 = .ok (.iconst 0, 1) := dk_3 (dk_at dksX3_want_0 17 rfl rfl)
theorem dX3_want_18 : decode cX3_want 18 = .ok (.istore_n 1, 1) := dk_60 (dk_at dksX3_want_0 18 rfl rfl)
theorem dX3_want_19 : decode cX3_want 19 = .ok (.iconst (-1), 1) := dk_2 (dk_at dksX3_want_0 19 rfl rfl)
theorem dX3_want_20 : decode cX3_want 20 = .ok (.istore_n 2, 1) := dk_61 (dk_at dksX3_want_0 20 rfl rfl)
theorem dX3_want_21 : decode cX3_want 21 = .ok (.iconst 0, 1) := dk_3 (dk_at dksX3_want_0 21 rfl rfl)
theorem dX3_want_22 : decode cX3_want 22 = .ok (.istore_n 3, 1) := dk_62 (dk_at dksX3_want_0 22 rfl rfl)
theorem dX3_want_23 : decode cX3_want 23 = .ok (.iload_n 1, 1) := dk_27 (dk_at dksX3_want_0 23 rfl rfl)
theorem dX3_want_24 : decode cX3_want 24 = .ok (.ifCond .eq 10, 3) := dk_153 0 10 (dk_at dksX3_want_1 0 rfl rfl)
theorem dX3_want_27 : decode cX3_want 27 = .ok (.aload_n 0, 1) := dk_42 (dk_at dksX3_want_1 3 rfl rfl)
theorem dX3_want_28 : decode cX3_want 28 = .ok (.invokevirtual 145, 3) := dk_182 0 145 (dk_at dksX3_want_1 4 rfl rfl)
theorem dX3_want_31 : decode cX3_want 31 = .ok (.goto 16, 3) := dk_167 0 16 (dk_at dksX3_want_1 7 rfl rfl)
theorem dX3_want_34 : decode cX3_want 34 = .ok (.aload_n 0, 1) := dk_42 (dk_at dksX3_want_1 10 rfl rfl)
theorem dX3_want_35 : decode cX3_want 35 = .ok (.invokevirtual 225, 3) := dk_182 0 225 (dk_at dksX3_want_1 11 rfl rfl)
theorem dX3_want_38 : decode cX3_want 38 = .ok (.istore_n 2, 1) := dk_61 (dk_at dksX3_want_1 14 rfl rfl)
theorem dX3_want_39 : decode cX3_want 39 = .ok (.aload_n 0, 1) := dk_42 (dk_at dksX3_want_1 15 rfl rfl)
theorem dX3_want_40 : decode cX3_want 40 = .ok (.iconst 1, 1) := dk_4 (dk_at dksX3_want_1 16 rfl rfl)
theorem dX3_want_41 : decode cX3_want 41 = .ok (.bipush 99, 2) := dk_16 99 (dk_at dksX3_want_1 17 rfl rfl)
theorem dX3_want_43 : decode cX3_want 43 = .ok (.invokevirtual 152, 3) := dk_182 0 152 (dk_at dksX3_want_1 19 rfl rfl)
theorem dX3_want_46 : decode cX3_want 46 = .ok (.istore_n 3, 1) := dk_62 (dk_at dksX3_want_1 22 rfl rfl)
theorem dX3_want_47 : decode cX3_want 47 = .ok (.aload_n 0, 1) := dk_42 (dk_at dksX3_want_1 23 rfl rfl)
theorem dX3_want_48 : decode cX3_want 48 = .ok (.bipush 14, 2) := dk_16 14 (dk_at dksX3_want_2 0 rfl rfl)
theorem dX3_want_50 : decode cX3_want 50 = .ok (.iconst 0, 1) := dk_3 (dk_at dksX3_want_2 2 rfl rfl)
theorem dX3_want_51 : decode cX3_want 51 = .ok (.bipush 7, 2) := dk_16 7 (dk_at dksX3_want_2 3 rfl rfl)
theorem dX3_want_53 : decode cX3_want 53 = .ok (.invokevirtual 227, 3) := dk_182 0 227 (dk_at dksX3_want_2 5 rfl rfl)
theorem dX3_want_56 : decode cX3_want 56 = .ok (.istore 4, 2) := dk_54 4 (dk_at dksX3_want_2 8 rfl rfl)
theorem dX3_want_58 : decode cX3_want 58 = .ok (.aload_n 0, 1) := dk_42 (dk_at dksX3_want_2 10 rfl rfl)
theorem dX3_want_59 : decode cX3_want 59 = .ok (.bipush 15, 2) := dk_16 15 (dk_at dksX3_want_2 11 rfl rfl)
theorem dX3_want_61 : decode cX3_want 61 = .ok (.iconst 0, 1) := dk_3 (dk_at dksX3_want_2 13 rfl rfl)
theorem dX3_want_62 : decode cX3_want 62 = .ok (.sipush 999, 3) := dk_17 3 231 (dk_at dksX3_want_2 14 rfl rfl)
theorem dX3_want_65 : decode cX3_want 65 = .ok (.invokevirtual 227, 3) := dk_182 0 227 (dk_at dksX3_want_2 17 rfl rfl)
theorem dX3_want_68 : decode cX3_want 68 = .ok (.istore 5, 2) := dk_54 5 (dk_at dksX3_want_2 20 rfl rfl)
theorem dX3_want_70 : decode cX3_want 70 = .ok (.aload_n 0, 1) := dk_42 (dk_at dksX3_want_2 22 rfl rfl)
theorem dX3_want_71 : decode cX3_want 71 = .ok (.bipush 16, 2) := dk_16 16 (dk_at dksX3_want_3 0 rfl rfl)
theorem dX3_want_73 : decode cX3_want 73 = .ok (.iconst 1, 1) := dk_4 (dk_at dksX3_want_3 2 rfl rfl)
theorem dX3_want_74 : decode cX3_want 74 = .ok (.bipush 99, 2) := dk_16 99 (dk_at dksX3_want_3 3 rfl rfl)
theorem dX3_want_76 : decode cX3_want 76 = .ok (.invokevirtual 227, 3) := dk_182 0 227 (dk_at dksX3_want_3 5 rfl rfl)
theorem dX3_want_79 : decode cX3_want 79 = .ok (.istore 6, 2) := dk_54 6 (dk_at dksX3_want_3 8 rfl rfl)
theorem dX3_want_81 : decode cX3_want 81 = .ok (.aload_n 0, 1) := dk_42 (dk_at dksX3_want_3 10 rfl rfl)
theorem dX3_want_82 : decode cX3_want 82 = .ok (.bipush 59, 2) := dk_16 59 (dk_at dksX3_want_3 11 rfl rfl)
theorem dX3_want_84 : decode cX3_want 84 = .ok (.invokevirtual 148, 3) := dk_182 0 148 (dk_at dksX3_want_3 13 rfl rfl)
theorem dX3_want_87 : decode cX3_want 87 = .ok (.iload_n 1, 1) := dk_27 (dk_at dksX3_want_3 16 rfl rfl)
theorem dX3_want_88 : decode cX3_want 88 = .ok (.ifCond .eq 19, 3) := dk_153 0 19 (dk_at dksX3_want_3 17 rfl rfl)
theorem dX3_want_91 : decode cX3_want 91 = .ok (.new 240, 3) := dk_187 0 240 (dk_at dksX3_want_3 20 rfl rfl)
theorem dX3_want_94 : decode cX3_want 94 = .ok (.dup, 1) := dk_89 (dk_at dksX3_want_3 23 rfl rfl)
theorem dX3_want_95 : decode cX3_want 95 = .ok (.iload 4, 2) := dk_21 4 (dk_at dksX3_want_4 0 rfl rfl)
theorem dX3_want_97 : decode cX3_want 97 = .ok (.iload 5, 2) := dk_21 5 (dk_at dksX3_want_4 2 rfl rfl)
theorem dX3_want_99 : decode cX3_want 99 = .ok (.iload 6, 2) := dk_21 6 (dk_at dksX3_want_4 4 rfl rfl)
theorem dX3_want_101 : decode cX3_want 101 = .ok (.invokespecial 242, 3) := dk_183 0 242 (dk_at dksX3_want_4 6 rfl rfl)
theorem dX3_want_104 : decode cX3_want 104 = .ok (.goto 18, 3) := dk_167 0 18 (dk_at dksX3_want_4 9 rfl rfl)
theorem dX3_want_107 : decode cX3_want 107 = .ok (.new 243, 3) := dk_187 0 243 (dk_at dksX3_want_4 12 rfl rfl)
theorem dX3_want_110 : decode cX3_want 110 = .ok (.dup, 1) := dk_89 (dk_at dksX3_want_4 15 rfl rfl)
theorem dX3_want_111 : decode cX3_want 111 = .ok (.iload_n 2, 1) := dk_28 (dk_at dksX3_want_4 16 rfl rfl)
theorem dX3_want_112 : decode cX3_want 112 = .ok (.iload_n 3, 1) := dk_29 (dk_at dksX3_want_4 17 rfl rfl)
theorem dX3_want_113 : decode cX3_want 113 = .ok (.iload 4, 2) := dk_21 4 (dk_at dksX3_want_4 18 rfl rfl)
theorem dX3_want_115 : decode cX3_want 115 = .ok (.iload 5, 2) := dk_21 5 (dk_at dksX3_want_4 20 rfl rfl)
theorem dX3_want_117 : decode cX3_want 117 = .ok (.iload 6, 2) := dk_21 6 (dk_at dksX3_want_4 22 rfl rfl)
theorem dX3_want_119 : decode cX3_want 119 = .ok (.invokespecial 245, 3) := dk_183 0 245 (dk_at dksX3_want_5 0 rfl rfl)
theorem dX3_want_122 : decode cX3_want 122 = .ok (.areturn, 1) := dk_176 (dk_at dksX3_want_5 3 rfl rfl)
abbrev cX3_plan : ByteArray := prog_15_method_32_code
def yX3_plan : MethodName := ⟨RX3, "plan", "()Ljava/util/ArrayList;"⟩
def dkwX3_plan_3 : List UInt8 := [17, 3, 231, 182, 0, 152, 182, 1, 13, 182, 0, 222, 87, 42, 16, 59, 182, 0, 148, 167, 255, 178, 43, 176]
abbrev dktX3_plan_3 : List UInt8 := dkwX3_plan_3 ++ []
def dkwX3_plan_2 : List UInt8 := [160, 0, 16, 187, 0, 137, 89, 6, 42, 180, 0, 37, 183, 0, 139, 191, 42, 182, 0, 145, 43, 42, 42, 3]
abbrev dktX3_plan_2 : List UInt8 := dkwX3_plan_2 ++ dktX3_plan_3
def dkwX3_plan_1 : List UInt8 := [16, 15, 159, 0, 16, 187, 0, 137, 89, 4, 42, 180, 0, 37, 183, 0, 139, 191, 43, 182, 0, 214, 16, 16]
abbrev dktX3_plan_1 : List UInt8 := dkwX3_plan_1 ++ dktX3_plan_2
def dkwX3_plan_0 : List UInt8 := [187, 0, 211, 89, 183, 0, 213, 76, 42, 182, 0, 145, 42, 180, 0, 134, 153, 0, 77, 42, 180, 0, 134]
abbrev dktX3_plan_0 : List UInt8 := dkwX3_plan_0 ++ dktX3_plan_1
theorem dksX3_plan_0 : cX3_plan.data.toList.drop 0 = dktX3_plan_0 := by decide +kernel
theorem dksX3_plan_1 : cX3_plan.data.toList.drop 23 = dktX3_plan_1 := dk_seg dksX3_plan_0 23 rfl rfl
theorem dksX3_plan_2 : cX3_plan.data.toList.drop 47 = dktX3_plan_2 := dk_seg dksX3_plan_1 24 rfl rfl
theorem dksX3_plan_3 : cX3_plan.data.toList.drop 71 = dktX3_plan_3 := dk_seg dksX3_plan_2 24 rfl rfl
theorem dX3_plan_0 : decode cX3_plan 0 = .ok (.new 211, 3) := dk_187 0 211 (dk_at dksX3_plan_0 0 rfl rfl)
theorem dX3_plan_3 : decode cX3_plan 3 = .ok (.dup, 1) := dk_89 (dk_at dksX3_plan_0 3 rfl rfl)
theorem dX3_plan_4 : decode cX3_plan 4 = .ok (.invokespecial 213, 3) := dk_183 0 213 (dk_at dksX3_plan_0 4 rfl rfl)
theorem dX3_plan_7 : decode cX3_plan 7 = .ok (.astore_n 1, 1) := dk_76 (dk_at dksX3_plan_0 7 rfl rfl)
theorem dX3_plan_8 : decode cX3_plan 8 = .ok (.aload_n 0, 1) := dk_42 (dk_at dksX3_plan_0 8 rfl rfl)
theorem dX3_plan_9 : decode cX3_plan 9 = .ok (.invokevirtual 145, 3) := dk_182 0 145 (dk_at dksX3_plan_0 9 rfl rfl)
theorem dX3_plan_12 : decode cX3_plan 12 = .ok (.aload_n 0, 1) := dk_42 (dk_at dksX3_plan_0 12 rfl rfl)
theorem dX3_plan_13 : decode cX3_plan 13 = .ok (.getfield 134, 3) := dk_180 0 134 (dk_at dksX3_plan_0 13 rfl rfl)
theorem dX3_plan_16 : decode cX3_plan 16 = .ok (.ifCond .eq 77, 3) := dk_153 0 77 (dk_at dksX3_plan_0 16 rfl rfl)
theorem dX3_plan_19 : decode cX3_plan 19 = .ok (.aload_n 0, 1) := dk_42 (dk_at dksX3_plan_0 19 rfl rfl)
theorem dX3_plan_20 : decode cX3_plan 20 = .ok (.getfield 134, 3) := dk_180 0 134 (dk_at dksX3_plan_0 20 rfl rfl)
theorem dX3_plan_23 : decode cX3_plan 23 = .ok (.bipush 15, 2) := dk_16 15 (dk_at dksX3_plan_1 0 rfl rfl)
theorem dX3_plan_25 : decode cX3_plan 25 = .ok (.if_icmp .eq 16, 3) := dk_159 0 16 (dk_at dksX3_plan_1 2 rfl rfl)
theorem dX3_plan_28 : decode cX3_plan 28 = .ok (.new 137, 3) := dk_187 0 137 (dk_at dksX3_plan_1 5 rfl rfl)
theorem dX3_plan_31 : decode cX3_plan 31 = .ok (.dup, 1) := dk_89 (dk_at dksX3_plan_1 8 rfl rfl)
theorem dX3_plan_32 : decode cX3_plan 32 = .ok (.iconst 1, 1) := dk_4 (dk_at dksX3_plan_1 9 rfl rfl)
theorem dX3_plan_33 : decode cX3_plan 33 = .ok (.aload_n 0, 1) := dk_42 (dk_at dksX3_plan_1 10 rfl rfl)
theorem dX3_plan_34 : decode cX3_plan 34 = .ok (.getfield 37, 3) := dk_180 0 37 (dk_at dksX3_plan_1 11 rfl rfl)
theorem dX3_plan_37 : decode cX3_plan 37 = .ok (.invokespecial 139, 3) := dk_183 0 139 (dk_at dksX3_plan_1 14 rfl rfl)
theorem dX3_plan_40 : decode cX3_plan 40 = .ok (.athrow, 1) := dk_191 (dk_at dksX3_plan_1 17 rfl rfl)
theorem dX3_plan_41 : decode cX3_plan 41 = .ok (.aload_n 1, 1) := dk_43 (dk_at dksX3_plan_1 18 rfl rfl)
theorem dX3_plan_42 : decode cX3_plan 42 = .ok (.invokevirtual 214, 3) := dk_182 0 214 (dk_at dksX3_plan_1 19 rfl rfl)
theorem dX3_plan_45 : decode cX3_plan 45 = .ok (.bipush 16, 2) := dk_16 16 (dk_at dksX3_plan_1 22 rfl rfl)
theorem dX3_plan_47 : decode cX3_plan 47 = .ok (.if_icmp .ne 16, 3) := dk_160 0 16 (dk_at dksX3_plan_2 0 rfl rfl)
theorem dX3_plan_50 : decode cX3_plan 50 = .ok (.new 137, 3) := dk_187 0 137 (dk_at dksX3_plan_2 3 rfl rfl)
theorem dX3_plan_53 : decode cX3_plan 53 = .ok (.dup, 1) := dk_89 (dk_at dksX3_plan_2 6 rfl rfl)
theorem dX3_plan_54 : decode cX3_plan 54 = .ok (.iconst 3, 1) := dk_6 (dk_at dksX3_plan_2 7 rfl rfl)
theorem dX3_plan_55 : decode cX3_plan 55 = .ok (.aload_n 0, 1) := dk_42 (dk_at dksX3_plan_2 8 rfl rfl)
theorem dX3_plan_56 : decode cX3_plan 56 = .ok (.getfield 37, 3) := dk_180 0 37 (dk_at dksX3_plan_2 9 rfl rfl)
theorem dX3_plan_59 : decode cX3_plan 59 = .ok (.invokespecial 139, 3) := dk_183 0 139 (dk_at dksX3_plan_2 12 rfl rfl)
theorem dX3_plan_62 : decode cX3_plan 62 = .ok (.athrow, 1) := dk_191 (dk_at dksX3_plan_2 15 rfl rfl)
theorem dX3_plan_63 : decode cX3_plan 63 = .ok (.aload_n 0, 1) := dk_42 (dk_at dksX3_plan_2 16 rfl rfl)
theorem dX3_plan_64 : decode cX3_plan 64 = .ok (.invokevirtual 145, 3) := dk_182 0 145 (dk_at dksX3_plan_2 17 rfl rfl)
theorem dX3_plan_67 : decode cX3_plan 67 = .ok (.aload_n 1, 1) := dk_43 (dk_at dksX3_plan_2 20 rfl rfl)
theorem dX3_plan_68 : decode cX3_plan 68 = .ok (.aload_n 0, 1) := dk_42 (dk_at dksX3_plan_2 21 rfl rfl)
theorem dX3_plan_69 : decode cX3_plan 69 = .ok (.aload_n 0, 1) := dk_42 (dk_at dksX3_plan_2 22 rfl rfl)
theorem dX3_plan_70 : decode cX3_plan 70 = .ok (.iconst 0, 1) := dk_3 (dk_at dksX3_plan_2 23 rfl rfl)
theorem dX3_plan_71 : decode cX3_plan 71 = .ok (.sipush 999, 3) := dk_17 3 231 (dk_at dksX3_plan_3 0 rfl rfl)
theorem dX3_plan_74 : decode cX3_plan 74 = .ok (.invokevirtual 152, 3) := dk_182 0 152 (dk_at dksX3_plan_3 3 rfl rfl)
theorem dX3_plan_77 : decode cX3_plan 77 = .ok (.invokevirtual 269, 3) := dk_182 1 13 (dk_at dksX3_plan_3 6 rfl rfl)
theorem dX3_plan_80 : decode cX3_plan 80 = .ok (.invokevirtual 222, 3) := dk_182 0 222 (dk_at dksX3_plan_3 9 rfl rfl)
theorem dX3_plan_83 : decode cX3_plan 83 = .ok (.pop, 1) := dk_87 (dk_at dksX3_plan_3 12 rfl rfl)
theorem dX3_plan_84 : decode cX3_plan 84 = .ok (.aload_n 0, 1) := dk_42 (dk_at dksX3_plan_3 13 rfl rfl)
theorem dX3_plan_85 : decode cX3_plan 85 = .ok (.bipush 59, 2) := dk_16 59 (dk_at dksX3_plan_3 14 rfl rfl)
theorem dX3_plan_87 : decode cX3_plan 87 = .ok (.invokevirtual 148, 3) := dk_182 0 148 (dk_at dksX3_plan_3 16 rfl rfl)
theorem dX3_plan_90 : decode cX3_plan 90 = .ok (.goto (-78), 3) := dk_167 255 178 (dk_at dksX3_plan_3 19 rfl rfl)
theorem dX3_plan_93 : decode cX3_plan 93 = .ok (.aload_n 1, 1) := dk_43 (dk_at dksX3_plan_3 22 rfl rfl)
theorem dX3_plan_94 : decode cX3_plan 94 = .ok (.areturn, 1) := dk_176 (dk_at dksX3_plan_3 23 rfl rfl)
abbrev cX3_deed : ByteArray := prog_15_method_31_code
def yX3_deed : MethodName := ⟨RX3, "deed", "(I)LNamesWeather$Deed;"⟩
def dkwX3_deed_5 : List UInt8 := [29, 21, 4, 183, 1, 12, 176]
abbrev dktX3_deed_5 : List UInt8 := dkwX3_deed_5 ++ []
def dkwX3_deed_4 : List UInt8 := [16, 17, 160, 0, 17, 187, 1, 7, 89, 27, 29, 21, 4, 183, 1, 9, 167, 0, 14, 187, 1, 10, 89, 27]
abbrev dktX3_deed_4 : List UInt8 := dkwX3_deed_4 ++ dktX3_deed_5
def dkwX3_deed_3 : List UInt8 := [176, 42, 28, 16, 17, 160, 0, 8, 16, 14, 167, 0, 5, 16, 20, 3, 16, 7, 182, 0, 227, 54, 4, 28]
abbrev dktX3_deed_3 : List UInt8 := dkwX3_deed_3 ++ dktX3_deed_4
def dkwX3_deed_2 : List UInt8 := [180, 0, 255, 4, 100, 182, 0, 152, 62, 28, 16, 19, 160, 0, 13, 187, 1, 4, 89, 27, 29, 183, 1, 6]
abbrev dktX3_deed_2 : List UInt8 := dkwX3_deed_2 ++ dktX3_deed_3
def dkwX3_deed_1 : List UInt8 := [183, 0, 139, 191, 42, 180, 0, 134, 61, 42, 182, 0, 145, 42, 3, 42, 180, 0, 3, 180, 0, 251]
abbrev dktX3_deed_1 : List UInt8 := dkwX3_deed_1 ++ dktX3_deed_2
def dkwX3_deed_0 : List UInt8 := [42, 180, 0, 134, 16, 17, 16, 19, 184, 0, 33, 154, 0, 16, 187, 0, 137, 89, 4, 42, 180, 0, 37]
abbrev dktX3_deed_0 : List UInt8 := dkwX3_deed_0 ++ dktX3_deed_1
theorem dksX3_deed_0 : cX3_deed.data.toList.drop 0 = dktX3_deed_0 := by decide +kernel
theorem dksX3_deed_1 : cX3_deed.data.toList.drop 23 = dktX3_deed_1 := dk_seg dksX3_deed_0 23 rfl rfl
theorem dksX3_deed_2 : cX3_deed.data.toList.drop 45 = dktX3_deed_2 := dk_seg dksX3_deed_1 22 rfl rfl
theorem dksX3_deed_3 : cX3_deed.data.toList.drop 69 = dktX3_deed_3 := dk_seg dksX3_deed_2 24 rfl rfl
theorem dksX3_deed_4 : cX3_deed.data.toList.drop 93 = dktX3_deed_4 := dk_seg dksX3_deed_3 24 rfl rfl
theorem dksX3_deed_5 : cX3_deed.data.toList.drop 117 = dktX3_deed_5 := dk_seg dksX3_deed_4 24 rfl rfl
theorem dX3_deed_0 : decode cX3_deed 0 = .ok (.aload_n 0, 1) := dk_42 (dk_at dksX3_deed_0 0 rfl rfl)
theorem dX3_deed_1 : decode cX3_deed 1 = .ok (.getfield 134, 3) := dk_180 0 134 (dk_at dksX3_deed_0 1 rfl rfl)
theorem dX3_deed_4 : decode cX3_deed 4 = .ok (.bipush 17, 2) := dk_16 17 (dk_at dksX3_deed_0 4 rfl rfl)
theorem dX3_deed_6 : decode cX3_deed 6 = .ok (.bipush 19, 2) := dk_16 19 (dk_at dksX3_deed_0 6 rfl rfl)
theorem dX3_deed_8 : decode cX3_deed 8 = .ok (.invokestatic 33, 3) := dk_184 0 33 (dk_at dksX3_deed_0 8 rfl rfl)
theorem dX3_deed_11 : decode cX3_deed 11 = .ok (.ifCond .ne 16, 3) := dk_154 0 16 (dk_at dksX3_deed_0 11 rfl rfl)
theorem dX3_deed_14 : decode cX3_deed 14 = .ok (.new 137, 3) := dk_187 0 137 (dk_at dksX3_deed_0 14 rfl rfl)
theorem dX3_deed_17 : decode cX3_deed 17 = .ok (.dup, 1) := dk_89 (dk_at dksX3_deed_0 17 rfl rfl)
theorem dX3_deed_18 : decode cX3_deed 18 = .ok (.iconst 1, 1) := dk_4 (dk_at dksX3_deed_0 18 rfl rfl)
theorem dX3_deed_19 : decode cX3_deed 19 = .ok (.aload_n 0, 1) := dk_42 (dk_at dksX3_deed_0 19 rfl rfl)
theorem dX3_deed_20 : decode cX3_deed 20 = .ok (.getfield 37, 3) := dk_180 0 37 (dk_at dksX3_deed_0 20 rfl rfl)
theorem dX3_deed_23 : decode cX3_deed 23 = .ok (.invokespecial 139, 3) := dk_183 0 139 (dk_at dksX3_deed_1 0 rfl rfl)
theorem dX3_deed_26 : decode cX3_deed 26 = .ok (.athrow, 1) := dk_191 (dk_at dksX3_deed_1 3 rfl rfl)
theorem dX3_deed_27 : decode cX3_deed 27 = .ok (.aload_n 0, 1) := dk_42 (dk_at dksX3_deed_1 4 rfl rfl)
theorem dX3_deed_28 : decode cX3_deed 28 = .ok (.getfield 134, 3) := dk_180 0 134 (dk_at dksX3_deed_1 5 rfl rfl)
theorem dX3_deed_31 : decode cX3_deed 31 = .ok (.istore_n 2, 1) := dk_61 (dk_at dksX3_deed_1 8 rfl rfl)
theorem dX3_deed_32 : decode cX3_deed 32 = .ok (.aload_n 0, 1) := dk_42 (dk_at dksX3_deed_1 9 rfl rfl)
theorem dX3_deed_33 : decode cX3_deed 33 = .ok (.invokevirtual 145, 3) := dk_182 0 145 (dk_at dksX3_deed_1 10 rfl rfl)
theorem dX3_deed_36 : decode cX3_deed 36 = .ok (.aload_n 0, 1) := dk_42 (dk_at dksX3_deed_1 13 rfl rfl)
theorem dX3_deed_37 : decode cX3_deed 37 = .ok (.iconst 0, 1) := dk_3 (dk_at dksX3_deed_1 14 rfl rfl)
theorem dX3_deed_38 : decode cX3_deed 38 = .ok (.aload_n 0, 1) := dk_42 (dk_at dksX3_deed_1 15 rfl rfl)
theorem dX3_deed_39 : decode cX3_deed 39 = .ok (.getfield 3, 3) := dk_180 0 3 (dk_at dksX3_deed_1 16 rfl rfl)
theorem dX3_deed_42 : decode cX3_deed 42 = .ok (.getfield 251, 3) := dk_180 0 251 (dk_at dksX3_deed_1 19 rfl rfl)
theorem dX3_deed_45 : decode cX3_deed 45 = .ok (.getfield 255, 3) := dk_180 0 255 (dk_at dksX3_deed_2 0 rfl rfl)
theorem dX3_deed_48 : decode cX3_deed 48 = .ok (.iconst 1, 1) := dk_4 (dk_at dksX3_deed_2 3 rfl rfl)
theorem dX3_deed_49 : decode cX3_deed 49 = .ok (.isub, 1) := dk_100 (dk_at dksX3_deed_2 4 rfl rfl)
theorem dX3_deed_50 : decode cX3_deed 50 = .ok (.invokevirtual 152, 3) := dk_182 0 152 (dk_at dksX3_deed_2 5 rfl rfl)
theorem dX3_deed_53 : decode cX3_deed 53 = .ok (.istore_n 3, 1) := dk_62 (dk_at dksX3_deed_2 8 rfl rfl)
theorem dX3_deed_54 : decode cX3_deed 54 = .ok (.iload_n 2, 1) := dk_28 (dk_at dksX3_deed_2 9 rfl rfl)
theorem dX3_deed_55 : decode cX3_deed 55 = .ok (.bipush 19, 2) := dk_16 19 (dk_at dksX3_deed_2 10 rfl rfl)
theorem dX3_deed_57 : decode cX3_deed 57 = .ok (.if_icmp .ne 13, 3) := dk_160 0 13 (dk_at dksX3_deed_2 12 rfl rfl)
theorem dX3_deed_60 : decode cX3_deed 60 = .ok (.new 260, 3) := dk_187 1 4 (dk_at dksX3_deed_2 15 rfl rfl)
theorem dX3_deed_63 : decode cX3_deed 63 = .ok (.dup, 1) := dk_89 (dk_at dksX3_deed_2 18 rfl rfl)
theorem dX3_deed_64 : decode cX3_deed 64 = .ok (.iload_n 1, 1) := dk_27 (dk_at dksX3_deed_2 19 rfl rfl)
theorem dX3_deed_65 : decode cX3_deed 65 = .ok (.iload_n 3, 1) := dk_29 (dk_at dksX3_deed_2 20 rfl rfl)
theorem dX3_deed_66 : decode cX3_deed 66 = .ok (.invokespecial 262, 3) := dk_183 1 6 (dk_at dksX3_deed_2 21 rfl rfl)
theorem dX3_deed_69 : decode cX3_deed 69 = .ok (.areturn, 1) := dk_176 (dk_at dksX3_deed_3 0 rfl rfl)
theorem dX3_deed_70 : decode cX3_deed 70 = .ok (.aload_n 0, 1) := dk_42 (dk_at dksX3_deed_3 1 rfl rfl)
theorem dX3_deed_71 : decode cX3_deed 71 = .ok (.iload_n 2, 1) := dk_28 (dk_at dksX3_deed_3 2 rfl rfl)
theorem dX3_deed_72 : decode cX3_deed 72 = .ok (.bipush 17, 2) := dk_16 17 (dk_at dksX3_deed_3 3 rfl rfl)
theorem dX3_deed_74 : decode cX3_deed 74 = .ok (.if_icmp .ne 8, 3) := dk_160 0 8 (dk_at dksX3_deed_3 5 rfl rfl)
theorem dX3_deed_77 : decode cX3_deed 77 = .ok (.bipush 14, 2) := dk_16 14 (dk_at dksX3_deed_3 8 rfl rfl)
theorem dX3_deed_79 : decode cX3_deed 79 = .ok (.goto 5, 3) := dk_167 0 5 (dk_at dksX3_deed_3 10 rfl rfl)
theorem dX3_deed_82 : decode cX3_deed 82 = .ok (.bipush 20, 2) := dk_16 20 (dk_at dksX3_deed_3 13 rfl rfl)
theorem dX3_deed_84 : decode cX3_deed 84 = .ok (.iconst 0, 1) := dk_3 (dk_at dksX3_deed_3 15 rfl rfl)
theorem dX3_deed_85 : decode cX3_deed 85 = .ok (.bipush 7, 2) := dk_16 7 (dk_at dksX3_deed_3 16 rfl rfl)
theorem dX3_deed_87 : decode cX3_deed 87 = .ok (.invokevirtual 227, 3) := dk_182 0 227 (dk_at dksX3_deed_3 18 rfl rfl)
theorem dX3_deed_90 : decode cX3_deed 90 = .ok (.istore 4, 2) := dk_54 4 (dk_at dksX3_deed_3 21 rfl rfl)
theorem dX3_deed_92 : decode cX3_deed 92 = .ok (.iload_n 2, 1) := dk_28 (dk_at dksX3_deed_3 23 rfl rfl)
theorem dX3_deed_93 : decode cX3_deed 93 = .ok (.bipush 17, 2) := dk_16 17 (dk_at dksX3_deed_4 0 rfl rfl)
theorem dX3_deed_95 : decode cX3_deed 95 = .ok (.if_icmp .ne 17, 3) := dk_160 0 17 (dk_at dksX3_deed_4 2 rfl rfl)
theorem dX3_deed_98 : decode cX3_deed 98 = .ok (.new 263, 3) := dk_187 1 7 (dk_at dksX3_deed_4 5 rfl rfl)
theorem dX3_deed_101 : decode cX3_deed 101 = .ok (.dup, 1) := dk_89 (dk_at dksX3_deed_4 8 rfl rfl)
theorem dX3_deed_102 : decode cX3_deed 102 = .ok (.iload_n 1, 1) := dk_27 (dk_at dksX3_deed_4 9 rfl rfl)
theorem dX3_deed_103 : decode cX3_deed 103 = .ok (.iload_n 3, 1) := dk_29 (dk_at dksX3_deed_4 10 rfl rfl)
theorem dX3_deed_104 : decode cX3_deed 104 = .ok (.iload 4, 2) := dk_21 4 (dk_at dksX3_deed_4 11 rfl rfl)
theorem dX3_deed_106 : decode cX3_deed 106 = .ok (.invokespecial 265, 3) := dk_183 1 9 (dk_at dksX3_deed_4 13 rfl rfl)
theorem dX3_deed_109 : decode cX3_deed 109 = .ok (.goto 14, 3) := dk_167 0 14 (dk_at dksX3_deed_4 16 rfl rfl)
theorem dX3_deed_112 : decode cX3_deed 112 = .ok (.new 266, 3) := dk_187 1 10 (dk_at dksX3_deed_4 19 rfl rfl)
theorem dX3_deed_115 : decode cX3_deed 115 = .ok (.dup, 1) := dk_89 (dk_at dksX3_deed_4 22 rfl rfl)
theorem dX3_deed_116 : decode cX3_deed 116 = .ok (.iload_n 1, 1) := dk_27 (dk_at dksX3_deed_4 23 rfl rfl)
theorem dX3_deed_117 : decode cX3_deed 117 = .ok (.iload_n 3, 1) := dk_29 (dk_at dksX3_deed_5 0 rfl rfl)
theorem dX3_deed_118 : decode cX3_deed 118 = .ok (.iload 4, 2) := dk_21 4 (dk_at dksX3_deed_5 1 rfl rfl)
theorem dX3_deed_120 : decode cX3_deed 120 = .ok (.invokespecial 268, 3) := dk_183 1 12 (dk_at dksX3_deed_5 3 rfl rfl)
theorem dX3_deed_123 : decode cX3_deed 123 = .ok (.areturn, 1) := dk_176 (dk_at dksX3_deed_5 6 rfl rfl)
theorem q167 : (Jvm.Cond.initialized "NamesWeather$Reader") ∈ lw_all := lw_g (lw_at lw_m1 7 rfl) rfl
theorem q267 : (Jvm.Cond.fieldLinkNest "NamesWeather$Reader" (255 : Nat) "NamesWeather$Skies" "many" "I" "NamesWeather") ∈ lw_tbl := lw_at lw_m1 107 rfl
theorem q332 : (Jvm.Cond.fieldLinkNest "NamesWeather$Reader" (25 : Nat) "NamesWeather" "tape" "[B" "NamesWeather") ∈ lw_tbl := lw_at lw_m1 172 rfl
theorem q333 : (Jvm.Cond.fieldLinkNest "NamesWeather$Reader" (22 : Nat) "NamesWeather" "taped" "I" "NamesWeather") ∈ lw_tbl := lw_at lw_m1 173 rfl
theorem q338 : (Jvm.Cond.fieldLinkNest "NamesWeather$Reader" (251 : Nat) "NamesWeather" "skies" "LNamesWeather$Skies;" "NamesWeather") ∈ lw_tbl := lw_at lw_m1 178 rfl
theorem q399 : (Jvm.Cond.instantiable "NamesWeather$Reader" (7 : Nat)) ∈ lw_all := lw_g (lw_at lw_m1 239 rfl) rfl
theorem q401 : (Jvm.Cond.instanceMethod ({ cls := "NamesWeather$Reader", name := "<init>", desc := "(LNamesWeather;I)V" } : Jvm.MethodName)) ∈ lw_all := lw_g (lw_at lw_m2 1 rfl) rfl
theorem q402 : (Jvm.Cond.code ({ cls := "NamesWeather$Reader", name := "<init>", desc := "(LNamesWeather;I)V" } : Jvm.MethodName) prog_15_method_1_code (3 : Nat) (Option.none : Option Jvm.ClassFile.FieldType)) ∈ lw_all := lw_g (lw_at lw_m2 2 rfl) rfl
theorem q403 : (Jvm.Cond.methodLink "NamesWeather$Reader" (9 : Nat) ({ cls := "java/lang/Object", name := "<init>", desc := "()V" } : Jvm.MethodName)) ∈ lw_all := lw_g (lw_at lw_m2 3 rfl) rfl
theorem q404 : (Jvm.Cond.fieldLink "NamesWeather$Reader" (15 : Nat) "NamesWeather$Reader" "which" "I") ∈ lw_all := lw_g (lw_at lw_m2 4 rfl) rfl
theorem q405 : (Jvm.Cond.fieldLink "NamesWeather$Reader" (19 : Nat) "NamesWeather$Reader" "at" "I") ∈ lw_all := lw_g (lw_at lw_m2 5 rfl) rfl
theorem q406 : (Jvm.Cond.fieldLink "NamesWeather$Reader" (37 : Nat) "NamesWeather$Reader" "start" "I") ∈ lw_all := lw_g (lw_at lw_m2 6 rfl) rfl
theorem q407 : (Jvm.Cond.fieldLink "NamesWeather$Reader" (134 : Nat) "NamesWeather$Reader" "token" "I") ∈ lw_all := lw_g (lw_at lw_m2 7 rfl) rfl
theorem q408 : (Jvm.Cond.fieldLink "NamesWeather$Reader" (142 : Nat) "NamesWeather$Reader" "value" "I") ∈ lw_all := lw_g (lw_at lw_m2 8 rfl) rfl
theorem q409 : (Jvm.Cond.fieldLink "NamesWeather$Reader" (170 : Nat) "NamesWeather$Reader" "open" "I") ∈ lw_all := lw_g (lw_at lw_m2 9 rfl) rfl
theorem q410 : (Jvm.Cond.fieldLink "NamesWeather$Reader" (3 : Nat) "NamesWeather$Reader" "this$0" "LNamesWeather;") ∈ lw_all := lw_g (lw_at lw_m2 10 rfl) rfl
theorem q411 : (Jvm.Cond.laysFinal "NamesWeather$Reader" "NamesWeather$Reader" "which" "I") ∈ lw_all := lw_g (lw_at lw_m2 11 rfl) rfl
theorem q412 : (Jvm.Cond.soleField "NamesWeather$Reader" "which") ∈ lw_all := lw_g (lw_at lw_m2 12 rfl) rfl
theorem q413 : (Jvm.Cond.lays "NamesWeather$Reader" "NamesWeather$Reader" "at" "I") ∈ lw_all := lw_g (lw_at lw_m2 13 rfl) rfl
theorem q414 : (Jvm.Cond.soleField "NamesWeather$Reader" "at") ∈ lw_all := lw_g (lw_at lw_m2 14 rfl) rfl
theorem q415 : (Jvm.Cond.lays "NamesWeather$Reader" "NamesWeather$Reader" "start" "I") ∈ lw_all := lw_g (lw_at lw_m2 15 rfl) rfl
theorem q416 : (Jvm.Cond.soleField "NamesWeather$Reader" "start") ∈ lw_all := lw_g (lw_at lw_m2 16 rfl) rfl
theorem q417 : (Jvm.Cond.lays "NamesWeather$Reader" "NamesWeather$Reader" "token" "I") ∈ lw_all := lw_g (lw_at lw_m2 17 rfl) rfl
theorem q418 : (Jvm.Cond.soleField "NamesWeather$Reader" "token") ∈ lw_all := lw_g (lw_at lw_m2 18 rfl) rfl
theorem q419 : (Jvm.Cond.lays "NamesWeather$Reader" "NamesWeather$Reader" "value" "I") ∈ lw_all := lw_g (lw_at lw_m2 19 rfl) rfl
theorem q420 : (Jvm.Cond.soleField "NamesWeather$Reader" "value") ∈ lw_all := lw_g (lw_at lw_m2 20 rfl) rfl
theorem q421 : (Jvm.Cond.lays "NamesWeather$Reader" "NamesWeather$Reader" "open" "I") ∈ lw_all := lw_g (lw_at lw_m2 21 rfl) rfl
theorem q422 : (Jvm.Cond.soleField "NamesWeather$Reader" "open") ∈ lw_all := lw_g (lw_at lw_m2 22 rfl) rfl
theorem q423 : (Jvm.Cond.laysFinal "NamesWeather$Reader" "NamesWeather$Reader" "this$0" "LNamesWeather;") ∈ lw_all := lw_g (lw_at lw_m2 23 rfl) rfl
theorem q424 : (Jvm.Cond.soleField "NamesWeather$Reader" "this$0") ∈ lw_all := lw_g (lw_at lw_m2 24 rfl) rfl
theorem q425 : (Jvm.Cond.superclass "NamesWeather$Reader" "java/lang/Object") ∈ lw_all := lw_g (lw_at lw_m2 25 rfl) rfl
theorem q427 : (Jvm.Cond.instanceMethod ({ cls := "NamesWeather$Reader", name := "law", desc := "()Ljava/util/ArrayList;" } : Jvm.MethodName)) ∈ lw_all := lw_g (lw_at lw_m2 27 rfl) rfl
theorem q428 : (Jvm.Cond.selects "NamesWeather$Reader" ({ cls := "NamesWeather$Reader", name := "law", desc := "()Ljava/util/ArrayList;" } : Jvm.MethodName) ({ cls := "NamesWeather$Reader", name := "law", desc := "()Ljava/util/ArrayList;" } : Jvm.MethodName)) ∈ lw_all := lw_g (lw_at lw_m2 28 rfl) rfl
theorem q429 : (Jvm.Cond.code ({ cls := "NamesWeather$Reader", name := "law", desc := "()Ljava/util/ArrayList;" } : Jvm.MethodName) prog_15_method_26_code (5 : Nat) (Option.some (Jvm.ClassFile.FieldType.object "java/util/ArrayList"))) ∈ lw_all := lw_g (lw_at lw_m2 29 rfl) rfl
theorem q430 : (Jvm.Cond.classLink "NamesWeather$Reader" (211 : Nat) "java/util/ArrayList") ∈ lw_all := lw_g (lw_at lw_m2 30 rfl) rfl
theorem q431 : (Jvm.Cond.methodLink "NamesWeather$Reader" (213 : Nat) ({ cls := "java/util/ArrayList", name := "<init>", desc := "()V" } : Jvm.MethodName)) ∈ lw_all := lw_g (lw_at lw_m2 31 rfl) rfl
theorem q432 : (Jvm.Cond.methodLink "NamesWeather$Reader" (145 : Nat) ({ cls := "NamesWeather$Reader", name := "next", desc := "()V" } : Jvm.MethodName)) ∈ lw_all := lw_g (lw_at lw_m2 32 rfl) rfl
theorem q433 : (Jvm.Cond.privateMethod ({ cls := "NamesWeather$Reader", name := "next", desc := "()V" } : Jvm.MethodName)) ∈ lw_tbl := lw_at lw_m2 33 rfl
theorem q434 : (Jvm.Cond.instanceMethod ({ cls := "NamesWeather$Reader", name := "next", desc := "()V" } : Jvm.MethodName)) ∈ lw_all := lw_g (lw_at lw_m2 34 rfl) rfl
theorem q435 : (Jvm.Cond.code ({ cls := "NamesWeather$Reader", name := "next", desc := "()V" } : Jvm.MethodName) prog_15_method_17_code (1 : Nat) (Option.none : Option Jvm.ClassFile.FieldType)) ∈ lw_all := lw_g (lw_at lw_m2 35 rfl) rfl
theorem q436 : (Jvm.Cond.methodLink "NamesWeather$Reader" (29 : Nat) ({ cls := "NamesWeather$Reader", name := "see", desc := "()I" } : Jvm.MethodName)) ∈ lw_all := lw_g (lw_at lw_m2 36 rfl) rfl
theorem q437 : (Jvm.Cond.privateMethod ({ cls := "NamesWeather$Reader", name := "see", desc := "()I" } : Jvm.MethodName)) ∈ lw_tbl := lw_at lw_m2 37 rfl
theorem q438 : (Jvm.Cond.instanceMethod ({ cls := "NamesWeather$Reader", name := "see", desc := "()I" } : Jvm.MethodName)) ∈ lw_all := lw_g (lw_at lw_m2 38 rfl) rfl
theorem q439 : (Jvm.Cond.code ({ cls := "NamesWeather$Reader", name := "see", desc := "()I" } : Jvm.MethodName) prog_15_method_2_code (1 : Nat) (Option.some Jvm.ClassFile.FieldType.int)) ∈ lw_all := lw_g (lw_at lw_m2 39 rfl) rfl
theorem q440 : (Jvm.Cond.methodLink "NamesWeather$Reader" (156 : Nat) ({ cls := "NamesWeather$Reader", name := "isLetter", desc := "()Z" } : Jvm.MethodName)) ∈ lw_all := lw_g (lw_at lw_m2 40 rfl) rfl
theorem q441 : (Jvm.Cond.privateMethod ({ cls := "NamesWeather$Reader", name := "isLetter", desc := "()Z" } : Jvm.MethodName)) ∈ lw_tbl := lw_at lw_m2 41 rfl
theorem q442 : (Jvm.Cond.instanceMethod ({ cls := "NamesWeather$Reader", name := "isLetter", desc := "()Z" } : Jvm.MethodName)) ∈ lw_all := lw_g (lw_at lw_m2 42 rfl) rfl
theorem q443 : (Jvm.Cond.code ({ cls := "NamesWeather$Reader", name := "isLetter", desc := "()Z" } : Jvm.MethodName) prog_15_method_3_code (1 : Nat) (Option.some Jvm.ClassFile.FieldType.boolean)) ∈ lw_all := lw_g (lw_at lw_m2 43 rfl) rfl
theorem q444 : (Jvm.Cond.methodLinkNest "NamesWeather$Reader" (33 : Nat) ({ cls := "NamesWeather", name := "isIn", desc := "(III)Z" } : Jvm.MethodName) "NamesWeather") ∈ lw_tbl := lw_at lw_m2 44 rfl
theorem q445 : (Jvm.Cond.methodLink "NamesWeather$Reader" (160 : Nat) ({ cls := "NamesWeather$Reader", name := "keyword", desc := "()I" } : Jvm.MethodName)) ∈ lw_all := lw_g (lw_at lw_m2 45 rfl) rfl
theorem q446 : (Jvm.Cond.privateMethod ({ cls := "NamesWeather$Reader", name := "keyword", desc := "()I" } : Jvm.MethodName)) ∈ lw_tbl := lw_at lw_m2 46 rfl
theorem q447 : (Jvm.Cond.instanceMethod ({ cls := "NamesWeather$Reader", name := "keyword", desc := "()I" } : Jvm.MethodName)) ∈ lw_all := lw_g (lw_at lw_m2 47 rfl) rfl
theorem q448 : (Jvm.Cond.code ({ cls := "NamesWeather$Reader", name := "keyword", desc := "()I" } : Jvm.MethodName) prog_15_method_12_code (1 : Nat) (Option.some Jvm.ClassFile.FieldType.int)) ∈ lw_all := lw_g (lw_at lw_m2 48 rfl) rfl
theorem q449 : (Jvm.Cond.methodLink "NamesWeather$Reader" (122 : Nat) ({ cls := "NamesWeather$Reader", name := "lawWord", desc := "()I" } : Jvm.MethodName)) ∈ lw_all := lw_g (lw_at lw_m2 49 rfl) rfl
theorem q450 : (Jvm.Cond.privateMethod ({ cls := "NamesWeather$Reader", name := "lawWord", desc := "()I" } : Jvm.MethodName)) ∈ lw_tbl := lw_at lw_m2 50 rfl
theorem q451 : (Jvm.Cond.instanceMethod ({ cls := "NamesWeather$Reader", name := "lawWord", desc := "()I" } : Jvm.MethodName)) ∈ lw_all := lw_g (lw_at lw_m2 51 rfl) rfl
theorem q452 : (Jvm.Cond.code ({ cls := "NamesWeather$Reader", name := "lawWord", desc := "()I" } : Jvm.MethodName) prog_15_method_7_code (1 : Nat) (Option.some Jvm.ClassFile.FieldType.int)) ∈ lw_all := lw_g (lw_at lw_m2 52 rfl) rfl
theorem q453 : (Jvm.Cond.stringRef "NamesWeather$Reader" (71 : Nat) "when") ∈ lw_tbl := lw_at lw_m2 53 rfl
theorem q454 : (Jvm.Cond.methodLink "NamesWeather$Reader" (51 : Nat) ({ cls := "NamesWeather$Reader", name := "is", desc := "(Ljava/lang/String;)Z" } : Jvm.MethodName)) ∈ lw_all := lw_g (lw_at lw_m2 54 rfl) rfl
theorem q455 : (Jvm.Cond.privateMethod ({ cls := "NamesWeather$Reader", name := "is", desc := "(Ljava/lang/String;)Z" } : Jvm.MethodName)) ∈ lw_tbl := lw_at lw_m2 55 rfl
theorem q456 : (Jvm.Cond.instanceMethod ({ cls := "NamesWeather$Reader", name := "is", desc := "(Ljava/lang/String;)Z" } : Jvm.MethodName)) ∈ lw_all := lw_g (lw_at lw_m2 56 rfl) rfl
theorem q457 : (Jvm.Cond.code ({ cls := "NamesWeather$Reader", name := "is", desc := "(Ljava/lang/String;)Z" } : Jvm.MethodName) prog_15_method_5_code (4 : Nat) (Option.some Jvm.ClassFile.FieldType.boolean)) ∈ lw_all := lw_g (lw_at lw_m2 57 rfl) rfl
theorem q458 : (Jvm.Cond.methodLink "NamesWeather$Reader" (40 : Nat) ({ cls := "java/lang/String", name := "length", desc := "()I" } : Jvm.MethodName)) ∈ lw_all := lw_g (lw_at lw_m2 58 rfl) rfl
theorem q468 : (Jvm.Cond.methodLink "NamesWeather$Reader" (45 : Nat) ({ cls := "java/lang/String", name := "charAt", desc := "(I)C" } : Jvm.MethodName)) ∈ lw_all := lw_g (lw_at lw_m2 68 rfl) rfl
theorem q506 : (Jvm.Cond.stringRef "NamesWeather$Reader" (73 : Nat) "or") ∈ lw_tbl := lw_at lw_m2 106 rfl
theorem q507 : (Jvm.Cond.stringRef "NamesWeather$Reader" (75 : Nat) "and") ∈ lw_tbl := lw_at lw_m2 107 rfl
theorem q508 : (Jvm.Cond.stringRef "NamesWeather$Reader" (77 : Nat) "not") ∈ lw_tbl := lw_at lw_m2 108 rfl
theorem q509 : (Jvm.Cond.stringRef "NamesWeather$Reader" (79 : Nat) "add") ∈ lw_tbl := lw_at lw_m2 109 rfl
theorem q510 : (Jvm.Cond.stringRef "NamesWeather$Reader" (81 : Nat) "fade") ∈ lw_tbl := lw_at lw_m2 110 rfl
theorem q511 : (Jvm.Cond.stringRef "NamesWeather$Reader" (83 : Nat) "cost") ∈ lw_tbl := lw_at lw_m2 111 rfl
theorem q512 : (Jvm.Cond.methodLink "NamesWeather$Reader" (85 : Nat) ({ cls := "NamesWeather$Reader", name := "asked", desc := "()I" } : Jvm.MethodName)) ∈ lw_all := lw_g (lw_at lw_m2 112 rfl) rfl
theorem q513 : (Jvm.Cond.privateMethod ({ cls := "NamesWeather$Reader", name := "asked", desc := "()I" } : Jvm.MethodName)) ∈ lw_tbl := lw_at lw_m2 113 rfl
theorem q514 : (Jvm.Cond.instanceMethod ({ cls := "NamesWeather$Reader", name := "asked", desc := "()I" } : Jvm.MethodName)) ∈ lw_all := lw_g (lw_at lw_m2 114 rfl) rfl
theorem q515 : (Jvm.Cond.code ({ cls := "NamesWeather$Reader", name := "asked", desc := "()I" } : Jvm.MethodName) prog_15_method_6_code (1 : Nat) (Option.some Jvm.ClassFile.FieldType.int)) ∈ lw_all := lw_g (lw_at lw_m2 115 rfl) rfl
theorem q516 : (Jvm.Cond.stringRef "NamesWeather$Reader" (49 : Nat) "kind") ∈ lw_tbl := lw_at lw_m2 116 rfl
theorem q517 : (Jvm.Cond.stringRef "NamesWeather$Reader" (55 : Nat) "strength") ∈ lw_tbl := lw_at lw_m2 117 rfl
theorem q518 : (Jvm.Cond.stringRef "NamesWeather$Reader" (57 : Nat) "sky") ∈ lw_tbl := lw_at lw_m2 118 rfl
theorem q519 : (Jvm.Cond.stringRef "NamesWeather$Reader" (59 : Nat) "all") ∈ lw_tbl := lw_at lw_m2 119 rfl
theorem q520 : (Jvm.Cond.stringRef "NamesWeather$Reader" (61 : Nat) "day") ∈ lw_tbl := lw_at lw_m2 120 rfl
theorem q521 : (Jvm.Cond.stringRef "NamesWeather$Reader" (63 : Nat) "dead") ∈ lw_tbl := lw_at lw_m2 121 rfl
theorem q522 : (Jvm.Cond.stringRef "NamesWeather$Reader" (65 : Nat) "calls") ∈ lw_tbl := lw_at lw_m2 122 rfl
theorem q523 : (Jvm.Cond.stringRef "NamesWeather$Reader" (67 : Nat) "today") ∈ lw_tbl := lw_at lw_m2 123 rfl
theorem q524 : (Jvm.Cond.stringRef "NamesWeather$Reader" (69 : Nat) "folk") ∈ lw_tbl := lw_at lw_m2 124 rfl
theorem q525 : (Jvm.Cond.methodLink "NamesWeather$Reader" (125 : Nat) ({ cls := "NamesWeather$Reader", name := "quenchWord", desc := "()I" } : Jvm.MethodName)) ∈ lw_all := lw_g (lw_at lw_m2 125 rfl) rfl
theorem q526 : (Jvm.Cond.privateMethod ({ cls := "NamesWeather$Reader", name := "quenchWord", desc := "()I" } : Jvm.MethodName)) ∈ lw_tbl := lw_at lw_m2 126 rfl
theorem q527 : (Jvm.Cond.instanceMethod ({ cls := "NamesWeather$Reader", name := "quenchWord", desc := "()I" } : Jvm.MethodName)) ∈ lw_all := lw_g (lw_at lw_m2 127 rfl) rfl
theorem q528 : (Jvm.Cond.code ({ cls := "NamesWeather$Reader", name := "quenchWord", desc := "()I" } : Jvm.MethodName) prog_15_method_9_code (1 : Nat) (Option.some Jvm.ClassFile.FieldType.int)) ∈ lw_all := lw_g (lw_at lw_m2 128 rfl) rfl
theorem q529 : (Jvm.Cond.stringRef "NamesWeather$Reader" (98 : Nat) "quenches") ∈ lw_tbl := lw_at lw_m2 129 rfl
theorem q530 : (Jvm.Cond.stringRef "NamesWeather$Reader" (100 : Nat) "by") ∈ lw_tbl := lw_at lw_m2 130 rfl
theorem q531 : (Jvm.Cond.methodLink "NamesWeather$Reader" (102 : Nat) ({ cls := "NamesWeather$Reader", name := "kindWord", desc := "()I" } : Jvm.MethodName)) ∈ lw_all := lw_g (lw_at lw_m2 131 rfl) rfl
theorem q532 : (Jvm.Cond.privateMethod ({ cls := "NamesWeather$Reader", name := "kindWord", desc := "()I" } : Jvm.MethodName)) ∈ lw_tbl := lw_at lw_m2 132 rfl
theorem q533 : (Jvm.Cond.instanceMethod ({ cls := "NamesWeather$Reader", name := "kindWord", desc := "()I" } : Jvm.MethodName)) ∈ lw_all := lw_g (lw_at lw_m2 133 rfl) rfl
theorem q534 : (Jvm.Cond.code ({ cls := "NamesWeather$Reader", name := "kindWord", desc := "()I" } : Jvm.MethodName) prog_15_method_8_code (1 : Nat) (Option.some Jvm.ClassFile.FieldType.int)) ∈ lw_all := lw_g (lw_at lw_m2 134 rfl) rfl
theorem q535 : (Jvm.Cond.stringRef "NamesWeather$Reader" (88 : Nat) "sun") ∈ lw_tbl := lw_at lw_m2 135 rfl
theorem q536 : (Jvm.Cond.stringRef "NamesWeather$Reader" (90 : Nat) "rain") ∈ lw_tbl := lw_at lw_m2 136 rfl
theorem q537 : (Jvm.Cond.stringRef "NamesWeather$Reader" (92 : Nat) "wind") ∈ lw_tbl := lw_at lw_m2 137 rfl
theorem q538 : (Jvm.Cond.stringRef "NamesWeather$Reader" (94 : Nat) "fog") ∈ lw_tbl := lw_at lw_m2 138 rfl
theorem q539 : (Jvm.Cond.stringRef "NamesWeather$Reader" (96 : Nat) "hail") ∈ lw_tbl := lw_at lw_m2 139 rfl
theorem q540 : (Jvm.Cond.methodLink "NamesWeather$Reader" (128 : Nat) ({ cls := "NamesWeather$Reader", name := "wantWord", desc := "()I" } : Jvm.MethodName)) ∈ lw_all := lw_g (lw_at lw_m2 140 rfl) rfl
theorem q541 : (Jvm.Cond.privateMethod ({ cls := "NamesWeather$Reader", name := "wantWord", desc := "()I" } : Jvm.MethodName)) ∈ lw_tbl := lw_at lw_m2 141 rfl
theorem q542 : (Jvm.Cond.instanceMethod ({ cls := "NamesWeather$Reader", name := "wantWord", desc := "()I" } : Jvm.MethodName)) ∈ lw_all := lw_g (lw_at lw_m2 142 rfl) rfl
theorem q543 : (Jvm.Cond.code ({ cls := "NamesWeather$Reader", name := "wantWord", desc := "()I" } : Jvm.MethodName) prog_15_method_10_code (1 : Nat) (Option.some Jvm.ClassFile.FieldType.int)) ∈ lw_all := lw_g (lw_at lw_m2 143 rfl) rfl
theorem q544 : (Jvm.Cond.stringRef "NamesWeather$Reader" (105 : Nat) "want") ∈ lw_tbl := lw_at lw_m2 144 rfl
theorem q545 : (Jvm.Cond.stringRef "NamesWeather$Reader" (107 : Nat) "clear") ∈ lw_tbl := lw_at lw_m2 145 rfl
theorem q546 : (Jvm.Cond.stringRef "NamesWeather$Reader" (109 : Nat) "at") ∈ lw_tbl := lw_at lw_m2 146 rfl
theorem q547 : (Jvm.Cond.stringRef "NamesWeather$Reader" (110 : Nat) "on") ∈ lw_tbl := lw_at lw_m2 147 rfl
theorem q548 : (Jvm.Cond.stringRef "NamesWeather$Reader" (112 : Nat) "worth") ∈ lw_tbl := lw_at lw_m2 148 rfl
theorem q549 : (Jvm.Cond.methodLink "NamesWeather$Reader" (131 : Nat) ({ cls := "NamesWeather$Reader", name := "planWord", desc := "()I" } : Jvm.MethodName)) ∈ lw_all := lw_g (lw_at lw_m2 149 rfl) rfl
theorem q550 : (Jvm.Cond.privateMethod ({ cls := "NamesWeather$Reader", name := "planWord", desc := "()I" } : Jvm.MethodName)) ∈ lw_tbl := lw_at lw_m2 150 rfl
theorem q551 : (Jvm.Cond.instanceMethod ({ cls := "NamesWeather$Reader", name := "planWord", desc := "()I" } : Jvm.MethodName)) ∈ lw_all := lw_g (lw_at lw_m2 151 rfl) rfl
theorem q552 : (Jvm.Cond.code ({ cls := "NamesWeather$Reader", name := "planWord", desc := "()I" } : Jvm.MethodName) prog_15_method_11_code (1 : Nat) (Option.some Jvm.ClassFile.FieldType.int)) ∈ lw_all := lw_g (lw_at lw_m2 152 rfl) rfl
theorem q553 : (Jvm.Cond.stringRef "NamesWeather$Reader" (114 : Nat) "call") ∈ lw_tbl := lw_at lw_m2 153 rfl
theorem q554 : (Jvm.Cond.stringRef "NamesWeather$Reader" (116 : Nat) "move") ∈ lw_tbl := lw_at lw_m2 154 rfl
theorem q555 : (Jvm.Cond.stringRef "NamesWeather$Reader" (118 : Nat) "to") ∈ lw_tbl := lw_at lw_m2 155 rfl
theorem q556 : (Jvm.Cond.stringRef "NamesWeather$Reader" (120 : Nat) "bury") ∈ lw_tbl := lw_at lw_m2 156 rfl
theorem q557 : (Jvm.Cond.methodLink "NamesWeather$Reader" (163 : Nat) ({ cls := "NamesWeather$Reader", name := "isDigit", desc := "()Z" } : Jvm.MethodName)) ∈ lw_all := lw_g (lw_at lw_m2 157 rfl) rfl
theorem q558 : (Jvm.Cond.privateMethod ({ cls := "NamesWeather$Reader", name := "isDigit", desc := "()Z" } : Jvm.MethodName)) ∈ lw_tbl := lw_at lw_m2 158 rfl
theorem q559 : (Jvm.Cond.instanceMethod ({ cls := "NamesWeather$Reader", name := "isDigit", desc := "()Z" } : Jvm.MethodName)) ∈ lw_all := lw_g (lw_at lw_m2 159 rfl) rfl
theorem q560 : (Jvm.Cond.code ({ cls := "NamesWeather$Reader", name := "isDigit", desc := "()Z" } : Jvm.MethodName) prog_15_method_4_code (1 : Nat) (Option.some Jvm.ClassFile.FieldType.boolean)) ∈ lw_all := lw_g (lw_at lw_m2 160 rfl) rfl
theorem q561 : (Jvm.Cond.methodLink "NamesWeather$Reader" (166 : Nat) ({ cls := "NamesWeather$Reader", name := "isMark", desc := "(I)Z" } : Jvm.MethodName)) ∈ lw_all := lw_g (lw_at lw_m2 161 rfl) rfl
theorem q562 : (Jvm.Cond.privateMethod ({ cls := "NamesWeather$Reader", name := "isMark", desc := "(I)Z" } : Jvm.MethodName)) ∈ lw_tbl := lw_at lw_m2 162 rfl
theorem q563 : (Jvm.Cond.instanceMethod ({ cls := "NamesWeather$Reader", name := "isMark", desc := "(I)Z" } : Jvm.MethodName)) ∈ lw_all := lw_g (lw_at lw_m2 163 rfl) rfl
theorem q564 : (Jvm.Cond.code ({ cls := "NamesWeather$Reader", name := "isMark", desc := "(I)Z" } : Jvm.MethodName) prog_15_method_16_code (2 : Nat) (Option.some Jvm.ClassFile.FieldType.boolean)) ∈ lw_all := lw_g (lw_at lw_m2 164 rfl) rfl
theorem q565 : (Jvm.Cond.classLink "NamesWeather$Reader" (137 : Nat) "NamesWeather$Fault") ∈ lw_all := lw_g (lw_at lw_m2 165 rfl) rfl
theorem q602 : (Jvm.Cond.methodLink "NamesWeather$Reader" (139 : Nat) ({ cls := "NamesWeather$Fault", name := "<init>", desc := "(II)V" } : Jvm.MethodName)) ∈ lw_all := lw_g (lw_at lw_m2 202 rfl) rfl
theorem q629 : (Jvm.Cond.methodLink "NamesWeather$Reader" (214 : Nat) ({ cls := "java/util/ArrayList", name := "size", desc := "()I" } : Jvm.MethodName)) ∈ lw_all := lw_g (lw_at lw_m2 229 rfl) rfl
theorem q633 : (Jvm.Cond.methodLink "NamesWeather$Reader" (208 : Nat) ({ cls := "NamesWeather$Reader", name := "sum", desc := "()LNamesWeather$Term;" } : Jvm.MethodName)) ∈ lw_all := lw_g (lw_at lw_m2 233 rfl) rfl
theorem q634 : (Jvm.Cond.privateMethod ({ cls := "NamesWeather$Reader", name := "sum", desc := "()LNamesWeather$Term;" } : Jvm.MethodName)) ∈ lw_tbl := lw_at lw_m2 234 rfl
theorem q635 : (Jvm.Cond.instanceMethod ({ cls := "NamesWeather$Reader", name := "sum", desc := "()LNamesWeather$Term;" } : Jvm.MethodName)) ∈ lw_all := lw_g (lw_at lw_m2 235 rfl) rfl
theorem q636 : (Jvm.Cond.code ({ cls := "NamesWeather$Reader", name := "sum", desc := "()LNamesWeather$Term;" } : Jvm.MethodName) prog_15_method_20_code (3 : Nat) (Option.some (Jvm.ClassFile.FieldType.object "NamesWeather$Term"))) ∈ lw_all := lw_g (lw_at lw_m2 236 rfl) rfl
theorem q637 : (Jvm.Cond.methodLink "NamesWeather$Reader" (173 : Nat) ({ cls := "NamesWeather$Reader", name := "product", desc := "()LNamesWeather$Term;" } : Jvm.MethodName)) ∈ lw_all := lw_g (lw_at lw_m2 237 rfl) rfl
theorem q638 : (Jvm.Cond.privateMethod ({ cls := "NamesWeather$Reader", name := "product", desc := "()LNamesWeather$Term;" } : Jvm.MethodName)) ∈ lw_tbl := lw_at lw_m2 238 rfl
theorem q639 : (Jvm.Cond.instanceMethod ({ cls := "NamesWeather$Reader", name := "product", desc := "()LNamesWeather$Term;" } : Jvm.MethodName)) ∈ lw_all := lw_g (lw_at lw_m2 239 rfl) rfl
theorem q640 : (Jvm.Cond.code ({ cls := "NamesWeather$Reader", name := "product", desc := "()LNamesWeather$Term;" } : Jvm.MethodName) prog_15_method_21_code (3 : Nat) (Option.some (Jvm.ClassFile.FieldType.object "NamesWeather$Term"))) ∈ lw_all := lw_g (lw_at lw_m3 0 rfl) rfl
theorem q641 : (Jvm.Cond.methodLink "NamesWeather$Reader" (182 : Nat) ({ cls := "NamesWeather$Reader", name := "unit", desc := "()LNamesWeather$Term;" } : Jvm.MethodName)) ∈ lw_all := lw_g (lw_at lw_m3 1 rfl) rfl
theorem q642 : (Jvm.Cond.privateMethod ({ cls := "NamesWeather$Reader", name := "unit", desc := "()LNamesWeather$Term;" } : Jvm.MethodName)) ∈ lw_tbl := lw_at lw_m3 2 rfl
theorem q643 : (Jvm.Cond.instanceMethod ({ cls := "NamesWeather$Reader", name := "unit", desc := "()LNamesWeather$Term;" } : Jvm.MethodName)) ∈ lw_all := lw_g (lw_at lw_m3 3 rfl) rfl
theorem q644 : (Jvm.Cond.code ({ cls := "NamesWeather$Reader", name := "unit", desc := "()LNamesWeather$Term;" } : Jvm.MethodName) prog_15_method_22_code (2 : Nat) (Option.some (Jvm.ClassFile.FieldType.object "NamesWeather$Term"))) ∈ lw_all := lw_g (lw_at lw_m3 4 rfl) rfl
theorem q645 : (Jvm.Cond.classLink "NamesWeather$Reader" (185 : Nat) "NamesWeather$Fixed") ∈ lw_all := lw_g (lw_at lw_m3 5 rfl) rfl
theorem q647 : (Jvm.Cond.methodLink "NamesWeather$Reader" (152 : Nat) ({ cls := "NamesWeather$Reader", name := "number", desc := "(II)I" } : Jvm.MethodName)) ∈ lw_all := lw_g (lw_at lw_m3 7 rfl) rfl
theorem q648 : (Jvm.Cond.privateMethod ({ cls := "NamesWeather$Reader", name := "number", desc := "(II)I" } : Jvm.MethodName)) ∈ lw_tbl := lw_at lw_m3 8 rfl
theorem q649 : (Jvm.Cond.instanceMethod ({ cls := "NamesWeather$Reader", name := "number", desc := "(II)I" } : Jvm.MethodName)) ∈ lw_all := lw_g (lw_at lw_m3 9 rfl) rfl
theorem q650 : (Jvm.Cond.code ({ cls := "NamesWeather$Reader", name := "number", desc := "(II)I" } : Jvm.MethodName) prog_15_method_13_code (4 : Nat) (Option.some Jvm.ClassFile.FieldType.int)) ∈ lw_all := lw_g (lw_at lw_m3 10 rfl) rfl
theorem q651 : (Jvm.Cond.methodLink "NamesWeather$Reader" (187 : Nat) ({ cls := "NamesWeather$Fixed", name := "<init>", desc := "(I)V" } : Jvm.MethodName)) ∈ lw_all := lw_g (lw_at lw_m3 11 rfl) rfl
theorem q662 : (Jvm.Cond.classLink "NamesWeather$Reader" (189 : Nat) "NamesWeather$Known") ∈ lw_all := lw_g (lw_at lw_m3 22 rfl) rfl
theorem q664 : (Jvm.Cond.methodLink "NamesWeather$Reader" (191 : Nat) ({ cls := "NamesWeather$Known", name := "<init>", desc := "(I)V" } : Jvm.MethodName)) ∈ lw_all := lw_g (lw_at lw_m3 24 rfl) rfl
theorem q672 : (Jvm.Cond.classLink "NamesWeather$Reader" (177 : Nat) "NamesWeather$Joined") ∈ lw_all := lw_g (lw_at lw_m3 32 rfl) rfl
theorem q674 : (Jvm.Cond.methodLink "NamesWeather$Reader" (179 : Nat) ({ cls := "NamesWeather$Joined", name := "<init>", desc := "(LNamesWeather$Term;ILNamesWeather$Term;)V" } : Jvm.MethodName)) ∈ lw_all := lw_g (lw_at lw_m3 34 rfl) rfl
theorem q688 : (Jvm.Cond.methodLink "NamesWeather$Reader" (205 : Nat) ({ cls := "NamesWeather$Reader", name := "any", desc := "()LNamesWeather$Term;" } : Jvm.MethodName)) ∈ lw_all := lw_g (lw_at lw_m3 48 rfl) rfl
theorem q689 : (Jvm.Cond.privateMethod ({ cls := "NamesWeather$Reader", name := "any", desc := "()LNamesWeather$Term;" } : Jvm.MethodName)) ∈ lw_tbl := lw_at lw_m3 49 rfl
theorem q690 : (Jvm.Cond.instanceMethod ({ cls := "NamesWeather$Reader", name := "any", desc := "()LNamesWeather$Term;" } : Jvm.MethodName)) ∈ lw_all := lw_g (lw_at lw_m3 50 rfl) rfl
theorem q691 : (Jvm.Cond.code ({ cls := "NamesWeather$Reader", name := "any", desc := "()LNamesWeather$Term;" } : Jvm.MethodName) prog_15_method_23_code (2 : Nat) (Option.some (Jvm.ClassFile.FieldType.object "NamesWeather$Term"))) ∈ lw_all := lw_g (lw_at lw_m3 51 rfl) rfl
theorem q692 : (Jvm.Cond.methodLink "NamesWeather$Reader" (192 : Nat) ({ cls := "NamesWeather$Reader", name := "all", desc := "()LNamesWeather$Term;" } : Jvm.MethodName)) ∈ lw_all := lw_g (lw_at lw_m3 52 rfl) rfl
theorem q693 : (Jvm.Cond.privateMethod ({ cls := "NamesWeather$Reader", name := "all", desc := "()LNamesWeather$Term;" } : Jvm.MethodName)) ∈ lw_tbl := lw_at lw_m3 53 rfl
theorem q694 : (Jvm.Cond.instanceMethod ({ cls := "NamesWeather$Reader", name := "all", desc := "()LNamesWeather$Term;" } : Jvm.MethodName)) ∈ lw_all := lw_g (lw_at lw_m3 54 rfl) rfl
theorem q695 : (Jvm.Cond.code ({ cls := "NamesWeather$Reader", name := "all", desc := "()LNamesWeather$Term;" } : Jvm.MethodName) prog_15_method_24_code (2 : Nat) (Option.some (Jvm.ClassFile.FieldType.object "NamesWeather$Term"))) ∈ lw_all := lw_g (lw_at lw_m3 55 rfl) rfl
theorem q696 : (Jvm.Cond.methodLink "NamesWeather$Reader" (194 : Nat) ({ cls := "NamesWeather$Reader", name := "one", desc := "()LNamesWeather$Term;" } : Jvm.MethodName)) ∈ lw_all := lw_g (lw_at lw_m3 56 rfl) rfl
theorem q697 : (Jvm.Cond.privateMethod ({ cls := "NamesWeather$Reader", name := "one", desc := "()LNamesWeather$Term;" } : Jvm.MethodName)) ∈ lw_tbl := lw_at lw_m3 57 rfl
theorem q698 : (Jvm.Cond.instanceMethod ({ cls := "NamesWeather$Reader", name := "one", desc := "()LNamesWeather$Term;" } : Jvm.MethodName)) ∈ lw_all := lw_g (lw_at lw_m3 58 rfl) rfl
theorem q699 : (Jvm.Cond.code ({ cls := "NamesWeather$Reader", name := "one", desc := "()LNamesWeather$Term;" } : Jvm.MethodName) prog_15_method_25_code (3 : Nat) (Option.some (Jvm.ClassFile.FieldType.object "NamesWeather$Term"))) ∈ lw_all := lw_g (lw_at lw_m3 59 rfl) rfl
theorem q700 : (Jvm.Cond.methodLink "NamesWeather$Reader" (197 : Nat) ({ cls := "NamesWeather$Reader", name := "opens", desc := "()V" } : Jvm.MethodName)) ∈ lw_all := lw_g (lw_at lw_m3 60 rfl) rfl
theorem q701 : (Jvm.Cond.privateMethod ({ cls := "NamesWeather$Reader", name := "opens", desc := "()V" } : Jvm.MethodName)) ∈ lw_tbl := lw_at lw_m3 61 rfl
theorem q702 : (Jvm.Cond.instanceMethod ({ cls := "NamesWeather$Reader", name := "opens", desc := "()V" } : Jvm.MethodName)) ∈ lw_all := lw_g (lw_at lw_m3 62 rfl) rfl
theorem q703 : (Jvm.Cond.code ({ cls := "NamesWeather$Reader", name := "opens", desc := "()V" } : Jvm.MethodName) prog_15_method_19_code (1 : Nat) (Option.none : Option Jvm.ClassFile.FieldType)) ∈ lw_all := lw_g (lw_at lw_m3 63 rfl) rfl
theorem q704 : (Jvm.Cond.classLink "NamesWeather$Reader" (200 : Nat) "NamesWeather$Not") ∈ lw_all := lw_g (lw_at lw_m3 64 rfl) rfl
theorem q706 : (Jvm.Cond.methodLink "NamesWeather$Reader" (202 : Nat) ({ cls := "NamesWeather$Not", name := "<init>", desc := "(LNamesWeather$Term;)V" } : Jvm.MethodName)) ∈ lw_all := lw_g (lw_at lw_m3 66 rfl) rfl
theorem q714 : (Jvm.Cond.methodLink "NamesWeather$Reader" (148 : Nat) ({ cls := "NamesWeather$Reader", name := "must", desc := "(I)V" } : Jvm.MethodName)) ∈ lw_all := lw_g (lw_at lw_m3 74 rfl) rfl
theorem q715 : (Jvm.Cond.privateMethod ({ cls := "NamesWeather$Reader", name := "must", desc := "(I)V" } : Jvm.MethodName)) ∈ lw_tbl := lw_at lw_m3 75 rfl
theorem q716 : (Jvm.Cond.instanceMethod ({ cls := "NamesWeather$Reader", name := "must", desc := "(I)V" } : Jvm.MethodName)) ∈ lw_all := lw_g (lw_at lw_m3 76 rfl) rfl
theorem q717 : (Jvm.Cond.code ({ cls := "NamesWeather$Reader", name := "must", desc := "(I)V" } : Jvm.MethodName) prog_15_method_18_code (2 : Nat) (Option.none : Option Jvm.ClassFile.FieldType)) ∈ lw_all := lw_g (lw_at lw_m3 77 rfl) rfl
theorem q718 : (Jvm.Cond.classLink "NamesWeather$Reader" (217 : Nat) "NamesWeather$Line") ∈ lw_all := lw_g (lw_at lw_m3 78 rfl) rfl
theorem q720 : (Jvm.Cond.methodLink "NamesWeather$Reader" (219 : Nat) ({ cls := "NamesWeather$Line", name := "<init>", desc := "(ILNamesWeather$Term;LNamesWeather$Term;)V" } : Jvm.MethodName)) ∈ lw_all := lw_g (lw_at lw_m3 80 rfl) rfl
theorem q737 : (Jvm.Cond.methodLink "NamesWeather$Reader" (222 : Nat) ({ cls := "java/util/ArrayList", name := "add", desc := "(Ljava/lang/Object;)Z" } : Jvm.MethodName)) ∈ lw_all := lw_g (lw_at lw_m3 97 rfl) rfl
theorem q781 : (Jvm.Cond.selects "NamesWeather$Reader" ({ cls := "java/lang/Object", name := "getClass", desc := "()Ljava/lang/Class;" } : Jvm.MethodName) ({ cls := "java/lang/Object", name := "getClass", desc := "()Ljava/lang/Class;" } : Jvm.MethodName)) ∈ lw_all := lw_g (lw_at lw_m3 141 rfl) rfl
theorem q803 : (Jvm.Cond.instanceMethod ({ cls := "NamesWeather$Reader", name := "quenching", desc := "()Ljava/util/ArrayList;" } : Jvm.MethodName)) ∈ lw_all := lw_g (lw_at lw_m3 163 rfl) rfl
theorem q804 : (Jvm.Cond.selects "NamesWeather$Reader" ({ cls := "NamesWeather$Reader", name := "quenching", desc := "()Ljava/util/ArrayList;" } : Jvm.MethodName) ({ cls := "NamesWeather$Reader", name := "quenching", desc := "()Ljava/util/ArrayList;" } : Jvm.MethodName)) ∈ lw_all := lw_g (lw_at lw_m3 164 rfl) rfl
theorem q805 : (Jvm.Cond.code ({ cls := "NamesWeather$Reader", name := "quenching", desc := "()Ljava/util/ArrayList;" } : Jvm.MethodName) prog_15_method_28_code (2 : Nat) (Option.some (Jvm.ClassFile.FieldType.object "java/util/ArrayList"))) ∈ lw_all := lw_g (lw_at lw_m3 165 rfl) rfl
theorem q806 : (Jvm.Cond.methodLink "NamesWeather$Reader" (236 : Nat) ({ cls := "NamesWeather$Reader", name := "quench", desc := "()LNamesWeather$Quench;" } : Jvm.MethodName)) ∈ lw_all := lw_g (lw_at lw_m3 166 rfl) rfl
theorem q807 : (Jvm.Cond.privateMethod ({ cls := "NamesWeather$Reader", name := "quench", desc := "()LNamesWeather$Quench;" } : Jvm.MethodName)) ∈ lw_tbl := lw_at lw_m3 167 rfl
theorem q808 : (Jvm.Cond.instanceMethod ({ cls := "NamesWeather$Reader", name := "quench", desc := "()LNamesWeather$Quench;" } : Jvm.MethodName)) ∈ lw_all := lw_g (lw_at lw_m3 168 rfl) rfl
theorem q809 : (Jvm.Cond.code ({ cls := "NamesWeather$Reader", name := "quench", desc := "()LNamesWeather$Quench;" } : Jvm.MethodName) prog_15_method_27_code (4 : Nat) (Option.some (Jvm.ClassFile.FieldType.object "NamesWeather$Quench"))) ∈ lw_all := lw_g (lw_at lw_m3 169 rfl) rfl
theorem q810 : (Jvm.Cond.methodLink "NamesWeather$Reader" (225 : Nat) ({ cls := "NamesWeather$Reader", name := "kind", desc := "()I" } : Jvm.MethodName)) ∈ lw_all := lw_g (lw_at lw_m3 170 rfl) rfl
theorem q811 : (Jvm.Cond.privateMethod ({ cls := "NamesWeather$Reader", name := "kind", desc := "()I" } : Jvm.MethodName)) ∈ lw_tbl := lw_at lw_m3 171 rfl
theorem q812 : (Jvm.Cond.instanceMethod ({ cls := "NamesWeather$Reader", name := "kind", desc := "()I" } : Jvm.MethodName)) ∈ lw_all := lw_g (lw_at lw_m3 172 rfl) rfl
theorem q813 : (Jvm.Cond.code ({ cls := "NamesWeather$Reader", name := "kind", desc := "()I" } : Jvm.MethodName) prog_15_method_15_code (2 : Nat) (Option.some Jvm.ClassFile.FieldType.int)) ∈ lw_all := lw_g (lw_at lw_m3 173 rfl) rfl
theorem q814 : (Jvm.Cond.methodLink "NamesWeather$Reader" (227 : Nat) ({ cls := "NamesWeather$Reader", name := "behind", desc := "(III)I" } : Jvm.MethodName)) ∈ lw_all := lw_g (lw_at lw_m3 174 rfl) rfl
theorem q815 : (Jvm.Cond.privateMethod ({ cls := "NamesWeather$Reader", name := "behind", desc := "(III)I" } : Jvm.MethodName)) ∈ lw_tbl := lw_at lw_m3 175 rfl
theorem q816 : (Jvm.Cond.instanceMethod ({ cls := "NamesWeather$Reader", name := "behind", desc := "(III)I" } : Jvm.MethodName)) ∈ lw_all := lw_g (lw_at lw_m3 176 rfl) rfl
theorem q817 : (Jvm.Cond.code ({ cls := "NamesWeather$Reader", name := "behind", desc := "(III)I" } : Jvm.MethodName) prog_15_method_14_code (4 : Nat) (Option.some Jvm.ClassFile.FieldType.int)) ∈ lw_all := lw_g (lw_at lw_m3 177 rfl) rfl
theorem q818 : (Jvm.Cond.classLink "NamesWeather$Reader" (231 : Nat) "NamesWeather$Quench") ∈ lw_all := lw_g (lw_at lw_m3 178 rfl) rfl
theorem q820 : (Jvm.Cond.methodLink "NamesWeather$Reader" (233 : Nat) ({ cls := "NamesWeather$Quench", name := "<init>", desc := "(III)V" } : Jvm.MethodName)) ∈ lw_all := lw_g (lw_at lw_m3 180 rfl) rfl
theorem q838 : (Jvm.Cond.instanceMethod ({ cls := "NamesWeather$Reader", name := "wants", desc := "()Ljava/util/ArrayList;" } : Jvm.MethodName)) ∈ lw_all := lw_g (lw_at lw_m3 198 rfl) rfl
theorem q839 : (Jvm.Cond.selects "NamesWeather$Reader" ({ cls := "NamesWeather$Reader", name := "wants", desc := "()Ljava/util/ArrayList;" } : Jvm.MethodName) ({ cls := "NamesWeather$Reader", name := "wants", desc := "()Ljava/util/ArrayList;" } : Jvm.MethodName)) ∈ lw_all := lw_g (lw_at lw_m3 199 rfl) rfl
theorem q840 : (Jvm.Cond.code ({ cls := "NamesWeather$Reader", name := "wants", desc := "()Ljava/util/ArrayList;" } : Jvm.MethodName) prog_15_method_30_code (2 : Nat) (Option.some (Jvm.ClassFile.FieldType.object "java/util/ArrayList"))) ∈ lw_all := lw_g (lw_at lw_m3 200 rfl) rfl
theorem q841 : (Jvm.Cond.methodLink "NamesWeather$Reader" (248 : Nat) ({ cls := "NamesWeather$Reader", name := "want", desc := "()LNamesWeather$Want;" } : Jvm.MethodName)) ∈ lw_all := lw_g (lw_at lw_m3 201 rfl) rfl
theorem q842 : (Jvm.Cond.privateMethod ({ cls := "NamesWeather$Reader", name := "want", desc := "()LNamesWeather$Want;" } : Jvm.MethodName)) ∈ lw_tbl := lw_at lw_m3 202 rfl
theorem q843 : (Jvm.Cond.instanceMethod ({ cls := "NamesWeather$Reader", name := "want", desc := "()LNamesWeather$Want;" } : Jvm.MethodName)) ∈ lw_all := lw_g (lw_at lw_m3 203 rfl) rfl
theorem q844 : (Jvm.Cond.code ({ cls := "NamesWeather$Reader", name := "want", desc := "()LNamesWeather$Want;" } : Jvm.MethodName) prog_15_method_29_code (7 : Nat) (Option.some (Jvm.ClassFile.FieldType.object "NamesWeather$Want"))) ∈ lw_all := lw_g (lw_at lw_m3 204 rfl) rfl
theorem q845 : (Jvm.Cond.classLink "NamesWeather$Reader" (240 : Nat) "NamesWeather$ClearWant") ∈ lw_all := lw_g (lw_at lw_m3 205 rfl) rfl
theorem q847 : (Jvm.Cond.methodLink "NamesWeather$Reader" (242 : Nat) ({ cls := "NamesWeather$ClearWant", name := "<init>", desc := "(III)V" } : Jvm.MethodName)) ∈ lw_all := lw_g (lw_at lw_m3 207 rfl) rfl
theorem q866 : (Jvm.Cond.classLink "NamesWeather$Reader" (243 : Nat) "NamesWeather$SkyWant") ∈ lw_all := lw_g (lw_at lw_m3 226 rfl) rfl
theorem q868 : (Jvm.Cond.methodLink "NamesWeather$Reader" (245 : Nat) ({ cls := "NamesWeather$SkyWant", name := "<init>", desc := "(IIIII)V" } : Jvm.MethodName)) ∈ lw_all := lw_g (lw_at lw_m3 228 rfl) rfl
theorem q883 : (Jvm.Cond.instanceMethod ({ cls := "NamesWeather$Reader", name := "plan", desc := "()Ljava/util/ArrayList;" } : Jvm.MethodName)) ∈ lw_all := lw_g (lw_at lw_m4 3 rfl) rfl
theorem q884 : (Jvm.Cond.selects "NamesWeather$Reader" ({ cls := "NamesWeather$Reader", name := "plan", desc := "()Ljava/util/ArrayList;" } : Jvm.MethodName) ({ cls := "NamesWeather$Reader", name := "plan", desc := "()Ljava/util/ArrayList;" } : Jvm.MethodName)) ∈ lw_all := lw_g (lw_at lw_m4 4 rfl) rfl
theorem q885 : (Jvm.Cond.code ({ cls := "NamesWeather$Reader", name := "plan", desc := "()Ljava/util/ArrayList;" } : Jvm.MethodName) prog_15_method_32_code (2 : Nat) (Option.some (Jvm.ClassFile.FieldType.object "java/util/ArrayList"))) ∈ lw_all := lw_g (lw_at lw_m4 5 rfl) rfl
theorem q886 : (Jvm.Cond.methodLink "NamesWeather$Reader" (269 : Nat) ({ cls := "NamesWeather$Reader", name := "deed", desc := "(I)LNamesWeather$Deed;" } : Jvm.MethodName)) ∈ lw_all := lw_g (lw_at lw_m4 6 rfl) rfl
theorem q887 : (Jvm.Cond.privateMethod ({ cls := "NamesWeather$Reader", name := "deed", desc := "(I)LNamesWeather$Deed;" } : Jvm.MethodName)) ∈ lw_tbl := lw_at lw_m4 7 rfl
theorem q888 : (Jvm.Cond.instanceMethod ({ cls := "NamesWeather$Reader", name := "deed", desc := "(I)LNamesWeather$Deed;" } : Jvm.MethodName)) ∈ lw_all := lw_g (lw_at lw_m4 8 rfl) rfl
theorem q889 : (Jvm.Cond.code ({ cls := "NamesWeather$Reader", name := "deed", desc := "(I)LNamesWeather$Deed;" } : Jvm.MethodName) prog_15_method_31_code (5 : Nat) (Option.some (Jvm.ClassFile.FieldType.object "NamesWeather$Deed"))) ∈ lw_all := lw_g (lw_at lw_m4 9 rfl) rfl
theorem q890 : (Jvm.Cond.classLink "NamesWeather$Reader" (260 : Nat) "NamesWeather$Bury") ∈ lw_all := lw_g (lw_at lw_m4 10 rfl) rfl
theorem q892 : (Jvm.Cond.methodLink "NamesWeather$Reader" (262 : Nat) ({ cls := "NamesWeather$Bury", name := "<init>", desc := "(II)V" } : Jvm.MethodName)) ∈ lw_all := lw_g (lw_at lw_m4 12 rfl) rfl
theorem q906 : (Jvm.Cond.classLink "NamesWeather$Reader" (263 : Nat) "NamesWeather$Call") ∈ lw_all := lw_g (lw_at lw_m4 26 rfl) rfl
theorem q908 : (Jvm.Cond.methodLink "NamesWeather$Reader" (265 : Nat) ({ cls := "NamesWeather$Call", name := "<init>", desc := "(III)V" } : Jvm.MethodName)) ∈ lw_all := lw_g (lw_at lw_m4 28 rfl) rfl
theorem q918 : (Jvm.Cond.classLink "NamesWeather$Reader" (266 : Nat) "NamesWeather$Move") ∈ lw_all := lw_g (lw_at lw_m4 38 rfl) rfl
theorem q920 : (Jvm.Cond.methodLink "NamesWeather$Reader" (268 : Nat) ({ cls := "NamesWeather$Move", name := "<init>", desc := "(III)V" } : Jvm.MethodName)) ∈ lw_all := lw_g (lw_at lw_m4 40 rfl) rfl
theorem q2118 : (Jvm.Cond.castable "NamesWeather$Reader" "java/lang/Object") ∈ lw_tbl := lw_at lw_m9 38 rfl
theorem in_X3 : ∀ w ∈ wsX30, w ∈ lw_all := lw_in wsX30 [411, 413, 415, 417, 419, 421, 423] (by decide +kernel) (by decide +kernel)
