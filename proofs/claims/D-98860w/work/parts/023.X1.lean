/-! NamesWeather$Skies -/
set_option maxRecDepth 100000
def RX1 : String := "NamesWeather$Skies"
def TX1 : u_T := fun k => match k with
  | 0 => ("NamesWeather$Skies", "sky", "[[I", true)
  | 1 => ("NamesWeather$Skies", "carried", "[[I", true)
  | 2 => ("NamesWeather$Skies", "book", "[[I", true)
  | 3 => ("NamesWeather$Skies", "kind", "[I", true)
  | 4 => ("NamesWeather$Skies", "strength", "[I", true)
  | 5 => ("NamesWeather$Skies", "island", "[I", true)
  | 6 => ("NamesWeather$Skies", "dead", "[I", true)
  | 7 => ("NamesWeather$Skies", "calls", "[I", true)
  | 8 => ("NamesWeather$Skies", "route", "[I", true)
  | 9 => ("NamesWeather$Skies", "law", "Ljava/util/ArrayList;", false)
  | 10 => ("NamesWeather$Skies", "quenching", "Ljava/util/ArrayList;", false)
  | 11 => ("NamesWeather$Skies", "wants", "Ljava/util/ArrayList;", false)
  | 12 => ("NamesWeather$Skies", "plan", "Ljava/util/ArrayList;", false)
  | 13 => ("NamesWeather$Skies", "many", "I", false)
  | 14 => ("NamesWeather$Skies", "cry", "I", false)
  | 15 => ("NamesWeather$Skies", "day", "I", false)
  | 16 => ("NamesWeather$Skies", "today", "I", false)
  | 17 => ("NamesWeather$Skies", "state", "I", false)
  | 18 => ("NamesWeather$Skies", "lines", "I", false)
  | 19 => ("NamesWeather$Skies", "cries", "I", false)
  | 20 => ("NamesWeather$Skies", "askedWho", "I", false)
  | 21 => ("NamesWeather$Skies", "askedKind", "I", false)
  | _ => ("NamesWeather$Skies", "askedIsland", "I", false)
def tyX1 : Nat → FieldType := fun k => match k with
  | 0 => .array (.array .int)
  | 1 => .array (.array .int)
  | 2 => .array (.array .int)
  | 3 => .array .int
  | 4 => .array .int
  | 5 => .array .int
  | 6 => .array .int
  | 7 => .array .int
  | 8 => .array .int
  | 9 => .object "java/util/ArrayList"
  | 10 => .object "java/util/ArrayList"
  | 11 => .object "java/util/ArrayList"
  | 12 => .object "java/util/ArrayList"
  | 13 => .int
  | 14 => .int
  | 15 => .int
  | 16 => .int
  | 17 => .int
  | 18 => .int
  | 19 => .int
  | 20 => .int
  | 21 => .int
  | _ => .int
abbrev wsX10 : List Cond := u_ws RX1 TX1 23
set_option maxRecDepth 100000 in
theorem nmX1 : ∀ a, a < 23 → ∀ b, b < 23 → a ≠ b → (TX1 a).2.1 ≠ (TX1 b).2.1 := by decide +kernel
set_option maxRecDepth 100000 in
theorem tyX1_ok : ∀ k, k < 23 → parseFieldDescriptor (TX1 k).2.2.1 = some (tyX1 k) := by decide +kernel
abbrev cX1_init : ByteArray := prog_16_method_1_code
def yX1_init : MethodName := ⟨RX1, "<init>", "()V"⟩
def dkwX1_init_6 : List UInt8 := [180, 0, 38, 27, 2, 79, 132, 1, 1, 167, 255, 240, 177]
abbrev dktX1_init_6 : List UInt8 := dkwX1_init_6 ++ []
def dkwX1_init_5 : List UInt8 := [181, 0, 51, 42, 187, 0, 41, 89, 183, 0, 43, 181, 0, 54, 3, 60, 27, 16, 8, 162, 0, 16, 42]
abbrev dktX1_init_5 : List UInt8 := dkwX1_init_5 ++ dktX1_init_6
def dkwX1_init_4 : List UInt8 := [181, 0, 44, 42, 187, 0, 41, 89, 183, 0, 43, 181, 0, 48, 42, 187, 0, 41, 89, 183, 0, 43]
abbrev dktX1_init_4 : List UInt8 := dkwX1_init_4 ++ dktX1_init_5
def dkwX1_init_3 : List UInt8 := [16, 12, 188, 10, 181, 0, 35, 42, 16, 8, 188, 10, 181, 0, 38, 42, 187, 0, 41, 89, 183, 0, 43]
abbrev dktX1_init_3 : List UInt8 := dkwX1_init_3 ++ dktX1_init_4
def dkwX1_init_2 : List UInt8 := [16, 12, 188, 10, 181, 0, 26, 42, 16, 12, 188, 10, 181, 0, 29, 42, 16, 12, 188, 10, 181, 0, 32, 42]
abbrev dktX1_init_2 : List UInt8 := dkwX1_init_2 ++ dktX1_init_3
def dkwX1_init_1 : List UInt8 := [181, 0, 16, 42, 17, 0, 150, 8, 197, 0, 9, 2, 181, 0, 19, 42, 16, 12, 188, 10, 181, 0, 22, 42]
abbrev dktX1_init_1 : List UInt8 := dkwX1_init_1 ++ dktX1_init_2
def dkwX1_init_0 : List UInt8 := [42, 183, 0, 3, 42, 16, 8, 8, 197, 0, 9, 2, 181, 0, 11, 42, 16, 8, 8, 197, 0, 9, 2]
abbrev dktX1_init_0 : List UInt8 := dkwX1_init_0 ++ dktX1_init_1
theorem dksX1_init_0 : cX1_init.data.toList.drop 0 = dktX1_init_0 := by decide +kernel
theorem dksX1_init_1 : cX1_init.data.toList.drop 23 = dktX1_init_1 := dk_seg dksX1_init_0 23 rfl rfl
theorem dksX1_init_2 : cX1_init.data.toList.drop 47 = dktX1_init_2 := dk_seg dksX1_init_1 24 rfl rfl
theorem dksX1_init_3 : cX1_init.data.toList.drop 71 = dktX1_init_3 := dk_seg dksX1_init_2 24 rfl rfl
theorem dksX1_init_4 : cX1_init.data.toList.drop 94 = dktX1_init_4 := dk_seg dksX1_init_3 23 rfl rfl
theorem dksX1_init_5 : cX1_init.data.toList.drop 116 = dktX1_init_5 := dk_seg dksX1_init_4 22 rfl rfl
theorem dksX1_init_6 : cX1_init.data.toList.drop 139 = dktX1_init_6 := dk_seg dksX1_init_5 23 rfl rfl
theorem dX1_init_0 : decode cX1_init 0 = .ok (.aload_n 0, 1) := dk_42 (dk_at dksX1_init_0 0 rfl rfl)
theorem dX1_init_1 : decode cX1_init 1 = .ok (.invokespecial 3, 3) := dk_183 0 3 (dk_at dksX1_init_0 1 rfl rfl)
theorem dX1_init_4 : decode cX1_init 4 = .ok (.aload_n 0, 1) := dk_42 (dk_at dksX1_init_0 4 rfl rfl)
theorem dX1_init_5 : decode cX1_init 5 = .ok (.bipush 8, 2) := dk_16 8 (dk_at dksX1_init_0 5 rfl rfl)
theorem dX1_init_7 : decode cX1_init 7 = .ok (.iconst 5, 1) := dk_8 (dk_at dksX1_init_0 7 rfl rfl)
theorem dX1_init_8 : decode cX1_init 8 = .ok (.multianewarray 9 2, 4) := by decide +kernel
theorem dX1_init_12 : decode cX1_init 12 = .ok (.putfield 11, 3) := dk_181 0 11 (dk_at dksX1_init_0 12 rfl rfl)
theorem dX1_init_15 : decode cX1_init 15 = .ok (.aload_n 0, 1) := dk_42 (dk_at dksX1_init_0 15 rfl rfl)
theorem dX1_init_16 : decode cX1_init 16 = .ok (.bipush 8, 2) := dk_16 8 (dk_at dksX1_init_0 16 rfl rfl)
theorem dX1_init_18 : decode cX1_init 18 = .ok (.iconst 5, 1) := dk_8 (dk_at dksX1_init_0 18 rfl rfl)
theorem dX1_init_19 : decode cX1_init 19 = .ok (.multianewarray 9 2, 4) := by decide +kernel
theorem dX1_init_23 : decode cX1_init 23 = .ok (.putfield 16, 3) := dk_181 0 16 (dk_at dksX1_init_1 0 rfl rfl)
theorem dX1_init_26 : decode cX1_init 26 = .ok (.aload_n 0, 1) := dk_42 (dk_at dksX1_init_1 3 rfl rfl)
theorem dX1_init_27 : decode cX1_init 27 = .ok (.sipush 150, 3) := dk_17 0 150 (dk_at dksX1_init_1 4 rfl rfl)
theorem dX1_init_30 : decode cX1_init 30 = .ok (.iconst 5, 1) := dk_8 (dk_at dksX1_init_1 7 rfl rfl)
theorem dX1_init_31 : decode cX1_init 31 = .ok (.multianewarray 9 2, 4) := by decide +kernel
theorem dX1_init_35 : decode cX1_init 35 = .ok (.putfield 19, 3) := dk_181 0 19 (dk_at dksX1_init_1 12 rfl rfl)
theorem dX1_init_38 : decode cX1_init 38 = .ok (.aload_n 0, 1) := dk_42 (dk_at dksX1_init_1 15 rfl rfl)
theorem dX1_init_39 : decode cX1_init 39 = .ok (.bipush 12, 2) := dk_16 12 (dk_at dksX1_init_1 16 rfl rfl)
theorem dX1_init_41 : decode cX1_init 41 = .ok (.newarray .int, 2) := dk_188_10 (dk_at dksX1_init_1 18 rfl rfl)
theorem dX1_init_43 : decode cX1_init 43 = .ok (.putfield 22, 3) := dk_181 0 22 (dk_at dksX1_init_1 20 rfl rfl)
theorem dX1_init_46 : decode cX1_init 46 = .ok (.aload_n 0, 1) := dk_42 (dk_at dksX1_init_1 23 rfl rfl)
theorem dX1_init_47 : decode cX1_init 47 = .ok (.bipush 12, 2) := dk_16 12 (dk_at dksX1_init_2 0 rfl rfl)
theorem dX1_init_49 : decode cX1_init 49 = .ok (.newarray .int, 2) := dk_188_10 (dk_at dksX1_init_2 2 rfl rfl)
theorem dX1_init_51 : decode cX1_init 51 = .ok (.putfield 26, 3) := dk_181 0 26 (dk_at dksX1_init_2 4 rfl rfl)
theorem dX1_init_54 : decode cX1_init 54 = .ok (.aload_n 0, 1) := dk_42 (dk_at dksX1_init_2 7 rfl rfl)
theorem dX1_init_55 : decode cX1_init 55 = .ok (.bipush 12, 2) := dk_16 12 (dk_at dksX1_init_2 8 rfl rfl)
theorem dX1_init_57 : decode cX1_init 57 = .ok (.newarray .int, 2) := dk_188_10 (dk_at dksX1_init_2 10 rfl rfl)
theorem dX1_init_59 : decode cX1_init 59 = .ok (.putfield 29, 3) := dk_181 0 29 (dk_at dksX1_init_2 12 rfl rfl)
theorem dX1_init_62 : decode cX1_init 62 = .ok (.aload_n 0, 1) := dk_42 (dk_at dksX1_init_2 15 rfl rfl)
theorem dX1_init_63 : decode cX1_init 63 = .ok (.bipush 12, 2) := dk_16 12 (dk_at dksX1_init_2 16 rfl rfl)
theorem dX1_init_65 : decode cX1_init 65 = .ok (.newarray .int, 2) := dk_188_10 (dk_at dksX1_init_2 18 rfl rfl)
theorem dX1_init_67 : decode cX1_init 67 = .ok (.putfield 32, 3) := dk_181 0 32 (dk_at dksX1_init_2 20 rfl rfl)
theorem dX1_init_70 : decode cX1_init 70 = .ok (.aload_n 0, 1) := dk_42 (dk_at dksX1_init_2 23 rfl rfl)
theorem dX1_init_71 : decode cX1_init 71 = .ok (.bipush 12, 2) := dk_16 12 (dk_at dksX1_init_3 0 rfl rfl)
theorem dX1_init_73 : decode cX1_init 73 = .ok (.newarray .int, 2) := dk_188_10 (dk_at dksX1_init_3 2 rfl rfl)
theorem dX1_init_75 : decode cX1_init 75 = .ok (.putfield 35, 3) := dk_181 0 35 (dk_at dksX1_init_3 4 rfl rfl)
theorem dX1_init_78 : decode cX1_init 78 = .ok (.aload_n 0, 1) := dk_42 (dk_at dksX1_init_3 7 rfl rfl)
theorem dX1_init_79 : decode cX1_init 79 = .ok (.bipush 8, 2) := dk_16 8 (dk_at dksX1_init_3 8 rfl rfl)
theorem dX1_init_81 : decode cX1_init 81 = .ok (.newarray .int, 2) := dk_188_10 (dk_at dksX1_init_3 10 rfl rfl)
theorem dX1_init_83 : decode cX1_init 83 = .ok (.putfield 38, 3) := dk_181 0 38 (dk_at dksX1_init_3 12 rfl rfl)
theorem dX1_init_86 : decode cX1_init 86 = .ok (.aload_n 0, 1) := dk_42 (dk_at dksX1_init_3 15 rfl rfl)
theorem dX1_init_87 : decode cX1_init 87 = .ok (.new 41, 3) := dk_187 0 41 (dk_at dksX1_init_3 16 rfl rfl)
theorem dX1_init_90 : decode cX1_init 90 = .ok (.dup, 1) := dk_89 (dk_at dksX1_init_3 19 rfl rfl)
theorem dX1_init_91 : decode cX1_init 91 = .ok (.invokespecial 43, 3) := dk_183 0 43 (dk_at dksX1_init_3 20 rfl rfl)
theorem dX1_init_94 : decode cX1_init 94 = .ok (.putfield 44, 3) := dk_181 0 44 (dk_at dksX1_init_4 0 rfl rfl)
theorem dX1_init_97 : decode cX1_init 97 = .ok (.aload_n 0, 1) := dk_42 (dk_at dksX1_init_4 3 rfl rfl)
theorem dX1_init_98 : decode cX1_init 98 = .ok (.new 41, 3) := dk_187 0 41 (dk_at dksX1_init_4 4 rfl rfl)
theorem dX1_init_101 : decode cX1_init 101 = .ok (.dup, 1) := dk_89 (dk_at dksX1_init_4 7 rfl rfl)
theorem dX1_init_102 : decode cX1_init 102 = .ok (.invokespecial 43, 3) := dk_183 0 43 (dk_at dksX1_init_4 8 rfl rfl)
theorem dX1_init_105 : decode cX1_init 105 = .ok (.putfield 48, 3) := dk_181 0 48 (dk_at dksX1_init_4 11 rfl rfl)
theorem dX1_init_108 : decode cX1_init 108 = .ok (.aload_n 0, 1) := dk_42 (dk_at dksX1_init_4 14 rfl rfl)
theorem dX1_init_109 : decode cX1_init 109 = .ok (.new 41, 3) := dk_187 0 41 (dk_at dksX1_init_4 15 rfl rfl)
theorem dX1_init_112 : decode cX1_init 112 = .ok (.dup, 1) := dk_89 (dk_at dksX1_init_4 18 rfl rfl)
theorem dX1_init_113 : decode cX1_init 113 = .ok (.invokespecial 43, 3) := dk_183 0 43 (dk_at dksX1_init_4 19 rfl rfl)
theorem dX1_init_116 : decode cX1_init 116 = .ok (.putfield 51, 3) := dk_181 0 51 (dk_at dksX1_init_5 0 rfl rfl)
theorem dX1_init_119 : decode cX1_init 119 = .ok (.aload_n 0, 1) := dk_42 (dk_at dksX1_init_5 3 rfl rfl)
theorem dX1_init_120 : decode cX1_init 120 = .ok (.new 41, 3) := dk_187 0 41 (dk_at dksX1_init_5 4 rfl rfl)
theorem dX1_init_123 : decode cX1_init 123 = .ok (.dup, 1) := dk_89 (dk_at dksX1_init_5 7 rfl rfl)
theorem dX1_init_124 : decode cX1_init 124 = .ok (.invokespecial 43, 3) := dk_183 0 43 (dk_at dksX1_init_5 8 rfl rfl)
theorem dX1_init_127 : decode cX1_init 127 = .ok (.putfield 54, 3) := dk_181 0 54 (dk_at dksX1_init_5 11 rfl rfl)
theorem dX1_init_130 : decode cX1_init 130 = .ok (.iconst 0, 1) := dk_3 (dk_at dksX1_init_5 14 rfl rfl)
theorem dX1_init_131 : decode cX1_init 131 = .ok (.istore_n 1, 1) := dk_60 (dk_at dksX1_init_5 15 rfl rfl)
theorem dX1_init_132 : decode cX1_init 132 = .ok (.iload_n 1, 1) := dk_27 (dk_at dksX1_init_5 16 rfl rfl)
theorem dX1_init_133 : decode cX1_init 133 = .ok (.bipush 8, 2) := dk_16 8 (dk_at dksX1_init_5 17 rfl rfl)
theorem dX1_init_135 : decode cX1_init 135 = .ok (.if_icmp .ge 16, 3) := dk_162 0 16 (dk_at dksX1_init_5 19 rfl rfl)
theorem dX1_init_138 : decode cX1_init 138 = .ok (.aload_n 0, 1) := dk_42 (dk_at dksX1_init_5 22 rfl rfl)
theorem dX1_init_139 : decode cX1_init 139 = .ok (.getfield 38, 3) := dk_180 0 38 (dk_at dksX1_init_6 0 rfl rfl)
theorem dX1_init_142 : decode cX1_init 142 = .ok (.iload_n 1, 1) := dk_27 (dk_at dksX1_init_6 3 rfl rfl)
theorem dX1_init_143 : decode cX1_init 143 = .ok (.iconst (-1), 1) := dk_2 (dk_at dksX1_init_6 4 rfl rfl)
theorem dX1_init_144 : decode cX1_init 144 = .ok (.iastore, 1) := dk_79 (dk_at dksX1_init_6 5 rfl rfl)
theorem dX1_init_145 : decode cX1_init 145 = .ok (.iinc 1 1, 3) := dk_132 1 1 (dk_at dksX1_init_6 6 rfl rfl)
theorem dX1_init_148 : decode cX1_init 148 = .ok (.goto (-16), 3) := dk_167 255 240 (dk_at dksX1_init_6 9 rfl rfl)
theorem dX1_init_151 : decode cX1_init 151 = .ok (.return_, 1) := dk_177 (dk_at dksX1_init_6 12 rfl rfl)
abbrev cX1_moves : ByteArray := prog_16_method_2_code
def yX1_moves : MethodName := ⟨RX1, "moves", "(LNamesWeather$Skies;)V"⟩
def dkwX1_moves_6 : List UInt8 := [50, 29, 46, 79, 132, 3, 1, 167, 255, 232, 132, 2, 1, 167, 255, 218, 177]
abbrev dktX1_moves_6 : List UInt8 := dkwX1_moves_6 ++ []
def dkwX1_moves_5 : List UInt8 := [16, 8, 162, 0, 38, 3, 62, 29, 8, 162, 0, 25, 42, 180, 0, 11, 28, 50, 29, 43, 180, 0, 11, 28]
abbrev dktX1_moves_5 : List UInt8 := dkwX1_moves_5 ++ dktX1_moves_6
def dkwX1_moves_4 : List UInt8 := [28, 46, 79, 42, 180, 0, 35, 28, 43, 180, 0, 35, 28, 46, 79, 132, 2, 1, 167, 255, 185, 3, 61, 28]
abbrev dktX1_moves_4 : List UInt8 := dkwX1_moves_4 ++ dktX1_moves_5
def dkwX1_moves_3 : List UInt8 := [28, 46, 79, 42, 180, 0, 29, 28, 43, 180, 0, 29, 28, 46, 79, 42, 180, 0, 32, 28, 43, 180, 0, 32]
abbrev dktX1_moves_3 : List UInt8 := dkwX1_moves_3 ++ dktX1_moves_4
def dkwX1_moves_2 : List UInt8 := [162, 0, 69, 42, 180, 0, 22, 28, 43, 180, 0, 22, 28, 46, 79, 42, 180, 0, 26, 28, 43, 180, 0, 26]
abbrev dktX1_moves_2 : List UInt8 := dkwX1_moves_2 ++ dktX1_moves_3
def dkwX1_moves_1 : List UInt8 := [42, 43, 180, 0, 67, 181, 0, 67, 42, 43, 180, 0, 70, 181, 0, 70, 3, 61, 28, 42, 180, 0, 57]
abbrev dktX1_moves_1 : List UInt8 := dkwX1_moves_1 ++ dktX1_moves_2
def dkwX1_moves_0 : List UInt8 := [42, 43, 180, 0, 57, 181, 0, 57, 42, 43, 180, 0, 61, 181, 0, 61, 42, 43, 180, 0, 64, 181, 0, 64]
abbrev dktX1_moves_0 : List UInt8 := dkwX1_moves_0 ++ dktX1_moves_1
theorem dksX1_moves_0 : cX1_moves.data.toList.drop 0 = dktX1_moves_0 := by decide +kernel
theorem dksX1_moves_1 : cX1_moves.data.toList.drop 24 = dktX1_moves_1 := dk_seg dksX1_moves_0 24 rfl rfl
theorem dksX1_moves_2 : cX1_moves.data.toList.drop 47 = dktX1_moves_2 := dk_seg dksX1_moves_1 23 rfl rfl
theorem dksX1_moves_3 : cX1_moves.data.toList.drop 71 = dktX1_moves_3 := dk_seg dksX1_moves_2 24 rfl rfl
theorem dksX1_moves_4 : cX1_moves.data.toList.drop 95 = dktX1_moves_4 := dk_seg dksX1_moves_3 24 rfl rfl
theorem dksX1_moves_5 : cX1_moves.data.toList.drop 119 = dktX1_moves_5 := dk_seg dksX1_moves_4 24 rfl rfl
theorem dksX1_moves_6 : cX1_moves.data.toList.drop 143 = dktX1_moves_6 := dk_seg dksX1_moves_5 24 rfl rfl
theorem dX1_moves_0 : decode cX1_moves 0 = .ok (.aload_n 0, 1) := dk_42 (dk_at dksX1_moves_0 0 rfl rfl)
theorem dX1_moves_1 : decode cX1_moves 1 = .ok (.aload_n 1, 1) := dk_43 (dk_at dksX1_moves_0 1 rfl rfl)
theorem dX1_moves_2 : decode cX1_moves 2 = .ok (.getfield 57, 3) := dk_180 0 57 (dk_at dksX1_moves_0 2 rfl rfl)
theorem dX1_moves_5 : decode cX1_moves 5 = .ok (.putfield 57, 3) := dk_181 0 57 (dk_at dksX1_moves_0 5 rfl rfl)
theorem dX1_moves_8 : decode cX1_moves 8 = .ok (.aload_n 0, 1) := dk_42 (dk_at dksX1_moves_0 8 rfl rfl)
theorem dX1_moves_9 : decode cX1_moves 9 = .ok (.aload_n 1, 1) := dk_43 (dk_at dksX1_moves_0 9 rfl rfl)
theorem dX1_moves_10 : decode cX1_moves 10 = .ok (.getfield 61, 3) := dk_180 0 61 (dk_at dksX1_moves_0 10 rfl rfl)
theorem dX1_moves_13 : decode cX1_moves 13 = .ok (.putfield 61, 3) := dk_181 0 61 (dk_at dksX1_moves_0 13 rfl rfl)
theorem dX1_moves_16 : decode cX1_moves 16 = .ok (.aload_n 0, 1) := dk_42 (dk_at dksX1_moves_0 16 rfl rfl)
theorem dX1_moves_17 : decode cX1_moves 17 = .ok (.aload_n 1, 1) := dk_43 (dk_at dksX1_moves_0 17 rfl rfl)
theorem dX1_moves_18 : decode cX1_moves 18 = .ok (.getfield 64, 3) := dk_180 0 64 (dk_at dksX1_moves_0 18 rfl rfl)
theorem dX1_moves_21 : decode cX1_moves 21 = .ok (.putfield 64, 3) := dk_181 0 64 (dk_at dksX1_moves_0 21 rfl rfl)
theorem dX1_moves_24 : decode cX1_moves 24 = .ok (.aload_n 0, 1) := dk_42 (dk_at dksX1_moves_1 0 rfl rfl)
theorem dX1_moves_25 : decode cX1_moves 25 = .ok (.aload_n 1, 1) := dk_43 (dk_at dksX1_moves_1 1 rfl rfl)
theorem dX1_moves_26 : decode cX1_moves 26 = .ok (.getfield 67, 3) := dk_180 0 67 (dk_at dksX1_moves_1 2 rfl rfl)
theorem dX1_moves_29 : decode cX1_moves 29 = .ok (.putfield 67, 3) := dk_181 0 67 (dk_at dksX1_moves_1 5 rfl rfl)
theorem dX1_moves_32 : decode cX1_moves 32 = .ok (.aload_n 0, 1) := dk_42 (dk_at dksX1_moves_1 8 rfl rfl)
theorem dX1_moves_33 : decode cX1_moves 33 = .ok (.aload_n 1, 1) := dk_43 (dk_at dksX1_moves_1 9 rfl rfl)
theorem dX1_moves_34 : decode cX1_moves 34 = .ok (.getfield 70, 3) := dk_180 0 70 (dk_at dksX1_moves_1 10 rfl rfl)
theorem dX1_moves_37 : decode cX1_moves 37 = .ok (.putfield 70, 3) := dk_181 0 70 (dk_at dksX1_moves_1 13 rfl rfl)
theorem dX1_moves_40 : decode cX1_moves 40 = .ok (.iconst 0, 1) := dk_3 (dk_at dksX1_moves_1 16 rfl rfl)
theorem dX1_moves_41 : decode cX1_moves 41 = .ok (.istore_n 2, 1) := dk_61 (dk_at dksX1_moves_1 17 rfl rfl)
theorem dX1_moves_42 : decode cX1_moves 42 = .ok (.iload_n 2, 1) := dk_28 (dk_at dksX1_moves_1 18 rfl rfl)
theorem dX1_moves_43 : decode cX1_moves 43 = .ok (.aload_n 0, 1) := dk_42 (dk_at dksX1_moves_1 19 rfl rfl)
theorem dX1_moves_44 : decode cX1_moves 44 = .ok (.getfield 57, 3) := dk_180 0 57 (dk_at dksX1_moves_1 20 rfl rfl)
theorem dX1_moves_47 : decode cX1_moves 47 = .ok (.if_icmp .ge 69, 3) := dk_162 0 69 (dk_at dksX1_moves_2 0 rfl rfl)
theorem dX1_moves_50 : decode cX1_moves 50 = .ok (.aload_n 0, 1) := dk_42 (dk_at dksX1_moves_2 3 rfl rfl)
theorem dX1_moves_51 : decode cX1_moves 51 = .ok (.getfield 22, 3) := dk_180 0 22 (dk_at dksX1_moves_2 4 rfl rfl)
theorem dX1_moves_54 : decode cX1_moves 54 = .ok (.iload_n 2, 1) := dk_28 (dk_at dksX1_moves_2 7 rfl rfl)
theorem dX1_moves_55 : decode cX1_moves 55 = .ok (.aload_n 1, 1) := dk_43 (dk_at dksX1_moves_2 8 rfl rfl)
theorem dX1_moves_56 : decode cX1_moves 56 = .ok (.getfield 22, 3) := dk_180 0 22 (dk_at dksX1_moves_2 9 rfl rfl)
theorem dX1_moves_59 : decode cX1_moves 59 = .ok (.iload_n 2, 1) := dk_28 (dk_at dksX1_moves_2 12 rfl rfl)
theorem dX1_moves_60 : decode cX1_moves 60 = .ok (.iaload, 1) := dk_46 (dk_at dksX1_moves_2 13 rfl rfl)
theorem dX1_moves_61 : decode cX1_moves 61 = .ok (.iastore, 1) := dk_79 (dk_at dksX1_moves_2 14 rfl rfl)
theorem dX1_moves_62 : decode cX1_moves 62 = .ok (.aload_n 0, 1) := dk_42 (dk_at dksX1_moves_2 15 rfl rfl)
theorem dX1_moves_63 : decode cX1_moves 63 = .ok (.getfield 26, 3) := dk_180 0 26 (dk_at dksX1_moves_2 16 rfl rfl)
theorem dX1_moves_66 : decode cX1_moves 66 = .ok (.iload_n 2, 1) := dk_28 (dk_at dksX1_moves_2 19 rfl rfl)
theorem dX1_moves_67 : decode cX1_moves 67 = .ok (.aload_n 1, 1) := dk_43 (dk_at dksX1_moves_2 20 rfl rfl)
theorem dX1_moves_68 : decode cX1_moves 68 = .ok (.getfield 26, 3) := dk_180 0 26 (dk_at dksX1_moves_2 21 rfl rfl)
theorem dX1_moves_71 : decode cX1_moves 71 = .ok (.iload_n 2, 1) := dk_28 (dk_at dksX1_moves_3 0 rfl rfl)
theorem dX1_moves_72 : decode cX1_moves 72 = .ok (.iaload, 1) := dk_46 (dk_at dksX1_moves_3 1 rfl rfl)
theorem dX1_moves_73 : decode cX1_moves 73 = .ok (.iastore, 1) := dk_79 (dk_at dksX1_moves_3 2 rfl rfl)
theorem dX1_moves_74 : decode cX1_moves 74 = .ok (.aload_n 0, 1) := dk_42 (dk_at dksX1_moves_3 3 rfl rfl)
theorem dX1_moves_75 : decode cX1_moves 75 = .ok (.getfield 29, 3) := dk_180 0 29 (dk_at dksX1_moves_3 4 rfl rfl)
theorem dX1_moves_78 : decode cX1_moves 78 = .ok (.iload_n 2, 1) := dk_28 (dk_at dksX1_moves_3 7 rfl rfl)
theorem dX1_moves_79 : decode cX1_moves 79 = .ok (.aload_n 1, 1) := dk_43 (dk_at dksX1_moves_3 8 rfl rfl)
theorem dX1_moves_80 : decode cX1_moves 80 = .ok (.getfield 29, 3) := dk_180 0 29 (dk_at dksX1_moves_3 9 rfl rfl)
theorem dX1_moves_83 : decode cX1_moves 83 = .ok (.iload_n 2, 1) := dk_28 (dk_at dksX1_moves_3 12 rfl rfl)
theorem dX1_moves_84 : decode cX1_moves 84 = .ok (.iaload, 1) := dk_46 (dk_at dksX1_moves_3 13 rfl rfl)
theorem dX1_moves_85 : decode cX1_moves 85 = .ok (.iastore, 1) := dk_79 (dk_at dksX1_moves_3 14 rfl rfl)
theorem dX1_moves_86 : decode cX1_moves 86 = .ok (.aload_n 0, 1) := dk_42 (dk_at dksX1_moves_3 15 rfl rfl)
theorem dX1_moves_87 : decode cX1_moves 87 = .ok (.getfield 32, 3) := dk_180 0 32 (dk_at dksX1_moves_3 16 rfl rfl)
theorem dX1_moves_90 : decode cX1_moves 90 = .ok (.iload_n 2, 1) := dk_28 (dk_at dksX1_moves_3 19 rfl rfl)
theorem dX1_moves_91 : decode cX1_moves 91 = .ok (.aload_n 1, 1) := dk_43 (dk_at dksX1_moves_3 20 rfl rfl)
theorem dX1_moves_92 : decode cX1_moves 92 = .ok (.getfield 32, 3) := dk_180 0 32 (dk_at dksX1_moves_3 21 rfl rfl)
theorem dX1_moves_95 : decode cX1_moves 95 = .ok (.iload_n 2, 1) := dk_28 (dk_at dksX1_moves_4 0 rfl rfl)
theorem dX1_moves_96 : decode cX1_moves 96 = .ok (.iaload, 1) := dk_46 (dk_at dksX1_moves_4 1 rfl rfl)
theorem dX1_moves_97 : decode cX1_moves 97 = .ok (.iastore, 1) := dk_79 (dk_at dksX1_moves_4 2 rfl rfl)
theorem dX1_moves_98 : decode cX1_moves 98 = .ok (.aload_n 0, 1) := dk_42 (dk_at dksX1_moves_4 3 rfl rfl)
theorem dX1_moves_99 : decode cX1_moves 99 = .ok (.getfield 35, 3) := dk_180 0 35 (dk_at dksX1_moves_4 4 rfl rfl)
theorem dX1_moves_102 : decode cX1_moves 102 = .ok (.iload_n 2, 1) := dk_28 (dk_at dksX1_moves_4 7 rfl rfl)
theorem dX1_moves_103 : decode cX1_moves 103 = .ok (.aload_n 1, 1) := dk_43 (dk_at dksX1_moves_4 8 rfl rfl)
theorem dX1_moves_104 : decode cX1_moves 104 = .ok (.getfield 35, 3) := dk_180 0 35 (dk_at dksX1_moves_4 9 rfl rfl)
theorem dX1_moves_107 : decode cX1_moves 107 = .ok (.iload_n 2, 1) := dk_28 (dk_at dksX1_moves_4 12 rfl rfl)
theorem dX1_moves_108 : decode cX1_moves 108 = .ok (.iaload, 1) := dk_46 (dk_at dksX1_moves_4 13 rfl rfl)
theorem dX1_moves_109 : decode cX1_moves 109 = .ok (.iastore, 1) := dk_79 (dk_at dksX1_moves_4 14 rfl rfl)
theorem dX1_moves_110 : decode cX1_moves 110 = .ok (.iinc 2 1, 3) := dk_132 2 1 (dk_at dksX1_moves_4 15 rfl rfl)
theorem dX1_moves_113 : decode cX1_moves 113 = .ok (.goto (-71), 3) := dk_167 255 185 (dk_at dksX1_moves_4 18 rfl rfl)
theorem dX1_moves_116 : decode cX1_moves 116 = .ok (.iconst 0, 1) := dk_3 (dk_at dksX1_moves_4 21 rfl rfl)
theorem dX1_moves_117 : decode cX1_moves 117 = .ok (.istore_n 2, 1) := dk_61 (dk_at dksX1_moves_4 22 rfl rfl)
theorem dX1_moves_118 : decode cX1_moves 118 = .ok (.iload_n 2, 1) := dk_28 (dk_at dksX1_moves_4 23 rfl rfl)
theorem dX1_moves_119 : decode cX1_moves 119 = .ok (.bipush 8, 2) := dk_16 8 (dk_at dksX1_moves_5 0 rfl rfl)
theorem dX1_moves_121 : decode cX1_moves 121 = .ok (.if_icmp .ge 38, 3) := dk_162 0 38 (dk_at dksX1_moves_5 2 rfl rfl)
theorem dX1_moves_124 : decode cX1_moves 124 = .ok (.iconst 0, 1) := dk_3 (dk_at dksX1_moves_5 5 rfl rfl)
theorem dX1_moves_125 : decode cX1_moves 125 = .ok (.istore_n 3, 1) := dk_62 (dk_at dksX1_moves_5 6 rfl rfl)
theorem dX1_moves_126 : decode cX1_moves 126 = .ok (.iload_n 3, 1) := dk_29 (dk_at dksX1_moves_5 7 rfl rfl)
theorem dX1_moves_127 : decode cX1_moves 127 = .ok (.iconst 5, 1) := dk_8 (dk_at dksX1_moves_5 8 rfl rfl)
theorem dX1_moves_128 : decode cX1_moves 128 = .ok (.if_icmp .ge 25, 3) := dk_162 0 25 (dk_at dksX1_moves_5 9 rfl rfl)
theorem dX1_moves_131 : decode cX1_moves 131 = .ok (.aload_n 0, 1) := dk_42 (dk_at dksX1_moves_5 12 rfl rfl)
theorem dX1_moves_132 : decode cX1_moves 132 = .ok (.getfield 11, 3) := dk_180 0 11 (dk_at dksX1_moves_5 13 rfl rfl)
theorem dX1_moves_135 : decode cX1_moves 135 = .ok (.iload_n 2, 1) := dk_28 (dk_at dksX1_moves_5 16 rfl rfl)
theorem dX1_moves_136 : decode cX1_moves 136 = .ok (.aaload, 1) := dk_50 (dk_at dksX1_moves_5 17 rfl rfl)
theorem dX1_moves_137 : decode cX1_moves 137 = .ok (.iload_n 3, 1) := dk_29 (dk_at dksX1_moves_5 18 rfl rfl)
theorem dX1_moves_138 : decode cX1_moves 138 = .ok (.aload_n 1, 1) := dk_43 (dk_at dksX1_moves_5 19 rfl rfl)
theorem dX1_moves_139 : decode cX1_moves 139 = .ok (.getfield 11, 3) := dk_180 0 11 (dk_at dksX1_moves_5 20 rfl rfl)
theorem dX1_moves_142 : decode cX1_moves 142 = .ok (.iload_n 2, 1) := dk_28 (dk_at dksX1_moves_5 23 rfl rfl)
theorem dX1_moves_143 : decode cX1_moves 143 = .ok (.aaload, 1) := dk_50 (dk_at dksX1_moves_6 0 rfl rfl)
theorem dX1_moves_144 : decode cX1_moves 144 = .ok (.iload_n 3, 1) := dk_29 (dk_at dksX1_moves_6 1 rfl rfl)
theorem dX1_moves_145 : decode cX1_moves 145 = .ok (.iaload, 1) := dk_46 (dk_at dksX1_moves_6 2 rfl rfl)
theorem dX1_moves_146 : decode cX1_moves 146 = .ok (.iastore, 1) := dk_79 (dk_at dksX1_moves_6 3 rfl rfl)
theorem dX1_moves_147 : decode cX1_moves 147 = .ok (.iinc 3 1, 3) := dk_132 3 1 (dk_at dksX1_moves_6 4 rfl rfl)
theorem dX1_moves_150 : decode cX1_moves 150 = .ok (.goto (-24), 3) := dk_167 255 232 (dk_at dksX1_moves_6 7 rfl rfl)
theorem dX1_moves_153 : decode cX1_moves 153 = .ok (.iinc 2 1, 3) := dk_132 2 1 (dk_at dksX1_moves_6 10 rfl rfl)
theorem dX1_moves_156 : decode cX1_moves 156 = .ok (.goto (-38), 3) := dk_167 255 218 (dk_at dksX1_moves_6 13 rfl rfl)
theorem dX1_moves_159 : decode cX1_moves 159 = .ok (.return_, 1) := dk_177 (dk_at dksX1_moves_6 16 rfl rfl)
abbrev cX1_comes : ByteArray := prog_16_method_25_code
def yX1_comes : MethodName := ⟨RX1, "comes", "(III)V"⟩
def dkwX1_comes_2 : List UInt8 := [3, 79, 42, 89, 180, 0, 57, 4, 96, 181, 0, 57, 177]
abbrev dktX1_comes_2 : List UInt8 := dkwX1_comes_2 ++ []
def dkwX1_comes_1 : List UInt8 := [42, 180, 0, 57, 29, 79, 42, 180, 0, 32, 42, 180, 0, 57, 3, 79, 42, 180, 0, 35, 42, 180, 0, 57]
abbrev dktX1_comes_1 : List UInt8 := dkwX1_comes_1 ++ dktX1_comes_2
def dkwX1_comes_0 : List UInt8 := [42, 180, 0, 22, 42, 180, 0, 57, 27, 79, 42, 180, 0, 26, 42, 180, 0, 57, 28, 79, 42, 180, 0, 29]
abbrev dktX1_comes_0 : List UInt8 := dkwX1_comes_0 ++ dktX1_comes_1
theorem dksX1_comes_0 : cX1_comes.data.toList.drop 0 = dktX1_comes_0 := by decide +kernel
theorem dksX1_comes_1 : cX1_comes.data.toList.drop 24 = dktX1_comes_1 := dk_seg dksX1_comes_0 24 rfl rfl
theorem dksX1_comes_2 : cX1_comes.data.toList.drop 48 = dktX1_comes_2 := dk_seg dksX1_comes_1 24 rfl rfl
theorem dX1_comes_0 : decode cX1_comes 0 = .ok (.aload_n 0, 1) := dk_42 (dk_at dksX1_comes_0 0 rfl rfl)
theorem dX1_comes_1 : decode cX1_comes 1 = .ok (.getfield 22, 3) := dk_180 0 22 (dk_at dksX1_comes_0 1 rfl rfl)
theorem dX1_comes_4 : decode cX1_comes 4 = .ok (.aload_n 0, 1) := dk_42 (dk_at dksX1_comes_0 4 rfl rfl)
theorem dX1_comes_5 : decode cX1_comes 5 = .ok (.getfield 57, 3) := dk_180 0 57 (dk_at dksX1_comes_0 5 rfl rfl)
theorem dX1_comes_8 : decode cX1_comes 8 = .ok (.iload_n 1, 1) := dk_27 (dk_at dksX1_comes_0 8 rfl rfl)
theorem dX1_comes_9 : decode cX1_comes 9 = .ok (.iastore, 1) := dk_79 (dk_at dksX1_comes_0 9 rfl rfl)
theorem dX1_comes_10 : decode cX1_comes 10 = .ok (.aload_n 0, 1) := dk_42 (dk_at dksX1_comes_0 10 rfl rfl)
theorem dX1_comes_11 : decode cX1_comes 11 = .ok (.getfield 26, 3) := dk_180 0 26 (dk_at dksX1_comes_0 11 rfl rfl)
theorem dX1_comes_14 : decode cX1_comes 14 = .ok (.aload_n 0, 1) := dk_42 (dk_at dksX1_comes_0 14 rfl rfl)
theorem dX1_comes_15 : decode cX1_comes 15 = .ok (.getfield 57, 3) := dk_180 0 57 (dk_at dksX1_comes_0 15 rfl rfl)
theorem dX1_comes_18 : decode cX1_comes 18 = .ok (.iload_n 2, 1) := dk_28 (dk_at dksX1_comes_0 18 rfl rfl)
theorem dX1_comes_19 : decode cX1_comes 19 = .ok (.iastore, 1) := dk_79 (dk_at dksX1_comes_0 19 rfl rfl)
theorem dX1_comes_20 : decode cX1_comes 20 = .ok (.aload_n 0, 1) := dk_42 (dk_at dksX1_comes_0 20 rfl rfl)
theorem dX1_comes_21 : decode cX1_comes 21 = .ok (.getfield 29, 3) := dk_180 0 29 (dk_at dksX1_comes_0 21 rfl rfl)
theorem dX1_comes_24 : decode cX1_comes 24 = .ok (.aload_n 0, 1) := dk_42 (dk_at dksX1_comes_1 0 rfl rfl)
theorem dX1_comes_25 : decode cX1_comes 25 = .ok (.getfield 57, 3) := dk_180 0 57 (dk_at dksX1_comes_1 1 rfl rfl)
theorem dX1_comes_28 : decode cX1_comes 28 = .ok (.iload_n 3, 1) := dk_29 (dk_at dksX1_comes_1 4 rfl rfl)
theorem dX1_comes_29 : decode cX1_comes 29 = .ok (.iastore, 1) := dk_79 (dk_at dksX1_comes_1 5 rfl rfl)
theorem dX1_comes_30 : decode cX1_comes 30 = .ok (.aload_n 0, 1) := dk_42 (dk_at dksX1_comes_1 6 rfl rfl)
theorem dX1_comes_31 : decode cX1_comes 31 = .ok (.getfield 32, 3) := dk_180 0 32 (dk_at dksX1_comes_1 7 rfl rfl)
theorem dX1_comes_34 : decode cX1_comes 34 = .ok (.aload_n 0, 1) := dk_42 (dk_at dksX1_comes_1 10 rfl rfl)
theorem dX1_comes_35 : decode cX1_comes 35 = .ok (.getfield 57, 3) := dk_180 0 57 (dk_at dksX1_comes_1 11 rfl rfl)
theorem dX1_comes_38 : decode cX1_comes 38 = .ok (.iconst 0, 1) := dk_3 (dk_at dksX1_comes_1 14 rfl rfl)
theorem dX1_comes_39 : decode cX1_comes 39 = .ok (.iastore, 1) := dk_79 (dk_at dksX1_comes_1 15 rfl rfl)
theorem dX1_comes_40 : decode cX1_comes 40 = .ok (.aload_n 0, 1) := dk_42 (dk_at dksX1_comes_1 16 rfl rfl)
theorem dX1_comes_41 : decode cX1_comes 41 = .ok (.getfield 35, 3) := dk_180 0 35 (dk_at dksX1_comes_1 17 rfl rfl)
theorem dX1_comes_44 : decode cX1_comes 44 = .ok (.aload_n 0, 1) := dk_42 (dk_at dksX1_comes_1 20 rfl rfl)
theorem dX1_comes_45 : decode cX1_comes 45 = .ok (.getfield 57, 3) := dk_180 0 57 (dk_at dksX1_comes_1 21 rfl rfl)
theorem dX1_comes_48 : decode cX1_comes 48 = .ok (.iconst 0, 1) := dk_3 (dk_at dksX1_comes_2 0 rfl rfl)
theorem dX1_comes_49 : decode cX1_comes 49 = .ok (.iastore, 1) := dk_79 (dk_at dksX1_comes_2 1 rfl rfl)
theorem dX1_comes_50 : decode cX1_comes 50 = .ok (.aload_n 0, 1) := dk_42 (dk_at dksX1_comes_2 2 rfl rfl)
theorem dX1_comes_51 : decode cX1_comes 51 = .ok (.dup, 1) := dk_89 (dk_at dksX1_comes_2 3 rfl rfl)
theorem dX1_comes_52 : decode cX1_comes 52 = .ok (.getfield 57, 3) := dk_180 0 57 (dk_at dksX1_comes_2 4 rfl rfl)
theorem dX1_comes_55 : decode cX1_comes 55 = .ok (.iconst 1, 1) := dk_4 (dk_at dksX1_comes_2 7 rfl rfl)
theorem dX1_comes_56 : decode cX1_comes 56 = .ok (.iadd, 1) := dk_96 (dk_at dksX1_comes_2 8 rfl rfl)
theorem dX1_comes_57 : decode cX1_comes 57 = .ok (.putfield 57, 3) := dk_181 0 57 (dk_at dksX1_comes_2 9 rfl rfl)
theorem dX1_comes_60 : decode cX1_comes 60 = .ok (.return_, 1) := dk_177 (dk_at dksX1_comes_2 12 rfl rfl)
abbrev cX1_canCall : ByteArray := prog_16_method_18_code
def yX1_canCall : MethodName := ⟨RX1, "canCall", "(II)Z"⟩
def dkwX1_canCall_1 : List UInt8 := [153, 0, 13, 42, 180, 0, 29, 27, 46, 28, 160, 0, 7, 4, 167, 0, 4, 3, 172]
abbrev dktX1_canCall_1 : List UInt8 := dkwX1_canCall_1 ++ []
def dkwX1_canCall_0 : List UInt8 := [42, 27, 182, 0, 89, 153, 0, 36, 28, 3, 16, 7, 184, 0, 85, 153, 0, 26, 42, 180, 0, 32, 27, 46]
abbrev dktX1_canCall_0 : List UInt8 := dkwX1_canCall_0 ++ dktX1_canCall_1
theorem dksX1_canCall_0 : cX1_canCall.data.toList.drop 0 = dktX1_canCall_0 := by decide +kernel
theorem dksX1_canCall_1 : cX1_canCall.data.toList.drop 24 = dktX1_canCall_1 := dk_seg dksX1_canCall_0 24 rfl rfl
theorem dX1_canCall_0 : decode cX1_canCall 0 = .ok (.aload_n 0, 1) := dk_42 (dk_at dksX1_canCall_0 0 rfl rfl)
theorem dX1_canCall_1 : decode cX1_canCall 1 = .ok (.iload_n 1, 1) := dk_27 (dk_at dksX1_canCall_0 1 rfl rfl)
theorem dX1_canCall_2 : decode cX1_canCall 2 = .ok (.invokevirtual 89, 3) := dk_182 0 89 (dk_at dksX1_canCall_0 2 rfl rfl)
theorem dX1_canCall_5 : decode cX1_canCall 5 = .ok (.ifCond .eq 36, 3) := dk_153 0 36 (dk_at dksX1_canCall_0 5 rfl rfl)
theorem dX1_canCall_8 : decode cX1_canCall 8 = .ok (.iload_n 2, 1) := dk_28 (dk_at dksX1_canCall_0 8 rfl rfl)
theorem dX1_canCall_9 : decode cX1_canCall 9 = .ok (.iconst 0, 1) := dk_3 (dk_at dksX1_canCall_0 9 rfl rfl)
theorem dX1_canCall_10 : decode cX1_canCall 10 = .ok (.bipush 7, 2) := dk_16 7 (dk_at dksX1_canCall_0 10 rfl rfl)
theorem dX1_canCall_12 : decode cX1_canCall 12 = .ok (.invokestatic 85, 3) := dk_184 0 85 (dk_at dksX1_canCall_0 12 rfl rfl)
theorem dX1_canCall_15 : decode cX1_canCall 15 = .ok (.ifCond .eq 26, 3) := dk_153 0 26 (dk_at dksX1_canCall_0 15 rfl rfl)
theorem dX1_canCall_18 : decode cX1_canCall 18 = .ok (.aload_n 0, 1) := dk_42 (dk_at dksX1_canCall_0 18 rfl rfl)
theorem dX1_canCall_19 : decode cX1_canCall 19 = .ok (.getfield 32, 3) := dk_180 0 32 (dk_at dksX1_canCall_0 19 rfl rfl)
theorem dX1_canCall_22 : decode cX1_canCall 22 = .ok (.iload_n 1, 1) := dk_27 (dk_at dksX1_canCall_0 22 rfl rfl)
theorem dX1_canCall_23 : decode cX1_canCall 23 = .ok (.iaload, 1) := dk_46 (dk_at dksX1_canCall_0 23 rfl rfl)
theorem dX1_canCall_24 : decode cX1_canCall 24 = .ok (.ifCond .eq 13, 3) := dk_153 0 13 (dk_at dksX1_canCall_1 0 rfl rfl)
theorem dX1_canCall_27 : decode cX1_canCall 27 = .ok (.aload_n 0, 1) := dk_42 (dk_at dksX1_canCall_1 3 rfl rfl)
theorem dX1_canCall_28 : decode cX1_canCall 28 = .ok (.getfield 29, 3) := dk_180 0 29 (dk_at dksX1_canCall_1 4 rfl rfl)
theorem dX1_canCall_31 : decode cX1_canCall 31 = .ok (.iload_n 1, 1) := dk_27 (dk_at dksX1_canCall_1 7 rfl rfl)
theorem dX1_canCall_32 : decode cX1_canCall 32 = .ok (.iaload, 1) := dk_46 (dk_at dksX1_canCall_1 8 rfl rfl)
theorem dX1_canCall_33 : decode cX1_canCall 33 = .ok (.iload_n 2, 1) := dk_28 (dk_at dksX1_canCall_1 9 rfl rfl)
theorem dX1_canCall_34 : decode cX1_canCall 34 = .ok (.if_icmp .ne 7, 3) := dk_160 0 7 (dk_at dksX1_canCall_1 10 rfl rfl)
theorem dX1_canCall_37 : decode cX1_canCall 37 = .ok (.iconst 1, 1) := dk_4 (dk_at dksX1_canCall_1 13 rfl rfl)
theorem dX1_canCall_38 : decode cX1_canCall 38 = .ok (.goto 4, 3) := dk_167 0 4 (dk_at dksX1_canCall_1 14 rfl rfl)
theorem dX1_canCall_41 : decode cX1_canCall 41 = .ok (.iconst 0, 1) := dk_3 (dk_at dksX1_canCall_1 17 rfl rfl)
theorem dX1_canCall_42 : decode cX1_canCall 42 = .ok (.ireturn, 1) := dk_172 (dk_at dksX1_canCall_1 18 rfl rfl)
abbrev cX1_is : ByteArray := prog_16_method_7_code
def yX1_is : MethodName := ⟨RX1, "is", "(I)Z"⟩
def dkwX1_is_0 : List UInt8 := [27, 3, 42, 180, 0, 57, 4, 100, 184, 0, 85, 172]
abbrev dktX1_is_0 : List UInt8 := dkwX1_is_0 ++ []
theorem dksX1_is_0 : cX1_is.data.toList.drop 0 = dktX1_is_0 := by decide +kernel
theorem dX1_is_0 : decode cX1_is 0 = .ok (.iload_n 1, 1) := dk_27 (dk_at dksX1_is_0 0 rfl rfl)
theorem dX1_is_1 : decode cX1_is 1 = .ok (.iconst 0, 1) := dk_3 (dk_at dksX1_is_0 1 rfl rfl)
theorem dX1_is_2 : decode cX1_is 2 = .ok (.aload_n 0, 1) := dk_42 (dk_at dksX1_is_0 2 rfl rfl)
theorem dX1_is_3 : decode cX1_is 3 = .ok (.getfield 57, 3) := dk_180 0 57 (dk_at dksX1_is_0 3 rfl rfl)
theorem dX1_is_6 : decode cX1_is 6 = .ok (.iconst 1, 1) := dk_4 (dk_at dksX1_is_0 6 rfl rfl)
theorem dX1_is_7 : decode cX1_is 7 = .ok (.isub, 1) := dk_100 (dk_at dksX1_is_0 7 rfl rfl)
theorem dX1_is_8 : decode cX1_is 8 = .ok (.invokestatic 85, 3) := dk_184 0 85 (dk_at dksX1_is_0 8 rfl rfl)
theorem dX1_is_11 : decode cX1_is 11 = .ok (.ireturn, 1) := dk_172 (dk_at dksX1_is_0 11 rfl rfl)
abbrev cX1_calls : ByteArray := prog_16_method_19_code
def yX1_calls : MethodName := ⟨RX1, "calls", "(III)I"⟩
def dkwX1_calls_4 : List UInt8 := [29, 27, 28, 21, 5, 182, 0, 161, 21, 5, 172]
abbrev dktX1_calls_4 : List UInt8 := dkwX1_calls_4 ++ []
def dkwX1_calls_3 : List UInt8 := [46, 4, 96, 184, 0, 141, 79, 42, 17, 3, 231, 42, 180, 0, 64, 4, 96, 184, 0, 141, 181, 0, 64, 42]
abbrev dktX1_calls_3 : List UInt8 := dkwX1_calls_3 ++ dktX1_calls_4
def dkwX1_calls_2 : List UInt8 := [180, 0, 22, 27, 46, 92, 46, 21, 5, 96, 79, 42, 180, 0, 35, 27, 17, 3, 231, 42, 180, 0, 35, 27]
abbrev dktX1_calls_2 : List UInt8 := dkwX1_calls_2 ++ dktX1_calls_3
def dkwX1_calls_1 : List UInt8 := [182, 0, 158, 96, 184, 0, 141, 25, 4, 42, 180, 0, 22, 27, 46, 46, 100, 54, 5, 25, 4, 42]
abbrev dktX1_calls_1 : List UInt8 := dkwX1_calls_1 ++ dktX1_calls_2
def dkwX1_calls_0 : List UInt8 := [42, 180, 0, 11, 28, 50, 58, 4, 16, 99, 25, 4, 42, 180, 0, 22, 27, 46, 46, 42, 27, 28]
abbrev dktX1_calls_0 : List UInt8 := dkwX1_calls_0 ++ dktX1_calls_1
theorem dksX1_calls_0 : cX1_calls.data.toList.drop 0 = dktX1_calls_0 := by decide +kernel
theorem dksX1_calls_1 : cX1_calls.data.toList.drop 22 = dktX1_calls_1 := dk_seg dksX1_calls_0 22 rfl rfl
theorem dksX1_calls_2 : cX1_calls.data.toList.drop 44 = dktX1_calls_2 := dk_seg dksX1_calls_1 22 rfl rfl
theorem dksX1_calls_3 : cX1_calls.data.toList.drop 68 = dktX1_calls_3 := dk_seg dksX1_calls_2 24 rfl rfl
theorem dksX1_calls_4 : cX1_calls.data.toList.drop 92 = dktX1_calls_4 := dk_seg dksX1_calls_3 24 rfl rfl
theorem dX1_calls_0 : decode cX1_calls 0 = .ok (.aload_n 0, 1) := dk_42 (dk_at dksX1_calls_0 0 rfl rfl)
theorem dX1_calls_1 : decode cX1_calls 1 = .ok (.getfield 11, 3) := dk_180 0 11 (dk_at dksX1_calls_0 1 rfl rfl)
theorem dX1_calls_4 : decode cX1_calls 4 = .ok (.iload_n 2, 1) := dk_28 (dk_at dksX1_calls_0 4 rfl rfl)
theorem dX1_calls_5 : decode cX1_calls 5 = .ok (.aaload, 1) := dk_50 (dk_at dksX1_calls_0 5 rfl rfl)
theorem dX1_calls_6 : decode cX1_calls 6 = .ok (.astore 4, 2) := dk_58 4 (dk_at dksX1_calls_0 6 rfl rfl)
theorem dX1_calls_8 : decode cX1_calls 8 = .ok (.bipush 99, 2) := dk_16 99 (dk_at dksX1_calls_0 8 rfl rfl)
theorem dX1_calls_10 : decode cX1_calls 10 = .ok (.aload 4, 2) := dk_25 4 (dk_at dksX1_calls_0 10 rfl rfl)
theorem dX1_calls_12 : decode cX1_calls 12 = .ok (.aload_n 0, 1) := dk_42 (dk_at dksX1_calls_0 12 rfl rfl)
theorem dX1_calls_13 : decode cX1_calls 13 = .ok (.getfield 22, 3) := dk_180 0 22 (dk_at dksX1_calls_0 13 rfl rfl)
theorem dX1_calls_16 : decode cX1_calls 16 = .ok (.iload_n 1, 1) := dk_27 (dk_at dksX1_calls_0 16 rfl rfl)
theorem dX1_calls_17 : decode cX1_calls 17 = .ok (.iaload, 1) := dk_46 (dk_at dksX1_calls_0 17 rfl rfl)
theorem dX1_calls_18 : decode cX1_calls 18 = .ok (.iaload, 1) := dk_46 (dk_at dksX1_calls_0 18 rfl rfl)
theorem dX1_calls_19 : decode cX1_calls 19 = .ok (.aload_n 0, 1) := dk_42 (dk_at dksX1_calls_0 19 rfl rfl)
theorem dX1_calls_20 : decode cX1_calls 20 = .ok (.iload_n 1, 1) := dk_27 (dk_at dksX1_calls_0 20 rfl rfl)
theorem dX1_calls_21 : decode cX1_calls 21 = .ok (.iload_n 2, 1) := dk_28 (dk_at dksX1_calls_0 21 rfl rfl)
theorem dX1_calls_22 : decode cX1_calls 22 = .ok (.invokevirtual 158, 3) := dk_182 0 158 (dk_at dksX1_calls_1 0 rfl rfl)
theorem dX1_calls_25 : decode cX1_calls 25 = .ok (.iadd, 1) := dk_96 (dk_at dksX1_calls_1 3 rfl rfl)
theorem dX1_calls_26 : decode cX1_calls 26 = .ok (.invokestatic 141, 3) := dk_184 0 141 (dk_at dksX1_calls_1 4 rfl rfl)
theorem dX1_calls_29 : decode cX1_calls 29 = .ok (.aload 4, 2) := dk_25 4 (dk_at dksX1_calls_1 7 rfl rfl)
theorem dX1_calls_31 : decode cX1_calls 31 = .ok (.aload_n 0, 1) := dk_42 (dk_at dksX1_calls_1 9 rfl rfl)
theorem dX1_calls_32 : decode cX1_calls 32 = .ok (.getfield 22, 3) := dk_180 0 22 (dk_at dksX1_calls_1 10 rfl rfl)
theorem dX1_calls_35 : decode cX1_calls 35 = .ok (.iload_n 1, 1) := dk_27 (dk_at dksX1_calls_1 13 rfl rfl)
theorem dX1_calls_36 : decode cX1_calls 36 = .ok (.iaload, 1) := dk_46 (dk_at dksX1_calls_1 14 rfl rfl)
theorem dX1_calls_37 : decode cX1_calls 37 = .ok (.iaload, 1) := dk_46 (dk_at dksX1_calls_1 15 rfl rfl)
theorem dX1_calls_38 : decode cX1_calls 38 = .ok (.isub, 1) := dk_100 (dk_at dksX1_calls_1 16 rfl rfl)
theorem dX1_calls_39 : decode cX1_calls 39 = .ok (.istore 5, 2) := dk_54 5 (dk_at dksX1_calls_1 17 rfl rfl)
theorem dX1_calls_41 : decode cX1_calls 41 = .ok (.aload 4, 2) := dk_25 4 (dk_at dksX1_calls_1 19 rfl rfl)
theorem dX1_calls_43 : decode cX1_calls 43 = .ok (.aload_n 0, 1) := dk_42 (dk_at dksX1_calls_1 21 rfl rfl)
theorem dX1_calls_44 : decode cX1_calls 44 = .ok (.getfield 22, 3) := dk_180 0 22 (dk_at dksX1_calls_2 0 rfl rfl)
theorem dX1_calls_47 : decode cX1_calls 47 = .ok (.iload_n 1, 1) := dk_27 (dk_at dksX1_calls_2 3 rfl rfl)
theorem dX1_calls_48 : decode cX1_calls 48 = .ok (.iaload, 1) := dk_46 (dk_at dksX1_calls_2 4 rfl rfl)
theorem dX1_calls_49 : decode cX1_calls 49 = .ok (.dup2, 1) := dk_92 (dk_at dksX1_calls_2 5 rfl rfl)
theorem dX1_calls_50 : decode cX1_calls 50 = .ok (.iaload, 1) := dk_46 (dk_at dksX1_calls_2 6 rfl rfl)
theorem dX1_calls_51 : decode cX1_calls 51 = .ok (.iload 5, 2) := dk_21 5 (dk_at dksX1_calls_2 7 rfl rfl)
theorem dX1_calls_53 : decode cX1_calls 53 = .ok (.iadd, 1) := dk_96 (dk_at dksX1_calls_2 9 rfl rfl)
theorem dX1_calls_54 : decode cX1_calls 54 = .ok (.iastore, 1) := dk_79 (dk_at dksX1_calls_2 10 rfl rfl)
theorem dX1_calls_55 : decode cX1_calls 55 = .ok (.aload_n 0, 1) := dk_42 (dk_at dksX1_calls_2 11 rfl rfl)
theorem dX1_calls_56 : decode cX1_calls 56 = .ok (.getfield 35, 3) := dk_180 0 35 (dk_at dksX1_calls_2 12 rfl rfl)
theorem dX1_calls_59 : decode cX1_calls 59 = .ok (.iload_n 1, 1) := dk_27 (dk_at dksX1_calls_2 15 rfl rfl)
theorem dX1_calls_60 : decode cX1_calls 60 = .ok (.sipush 999, 3) := dk_17 3 231 (dk_at dksX1_calls_2 16 rfl rfl)
theorem dX1_calls_63 : decode cX1_calls 63 = .ok (.aload_n 0, 1) := dk_42 (dk_at dksX1_calls_2 19 rfl rfl)
theorem dX1_calls_64 : decode cX1_calls 64 = .ok (.getfield 35, 3) := dk_180 0 35 (dk_at dksX1_calls_2 20 rfl rfl)
theorem dX1_calls_67 : decode cX1_calls 67 = .ok (.iload_n 1, 1) := dk_27 (dk_at dksX1_calls_2 23 rfl rfl)
theorem dX1_calls_68 : decode cX1_calls 68 = .ok (.iaload, 1) := dk_46 (dk_at dksX1_calls_3 0 rfl rfl)
theorem dX1_calls_69 : decode cX1_calls 69 = .ok (.iconst 1, 1) := dk_4 (dk_at dksX1_calls_3 1 rfl rfl)
theorem dX1_calls_70 : decode cX1_calls 70 = .ok (.iadd, 1) := dk_96 (dk_at dksX1_calls_3 2 rfl rfl)
theorem dX1_calls_71 : decode cX1_calls 71 = .ok (.invokestatic 141, 3) := dk_184 0 141 (dk_at dksX1_calls_3 3 rfl rfl)
theorem dX1_calls_74 : decode cX1_calls 74 = .ok (.iastore, 1) := dk_79 (dk_at dksX1_calls_3 6 rfl rfl)
theorem dX1_calls_75 : decode cX1_calls 75 = .ok (.aload_n 0, 1) := dk_42 (dk_at dksX1_calls_3 7 rfl rfl)
theorem dX1_calls_76 : decode cX1_calls 76 = .ok (.sipush 999, 3) := dk_17 3 231 (dk_at dksX1_calls_3 8 rfl rfl)
theorem dX1_calls_79 : decode cX1_calls 79 = .ok (.aload_n 0, 1) := dk_42 (dk_at dksX1_calls_3 11 rfl rfl)
theorem dX1_calls_80 : decode cX1_calls 80 = .ok (.getfield 64, 3) := dk_180 0 64 (dk_at dksX1_calls_3 12 rfl rfl)
theorem dX1_calls_83 : decode cX1_calls 83 = .ok (.iconst 1, 1) := dk_4 (dk_at dksX1_calls_3 15 rfl rfl)
theorem dX1_calls_84 : decode cX1_calls 84 = .ok (.iadd, 1) := dk_96 (dk_at dksX1_calls_3 16 rfl rfl)
theorem dX1_calls_85 : decode cX1_calls 85 = .ok (.invokestatic 141, 3) := dk_184 0 141 (dk_at dksX1_calls_3 17 rfl rfl)
theorem dX1_calls_88 : decode cX1_calls 88 = .ok (.putfield 64, 3) := dk_181 0 64 (dk_at dksX1_calls_3 20 rfl rfl)
theorem dX1_calls_91 : decode cX1_calls 91 = .ok (.aload_n 0, 1) := dk_42 (dk_at dksX1_calls_3 23 rfl rfl)
theorem dX1_calls_92 : decode cX1_calls 92 = .ok (.iload_n 3, 1) := dk_29 (dk_at dksX1_calls_4 0 rfl rfl)
theorem dX1_calls_93 : decode cX1_calls 93 = .ok (.iload_n 1, 1) := dk_27 (dk_at dksX1_calls_4 1 rfl rfl)
theorem dX1_calls_94 : decode cX1_calls 94 = .ok (.iload_n 2, 1) := dk_28 (dk_at dksX1_calls_4 2 rfl rfl)
theorem dX1_calls_95 : decode cX1_calls 95 = .ok (.iload 5, 2) := dk_21 5 (dk_at dksX1_calls_4 3 rfl rfl)
theorem dX1_calls_97 : decode cX1_calls 97 = .ok (.invokevirtual 161, 3) := dk_182 0 161 (dk_at dksX1_calls_4 5 rfl rfl)
theorem dX1_calls_100 : decode cX1_calls 100 = .ok (.iload 5, 2) := dk_21 5 (dk_at dksX1_calls_4 8 rfl rfl)
theorem dX1_calls_102 : decode cX1_calls 102 = .ok (.ireturn, 1) := dk_172 (dk_at dksX1_calls_4 10 rfl rfl)
abbrev cX1_add : ByteArray := prog_16_method_15_code
def yX1_add : MethodName := ⟨RX1, "add", "(II)I"⟩
def dkwX1_add_0 : List UInt8 := [42, 27, 28, 182, 0, 150, 42, 16, 7, 6, 42, 180, 0, 26, 27, 46, 104, 16, 99, 182, 0, 154, 172]
abbrev dktX1_add_0 : List UInt8 := dkwX1_add_0 ++ []
theorem dksX1_add_0 : cX1_add.data.toList.drop 0 = dktX1_add_0 := by decide +kernel
theorem dX1_add_0 : decode cX1_add 0 = .ok (.aload_n 0, 1) := dk_42 (dk_at dksX1_add_0 0 rfl rfl)
theorem dX1_add_1 : decode cX1_add 1 = .ok (.iload_n 1, 1) := dk_27 (dk_at dksX1_add_0 1 rfl rfl)
theorem dX1_add_2 : decode cX1_add 2 = .ok (.iload_n 2, 1) := dk_28 (dk_at dksX1_add_0 2 rfl rfl)
theorem dX1_add_3 : decode cX1_add 3 = .ok (.invokevirtual 150, 3) := dk_182 0 150 (dk_at dksX1_add_0 3 rfl rfl)
theorem dX1_add_6 : decode cX1_add 6 = .ok (.aload_n 0, 1) := dk_42 (dk_at dksX1_add_0 6 rfl rfl)
theorem dX1_add_7 : decode cX1_add 7 = .ok (.bipush 7, 2) := dk_16 7 (dk_at dksX1_add_0 7 rfl rfl)
theorem dX1_add_9 : decode cX1_add 9 = .ok (.iconst 3, 1) := dk_6 (dk_at dksX1_add_0 9 rfl rfl)
theorem dX1_add_10 : decode cX1_add 10 = .ok (.aload_n 0, 1) := dk_42 (dk_at dksX1_add_0 10 rfl rfl)
theorem dX1_add_11 : decode cX1_add 11 = .ok (.getfield 26, 3) := dk_180 0 26 (dk_at dksX1_add_0 11 rfl rfl)
theorem dX1_add_14 : decode cX1_add 14 = .ok (.iload_n 1, 1) := dk_27 (dk_at dksX1_add_0 14 rfl rfl)
theorem dX1_add_15 : decode cX1_add 15 = .ok (.iaload, 1) := dk_46 (dk_at dksX1_add_0 15 rfl rfl)
theorem dX1_add_16 : decode cX1_add 16 = .ok (.imul, 1) := dk_104 (dk_at dksX1_add_0 16 rfl rfl)
theorem dX1_add_17 : decode cX1_add 17 = .ok (.bipush 99, 2) := dk_16 99 (dk_at dksX1_add_0 17 rfl rfl)
theorem dX1_add_19 : decode cX1_add 19 = .ok (.invokevirtual 154, 3) := dk_182 0 154 (dk_at dksX1_add_0 19 rfl rfl)
theorem dX1_add_22 : decode cX1_add 22 = .ok (.ireturn, 1) := dk_172 (dk_at dksX1_add_0 22 rfl rfl)
abbrev cX1_asks : ByteArray := prog_16_method_14_code
def yX1_asks : MethodName := ⟨RX1, "asks", "(II)V"⟩
def dkwX1_asks_0 : List UInt8 := [42, 27, 181, 0, 107, 42, 42, 180, 0, 22, 27, 46, 181, 0, 110, 42, 28, 181, 0, 113, 177]
abbrev dktX1_asks_0 : List UInt8 := dkwX1_asks_0 ++ []
theorem dksX1_asks_0 : cX1_asks.data.toList.drop 0 = dktX1_asks_0 := by decide +kernel
theorem dX1_asks_0 : decode cX1_asks 0 = .ok (.aload_n 0, 1) := dk_42 (dk_at dksX1_asks_0 0 rfl rfl)
theorem dX1_asks_1 : decode cX1_asks 1 = .ok (.iload_n 1, 1) := dk_27 (dk_at dksX1_asks_0 1 rfl rfl)
theorem dX1_asks_2 : decode cX1_asks 2 = .ok (.putfield 107, 3) := dk_181 0 107 (dk_at dksX1_asks_0 2 rfl rfl)
theorem dX1_asks_5 : decode cX1_asks 5 = .ok (.aload_n 0, 1) := dk_42 (dk_at dksX1_asks_0 5 rfl rfl)
theorem dX1_asks_6 : decode cX1_asks 6 = .ok (.aload_n 0, 1) := dk_42 (dk_at dksX1_asks_0 6 rfl rfl)
theorem dX1_asks_7 : decode cX1_asks 7 = .ok (.getfield 22, 3) := dk_180 0 22 (dk_at dksX1_asks_0 7 rfl rfl)
theorem dX1_asks_10 : decode cX1_asks 10 = .ok (.iload_n 1, 1) := dk_27 (dk_at dksX1_asks_0 10 rfl rfl)
theorem dX1_asks_11 : decode cX1_asks 11 = .ok (.iaload, 1) := dk_46 (dk_at dksX1_asks_0 11 rfl rfl)
theorem dX1_asks_12 : decode cX1_asks 12 = .ok (.putfield 110, 3) := dk_181 0 110 (dk_at dksX1_asks_0 12 rfl rfl)
theorem dX1_asks_15 : decode cX1_asks 15 = .ok (.aload_n 0, 1) := dk_42 (dk_at dksX1_asks_0 15 rfl rfl)
theorem dX1_asks_16 : decode cX1_asks 16 = .ok (.iload_n 2, 1) := dk_28 (dk_at dksX1_asks_0 16 rfl rfl)
theorem dX1_asks_17 : decode cX1_asks 17 = .ok (.putfield 113, 3) := dk_181 0 113 (dk_at dksX1_asks_0 17 rfl rfl)
theorem dX1_asks_20 : decode cX1_asks 20 = .ok (.return_, 1) := dk_177 (dk_at dksX1_asks_0 20 rfl rfl)
abbrev cX1_tells : ByteArray := prog_16_method_13_code
def yX1_tells : MethodName := ⟨RX1, "tells", "(III)I"⟩
def dkwX1_tells_3 : List UInt8 := [184, 0, 141, 184, 0, 147, 172, 132, 4, 1, 167, 255, 179, 28, 172]
abbrev dktX1_tells_3 : List UInt8 := dkwX1_tells_3 ++ []
def dkwX1_tells_2 : List UInt8 := [180, 0, 128, 42, 182, 0, 132, 4, 160, 0, 21, 3, 29, 25, 5, 180, 0, 138, 42, 182, 0, 132]
abbrev dktX1_tells_2 : List UInt8 := dkwX1_tells_2 ++ dktX1_tells_3
def dkwX1_tells_1 : List UInt8 := [192, 0, 123, 58, 5, 25, 5, 180, 0, 125, 27, 160, 0, 42, 25, 5, 180, 0, 128, 198, 0, 16, 25, 5]
abbrev dktX1_tells_1 : List UInt8 := dkwX1_tells_1 ++ dktX1_tells_2
def dkwX1_tells_0 : List UInt8 := [3, 54, 4, 21, 4, 42, 180, 0, 44, 182, 0, 93, 162, 0, 71, 42, 180, 0, 44, 21, 4, 182, 0, 97]
abbrev dktX1_tells_0 : List UInt8 := dkwX1_tells_0 ++ dktX1_tells_1
theorem dksX1_tells_0 : cX1_tells.data.toList.drop 0 = dktX1_tells_0 := by decide +kernel
theorem dksX1_tells_1 : cX1_tells.data.toList.drop 24 = dktX1_tells_1 := dk_seg dksX1_tells_0 24 rfl rfl
theorem dksX1_tells_2 : cX1_tells.data.toList.drop 48 = dktX1_tells_2 := dk_seg dksX1_tells_1 24 rfl rfl
theorem dksX1_tells_3 : cX1_tells.data.toList.drop 70 = dktX1_tells_3 := dk_seg dksX1_tells_2 22 rfl rfl
theorem dX1_tells_0 : decode cX1_tells 0 = .ok (.iconst 0, 1) := dk_3 (dk_at dksX1_tells_0 0 rfl rfl)
theorem dX1_tells_1 : decode cX1_tells 1 = .ok (.istore 4, 2) := dk_54 4 (dk_at dksX1_tells_0 1 rfl rfl)
theorem dX1_tells_3 : decode cX1_tells 3 = .ok (.iload 4, 2) := dk_21 4 (dk_at dksX1_tells_0 3 rfl rfl)
theorem dX1_tells_5 : decode cX1_tells 5 = .ok (.aload_n 0, 1) := dk_42 (dk_at dksX1_tells_0 5 rfl rfl)
theorem dX1_tells_6 : decode cX1_tells 6 = .ok (.getfield 44, 3) := dk_180 0 44 (dk_at dksX1_tells_0 6 rfl rfl)
theorem dX1_tells_9 : decode cX1_tells 9 = .ok (.invokevirtual 93, 3) := dk_182 0 93 (dk_at dksX1_tells_0 9 rfl rfl)
theorem dX1_tells_12 : decode cX1_tells 12 = .ok (.if_icmp .ge 71, 3) := dk_162 0 71 (dk_at dksX1_tells_0 12 rfl rfl)
theorem dX1_tells_15 : decode cX1_tells 15 = .ok (.aload_n 0, 1) := dk_42 (dk_at dksX1_tells_0 15 rfl rfl)
theorem dX1_tells_16 : decode cX1_tells 16 = .ok (.getfield 44, 3) := dk_180 0 44 (dk_at dksX1_tells_0 16 rfl rfl)
theorem dX1_tells_19 : decode cX1_tells 19 = .ok (.iload 4, 2) := dk_21 4 (dk_at dksX1_tells_0 19 rfl rfl)
theorem dX1_tells_21 : decode cX1_tells 21 = .ok (.invokevirtual 97, 3) := dk_182 0 97 (dk_at dksX1_tells_0 21 rfl rfl)
theorem dX1_tells_24 : decode cX1_tells 24 = .ok (.checkcast 123, 3) := dk_192 0 123 (dk_at dksX1_tells_1 0 rfl rfl)
theorem dX1_tells_27 : decode cX1_tells 27 = .ok (.astore 5, 2) := dk_58 5 (dk_at dksX1_tells_1 3 rfl rfl)
theorem dX1_tells_29 : decode cX1_tells 29 = .ok (.aload 5, 2) := dk_25 5 (dk_at dksX1_tells_1 5 rfl rfl)
theorem dX1_tells_31 : decode cX1_tells 31 = .ok (.getfield 125, 3) := dk_180 0 125 (dk_at dksX1_tells_1 7 rfl rfl)
theorem dX1_tells_34 : decode cX1_tells 34 = .ok (.iload_n 1, 1) := dk_27 (dk_at dksX1_tells_1 10 rfl rfl)
theorem dX1_tells_35 : decode cX1_tells 35 = .ok (.if_icmp .ne 42, 3) := dk_160 0 42 (dk_at dksX1_tells_1 11 rfl rfl)
theorem dX1_tells_38 : decode cX1_tells 38 = .ok (.aload 5, 2) := dk_25 5 (dk_at dksX1_tells_1 14 rfl rfl)
theorem dX1_tells_40 : decode cX1_tells 40 = .ok (.getfield 128, 3) := dk_180 0 128 (dk_at dksX1_tells_1 16 rfl rfl)
theorem dX1_tells_43 : decode cX1_tells 43 = .ok (.ifnull 16, 3) := dk_198 0 16 (dk_at dksX1_tells_1 19 rfl rfl)
theorem dX1_tells_46 : decode cX1_tells 46 = .ok (.aload 5, 2) := dk_25 5 (dk_at dksX1_tells_1 22 rfl rfl)
theorem dX1_tells_48 : decode cX1_tells 48 = .ok (.getfield 128, 3) := dk_180 0 128 (dk_at dksX1_tells_2 0 rfl rfl)
theorem dX1_tells_51 : decode cX1_tells 51 = .ok (.aload_n 0, 1) := dk_42 (dk_at dksX1_tells_2 3 rfl rfl)
theorem dX1_tells_52 : decode cX1_tells 52 = .ok (.invokevirtual 132, 3) := dk_182 0 132 (dk_at dksX1_tells_2 4 rfl rfl)
theorem dX1_tells_55 : decode cX1_tells 55 = .ok (.iconst 1, 1) := dk_4 (dk_at dksX1_tells_2 7 rfl rfl)
theorem dX1_tells_56 : decode cX1_tells 56 = .ok (.if_icmp .ne 21, 3) := dk_160 0 21 (dk_at dksX1_tells_2 8 rfl rfl)
theorem dX1_tells_59 : decode cX1_tells 59 = .ok (.iconst 0, 1) := dk_3 (dk_at dksX1_tells_2 11 rfl rfl)
theorem dX1_tells_60 : decode cX1_tells 60 = .ok (.iload_n 3, 1) := dk_29 (dk_at dksX1_tells_2 12 rfl rfl)
theorem dX1_tells_61 : decode cX1_tells 61 = .ok (.aload 5, 2) := dk_25 5 (dk_at dksX1_tells_2 13 rfl rfl)
theorem dX1_tells_63 : decode cX1_tells 63 = .ok (.getfield 138, 3) := dk_180 0 138 (dk_at dksX1_tells_2 15 rfl rfl)
theorem dX1_tells_66 : decode cX1_tells 66 = .ok (.aload_n 0, 1) := dk_42 (dk_at dksX1_tells_2 18 rfl rfl)
theorem dX1_tells_67 : decode cX1_tells 67 = .ok (.invokevirtual 132, 3) := dk_182 0 132 (dk_at dksX1_tells_2 19 rfl rfl)
theorem dX1_tells_70 : decode cX1_tells 70 = .ok (.invokestatic 141, 3) := dk_184 0 141 (dk_at dksX1_tells_3 0 rfl rfl)
theorem dX1_tells_73 : decode cX1_tells 73 = .ok (.invokestatic 147, 3) := dk_184 0 147 (dk_at dksX1_tells_3 3 rfl rfl)
theorem dX1_tells_76 : decode cX1_tells 76 = .ok (.ireturn, 1) := dk_172 (dk_at dksX1_tells_3 6 rfl rfl)
theorem dX1_tells_77 : decode cX1_tells 77 = .ok (.iinc 4 1, 3) := dk_132 4 1 (dk_at dksX1_tells_3 7 rfl rfl)
theorem dX1_tells_80 : decode cX1_tells 80 = .ok (.goto (-77), 3) := dk_167 255 179 (dk_at dksX1_tells_3 10 rfl rfl)
theorem dX1_tells_83 : decode cX1_tells 83 = .ok (.iload_n 2, 1) := dk_28 (dk_at dksX1_tells_3 13 rfl rfl)
theorem dX1_tells_84 : decode cX1_tells 84 = .ok (.ireturn, 1) := dk_172 (dk_at dksX1_tells_3 14 rfl rfl)
abbrev cX1_fact : ByteArray := prog_16_method_12_code
def yX1_fact : MethodName := ⟨RX1, "fact", "(I)I"⟩
def dkwX1_fact_6 : List UInt8 := [180, 0, 113, 182, 0, 120, 172]
abbrev dktX1_fact_6 : List UInt8 := dkwX1_fact_6 ++ []
def dkwX1_fact_5 : List UInt8 := [153, 0, 15, 42, 180, 0, 35, 42, 180, 0, 107, 46, 167, 0, 4, 3, 172, 42, 180, 0, 64, 172, 42, 42]
abbrev dktX1_fact_5 : List UInt8 := dkwX1_fact_5 ++ dktX1_fact_6
def dkwX1_fact_4 : List UInt8 := [180, 0, 61, 172, 28, 153, 0, 15, 42, 180, 0, 32, 42, 180, 0, 107, 46, 167, 0, 4, 3, 172, 28]
abbrev dktX1_fact_4 : List UInt8 := dkwX1_fact_4 ++ dktX1_fact_5
def dkwX1_fact_3 : List UInt8 := [180, 0, 11, 42, 180, 0, 113, 50, 42, 180, 0, 110, 46, 172, 42, 42, 180, 0, 113, 182, 0, 116, 172, 42]
abbrev dktX1_fact_3 : List UInt8 := dkwX1_fact_3 ++ dktX1_fact_4
def dkwX1_fact_2 : List UInt8 := [42, 180, 0, 110, 172, 28, 153, 0, 15, 42, 180, 0, 26, 42, 180, 0, 107, 46, 167, 0, 4, 3, 172, 42]
abbrev dktX1_fact_2 : List UInt8 := dkwX1_fact_2 ++ dktX1_fact_3
def dkwX1_fact_1 : List UInt8 := [170, 0, 0, 0, 138, 0, 0, 0, 0, 0, 0, 0, 7, 0, 0, 0, 45, 0, 0, 0, 50, 0, 0, 0, 68, 0, 0, 0, 83, 0, 0, 0, 92, 0, 0, 0, 97, 0, 0, 0, 115, 0, 0, 0, 133]
abbrev dktX1_fact_1 : List UInt8 := dkwX1_fact_1 ++ dktX1_fact_2
def dkwX1_fact_0 : List UInt8 := [42, 180, 0, 107, 2, 159, 0, 7, 4, 167, 0, 4, 3, 61, 27]
abbrev dktX1_fact_0 : List UInt8 := dkwX1_fact_0 ++ dktX1_fact_1
theorem dksX1_fact_0 : cX1_fact.data.toList.drop 0 = dktX1_fact_0 := by decide +kernel
theorem dksX1_fact_1 : cX1_fact.data.toList.drop 15 = dktX1_fact_1 := dk_seg dksX1_fact_0 15 rfl rfl
theorem dksX1_fact_2 : cX1_fact.data.toList.drop 60 = dktX1_fact_2 := dk_seg dksX1_fact_1 45 rfl rfl
theorem dksX1_fact_3 : cX1_fact.data.toList.drop 84 = dktX1_fact_3 := dk_seg dksX1_fact_2 24 rfl rfl
theorem dksX1_fact_4 : cX1_fact.data.toList.drop 108 = dktX1_fact_4 := dk_seg dksX1_fact_3 24 rfl rfl
theorem dksX1_fact_5 : cX1_fact.data.toList.drop 131 = dktX1_fact_5 := dk_seg dksX1_fact_4 23 rfl rfl
theorem dksX1_fact_6 : cX1_fact.data.toList.drop 155 = dktX1_fact_6 := dk_seg dksX1_fact_5 24 rfl rfl
theorem dX1_fact_0 : decode cX1_fact 0 = .ok (.aload_n 0, 1) := dk_42 (dk_at dksX1_fact_0 0 rfl rfl)
theorem dX1_fact_1 : decode cX1_fact 1 = .ok (.getfield 107, 3) := dk_180 0 107 (dk_at dksX1_fact_0 1 rfl rfl)
theorem dX1_fact_4 : decode cX1_fact 4 = .ok (.iconst (-1), 1) := dk_2 (dk_at dksX1_fact_0 4 rfl rfl)
theorem dX1_fact_5 : decode cX1_fact 5 = .ok (.if_icmp .eq 7, 3) := dk_159 0 7 (dk_at dksX1_fact_0 5 rfl rfl)
theorem dX1_fact_8 : decode cX1_fact 8 = .ok (.iconst 1, 1) := dk_4 (dk_at dksX1_fact_0 8 rfl rfl)
theorem dX1_fact_9 : decode cX1_fact 9 = .ok (.goto 4, 3) := dk_167 0 4 (dk_at dksX1_fact_0 9 rfl rfl)
theorem dX1_fact_12 : decode cX1_fact 12 = .ok (.iconst 0, 1) := dk_3 (dk_at dksX1_fact_0 12 rfl rfl)
theorem dX1_fact_13 : decode cX1_fact 13 = .ok (.istore_n 2, 1) := dk_61 (dk_at dksX1_fact_0 13 rfl rfl)
theorem dX1_fact_14 : decode cX1_fact 14 = .ok (.iload_n 1, 1) := dk_27 (dk_at dksX1_fact_0 14 rfl rfl)
theorem dX1_fact_15 : decode cX1_fact 15 = .ok (.tableswitch 138 0 7 #[45, 50, 68, 83, 92, 97, 115, 133], 45) := by decide +kernel
theorem dX1_fact_60 : decode cX1_fact 60 = .ok (.aload_n 0, 1) := dk_42 (dk_at dksX1_fact_2 0 rfl rfl)
theorem dX1_fact_61 : decode cX1_fact 61 = .ok (.getfield 110, 3) := dk_180 0 110 (dk_at dksX1_fact_2 1 rfl rfl)
theorem dX1_fact_64 : decode cX1_fact 64 = .ok (.ireturn, 1) := dk_172 (dk_at dksX1_fact_2 4 rfl rfl)
theorem dX1_fact_65 : decode cX1_fact 65 = .ok (.iload_n 2, 1) := dk_28 (dk_at dksX1_fact_2 5 rfl rfl)
theorem dX1_fact_66 : decode cX1_fact 66 = .ok (.ifCond .eq 15, 3) := dk_153 0 15 (dk_at dksX1_fact_2 6 rfl rfl)
theorem dX1_fact_69 : decode cX1_fact 69 = .ok (.aload_n 0, 1) := dk_42 (dk_at dksX1_fact_2 9 rfl rfl)
theorem dX1_fact_70 : decode cX1_fact 70 = .ok (.getfield 26, 3) := dk_180 0 26 (dk_at dksX1_fact_2 10 rfl rfl)
theorem dX1_fact_73 : decode cX1_fact 73 = .ok (.aload_n 0, 1) := dk_42 (dk_at dksX1_fact_2 13 rfl rfl)
theorem dX1_fact_74 : decode cX1_fact 74 = .ok (.getfield 107, 3) := dk_180 0 107 (dk_at dksX1_fact_2 14 rfl rfl)
theorem dX1_fact_77 : decode cX1_fact 77 = .ok (.iaload, 1) := dk_46 (dk_at dksX1_fact_2 17 rfl rfl)
theorem dX1_fact_78 : decode cX1_fact 78 = .ok (.goto 4, 3) := dk_167 0 4 (dk_at dksX1_fact_2 18 rfl rfl)
theorem dX1_fact_81 : decode cX1_fact 81 = .ok (.iconst 0, 1) := dk_3 (dk_at dksX1_fact_2 21 rfl rfl)
theorem dX1_fact_82 : decode cX1_fact 82 = .ok (.ireturn, 1) := dk_172 (dk_at dksX1_fact_2 22 rfl rfl)
theorem dX1_fact_83 : decode cX1_fact 83 = .ok (.aload_n 0, 1) := dk_42 (dk_at dksX1_fact_2 23 rfl rfl)
theorem dX1_fact_84 : decode cX1_fact 84 = .ok (.getfield 11, 3) := dk_180 0 11 (dk_at dksX1_fact_3 0 rfl rfl)
theorem dX1_fact_87 : decode cX1_fact 87 = .ok (.aload_n 0, 1) := dk_42 (dk_at dksX1_fact_3 3 rfl rfl)
theorem dX1_fact_88 : decode cX1_fact 88 = .ok (.getfield 113, 3) := dk_180 0 113 (dk_at dksX1_fact_3 4 rfl rfl)
theorem dX1_fact_91 : decode cX1_fact 91 = .ok (.aaload, 1) := dk_50 (dk_at dksX1_fact_3 7 rfl rfl)
theorem dX1_fact_92 : decode cX1_fact 92 = .ok (.aload_n 0, 1) := dk_42 (dk_at dksX1_fact_3 8 rfl rfl)
theorem dX1_fact_93 : decode cX1_fact 93 = .ok (.getfield 110, 3) := dk_180 0 110 (dk_at dksX1_fact_3 9 rfl rfl)
theorem dX1_fact_96 : decode cX1_fact 96 = .ok (.iaload, 1) := dk_46 (dk_at dksX1_fact_3 12 rfl rfl)
theorem dX1_fact_97 : decode cX1_fact 97 = .ok (.ireturn, 1) := dk_172 (dk_at dksX1_fact_3 13 rfl rfl)
theorem dX1_fact_98 : decode cX1_fact 98 = .ok (.aload_n 0, 1) := dk_42 (dk_at dksX1_fact_3 14 rfl rfl)
theorem dX1_fact_99 : decode cX1_fact 99 = .ok (.aload_n 0, 1) := dk_42 (dk_at dksX1_fact_3 15 rfl rfl)
theorem dX1_fact_100 : decode cX1_fact 100 = .ok (.getfield 113, 3) := dk_180 0 113 (dk_at dksX1_fact_3 16 rfl rfl)
theorem dX1_fact_103 : decode cX1_fact 103 = .ok (.invokevirtual 116, 3) := dk_182 0 116 (dk_at dksX1_fact_3 19 rfl rfl)
theorem dX1_fact_106 : decode cX1_fact 106 = .ok (.ireturn, 1) := dk_172 (dk_at dksX1_fact_3 22 rfl rfl)
theorem dX1_fact_107 : decode cX1_fact 107 = .ok (.aload_n 0, 1) := dk_42 (dk_at dksX1_fact_3 23 rfl rfl)
theorem dX1_fact_108 : decode cX1_fact 108 = .ok (.getfield 61, 3) := dk_180 0 61 (dk_at dksX1_fact_4 0 rfl rfl)
theorem dX1_fact_111 : decode cX1_fact 111 = .ok (.ireturn, 1) := dk_172 (dk_at dksX1_fact_4 3 rfl rfl)
theorem dX1_fact_112 : decode cX1_fact 112 = .ok (.iload_n 2, 1) := dk_28 (dk_at dksX1_fact_4 4 rfl rfl)
theorem dX1_fact_113 : decode cX1_fact 113 = .ok (.ifCond .eq 15, 3) := dk_153 0 15 (dk_at dksX1_fact_4 5 rfl rfl)
theorem dX1_fact_116 : decode cX1_fact 116 = .ok (.aload_n 0, 1) := dk_42 (dk_at dksX1_fact_4 8 rfl rfl)
theorem dX1_fact_117 : decode cX1_fact 117 = .ok (.getfield 32, 3) := dk_180 0 32 (dk_at dksX1_fact_4 9 rfl rfl)
theorem dX1_fact_120 : decode cX1_fact 120 = .ok (.aload_n 0, 1) := dk_42 (dk_at dksX1_fact_4 12 rfl rfl)
theorem dX1_fact_121 : decode cX1_fact 121 = .ok (.getfield 107, 3) := dk_180 0 107 (dk_at dksX1_fact_4 13 rfl rfl)
theorem dX1_fact_124 : decode cX1_fact 124 = .ok (.iaload, 1) := dk_46 (dk_at dksX1_fact_4 16 rfl rfl)
theorem dX1_fact_125 : decode cX1_fact 125 = .ok (.goto 4, 3) := dk_167 0 4 (dk_at dksX1_fact_4 17 rfl rfl)
theorem dX1_fact_128 : decode cX1_fact 128 = .ok (.iconst 0, 1) := dk_3 (dk_at dksX1_fact_4 20 rfl rfl)
theorem dX1_fact_129 : decode cX1_fact 129 = .ok (.ireturn, 1) := dk_172 (dk_at dksX1_fact_4 21 rfl rfl)
theorem dX1_fact_130 : decode cX1_fact 130 = .ok (.iload_n 2, 1) := dk_28 (dk_at dksX1_fact_4 22 rfl rfl)
theorem dX1_fact_131 : decode cX1_fact 131 = .ok (.ifCond .eq 15, 3) := dk_153 0 15 (dk_at dksX1_fact_5 0 rfl rfl)
theorem dX1_fact_134 : decode cX1_fact 134 = .ok (.aload_n 0, 1) := dk_42 (dk_at dksX1_fact_5 3 rfl rfl)
theorem dX1_fact_135 : decode cX1_fact 135 = .ok (.getfield 35, 3) := dk_180 0 35 (dk_at dksX1_fact_5 4 rfl rfl)
theorem dX1_fact_138 : decode cX1_fact 138 = .ok (.aload_n 0, 1) := dk_42 (dk_at dksX1_fact_5 7 rfl rfl)
theorem dX1_fact_139 : decode cX1_fact 139 = .ok (.getfield 107, 3) := dk_180 0 107 (dk_at dksX1_fact_5 8 rfl rfl)
theorem dX1_fact_142 : decode cX1_fact 142 = .ok (.iaload, 1) := dk_46 (dk_at dksX1_fact_5 11 rfl rfl)
theorem dX1_fact_143 : decode cX1_fact 143 = .ok (.goto 4, 3) := dk_167 0 4 (dk_at dksX1_fact_5 12 rfl rfl)
theorem dX1_fact_146 : decode cX1_fact 146 = .ok (.iconst 0, 1) := dk_3 (dk_at dksX1_fact_5 15 rfl rfl)
theorem dX1_fact_147 : decode cX1_fact 147 = .ok (.ireturn, 1) := dk_172 (dk_at dksX1_fact_5 16 rfl rfl)
theorem dX1_fact_148 : decode cX1_fact 148 = .ok (.aload_n 0, 1) := dk_42 (dk_at dksX1_fact_5 17 rfl rfl)
theorem dX1_fact_149 : decode cX1_fact 149 = .ok (.getfield 64, 3) := dk_180 0 64 (dk_at dksX1_fact_5 18 rfl rfl)
theorem dX1_fact_152 : decode cX1_fact 152 = .ok (.ireturn, 1) := dk_172 (dk_at dksX1_fact_5 21 rfl rfl)
theorem dX1_fact_153 : decode cX1_fact 153 = .ok (.aload_n 0, 1) := dk_42 (dk_at dksX1_fact_5 22 rfl rfl)
theorem dX1_fact_154 : decode cX1_fact 154 = .ok (.aload_n 0, 1) := dk_42 (dk_at dksX1_fact_5 23 rfl rfl)
theorem dX1_fact_155 : decode cX1_fact 155 = .ok (.getfield 113, 3) := dk_180 0 113 (dk_at dksX1_fact_6 0 rfl rfl)
theorem dX1_fact_158 : decode cX1_fact 158 = .ok (.invokevirtual 120, 3) := dk_182 0 120 (dk_at dksX1_fact_6 3 rfl rfl)
theorem dX1_fact_161 : decode cX1_fact 161 = .ok (.ireturn, 1) := dk_172 (dk_at dksX1_fact_6 6 rfl rfl)
abbrev cX1_all : ByteArray := prog_16_method_10_code
def yX1_all : MethodName := ⟨RX1, "all", "(I)I"⟩
def dkwX1_all_1 : List UInt8 := [167, 255, 237, 28, 172]
abbrev dktX1_all_1 : List UInt8 := dkwX1_all_1 ++ []
def dkwX1_all_0 : List UInt8 := [3, 61, 3, 62, 29, 8, 162, 0, 20, 28, 42, 180, 0, 11, 27, 50, 29, 46, 96, 61, 132, 3, 1]
abbrev dktX1_all_0 : List UInt8 := dkwX1_all_0 ++ dktX1_all_1
theorem dksX1_all_0 : cX1_all.data.toList.drop 0 = dktX1_all_0 := by decide +kernel
theorem dksX1_all_1 : cX1_all.data.toList.drop 23 = dktX1_all_1 := dk_seg dksX1_all_0 23 rfl rfl
theorem dX1_all_0 : decode cX1_all 0 = .ok (.iconst 0, 1) := dk_3 (dk_at dksX1_all_0 0 rfl rfl)
theorem dX1_all_1 : decode cX1_all 1 = .ok (.istore_n 2, 1) := dk_61 (dk_at dksX1_all_0 1 rfl rfl)
theorem dX1_all_2 : decode cX1_all 2 = .ok (.iconst 0, 1) := dk_3 (dk_at dksX1_all_0 2 rfl rfl)
theorem dX1_all_3 : decode cX1_all 3 = .ok (.istore_n 3, 1) := dk_62 (dk_at dksX1_all_0 3 rfl rfl)
theorem dX1_all_4 : decode cX1_all 4 = .ok (.iload_n 3, 1) := dk_29 (dk_at dksX1_all_0 4 rfl rfl)
theorem dX1_all_5 : decode cX1_all 5 = .ok (.iconst 5, 1) := dk_8 (dk_at dksX1_all_0 5 rfl rfl)
theorem dX1_all_6 : decode cX1_all 6 = .ok (.if_icmp .ge 20, 3) := dk_162 0 20 (dk_at dksX1_all_0 6 rfl rfl)
theorem dX1_all_9 : decode cX1_all 9 = .ok (.iload_n 2, 1) := dk_28 (dk_at dksX1_all_0 9 rfl rfl)
theorem dX1_all_10 : decode cX1_all 10 = .ok (.aload_n 0, 1) := dk_42 (dk_at dksX1_all_0 10 rfl rfl)
theorem dX1_all_11 : decode cX1_all 11 = .ok (.getfield 11, 3) := dk_180 0 11 (dk_at dksX1_all_0 11 rfl rfl)
theorem dX1_all_14 : decode cX1_all 14 = .ok (.iload_n 1, 1) := dk_27 (dk_at dksX1_all_0 14 rfl rfl)
theorem dX1_all_15 : decode cX1_all 15 = .ok (.aaload, 1) := dk_50 (dk_at dksX1_all_0 15 rfl rfl)
theorem dX1_all_16 : decode cX1_all 16 = .ok (.iload_n 3, 1) := dk_29 (dk_at dksX1_all_0 16 rfl rfl)
theorem dX1_all_17 : decode cX1_all 17 = .ok (.iaload, 1) := dk_46 (dk_at dksX1_all_0 17 rfl rfl)
theorem dX1_all_18 : decode cX1_all 18 = .ok (.iadd, 1) := dk_96 (dk_at dksX1_all_0 18 rfl rfl)
theorem dX1_all_19 : decode cX1_all 19 = .ok (.istore_n 2, 1) := dk_61 (dk_at dksX1_all_0 19 rfl rfl)
theorem dX1_all_20 : decode cX1_all 20 = .ok (.iinc 3 1, 3) := dk_132 3 1 (dk_at dksX1_all_0 20 rfl rfl)
theorem dX1_all_23 : decode cX1_all 23 = .ok (.goto (-19), 3) := dk_167 255 237 (dk_at dksX1_all_1 0 rfl rfl)
theorem dX1_all_26 : decode cX1_all 26 = .ok (.iload_n 2, 1) := dk_28 (dk_at dksX1_all_1 3 rfl rfl)
theorem dX1_all_27 : decode cX1_all 27 = .ok (.ireturn, 1) := dk_172 (dk_at dksX1_all_1 4 rfl rfl)
abbrev cX1_folk : ByteArray := prog_16_method_9_code
def yX1_folk : MethodName := ⟨RX1, "folk", "(I)I"⟩
def dkwX1_folk_1 : List UInt8 := [42, 180, 0, 32, 29, 46, 100, 167, 0, 4, 3, 96, 61, 132, 3, 1, 167, 255, 220, 28, 172]
abbrev dktX1_folk_1 : List UInt8 := dkwX1_folk_1 ++ []
def dkwX1_folk_0 : List UInt8 := [3, 61, 3, 62, 29, 42, 180, 0, 57, 162, 0, 34, 28, 42, 180, 0, 29, 29, 46, 27, 160, 0, 14, 4]
abbrev dktX1_folk_0 : List UInt8 := dkwX1_folk_0 ++ dktX1_folk_1
theorem dksX1_folk_0 : cX1_folk.data.toList.drop 0 = dktX1_folk_0 := by decide +kernel
theorem dksX1_folk_1 : cX1_folk.data.toList.drop 24 = dktX1_folk_1 := dk_seg dksX1_folk_0 24 rfl rfl
theorem dX1_folk_0 : decode cX1_folk 0 = .ok (.iconst 0, 1) := dk_3 (dk_at dksX1_folk_0 0 rfl rfl)
theorem dX1_folk_1 : decode cX1_folk 1 = .ok (.istore_n 2, 1) := dk_61 (dk_at dksX1_folk_0 1 rfl rfl)
theorem dX1_folk_2 : decode cX1_folk 2 = .ok (.iconst 0, 1) := dk_3 (dk_at dksX1_folk_0 2 rfl rfl)
theorem dX1_folk_3 : decode cX1_folk 3 = .ok (.istore_n 3, 1) := dk_62 (dk_at dksX1_folk_0 3 rfl rfl)
theorem dX1_folk_4 : decode cX1_folk 4 = .ok (.iload_n 3, 1) := dk_29 (dk_at dksX1_folk_0 4 rfl rfl)
theorem dX1_folk_5 : decode cX1_folk 5 = .ok (.aload_n 0, 1) := dk_42 (dk_at dksX1_folk_0 5 rfl rfl)
theorem dX1_folk_6 : decode cX1_folk 6 = .ok (.getfield 57, 3) := dk_180 0 57 (dk_at dksX1_folk_0 6 rfl rfl)
theorem dX1_folk_9 : decode cX1_folk 9 = .ok (.if_icmp .ge 34, 3) := dk_162 0 34 (dk_at dksX1_folk_0 9 rfl rfl)
theorem dX1_folk_12 : decode cX1_folk 12 = .ok (.iload_n 2, 1) := dk_28 (dk_at dksX1_folk_0 12 rfl rfl)
theorem dX1_folk_13 : decode cX1_folk 13 = .ok (.aload_n 0, 1) := dk_42 (dk_at dksX1_folk_0 13 rfl rfl)
theorem dX1_folk_14 : decode cX1_folk 14 = .ok (.getfield 29, 3) := dk_180 0 29 (dk_at dksX1_folk_0 14 rfl rfl)
theorem dX1_folk_17 : decode cX1_folk 17 = .ok (.iload_n 3, 1) := dk_29 (dk_at dksX1_folk_0 17 rfl rfl)
theorem dX1_folk_18 : decode cX1_folk 18 = .ok (.iaload, 1) := dk_46 (dk_at dksX1_folk_0 18 rfl rfl)
theorem dX1_folk_19 : decode cX1_folk 19 = .ok (.iload_n 1, 1) := dk_27 (dk_at dksX1_folk_0 19 rfl rfl)
theorem dX1_folk_20 : decode cX1_folk 20 = .ok (.if_icmp .ne 14, 3) := dk_160 0 14 (dk_at dksX1_folk_0 20 rfl rfl)
theorem dX1_folk_23 : decode cX1_folk 23 = .ok (.iconst 1, 1) := dk_4 (dk_at dksX1_folk_0 23 rfl rfl)
theorem dX1_folk_24 : decode cX1_folk 24 = .ok (.aload_n 0, 1) := dk_42 (dk_at dksX1_folk_1 0 rfl rfl)
theorem dX1_folk_25 : decode cX1_folk 25 = .ok (.getfield 32, 3) := dk_180 0 32 (dk_at dksX1_folk_1 1 rfl rfl)
theorem dX1_folk_28 : decode cX1_folk 28 = .ok (.iload_n 3, 1) := dk_29 (dk_at dksX1_folk_1 4 rfl rfl)
theorem dX1_folk_29 : decode cX1_folk 29 = .ok (.iaload, 1) := dk_46 (dk_at dksX1_folk_1 5 rfl rfl)
theorem dX1_folk_30 : decode cX1_folk 30 = .ok (.isub, 1) := dk_100 (dk_at dksX1_folk_1 6 rfl rfl)
theorem dX1_folk_31 : decode cX1_folk 31 = .ok (.goto 4, 3) := dk_167 0 4 (dk_at dksX1_folk_1 7 rfl rfl)
theorem dX1_folk_34 : decode cX1_folk 34 = .ok (.iconst 0, 1) := dk_3 (dk_at dksX1_folk_1 10 rfl rfl)
theorem dX1_folk_35 : decode cX1_folk 35 = .ok (.iadd, 1) := dk_96 (dk_at dksX1_folk_1 11 rfl rfl)
theorem dX1_folk_36 : decode cX1_folk 36 = .ok (.istore_n 2, 1) := dk_61 (dk_at dksX1_folk_1 12 rfl rfl)
theorem dX1_folk_37 : decode cX1_folk 37 = .ok (.iinc 3 1, 3) := dk_132 3 1 (dk_at dksX1_folk_1 13 rfl rfl)
theorem dX1_folk_40 : decode cX1_folk 40 = .ok (.goto (-36), 3) := dk_167 255 220 (dk_at dksX1_folk_1 16 rfl rfl)
theorem dX1_folk_43 : decode cX1_folk 43 = .ok (.iload_n 2, 1) := dk_28 (dk_at dksX1_folk_1 19 rfl rfl)
theorem dX1_folk_44 : decode cX1_folk 44 = .ok (.ireturn, 1) := dk_172 (dk_at dksX1_folk_1 20 rfl rfl)
abbrev cX1_notes : ByteArray := prog_16_method_6_code
def yX1_notes : MethodName := ⟨RX1, "notes", "(IIII)V"⟩
def dkwX1_notes_2 : List UInt8 := [21, 4, 79, 42, 89, 180, 0, 70, 4, 96, 181, 0, 70, 177]
abbrev dktX1_notes_2 : List UInt8 := dkwX1_notes_2 ++ []
def dkwX1_notes_1 : List UInt8 := [3, 42, 180, 0, 61, 79, 25, 5, 4, 27, 79, 25, 5, 5, 28, 79, 25, 5, 6, 29, 79, 25, 5, 7]
abbrev dktX1_notes_1 : List UInt8 := dkwX1_notes_1 ++ dktX1_notes_2
def dkwX1_notes_0 : List UInt8 := [42, 180, 0, 70, 17, 0, 150, 160, 0, 4, 177, 42, 180, 0, 19, 42, 180, 0, 70, 50, 58, 5, 25, 5]
abbrev dktX1_notes_0 : List UInt8 := dkwX1_notes_0 ++ dktX1_notes_1
theorem dksX1_notes_0 : cX1_notes.data.toList.drop 0 = dktX1_notes_0 := by decide +kernel
theorem dksX1_notes_1 : cX1_notes.data.toList.drop 24 = dktX1_notes_1 := dk_seg dksX1_notes_0 24 rfl rfl
theorem dksX1_notes_2 : cX1_notes.data.toList.drop 48 = dktX1_notes_2 := dk_seg dksX1_notes_1 24 rfl rfl
theorem dX1_notes_0 : decode cX1_notes 0 = .ok (.aload_n 0, 1) := dk_42 (dk_at dksX1_notes_0 0 rfl rfl)
theorem dX1_notes_1 : decode cX1_notes 1 = .ok (.getfield 70, 3) := dk_180 0 70 (dk_at dksX1_notes_0 1 rfl rfl)
theorem dX1_notes_4 : decode cX1_notes 4 = .ok (.sipush 150, 3) := dk_17 0 150 (dk_at dksX1_notes_0 4 rfl rfl)
theorem dX1_notes_7 : decode cX1_notes 7 = .ok (.if_icmp .ne 4, 3) := dk_160 0 4 (dk_at dksX1_notes_0 7 rfl rfl)
theorem dX1_notes_10 : decode cX1_notes 10 = .ok (.return_, 1) := dk_177 (dk_at dksX1_notes_0 10 rfl rfl)
theorem dX1_notes_11 : decode cX1_notes 11 = .ok (.aload_n 0, 1) := dk_42 (dk_at dksX1_notes_0 11 rfl rfl)
theorem dX1_notes_12 : decode cX1_notes 12 = .ok (.getfield 19, 3) := dk_180 0 19 (dk_at dksX1_notes_0 12 rfl rfl)
theorem dX1_notes_15 : decode cX1_notes 15 = .ok (.aload_n 0, 1) := dk_42 (dk_at dksX1_notes_0 15 rfl rfl)
theorem dX1_notes_16 : decode cX1_notes 16 = .ok (.getfield 70, 3) := dk_180 0 70 (dk_at dksX1_notes_0 16 rfl rfl)
theorem dX1_notes_19 : decode cX1_notes 19 = .ok (.aaload, 1) := dk_50 (dk_at dksX1_notes_0 19 rfl rfl)
theorem dX1_notes_20 : decode cX1_notes 20 = .ok (.astore 5, 2) := dk_58 5 (dk_at dksX1_notes_0 20 rfl rfl)
theorem dX1_notes_22 : decode cX1_notes 22 = .ok (.aload 5, 2) := dk_25 5 (dk_at dksX1_notes_0 22 rfl rfl)
theorem dX1_notes_24 : decode cX1_notes 24 = .ok (.iconst 0, 1) := dk_3 (dk_at dksX1_notes_1 0 rfl rfl)
theorem dX1_notes_25 : decode cX1_notes 25 = .ok (.aload_n 0, 1) := dk_42 (dk_at dksX1_notes_1 1 rfl rfl)
theorem dX1_notes_26 : decode cX1_notes 26 = .ok (.getfield 61, 3) := dk_180 0 61 (dk_at dksX1_notes_1 2 rfl rfl)
theorem dX1_notes_29 : decode cX1_notes 29 = .ok (.iastore, 1) := dk_79 (dk_at dksX1_notes_1 5 rfl rfl)
theorem dX1_notes_30 : decode cX1_notes 30 = .ok (.aload 5, 2) := dk_25 5 (dk_at dksX1_notes_1 6 rfl rfl)
theorem dX1_notes_32 : decode cX1_notes 32 = .ok (.iconst 1, 1) := dk_4 (dk_at dksX1_notes_1 8 rfl rfl)
theorem dX1_notes_33 : decode cX1_notes 33 = .ok (.iload_n 1, 1) := dk_27 (dk_at dksX1_notes_1 9 rfl rfl)
theorem dX1_notes_34 : decode cX1_notes 34 = .ok (.iastore, 1) := dk_79 (dk_at dksX1_notes_1 10 rfl rfl)
theorem dX1_notes_35 : decode cX1_notes 35 = .ok (.aload 5, 2) := dk_25 5 (dk_at dksX1_notes_1 11 rfl rfl)
theorem dX1_notes_37 : decode cX1_notes 37 = .ok (.iconst 2, 1) := dk_5 (dk_at dksX1_notes_1 13 rfl rfl)
theorem dX1_notes_38 : decode cX1_notes 38 = .ok (.iload_n 2, 1) := dk_28 (dk_at dksX1_notes_1 14 rfl rfl)
theorem dX1_notes_39 : decode cX1_notes 39 = .ok (.iastore, 1) := dk_79 (dk_at dksX1_notes_1 15 rfl rfl)
theorem dX1_notes_40 : decode cX1_notes 40 = .ok (.aload 5, 2) := dk_25 5 (dk_at dksX1_notes_1 16 rfl rfl)
theorem dX1_notes_42 : decode cX1_notes 42 = .ok (.iconst 3, 1) := dk_6 (dk_at dksX1_notes_1 18 rfl rfl)
theorem dX1_notes_43 : decode cX1_notes 43 = .ok (.iload_n 3, 1) := dk_29 (dk_at dksX1_notes_1 19 rfl rfl)
theorem dX1_notes_44 : decode cX1_notes 44 = .ok (.iastore, 1) := dk_79 (dk_at dksX1_notes_1 20 rfl rfl)
theorem dX1_notes_45 : decode cX1_notes 45 = .ok (.aload 5, 2) := dk_25 5 (dk_at dksX1_notes_1 21 rfl rfl)
theorem dX1_notes_47 : decode cX1_notes 47 = .ok (.iconst 4, 1) := dk_7 (dk_at dksX1_notes_1 23 rfl rfl)
theorem dX1_notes_48 : decode cX1_notes 48 = .ok (.iload 4, 2) := dk_21 4 (dk_at dksX1_notes_2 0 rfl rfl)
theorem dX1_notes_50 : decode cX1_notes 50 = .ok (.iastore, 1) := dk_79 (dk_at dksX1_notes_2 2 rfl rfl)
theorem dX1_notes_51 : decode cX1_notes 51 = .ok (.aload_n 0, 1) := dk_42 (dk_at dksX1_notes_2 3 rfl rfl)
theorem dX1_notes_52 : decode cX1_notes 52 = .ok (.dup, 1) := dk_89 (dk_at dksX1_notes_2 4 rfl rfl)
theorem dX1_notes_53 : decode cX1_notes 53 = .ok (.getfield 70, 3) := dk_180 0 70 (dk_at dksX1_notes_2 5 rfl rfl)
theorem dX1_notes_56 : decode cX1_notes 56 = .ok (.iconst 1, 1) := dk_4 (dk_at dksX1_notes_2 8 rfl rfl)
theorem dX1_notes_57 : decode cX1_notes 57 = .ok (.iadd, 1) := dk_96 (dk_at dksX1_notes_2 9 rfl rfl)
theorem dX1_notes_58 : decode cX1_notes 58 = .ok (.putfield 70, 3) := dk_181 0 70 (dk_at dksX1_notes_2 10 rfl rfl)
theorem dX1_notes_61 : decode cX1_notes 61 = .ok (.return_, 1) := dk_177 (dk_at dksX1_notes_2 13 rfl rfl)
abbrev cX1_canMove : ByteArray := prog_16_method_20_code
def yX1_canMove : MethodName := ⟨RX1, "canMove", "(II)Z"⟩
def dkwX1_canMove_1 : List UInt8 := [28, 159, 0, 7, 4, 167, 0, 4, 3, 172]
abbrev dktX1_canMove_1 : List UInt8 := dkwX1_canMove_1 ++ []
def dkwX1_canMove_0 : List UInt8 := [42, 27, 182, 0, 165, 153, 0, 27, 28, 3, 16, 7, 184, 0, 85, 153, 0, 17, 42, 180, 0, 29, 27, 46]
abbrev dktX1_canMove_0 : List UInt8 := dkwX1_canMove_0 ++ dktX1_canMove_1
theorem dksX1_canMove_0 : cX1_canMove.data.toList.drop 0 = dktX1_canMove_0 := by decide +kernel
theorem dksX1_canMove_1 : cX1_canMove.data.toList.drop 24 = dktX1_canMove_1 := dk_seg dksX1_canMove_0 24 rfl rfl
theorem dX1_canMove_0 : decode cX1_canMove 0 = .ok (.aload_n 0, 1) := dk_42 (dk_at dksX1_canMove_0 0 rfl rfl)
theorem dX1_canMove_1 : decode cX1_canMove 1 = .ok (.iload_n 1, 1) := dk_27 (dk_at dksX1_canMove_0 1 rfl rfl)
theorem dX1_canMove_2 : decode cX1_canMove 2 = .ok (.invokevirtual 165, 3) := dk_182 0 165 (dk_at dksX1_canMove_0 2 rfl rfl)
theorem dX1_canMove_5 : decode cX1_canMove 5 = .ok (.ifCond .eq 27, 3) := dk_153 0 27 (dk_at dksX1_canMove_0 5 rfl rfl)
theorem dX1_canMove_8 : decode cX1_canMove 8 = .ok (.iload_n 2, 1) := dk_28 (dk_at dksX1_canMove_0 8 rfl rfl)
theorem dX1_canMove_9 : decode cX1_canMove 9 = .ok (.iconst 0, 1) := dk_3 (dk_at dksX1_canMove_0 9 rfl rfl)
theorem dX1_canMove_10 : decode cX1_canMove 10 = .ok (.bipush 7, 2) := dk_16 7 (dk_at dksX1_canMove_0 10 rfl rfl)
theorem dX1_canMove_12 : decode cX1_canMove 12 = .ok (.invokestatic 85, 3) := dk_184 0 85 (dk_at dksX1_canMove_0 12 rfl rfl)
theorem dX1_canMove_15 : decode cX1_canMove 15 = .ok (.ifCond .eq 17, 3) := dk_153 0 17 (dk_at dksX1_canMove_0 15 rfl rfl)
theorem dX1_canMove_18 : decode cX1_canMove 18 = .ok (.aload_n 0, 1) := dk_42 (dk_at dksX1_canMove_0 18 rfl rfl)
theorem dX1_canMove_19 : decode cX1_canMove 19 = .ok (.getfield 29, 3) := dk_180 0 29 (dk_at dksX1_canMove_0 19 rfl rfl)
theorem dX1_canMove_22 : decode cX1_canMove 22 = .ok (.iload_n 1, 1) := dk_27 (dk_at dksX1_canMove_0 22 rfl rfl)
theorem dX1_canMove_23 : decode cX1_canMove 23 = .ok (.iaload, 1) := dk_46 (dk_at dksX1_canMove_0 23 rfl rfl)
theorem dX1_canMove_24 : decode cX1_canMove 24 = .ok (.iload_n 2, 1) := dk_28 (dk_at dksX1_canMove_1 0 rfl rfl)
theorem dX1_canMove_25 : decode cX1_canMove 25 = .ok (.if_icmp .eq 7, 3) := dk_159 0 7 (dk_at dksX1_canMove_1 1 rfl rfl)
theorem dX1_canMove_28 : decode cX1_canMove 28 = .ok (.iconst 1, 1) := dk_4 (dk_at dksX1_canMove_1 4 rfl rfl)
theorem dX1_canMove_29 : decode cX1_canMove 29 = .ok (.goto 4, 3) := dk_167 0 4 (dk_at dksX1_canMove_1 5 rfl rfl)
theorem dX1_canMove_32 : decode cX1_canMove 32 = .ok (.iconst 0, 1) := dk_3 (dk_at dksX1_canMove_1 8 rfl rfl)
theorem dX1_canMove_33 : decode cX1_canMove 33 = .ok (.ireturn, 1) := dk_172 (dk_at dksX1_canMove_1 9 rfl rfl)
abbrev cX1_lives : ByteArray := prog_16_method_8_code
def yX1_lives : MethodName := ⟨RX1, "lives", "(I)Z"⟩
def dkwX1_lives_0 : List UInt8 := [42, 27, 182, 0, 89, 153, 0, 16, 42, 180, 0, 32, 27, 46, 154, 0, 7, 4, 167, 0, 4, 3, 172]
abbrev dktX1_lives_0 : List UInt8 := dkwX1_lives_0 ++ []
theorem dksX1_lives_0 : cX1_lives.data.toList.drop 0 = dktX1_lives_0 := by decide +kernel
theorem dX1_lives_0 : decode cX1_lives 0 = .ok (.aload_n 0, 1) := dk_42 (dk_at dksX1_lives_0 0 rfl rfl)
theorem dX1_lives_1 : decode cX1_lives 1 = .ok (.iload_n 1, 1) := dk_27 (dk_at dksX1_lives_0 1 rfl rfl)
theorem dX1_lives_2 : decode cX1_lives 2 = .ok (.invokevirtual 89, 3) := dk_182 0 89 (dk_at dksX1_lives_0 2 rfl rfl)
theorem dX1_lives_5 : decode cX1_lives 5 = .ok (.ifCond .eq 16, 3) := dk_153 0 16 (dk_at dksX1_lives_0 5 rfl rfl)
theorem dX1_lives_8 : decode cX1_lives 8 = .ok (.aload_n 0, 1) := dk_42 (dk_at dksX1_lives_0 8 rfl rfl)
theorem dX1_lives_9 : decode cX1_lives 9 = .ok (.getfield 32, 3) := dk_180 0 32 (dk_at dksX1_lives_0 9 rfl rfl)
theorem dX1_lives_12 : decode cX1_lives 12 = .ok (.iload_n 1, 1) := dk_27 (dk_at dksX1_lives_0 12 rfl rfl)
theorem dX1_lives_13 : decode cX1_lives 13 = .ok (.iaload, 1) := dk_46 (dk_at dksX1_lives_0 13 rfl rfl)
theorem dX1_lives_14 : decode cX1_lives 14 = .ok (.ifCond .ne 7, 3) := dk_154 0 7 (dk_at dksX1_lives_0 14 rfl rfl)
theorem dX1_lives_17 : decode cX1_lives 17 = .ok (.iconst 1, 1) := dk_4 (dk_at dksX1_lives_0 17 rfl rfl)
theorem dX1_lives_18 : decode cX1_lives 18 = .ok (.goto 4, 3) := dk_167 0 4 (dk_at dksX1_lives_0 18 rfl rfl)
theorem dX1_lives_21 : decode cX1_lives 21 = .ok (.iconst 0, 1) := dk_3 (dk_at dksX1_lives_0 21 rfl rfl)
theorem dX1_lives_22 : decode cX1_lives 22 = .ok (.ireturn, 1) := dk_172 (dk_at dksX1_lives_0 22 rfl rfl)
abbrev cX1_moveTo : ByteArray := prog_16_method_21_code
def yX1_moveTo : MethodName := ⟨RX1, "moveTo", "(II)V"⟩
def dkwX1_moveTo_0 : List UInt8 := [42, 180, 0, 29, 27, 28, 79, 42, 4, 27, 28, 3, 182, 0, 161, 177]
abbrev dktX1_moveTo_0 : List UInt8 := dkwX1_moveTo_0 ++ []
theorem dksX1_moveTo_0 : cX1_moveTo.data.toList.drop 0 = dktX1_moveTo_0 := by decide +kernel
theorem dX1_moveTo_0 : decode cX1_moveTo 0 = .ok (.aload_n 0, 1) := dk_42 (dk_at dksX1_moveTo_0 0 rfl rfl)
theorem dX1_moveTo_1 : decode cX1_moveTo 1 = .ok (.getfield 29, 3) := dk_180 0 29 (dk_at dksX1_moveTo_0 1 rfl rfl)
theorem dX1_moveTo_4 : decode cX1_moveTo 4 = .ok (.iload_n 1, 1) := dk_27 (dk_at dksX1_moveTo_0 4 rfl rfl)
theorem dX1_moveTo_5 : decode cX1_moveTo 5 = .ok (.iload_n 2, 1) := dk_28 (dk_at dksX1_moveTo_0 5 rfl rfl)
theorem dX1_moveTo_6 : decode cX1_moveTo 6 = .ok (.iastore, 1) := dk_79 (dk_at dksX1_moveTo_0 6 rfl rfl)
theorem dX1_moveTo_7 : decode cX1_moveTo 7 = .ok (.aload_n 0, 1) := dk_42 (dk_at dksX1_moveTo_0 7 rfl rfl)
theorem dX1_moveTo_8 : decode cX1_moveTo 8 = .ok (.iconst 1, 1) := dk_4 (dk_at dksX1_moveTo_0 8 rfl rfl)
theorem dX1_moveTo_9 : decode cX1_moveTo 9 = .ok (.iload_n 1, 1) := dk_27 (dk_at dksX1_moveTo_0 9 rfl rfl)
theorem dX1_moveTo_10 : decode cX1_moveTo 10 = .ok (.iload_n 2, 1) := dk_28 (dk_at dksX1_moveTo_0 10 rfl rfl)
theorem dX1_moveTo_11 : decode cX1_moveTo 11 = .ok (.iconst 0, 1) := dk_3 (dk_at dksX1_moveTo_0 11 rfl rfl)
theorem dX1_moveTo_12 : decode cX1_moveTo 12 = .ok (.invokevirtual 161, 3) := dk_182 0 161 (dk_at dksX1_moveTo_0 12 rfl rfl)
theorem dX1_moveTo_15 : decode cX1_moveTo 15 = .ok (.return_, 1) := dk_177 (dk_at dksX1_moveTo_0 15 rfl rfl)
abbrev cX1_buries : ByteArray := prog_16_method_22_code
def yX1_buries : MethodName := ⟨RX1, "buries", "(I)V"⟩
def dkwX1_buries_0 : List UInt8 := [42, 180, 0, 32, 27, 4, 79, 42, 5, 27, 42, 180, 0, 29, 27, 46, 3, 182, 0, 161, 177]
abbrev dktX1_buries_0 : List UInt8 := dkwX1_buries_0 ++ []
theorem dksX1_buries_0 : cX1_buries.data.toList.drop 0 = dktX1_buries_0 := by decide +kernel
theorem dX1_buries_0 : decode cX1_buries 0 = .ok (.aload_n 0, 1) := dk_42 (dk_at dksX1_buries_0 0 rfl rfl)
theorem dX1_buries_1 : decode cX1_buries 1 = .ok (.getfield 32, 3) := dk_180 0 32 (dk_at dksX1_buries_0 1 rfl rfl)
theorem dX1_buries_4 : decode cX1_buries 4 = .ok (.iload_n 1, 1) := dk_27 (dk_at dksX1_buries_0 4 rfl rfl)
theorem dX1_buries_5 : decode cX1_buries 5 = .ok (.iconst 1, 1) := dk_4 (dk_at dksX1_buries_0 5 rfl rfl)
theorem dX1_buries_6 : decode cX1_buries 6 = .ok (.iastore, 1) := dk_79 (dk_at dksX1_buries_0 6 rfl rfl)
theorem dX1_buries_7 : decode cX1_buries 7 = .ok (.aload_n 0, 1) := dk_42 (dk_at dksX1_buries_0 7 rfl rfl)
theorem dX1_buries_8 : decode cX1_buries 8 = .ok (.iconst 2, 1) := dk_5 (dk_at dksX1_buries_0 8 rfl rfl)
theorem dX1_buries_9 : decode cX1_buries 9 = .ok (.iload_n 1, 1) := dk_27 (dk_at dksX1_buries_0 9 rfl rfl)
theorem dX1_buries_10 : decode cX1_buries 10 = .ok (.aload_n 0, 1) := dk_42 (dk_at dksX1_buries_0 10 rfl rfl)
theorem dX1_buries_11 : decode cX1_buries 11 = .ok (.getfield 29, 3) := dk_180 0 29 (dk_at dksX1_buries_0 11 rfl rfl)
theorem dX1_buries_14 : decode cX1_buries 14 = .ok (.iload_n 1, 1) := dk_27 (dk_at dksX1_buries_0 14 rfl rfl)
theorem dX1_buries_15 : decode cX1_buries 15 = .ok (.iaload, 1) := dk_46 (dk_at dksX1_buries_0 15 rfl rfl)
theorem dX1_buries_16 : decode cX1_buries 16 = .ok (.iconst 0, 1) := dk_3 (dk_at dksX1_buries_0 16 rfl rfl)
theorem dX1_buries_17 : decode cX1_buries 17 = .ok (.invokevirtual 161, 3) := dk_182 0 161 (dk_at dksX1_buries_0 17 rfl rfl)
theorem dX1_buries_20 : decode cX1_buries 20 = .ok (.return_, 1) := dk_177 (dk_at dksX1_buries_0 20 rfl rfl)
abbrev cX1_mostOf : ByteArray := prog_16_method_23_code
def yX1_mostOf : MethodName := ⟨RX1, "mostOf", "(I)I"⟩
def dkwX1_mostOf_2 : List UInt8 := [167, 0, 4, 28, 172]
abbrev dktX1_mostOf_2 : List UInt8 := dkwX1_mostOf_2 ++ []
def dkwX1_mostOf_1 : List UInt8 := [46, 164, 0, 5, 29, 61, 132, 3, 1, 167, 255, 227, 42, 180, 0, 11, 27, 50, 28, 46, 154, 0, 7, 2]
abbrev dktX1_mostOf_1 : List UInt8 := dkwX1_mostOf_1 ++ dktX1_mostOf_2
def dkwX1_mostOf_0 : List UInt8 := [3, 61, 4, 62, 29, 8, 162, 0, 30, 42, 180, 0, 11, 27, 50, 29, 46, 42, 180, 0, 11, 27, 50, 28]
abbrev dktX1_mostOf_0 : List UInt8 := dkwX1_mostOf_0 ++ dktX1_mostOf_1
theorem dksX1_mostOf_0 : cX1_mostOf.data.toList.drop 0 = dktX1_mostOf_0 := by decide +kernel
theorem dksX1_mostOf_1 : cX1_mostOf.data.toList.drop 24 = dktX1_mostOf_1 := dk_seg dksX1_mostOf_0 24 rfl rfl
theorem dksX1_mostOf_2 : cX1_mostOf.data.toList.drop 48 = dktX1_mostOf_2 := dk_seg dksX1_mostOf_1 24 rfl rfl
theorem dX1_mostOf_0 : decode cX1_mostOf 0 = .ok (.iconst 0, 1) := dk_3 (dk_at dksX1_mostOf_0 0 rfl rfl)
theorem dX1_mostOf_1 : decode cX1_mostOf 1 = .ok (.istore_n 2, 1) := dk_61 (dk_at dksX1_mostOf_0 1 rfl rfl)
theorem dX1_mostOf_2 : decode cX1_mostOf 2 = .ok (.iconst 1, 1) := dk_4 (dk_at dksX1_mostOf_0 2 rfl rfl)
theorem dX1_mostOf_3 : decode cX1_mostOf 3 = .ok (.istore_n 3, 1) := dk_62 (dk_at dksX1_mostOf_0 3 rfl rfl)
theorem dX1_mostOf_4 : decode cX1_mostOf 4 = .ok (.iload_n 3, 1) := dk_29 (dk_at dksX1_mostOf_0 4 rfl rfl)
theorem dX1_mostOf_5 : decode cX1_mostOf 5 = .ok (.iconst 5, 1) := dk_8 (dk_at dksX1_mostOf_0 5 rfl rfl)
theorem dX1_mostOf_6 : decode cX1_mostOf 6 = .ok (.if_icmp .ge 30, 3) := dk_162 0 30 (dk_at dksX1_mostOf_0 6 rfl rfl)
theorem dX1_mostOf_9 : decode cX1_mostOf 9 = .ok (.aload_n 0, 1) := dk_42 (dk_at dksX1_mostOf_0 9 rfl rfl)
theorem dX1_mostOf_10 : decode cX1_mostOf 10 = .ok (.getfield 11, 3) := dk_180 0 11 (dk_at dksX1_mostOf_0 10 rfl rfl)
theorem dX1_mostOf_13 : decode cX1_mostOf 13 = .ok (.iload_n 1, 1) := dk_27 (dk_at dksX1_mostOf_0 13 rfl rfl)
theorem dX1_mostOf_14 : decode cX1_mostOf 14 = .ok (.aaload, 1) := dk_50 (dk_at dksX1_mostOf_0 14 rfl rfl)
theorem dX1_mostOf_15 : decode cX1_mostOf 15 = .ok (.iload_n 3, 1) := dk_29 (dk_at dksX1_mostOf_0 15 rfl rfl)
theorem dX1_mostOf_16 : decode cX1_mostOf 16 = .ok (.iaload, 1) := dk_46 (dk_at dksX1_mostOf_0 16 rfl rfl)
theorem dX1_mostOf_17 : decode cX1_mostOf 17 = .ok (.aload_n 0, 1) := dk_42 (dk_at dksX1_mostOf_0 17 rfl rfl)
theorem dX1_mostOf_18 : decode cX1_mostOf 18 = .ok (.getfield 11, 3) := dk_180 0 11 (dk_at dksX1_mostOf_0 18 rfl rfl)
theorem dX1_mostOf_21 : decode cX1_mostOf 21 = .ok (.iload_n 1, 1) := dk_27 (dk_at dksX1_mostOf_0 21 rfl rfl)
theorem dX1_mostOf_22 : decode cX1_mostOf 22 = .ok (.aaload, 1) := dk_50 (dk_at dksX1_mostOf_0 22 rfl rfl)
theorem dX1_mostOf_23 : decode cX1_mostOf 23 = .ok (.iload_n 2, 1) := dk_28 (dk_at dksX1_mostOf_0 23 rfl rfl)
theorem dX1_mostOf_24 : decode cX1_mostOf 24 = .ok (.iaload, 1) := dk_46 (dk_at dksX1_mostOf_1 0 rfl rfl)
theorem dX1_mostOf_25 : decode cX1_mostOf 25 = .ok (.if_icmp .le 5, 3) := dk_164 0 5 (dk_at dksX1_mostOf_1 1 rfl rfl)
theorem dX1_mostOf_28 : decode cX1_mostOf 28 = .ok (.iload_n 3, 1) := dk_29 (dk_at dksX1_mostOf_1 4 rfl rfl)
theorem dX1_mostOf_29 : decode cX1_mostOf 29 = .ok (.istore_n 2, 1) := dk_61 (dk_at dksX1_mostOf_1 5 rfl rfl)
theorem dX1_mostOf_30 : decode cX1_mostOf 30 = .ok (.iinc 3 1, 3) := dk_132 3 1 (dk_at dksX1_mostOf_1 6 rfl rfl)
theorem dX1_mostOf_33 : decode cX1_mostOf 33 = .ok (.goto (-29), 3) := dk_167 255 227 (dk_at dksX1_mostOf_1 9 rfl rfl)
theorem dX1_mostOf_36 : decode cX1_mostOf 36 = .ok (.aload_n 0, 1) := dk_42 (dk_at dksX1_mostOf_1 12 rfl rfl)
theorem dX1_mostOf_37 : decode cX1_mostOf 37 = .ok (.getfield 11, 3) := dk_180 0 11 (dk_at dksX1_mostOf_1 13 rfl rfl)
theorem dX1_mostOf_40 : decode cX1_mostOf 40 = .ok (.iload_n 1, 1) := dk_27 (dk_at dksX1_mostOf_1 16 rfl rfl)
theorem dX1_mostOf_41 : decode cX1_mostOf 41 = .ok (.aaload, 1) := dk_50 (dk_at dksX1_mostOf_1 17 rfl rfl)
theorem dX1_mostOf_42 : decode cX1_mostOf 42 = .ok (.iload_n 2, 1) := dk_28 (dk_at dksX1_mostOf_1 18 rfl rfl)
theorem dX1_mostOf_43 : decode cX1_mostOf 43 = .ok (.iaload, 1) := dk_46 (dk_at dksX1_mostOf_1 19 rfl rfl)
theorem dX1_mostOf_44 : decode cX1_mostOf 44 = .ok (.ifCond .ne 7, 3) := dk_154 0 7 (dk_at dksX1_mostOf_1 20 rfl rfl)
theorem dX1_mostOf_47 : decode cX1_mostOf 47 = .ok (.iconst (-1), 1) := dk_2 (dk_at dksX1_mostOf_1 23 rfl rfl)
theorem dX1_mostOf_48 : decode cX1_mostOf 48 = .ok (.goto 4, 3) := dk_167 0 4 (dk_at dksX1_mostOf_2 0 rfl rfl)
theorem dX1_mostOf_51 : decode cX1_mostOf 51 = .ok (.iload_n 2, 1) := dk_28 (dk_at dksX1_mostOf_2 3 rfl rfl)
theorem dX1_mostOf_52 : decode cX1_mostOf 52 = .ok (.ireturn, 1) := dk_172 (dk_at dksX1_mostOf_2 4 rfl rfl)
abbrev cX1_births : ByteArray := prog_16_method_26_code
def yX1_births : MethodName := ⟨RX1, "births", "(I)I"⟩
def dkwX1_births_1 : List UInt8 := [3, 182, 0, 161, 42, 180, 0, 57, 4, 100, 172]
abbrev dktX1_births_1 : List UInt8 := dkwX1_births_1 ++ []
def dkwX1_births_0 : List UInt8 := [42, 42, 27, 182, 0, 168, 42, 27, 182, 0, 171, 27, 182, 0, 174, 42, 6, 42, 180, 0, 57, 4, 100, 27]
abbrev dktX1_births_0 : List UInt8 := dkwX1_births_0 ++ dktX1_births_1
theorem dksX1_births_0 : cX1_births.data.toList.drop 0 = dktX1_births_0 := by decide +kernel
theorem dksX1_births_1 : cX1_births.data.toList.drop 24 = dktX1_births_1 := dk_seg dksX1_births_0 24 rfl rfl
theorem dX1_births_0 : decode cX1_births 0 = .ok (.aload_n 0, 1) := dk_42 (dk_at dksX1_births_0 0 rfl rfl)
theorem dX1_births_1 : decode cX1_births 1 = .ok (.aload_n 0, 1) := dk_42 (dk_at dksX1_births_0 1 rfl rfl)
theorem dX1_births_2 : decode cX1_births 2 = .ok (.iload_n 1, 1) := dk_27 (dk_at dksX1_births_0 2 rfl rfl)
theorem dX1_births_3 : decode cX1_births 3 = .ok (.invokevirtual 168, 3) := dk_182 0 168 (dk_at dksX1_births_0 3 rfl rfl)
theorem dX1_births_6 : decode cX1_births 6 = .ok (.aload_n 0, 1) := dk_42 (dk_at dksX1_births_0 6 rfl rfl)
theorem dX1_births_7 : decode cX1_births 7 = .ok (.iload_n 1, 1) := dk_27 (dk_at dksX1_births_0 7 rfl rfl)
theorem dX1_births_8 : decode cX1_births 8 = .ok (.invokevirtual 171, 3) := dk_182 0 171 (dk_at dksX1_births_0 8 rfl rfl)
theorem dX1_births_11 : decode cX1_births 11 = .ok (.iload_n 1, 1) := dk_27 (dk_at dksX1_births_0 11 rfl rfl)
theorem dX1_births_12 : decode cX1_births 12 = .ok (.invokevirtual 174, 3) := dk_182 0 174 (dk_at dksX1_births_0 12 rfl rfl)
theorem dX1_births_15 : decode cX1_births 15 = .ok (.aload_n 0, 1) := dk_42 (dk_at dksX1_births_0 15 rfl rfl)
theorem dX1_births_16 : decode cX1_births 16 = .ok (.iconst 3, 1) := dk_6 (dk_at dksX1_births_0 16 rfl rfl)
theorem dX1_births_17 : decode cX1_births 17 = .ok (.aload_n 0, 1) := dk_42 (dk_at dksX1_births_0 17 rfl rfl)
theorem dX1_births_18 : decode cX1_births 18 = .ok (.getfield 57, 3) := dk_180 0 57 (dk_at dksX1_births_0 18 rfl rfl)
theorem dX1_births_21 : decode cX1_births 21 = .ok (.iconst 1, 1) := dk_4 (dk_at dksX1_births_0 21 rfl rfl)
theorem dX1_births_22 : decode cX1_births 22 = .ok (.isub, 1) := dk_100 (dk_at dksX1_births_0 22 rfl rfl)
theorem dX1_births_23 : decode cX1_births 23 = .ok (.iload_n 1, 1) := dk_27 (dk_at dksX1_births_0 23 rfl rfl)
theorem dX1_births_24 : decode cX1_births 24 = .ok (.iconst 0, 1) := dk_3 (dk_at dksX1_births_1 0 rfl rfl)
theorem dX1_births_25 : decode cX1_births 25 = .ok (.invokevirtual 161, 3) := dk_182 0 161 (dk_at dksX1_births_1 1 rfl rfl)
theorem dX1_births_28 : decode cX1_births 28 = .ok (.aload_n 0, 1) := dk_42 (dk_at dksX1_births_1 4 rfl rfl)
theorem dX1_births_29 : decode cX1_births 29 = .ok (.getfield 57, 3) := dk_180 0 57 (dk_at dksX1_births_1 5 rfl rfl)
theorem dX1_births_32 : decode cX1_births 32 = .ok (.iconst 1, 1) := dk_4 (dk_at dksX1_births_1 8 rfl rfl)
theorem dX1_births_33 : decode cX1_births 33 = .ok (.isub, 1) := dk_100 (dk_at dksX1_births_1 9 rfl rfl)
theorem dX1_births_34 : decode cX1_births 34 = .ok (.ireturn, 1) := dk_172 (dk_at dksX1_births_1 10 rfl rfl)
abbrev cX1_strengthOf : ByteArray := prog_16_method_24_code
def yX1_strengthOf : MethodName := ⟨RX1, "strengthOf", "(I)I"⟩
def dkwX1_strengthOf_1 : List UInt8 := [172]
abbrev dktX1_strengthOf_1 : List UInt8 := dkwX1_strengthOf_1 ++ []
def dkwX1_strengthOf_0 : List UInt8 := [4, 16, 9, 42, 180, 0, 11, 27, 50, 42, 27, 182, 0, 168, 46, 16, 10, 108, 184, 0, 141, 184, 0, 147]
abbrev dktX1_strengthOf_0 : List UInt8 := dkwX1_strengthOf_0 ++ dktX1_strengthOf_1
theorem dksX1_strengthOf_0 : cX1_strengthOf.data.toList.drop 0 = dktX1_strengthOf_0 := by decide +kernel
theorem dksX1_strengthOf_1 : cX1_strengthOf.data.toList.drop 24 = dktX1_strengthOf_1 := dk_seg dksX1_strengthOf_0 24 rfl rfl
theorem dX1_strengthOf_0 : decode cX1_strengthOf 0 = .ok (.iconst 1, 1) := dk_4 (dk_at dksX1_strengthOf_0 0 rfl rfl)
theorem dX1_strengthOf_1 : decode cX1_strengthOf 1 = .ok (.bipush 9, 2) := dk_16 9 (dk_at dksX1_strengthOf_0 1 rfl rfl)
theorem dX1_strengthOf_3 : decode cX1_strengthOf 3 = .ok (.aload_n 0, 1) := dk_42 (dk_at dksX1_strengthOf_0 3 rfl rfl)
theorem dX1_strengthOf_4 : decode cX1_strengthOf 4 = .ok (.getfield 11, 3) := dk_180 0 11 (dk_at dksX1_strengthOf_0 4 rfl rfl)
theorem dX1_strengthOf_7 : decode cX1_strengthOf 7 = .ok (.iload_n 1, 1) := dk_27 (dk_at dksX1_strengthOf_0 7 rfl rfl)
theorem dX1_strengthOf_8 : decode cX1_strengthOf 8 = .ok (.aaload, 1) := dk_50 (dk_at dksX1_strengthOf_0 8 rfl rfl)
theorem dX1_strengthOf_9 : decode cX1_strengthOf 9 = .ok (.aload_n 0, 1) := dk_42 (dk_at dksX1_strengthOf_0 9 rfl rfl)
theorem dX1_strengthOf_10 : decode cX1_strengthOf 10 = .ok (.iload_n 1, 1) := dk_27 (dk_at dksX1_strengthOf_0 10 rfl rfl)
theorem dX1_strengthOf_11 : decode cX1_strengthOf 11 = .ok (.invokevirtual 168, 3) := dk_182 0 168 (dk_at dksX1_strengthOf_0 11 rfl rfl)
theorem dX1_strengthOf_14 : decode cX1_strengthOf 14 = .ok (.iaload, 1) := dk_46 (dk_at dksX1_strengthOf_0 14 rfl rfl)
theorem dX1_strengthOf_15 : decode cX1_strengthOf 15 = .ok (.bipush 10, 2) := dk_16 10 (dk_at dksX1_strengthOf_0 15 rfl rfl)
theorem dX1_strengthOf_17 : decode cX1_strengthOf 17 = .ok (.idiv, 1) := dk_108 (dk_at dksX1_strengthOf_0 17 rfl rfl)
theorem dX1_strengthOf_18 : decode cX1_strengthOf 18 = .ok (.invokestatic 141, 3) := dk_184 0 141 (dk_at dksX1_strengthOf_0 18 rfl rfl)
theorem dX1_strengthOf_21 : decode cX1_strengthOf 21 = .ok (.invokestatic 147, 3) := dk_184 0 147 (dk_at dksX1_strengthOf_0 21 rfl rfl)
theorem dX1_strengthOf_24 : decode cX1_strengthOf 24 = .ok (.ireturn, 1) := dk_172 (dk_at dksX1_strengthOf_1 0 rfl rfl)
abbrev cX1_morning : ByteArray := prog_16_method_28_code
def yX1_morning : MethodName := ⟨RX1, "morning", "()V"⟩
def dkwX1_morning_2 : List UInt8 := [182, 0, 190, 132, 1, 1, 167, 255, 206, 42, 182, 0, 193, 177]
abbrev dktX1_morning_2 : List UInt8 := dkwX1_morning_2 ++ []
def dkwX1_morning_1 : List UInt8 := [42, 180, 0, 61, 182, 0, 188, 153, 0, 18, 42, 180, 0, 54, 27, 182, 0, 97, 192, 0, 186, 42]
abbrev dktX1_morning_1 : List UInt8 := dkwX1_morning_1 ++ dktX1_morning_2
def dkwX1_morning_0 : List UInt8 := [3, 60, 27, 42, 180, 0, 54, 182, 0, 93, 162, 0, 45, 42, 180, 0, 54, 27, 182, 0, 97, 192, 0, 186]
abbrev dktX1_morning_0 : List UInt8 := dkwX1_morning_0 ++ dktX1_morning_1
theorem dksX1_morning_0 : cX1_morning.data.toList.drop 0 = dktX1_morning_0 := by decide +kernel
theorem dksX1_morning_1 : cX1_morning.data.toList.drop 24 = dktX1_morning_1 := dk_seg dksX1_morning_0 24 rfl rfl
theorem dksX1_morning_2 : cX1_morning.data.toList.drop 46 = dktX1_morning_2 := dk_seg dksX1_morning_1 22 rfl rfl
theorem dX1_morning_0 : decode cX1_morning 0 = .ok (.iconst 0, 1) := dk_3 (dk_at dksX1_morning_0 0 rfl rfl)
theorem dX1_morning_1 : decode cX1_morning 1 = .ok (.istore_n 1, 1) := dk_60 (dk_at dksX1_morning_0 1 rfl rfl)
theorem dX1_morning_2 : decode cX1_morning 2 = .ok (.iload_n 1, 1) := dk_27 (dk_at dksX1_morning_0 2 rfl rfl)
theorem dX1_morning_3 : decode cX1_morning 3 = .ok (.aload_n 0, 1) := dk_42 (dk_at dksX1_morning_0 3 rfl rfl)
theorem dX1_morning_4 : decode cX1_morning 4 = .ok (.getfield 54, 3) := dk_180 0 54 (dk_at dksX1_morning_0 4 rfl rfl)
theorem dX1_morning_7 : decode cX1_morning 7 = .ok (.invokevirtual 93, 3) := dk_182 0 93 (dk_at dksX1_morning_0 7 rfl rfl)
theorem dX1_morning_10 : decode cX1_morning 10 = .ok (.if_icmp .ge 45, 3) := dk_162 0 45 (dk_at dksX1_morning_0 10 rfl rfl)
theorem dX1_morning_13 : decode cX1_morning 13 = .ok (.aload_n 0, 1) := dk_42 (dk_at dksX1_morning_0 13 rfl rfl)
theorem dX1_morning_14 : decode cX1_morning 14 = .ok (.getfield 54, 3) := dk_180 0 54 (dk_at dksX1_morning_0 14 rfl rfl)
theorem dX1_morning_17 : decode cX1_morning 17 = .ok (.iload_n 1, 1) := dk_27 (dk_at dksX1_morning_0 17 rfl rfl)
theorem dX1_morning_18 : decode cX1_morning 18 = .ok (.invokevirtual 97, 3) := dk_182 0 97 (dk_at dksX1_morning_0 18 rfl rfl)
theorem dX1_morning_21 : decode cX1_morning 21 = .ok (.checkcast 186, 3) := dk_192 0 186 (dk_at dksX1_morning_0 21 rfl rfl)
theorem dX1_morning_24 : decode cX1_morning 24 = .ok (.aload_n 0, 1) := dk_42 (dk_at dksX1_morning_1 0 rfl rfl)
theorem dX1_morning_25 : decode cX1_morning 25 = .ok (.getfield 61, 3) := dk_180 0 61 (dk_at dksX1_morning_1 1 rfl rfl)
theorem dX1_morning_28 : decode cX1_morning 28 = .ok (.invokevirtual 188, 3) := dk_182 0 188 (dk_at dksX1_morning_1 4 rfl rfl)
theorem dX1_morning_31 : decode cX1_morning 31 = .ok (.ifCond .eq 18, 3) := dk_153 0 18 (dk_at dksX1_morning_1 7 rfl rfl)
theorem dX1_morning_34 : decode cX1_morning 34 = .ok (.aload_n 0, 1) := dk_42 (dk_at dksX1_morning_1 10 rfl rfl)
theorem dX1_morning_35 : decode cX1_morning 35 = .ok (.getfield 54, 3) := dk_180 0 54 (dk_at dksX1_morning_1 11 rfl rfl)
theorem dX1_morning_38 : decode cX1_morning 38 = .ok (.iload_n 1, 1) := dk_27 (dk_at dksX1_morning_1 14 rfl rfl)
theorem dX1_morning_39 : decode cX1_morning 39 = .ok (.invokevirtual 97, 3) := dk_182 0 97 (dk_at dksX1_morning_1 15 rfl rfl)
theorem dX1_morning_42 : decode cX1_morning 42 = .ok (.checkcast 186, 3) := dk_192 0 186 (dk_at dksX1_morning_1 18 rfl rfl)
theorem dX1_morning_45 : decode cX1_morning 45 = .ok (.aload_n 0, 1) := dk_42 (dk_at dksX1_morning_1 21 rfl rfl)
theorem dX1_morning_46 : decode cX1_morning 46 = .ok (.invokevirtual 190, 3) := dk_182 0 190 (dk_at dksX1_morning_2 0 rfl rfl)
theorem dX1_morning_49 : decode cX1_morning 49 = .ok (.iinc 1 1, 3) := dk_132 1 1 (dk_at dksX1_morning_2 3 rfl rfl)
theorem dX1_morning_52 : decode cX1_morning 52 = .ok (.goto (-50), 3) := dk_167 255 206 (dk_at dksX1_morning_2 6 rfl rfl)
theorem dX1_morning_55 : decode cX1_morning 55 = .ok (.aload_n 0, 1) := dk_42 (dk_at dksX1_morning_2 9 rfl rfl)
theorem dX1_morning_56 : decode cX1_morning 56 = .ok (.invokevirtual 193, 3) := dk_182 0 193 (dk_at dksX1_morning_2 10 rfl rfl)
theorem dX1_morning_59 : decode cX1_morning 59 = .ok (.return_, 1) := dk_177 (dk_at dksX1_morning_2 13 rfl rfl)
abbrev cX1_quenches : ByteArray := prog_16_method_27_code
def yX1_quenches : MethodName := ⟨RX1, "quenches", "()V"⟩
def dkwX1_quenches_3 : List UInt8 := [46, 104, 16, 10, 108, 100, 184, 0, 147, 79, 132, 2, 1, 167, 255, 184, 132, 1, 1, 167, 255, 170, 177]
abbrev dktX1_quenches_3 : List UInt8 := dkwX1_quenches_3 ++ []
def dkwX1_quenches_2 : List UInt8 := [180, 0, 11, 27, 50, 45, 180, 0, 178, 46, 45, 180, 0, 180, 42, 180, 0, 11, 27, 50, 45, 180, 0, 183]
abbrev dktX1_quenches_2 : List UInt8 := dkwX1_quenches_2 ++ dktX1_quenches_3
def dkwX1_quenches_1 : List UInt8 := [180, 0, 48, 28, 182, 0, 97, 192, 0, 101, 78, 42, 180, 0, 11, 27, 50, 45, 180, 0, 178, 3, 42]
abbrev dktX1_quenches_1 : List UInt8 := dkwX1_quenches_1 ++ dktX1_quenches_2
def dkwX1_quenches_0 : List UInt8 := [3, 60, 27, 16, 8, 162, 0, 86, 3, 61, 28, 42, 180, 0, 48, 182, 0, 93, 162, 0, 67, 42]
abbrev dktX1_quenches_0 : List UInt8 := dkwX1_quenches_0 ++ dktX1_quenches_1
theorem dksX1_quenches_0 : cX1_quenches.data.toList.drop 0 = dktX1_quenches_0 := by decide +kernel
theorem dksX1_quenches_1 : cX1_quenches.data.toList.drop 22 = dktX1_quenches_1 := dk_seg dksX1_quenches_0 22 rfl rfl
theorem dksX1_quenches_2 : cX1_quenches.data.toList.drop 45 = dktX1_quenches_2 := dk_seg dksX1_quenches_1 23 rfl rfl
theorem dksX1_quenches_3 : cX1_quenches.data.toList.drop 69 = dktX1_quenches_3 := dk_seg dksX1_quenches_2 24 rfl rfl
theorem dX1_quenches_0 : decode cX1_quenches 0 = .ok (.iconst 0, 1) := dk_3 (dk_at dksX1_quenches_0 0 rfl rfl)
theorem dX1_quenches_1 : decode cX1_quenches 1 = .ok (.istore_n 1, 1) := dk_60 (dk_at dksX1_quenches_0 1 rfl rfl)
theorem dX1_quenches_2 : decode cX1_quenches 2 = .ok (.iload_n 1, 1) := dk_27 (dk_at dksX1_quenches_0 2 rfl rfl)
theorem dX1_quenches_3 : decode cX1_quenches 3 = .ok (.bipush 8, 2) := dk_16 8 (dk_at dksX1_quenches_0 3 rfl rfl)
theorem dX1_quenches_5 : decode cX1_quenches 5 = .ok (.if_icmp .ge 86, 3) := dk_162 0 86 (dk_at dksX1_quenches_0 5 rfl rfl)
theorem dX1_quenches_8 : decode cX1_quenches 8 = .ok (.iconst 0, 1) := dk_3 (dk_at dksX1_quenches_0 8 rfl rfl)
theorem dX1_quenches_9 : decode cX1_quenches 9 = .ok (.istore_n 2, 1) := dk_61 (dk_at dksX1_quenches_0 9 rfl rfl)
theorem dX1_quenches_10 : decode cX1_quenches 10 = .ok (.iload_n 2, 1) := dk_28 (dk_at dksX1_quenches_0 10 rfl rfl)
theorem dX1_quenches_11 : decode cX1_quenches 11 = .ok (.aload_n 0, 1) := dk_42 (dk_at dksX1_quenches_0 11 rfl rfl)
theorem dX1_quenches_12 : decode cX1_quenches 12 = .ok (.getfield 48, 3) := dk_180 0 48 (dk_at dksX1_quenches_0 12 rfl rfl)
theorem dX1_quenches_15 : decode cX1_quenches 15 = .ok (.invokevirtual 93, 3) := dk_182 0 93 (dk_at dksX1_quenches_0 15 rfl rfl)
theorem dX1_quenches_18 : decode cX1_quenches 18 = .ok (.if_icmp .ge 67, 3) := dk_162 0 67 (dk_at dksX1_quenches_0 18 rfl rfl)
theorem dX1_quenches_21 : decode cX1_quenches 21 = .ok (.aload_n 0, 1) := dk_42 (dk_at dksX1_quenches_0 21 rfl rfl)
theorem dX1_quenches_22 : decode cX1_quenches 22 = .ok (.getfield 48, 3) := dk_180 0 48 (dk_at dksX1_quenches_1 0 rfl rfl)
theorem dX1_quenches_25 : decode cX1_quenches 25 = .ok (.iload_n 2, 1) := dk_28 (dk_at dksX1_quenches_1 3 rfl rfl)
theorem dX1_quenches_26 : decode cX1_quenches 26 = .ok (.invokevirtual 97, 3) := dk_182 0 97 (dk_at dksX1_quenches_1 4 rfl rfl)
theorem dX1_quenches_29 : decode cX1_quenches 29 = .ok (.checkcast 101, 3) := dk_192 0 101 (dk_at dksX1_quenches_1 7 rfl rfl)
theorem dX1_quenches_32 : decode cX1_quenches 32 = .ok (.astore_n 3, 1) := dk_78 (dk_at dksX1_quenches_1 10 rfl rfl)
theorem dX1_quenches_33 : decode cX1_quenches 33 = .ok (.aload_n 0, 1) := dk_42 (dk_at dksX1_quenches_1 11 rfl rfl)
theorem dX1_quenches_34 : decode cX1_quenches 34 = .ok (.getfield 11, 3) := dk_180 0 11 (dk_at dksX1_quenches_1 12 rfl rfl)
theorem dX1_quenches_37 : decode cX1_quenches 37 = .ok (.iload_n 1, 1) := dk_27 (dk_at dksX1_quenches_1 15 rfl rfl)
theorem dX1_quenches_38 : decode cX1_quenches 38 = .ok (.aaload, 1) := dk_50 (dk_at dksX1_quenches_1 16 rfl rfl)
theorem dX1_quenches_39 : decode cX1_quenches 39 = .ok (.aload_n 3, 1) := dk_45 (dk_at dksX1_quenches_1 17 rfl rfl)
theorem dX1_quenches_40 : decode cX1_quenches 40 = .ok (.getfield 178, 3) := dk_180 0 178 (dk_at dksX1_quenches_1 18 rfl rfl)
theorem dX1_quenches_43 : decode cX1_quenches 43 = .ok (.iconst 0, 1) := dk_3 (dk_at dksX1_quenches_1 21 rfl rfl)
theorem dX1_quenches_44 : decode cX1_quenches 44 = .ok (.aload_n 0, 1) := dk_42 (dk_at dksX1_quenches_1 22 rfl rfl)
theorem dX1_quenches_45 : decode cX1_quenches 45 = .ok (.getfield 11, 3) := dk_180 0 11 (dk_at dksX1_quenches_2 0 rfl rfl)
theorem dX1_quenches_48 : decode cX1_quenches 48 = .ok (.iload_n 1, 1) := dk_27 (dk_at dksX1_quenches_2 3 rfl rfl)
theorem dX1_quenches_49 : decode cX1_quenches 49 = .ok (.aaload, 1) := dk_50 (dk_at dksX1_quenches_2 4 rfl rfl)
theorem dX1_quenches_50 : decode cX1_quenches 50 = .ok (.aload_n 3, 1) := dk_45 (dk_at dksX1_quenches_2 5 rfl rfl)
theorem dX1_quenches_51 : decode cX1_quenches 51 = .ok (.getfield 178, 3) := dk_180 0 178 (dk_at dksX1_quenches_2 6 rfl rfl)
theorem dX1_quenches_54 : decode cX1_quenches 54 = .ok (.iaload, 1) := dk_46 (dk_at dksX1_quenches_2 9 rfl rfl)
theorem dX1_quenches_55 : decode cX1_quenches 55 = .ok (.aload_n 3, 1) := dk_45 (dk_at dksX1_quenches_2 10 rfl rfl)
theorem dX1_quenches_56 : decode cX1_quenches 56 = .ok (.getfield 180, 3) := dk_180 0 180 (dk_at dksX1_quenches_2 11 rfl rfl)
theorem dX1_quenches_59 : decode cX1_quenches 59 = .ok (.aload_n 0, 1) := dk_42 (dk_at dksX1_quenches_2 14 rfl rfl)
theorem dX1_quenches_60 : decode cX1_quenches 60 = .ok (.getfield 11, 3) := dk_180 0 11 (dk_at dksX1_quenches_2 15 rfl rfl)
theorem dX1_quenches_63 : decode cX1_quenches 63 = .ok (.iload_n 1, 1) := dk_27 (dk_at dksX1_quenches_2 18 rfl rfl)
theorem dX1_quenches_64 : decode cX1_quenches 64 = .ok (.aaload, 1) := dk_50 (dk_at dksX1_quenches_2 19 rfl rfl)
theorem dX1_quenches_65 : decode cX1_quenches 65 = .ok (.aload_n 3, 1) := dk_45 (dk_at dksX1_quenches_2 20 rfl rfl)
theorem dX1_quenches_66 : decode cX1_quenches 66 = .ok (.getfield 183, 3) := dk_180 0 183 (dk_at dksX1_quenches_2 21 rfl rfl)
theorem dX1_quenches_69 : decode cX1_quenches 69 = .ok (.iaload, 1) := dk_46 (dk_at dksX1_quenches_3 0 rfl rfl)
theorem dX1_quenches_70 : decode cX1_quenches 70 = .ok (.imul, 1) := dk_104 (dk_at dksX1_quenches_3 1 rfl rfl)
theorem dX1_quenches_71 : decode cX1_quenches 71 = .ok (.bipush 10, 2) := dk_16 10 (dk_at dksX1_quenches_3 2 rfl rfl)
theorem dX1_quenches_73 : decode cX1_quenches 73 = .ok (.idiv, 1) := dk_108 (dk_at dksX1_quenches_3 4 rfl rfl)
theorem dX1_quenches_74 : decode cX1_quenches 74 = .ok (.isub, 1) := dk_100 (dk_at dksX1_quenches_3 5 rfl rfl)
theorem dX1_quenches_75 : decode cX1_quenches 75 = .ok (.invokestatic 147, 3) := dk_184 0 147 (dk_at dksX1_quenches_3 6 rfl rfl)
theorem dX1_quenches_78 : decode cX1_quenches 78 = .ok (.iastore, 1) := dk_79 (dk_at dksX1_quenches_3 9 rfl rfl)
theorem dX1_quenches_79 : decode cX1_quenches 79 = .ok (.iinc 2 1, 3) := dk_132 2 1 (dk_at dksX1_quenches_3 10 rfl rfl)
theorem dX1_quenches_82 : decode cX1_quenches 82 = .ok (.goto (-72), 3) := dk_167 255 184 (dk_at dksX1_quenches_3 13 rfl rfl)
theorem dX1_quenches_85 : decode cX1_quenches 85 = .ok (.iinc 1 1, 3) := dk_132 1 1 (dk_at dksX1_quenches_3 16 rfl rfl)
theorem dX1_quenches_88 : decode cX1_quenches 88 = .ok (.goto (-86), 3) := dk_167 255 170 (dk_at dksX1_quenches_3 19 rfl rfl)
theorem dX1_quenches_91 : decode cX1_quenches 91 = .ok (.return_, 1) := dk_177 (dk_at dksX1_quenches_3 22 rfl rfl)
abbrev cX1_evening : ByteArray := prog_16_method_34_code
def yX1_evening : MethodName := ⟨RX1, "evening", "(Z)V"⟩
def dkwX1_evening_1 : List UInt8 := [180, 0, 61, 4, 96, 181, 0, 61, 42, 3, 181, 0, 64, 177]
abbrev dktX1_evening_1 : List UInt8 := dkwX1_evening_1 ++ []
def dkwX1_evening_0 : List UInt8 := [42, 182, 0, 213, 42, 182, 0, 216, 42, 182, 0, 219, 27, 153, 0, 7, 42, 182, 0, 222, 42, 89]
abbrev dktX1_evening_0 : List UInt8 := dkwX1_evening_0 ++ dktX1_evening_1
theorem dksX1_evening_0 : cX1_evening.data.toList.drop 0 = dktX1_evening_0 := by decide +kernel
theorem dksX1_evening_1 : cX1_evening.data.toList.drop 22 = dktX1_evening_1 := dk_seg dksX1_evening_0 22 rfl rfl
theorem dX1_evening_0 : decode cX1_evening 0 = .ok (.aload_n 0, 1) := dk_42 (dk_at dksX1_evening_0 0 rfl rfl)
theorem dX1_evening_1 : decode cX1_evening 1 = .ok (.invokevirtual 213, 3) := dk_182 0 213 (dk_at dksX1_evening_0 1 rfl rfl)
theorem dX1_evening_4 : decode cX1_evening 4 = .ok (.aload_n 0, 1) := dk_42 (dk_at dksX1_evening_0 4 rfl rfl)
theorem dX1_evening_5 : decode cX1_evening 5 = .ok (.invokevirtual 216, 3) := dk_182 0 216 (dk_at dksX1_evening_0 5 rfl rfl)
theorem dX1_evening_8 : decode cX1_evening 8 = .ok (.aload_n 0, 1) := dk_42 (dk_at dksX1_evening_0 8 rfl rfl)
theorem dX1_evening_9 : decode cX1_evening 9 = .ok (.invokevirtual 219, 3) := dk_182 0 219 (dk_at dksX1_evening_0 9 rfl rfl)
theorem dX1_evening_12 : decode cX1_evening 12 = .ok (.iload_n 1, 1) := dk_27 (dk_at dksX1_evening_0 12 rfl rfl)
theorem dX1_evening_13 : decode cX1_evening 13 = .ok (.ifCond .eq 7, 3) := dk_153 0 7 (dk_at dksX1_evening_0 13 rfl rfl)
theorem dX1_evening_16 : decode cX1_evening 16 = .ok (.aload_n 0, 1) := dk_42 (dk_at dksX1_evening_0 16 rfl rfl)
theorem dX1_evening_17 : decode cX1_evening 17 = .ok (.invokevirtual 222, 3) := dk_182 0 222 (dk_at dksX1_evening_0 17 rfl rfl)
theorem dX1_evening_20 : decode cX1_evening 20 = .ok (.aload_n 0, 1) := dk_42 (dk_at dksX1_evening_0 20 rfl rfl)
theorem dX1_evening_21 : decode cX1_evening 21 = .ok (.dup, 1) := dk_89 (dk_at dksX1_evening_0 21 rfl rfl)
theorem dX1_evening_22 : decode cX1_evening 22 = .ok (.getfield 61, 3) := dk_180 0 61 (dk_at dksX1_evening_1 0 rfl rfl)
theorem dX1_evening_25 : decode cX1_evening 25 = .ok (.iconst 1, 1) := dk_4 (dk_at dksX1_evening_1 3 rfl rfl)
theorem dX1_evening_26 : decode cX1_evening 26 = .ok (.iadd, 1) := dk_96 (dk_at dksX1_evening_1 4 rfl rfl)
theorem dX1_evening_27 : decode cX1_evening 27 = .ok (.putfield 61, 3) := dk_181 0 61 (dk_at dksX1_evening_1 5 rfl rfl)
theorem dX1_evening_30 : decode cX1_evening 30 = .ok (.aload_n 0, 1) := dk_42 (dk_at dksX1_evening_1 8 rfl rfl)
theorem dX1_evening_31 : decode cX1_evening 31 = .ok (.iconst 0, 1) := dk_3 (dk_at dksX1_evening_1 9 rfl rfl)
theorem dX1_evening_32 : decode cX1_evening 32 = .ok (.putfield 64, 3) := dk_181 0 64 (dk_at dksX1_evening_1 10 rfl rfl)
theorem dX1_evening_35 : decode cX1_evening 35 = .ok (.return_, 1) := dk_177 (dk_at dksX1_evening_1 13 rfl rfl)
abbrev cX1_blows : ByteArray := prog_16_method_30_code
def yX1_blows : MethodName := ⟨RX1, "blows", "()V"⟩
def dkwX1_blows_7 : List UInt8 := [50, 28, 46, 184, 0, 141, 79, 132, 2, 1, 167, 255, 227, 132, 1, 1, 167, 255, 213, 177]
abbrev dktX1_blows_7 : List UInt8 := dkwX1_blows_7 ++ []
def dkwX1_blows_6 : List UInt8 := [162, 0, 43, 3, 61, 28, 8, 162, 0, 30, 42, 180, 0, 11, 27, 50, 28, 16, 99, 42, 180, 0, 11, 27]
abbrev dktX1_blows_6 : List UInt8 := dkwX1_blows_6 ++ dktX1_blows_7
def dkwX1_blows_5 : List UInt8 := [27, 50, 28, 46, 96, 79, 132, 2, 1, 167, 255, 194, 132, 1, 1, 167, 255, 180, 3, 60, 27, 16, 8]
abbrev dktX1_blows_5 : List UInt8 := dkwX1_blows_5 ++ dktX1_blows_6
def dkwX1_blows_4 : List UInt8 := [50, 28, 46, 158, 0, 27, 42, 180, 0, 11, 42, 180, 0, 38, 27, 46, 50, 28, 92, 46, 42, 180, 0, 16]
abbrev dktX1_blows_4 : List UInt8 := dkwX1_blows_4 ++ dktX1_blows_5
def dkwX1_blows_3 : List UInt8 := [42, 180, 0, 11, 27, 50, 28, 92, 46, 42, 180, 0, 16, 27, 50, 28, 46, 100, 79, 42, 180, 0, 16, 27]
abbrev dktX1_blows_3 : List UInt8 := dkwX1_blows_3 ++ dktX1_blows_4
def dkwX1_blows_2 : List UInt8 := [167, 255, 218, 132, 1, 1, 167, 255, 204, 3, 60, 27, 16, 8, 162, 0, 76, 3, 61, 28, 8, 162, 0, 63]
abbrev dktX1_blows_2 : List UInt8 := dkwX1_blows_2 ++ dktX1_blows_3
def dkwX1_blows_1 : List UInt8 := [182, 0, 196, 153, 0, 16, 42, 180, 0, 11, 27, 50, 28, 46, 5, 108, 167, 0, 4, 3, 79, 132, 2, 1]
abbrev dktX1_blows_1 : List UInt8 := dkwX1_blows_1 ++ dktX1_blows_2
def dkwX1_blows_0 : List UInt8 := [3, 60, 27, 16, 8, 162, 0, 52, 3, 61, 28, 8, 162, 0, 39, 42, 180, 0, 16, 27, 50, 28, 42, 27]
abbrev dktX1_blows_0 : List UInt8 := dkwX1_blows_0 ++ dktX1_blows_1
theorem dksX1_blows_0 : cX1_blows.data.toList.drop 0 = dktX1_blows_0 := by decide +kernel
theorem dksX1_blows_1 : cX1_blows.data.toList.drop 24 = dktX1_blows_1 := dk_seg dksX1_blows_0 24 rfl rfl
theorem dksX1_blows_2 : cX1_blows.data.toList.drop 48 = dktX1_blows_2 := dk_seg dksX1_blows_1 24 rfl rfl
theorem dksX1_blows_3 : cX1_blows.data.toList.drop 72 = dktX1_blows_3 := dk_seg dksX1_blows_2 24 rfl rfl
theorem dksX1_blows_4 : cX1_blows.data.toList.drop 96 = dktX1_blows_4 := dk_seg dksX1_blows_3 24 rfl rfl
theorem dksX1_blows_5 : cX1_blows.data.toList.drop 120 = dktX1_blows_5 := dk_seg dksX1_blows_4 24 rfl rfl
theorem dksX1_blows_6 : cX1_blows.data.toList.drop 143 = dktX1_blows_6 := dk_seg dksX1_blows_5 23 rfl rfl
theorem dksX1_blows_7 : cX1_blows.data.toList.drop 167 = dktX1_blows_7 := dk_seg dksX1_blows_6 24 rfl rfl
theorem dX1_blows_0 : decode cX1_blows 0 = .ok (.iconst 0, 1) := dk_3 (dk_at dksX1_blows_0 0 rfl rfl)
theorem dX1_blows_1 : decode cX1_blows 1 = .ok (.istore_n 1, 1) := dk_60 (dk_at dksX1_blows_0 1 rfl rfl)
theorem dX1_blows_2 : decode cX1_blows 2 = .ok (.iload_n 1, 1) := dk_27 (dk_at dksX1_blows_0 2 rfl rfl)
theorem dX1_blows_3 : decode cX1_blows 3 = .ok (.bipush 8, 2) := dk_16 8 (dk_at dksX1_blows_0 3 rfl rfl)
theorem dX1_blows_5 : decode cX1_blows 5 = .ok (.if_icmp .ge 52, 3) := dk_162 0 52 (dk_at dksX1_blows_0 5 rfl rfl)
theorem dX1_blows_8 : decode cX1_blows 8 = .ok (.iconst 0, 1) := dk_3 (dk_at dksX1_blows_0 8 rfl rfl)
theorem dX1_blows_9 : decode cX1_blows 9 = .ok (.istore_n 2, 1) := dk_61 (dk_at dksX1_blows_0 9 rfl rfl)
theorem dX1_blows_10 : decode cX1_blows 10 = .ok (.iload_n 2, 1) := dk_28 (dk_at dksX1_blows_0 10 rfl rfl)
theorem dX1_blows_11 : decode cX1_blows 11 = .ok (.iconst 5, 1) := dk_8 (dk_at dksX1_blows_0 11 rfl rfl)
theorem dX1_blows_12 : decode cX1_blows 12 = .ok (.if_icmp .ge 39, 3) := dk_162 0 39 (dk_at dksX1_blows_0 12 rfl rfl)
theorem dX1_blows_15 : decode cX1_blows 15 = .ok (.aload_n 0, 1) := dk_42 (dk_at dksX1_blows_0 15 rfl rfl)
theorem dX1_blows_16 : decode cX1_blows 16 = .ok (.getfield 16, 3) := dk_180 0 16 (dk_at dksX1_blows_0 16 rfl rfl)
theorem dX1_blows_19 : decode cX1_blows 19 = .ok (.iload_n 1, 1) := dk_27 (dk_at dksX1_blows_0 19 rfl rfl)
theorem dX1_blows_20 : decode cX1_blows 20 = .ok (.aaload, 1) := dk_50 (dk_at dksX1_blows_0 20 rfl rfl)
theorem dX1_blows_21 : decode cX1_blows 21 = .ok (.iload_n 2, 1) := dk_28 (dk_at dksX1_blows_0 21 rfl rfl)
theorem dX1_blows_22 : decode cX1_blows 22 = .ok (.aload_n 0, 1) := dk_42 (dk_at dksX1_blows_0 22 rfl rfl)
theorem dX1_blows_23 : decode cX1_blows 23 = .ok (.iload_n 1, 1) := dk_27 (dk_at dksX1_blows_0 23 rfl rfl)
theorem dX1_blows_24 : decode cX1_blows 24 = .ok (.invokevirtual 196, 3) := dk_182 0 196 (dk_at dksX1_blows_1 0 rfl rfl)
theorem dX1_blows_27 : decode cX1_blows 27 = .ok (.ifCond .eq 16, 3) := dk_153 0 16 (dk_at dksX1_blows_1 3 rfl rfl)
theorem dX1_blows_30 : decode cX1_blows 30 = .ok (.aload_n 0, 1) := dk_42 (dk_at dksX1_blows_1 6 rfl rfl)
theorem dX1_blows_31 : decode cX1_blows 31 = .ok (.getfield 11, 3) := dk_180 0 11 (dk_at dksX1_blows_1 7 rfl rfl)
theorem dX1_blows_34 : decode cX1_blows 34 = .ok (.iload_n 1, 1) := dk_27 (dk_at dksX1_blows_1 10 rfl rfl)
theorem dX1_blows_35 : decode cX1_blows 35 = .ok (.aaload, 1) := dk_50 (dk_at dksX1_blows_1 11 rfl rfl)
theorem dX1_blows_36 : decode cX1_blows 36 = .ok (.iload_n 2, 1) := dk_28 (dk_at dksX1_blows_1 12 rfl rfl)
theorem dX1_blows_37 : decode cX1_blows 37 = .ok (.iaload, 1) := dk_46 (dk_at dksX1_blows_1 13 rfl rfl)
theorem dX1_blows_38 : decode cX1_blows 38 = .ok (.iconst 2, 1) := dk_5 (dk_at dksX1_blows_1 14 rfl rfl)
theorem dX1_blows_39 : decode cX1_blows 39 = .ok (.idiv, 1) := dk_108 (dk_at dksX1_blows_1 15 rfl rfl)
theorem dX1_blows_40 : decode cX1_blows 40 = .ok (.goto 4, 3) := dk_167 0 4 (dk_at dksX1_blows_1 16 rfl rfl)
theorem dX1_blows_43 : decode cX1_blows 43 = .ok (.iconst 0, 1) := dk_3 (dk_at dksX1_blows_1 19 rfl rfl)
theorem dX1_blows_44 : decode cX1_blows 44 = .ok (.iastore, 1) := dk_79 (dk_at dksX1_blows_1 20 rfl rfl)
theorem dX1_blows_45 : decode cX1_blows 45 = .ok (.iinc 2 1, 3) := dk_132 2 1 (dk_at dksX1_blows_1 21 rfl rfl)
theorem dX1_blows_48 : decode cX1_blows 48 = .ok (.goto (-38), 3) := dk_167 255 218 (dk_at dksX1_blows_2 0 rfl rfl)
theorem dX1_blows_51 : decode cX1_blows 51 = .ok (.iinc 1 1, 3) := dk_132 1 1 (dk_at dksX1_blows_2 3 rfl rfl)
theorem dX1_blows_54 : decode cX1_blows 54 = .ok (.goto (-52), 3) := dk_167 255 204 (dk_at dksX1_blows_2 6 rfl rfl)
theorem dX1_blows_57 : decode cX1_blows 57 = .ok (.iconst 0, 1) := dk_3 (dk_at dksX1_blows_2 9 rfl rfl)
theorem dX1_blows_58 : decode cX1_blows 58 = .ok (.istore_n 1, 1) := dk_60 (dk_at dksX1_blows_2 10 rfl rfl)
theorem dX1_blows_59 : decode cX1_blows 59 = .ok (.iload_n 1, 1) := dk_27 (dk_at dksX1_blows_2 11 rfl rfl)
theorem dX1_blows_60 : decode cX1_blows 60 = .ok (.bipush 8, 2) := dk_16 8 (dk_at dksX1_blows_2 12 rfl rfl)
theorem dX1_blows_62 : decode cX1_blows 62 = .ok (.if_icmp .ge 76, 3) := dk_162 0 76 (dk_at dksX1_blows_2 14 rfl rfl)
theorem dX1_blows_65 : decode cX1_blows 65 = .ok (.iconst 0, 1) := dk_3 (dk_at dksX1_blows_2 17 rfl rfl)
theorem dX1_blows_66 : decode cX1_blows 66 = .ok (.istore_n 2, 1) := dk_61 (dk_at dksX1_blows_2 18 rfl rfl)
theorem dX1_blows_67 : decode cX1_blows 67 = .ok (.iload_n 2, 1) := dk_28 (dk_at dksX1_blows_2 19 rfl rfl)
theorem dX1_blows_68 : decode cX1_blows 68 = .ok (.iconst 5, 1) := dk_8 (dk_at dksX1_blows_2 20 rfl rfl)
theorem dX1_blows_69 : decode cX1_blows 69 = .ok (.if_icmp .ge 63, 3) := dk_162 0 63 (dk_at dksX1_blows_2 21 rfl rfl)
theorem dX1_blows_72 : decode cX1_blows 72 = .ok (.aload_n 0, 1) := dk_42 (dk_at dksX1_blows_3 0 rfl rfl)
theorem dX1_blows_73 : decode cX1_blows 73 = .ok (.getfield 11, 3) := dk_180 0 11 (dk_at dksX1_blows_3 1 rfl rfl)
theorem dX1_blows_76 : decode cX1_blows 76 = .ok (.iload_n 1, 1) := dk_27 (dk_at dksX1_blows_3 4 rfl rfl)
theorem dX1_blows_77 : decode cX1_blows 77 = .ok (.aaload, 1) := dk_50 (dk_at dksX1_blows_3 5 rfl rfl)
theorem dX1_blows_78 : decode cX1_blows 78 = .ok (.iload_n 2, 1) := dk_28 (dk_at dksX1_blows_3 6 rfl rfl)
theorem dX1_blows_79 : decode cX1_blows 79 = .ok (.dup2, 1) := dk_92 (dk_at dksX1_blows_3 7 rfl rfl)
theorem dX1_blows_80 : decode cX1_blows 80 = .ok (.iaload, 1) := dk_46 (dk_at dksX1_blows_3 8 rfl rfl)
theorem dX1_blows_81 : decode cX1_blows 81 = .ok (.aload_n 0, 1) := dk_42 (dk_at dksX1_blows_3 9 rfl rfl)
theorem dX1_blows_82 : decode cX1_blows 82 = .ok (.getfield 16, 3) := dk_180 0 16 (dk_at dksX1_blows_3 10 rfl rfl)
theorem dX1_blows_85 : decode cX1_blows 85 = .ok (.iload_n 1, 1) := dk_27 (dk_at dksX1_blows_3 13 rfl rfl)
theorem dX1_blows_86 : decode cX1_blows 86 = .ok (.aaload, 1) := dk_50 (dk_at dksX1_blows_3 14 rfl rfl)
theorem dX1_blows_87 : decode cX1_blows 87 = .ok (.iload_n 2, 1) := dk_28 (dk_at dksX1_blows_3 15 rfl rfl)
theorem dX1_blows_88 : decode cX1_blows 88 = .ok (.iaload, 1) := dk_46 (dk_at dksX1_blows_3 16 rfl rfl)
theorem dX1_blows_89 : decode cX1_blows 89 = .ok (.isub, 1) := dk_100 (dk_at dksX1_blows_3 17 rfl rfl)
theorem dX1_blows_90 : decode cX1_blows 90 = .ok (.iastore, 1) := dk_79 (dk_at dksX1_blows_3 18 rfl rfl)
theorem dX1_blows_91 : decode cX1_blows 91 = .ok (.aload_n 0, 1) := dk_42 (dk_at dksX1_blows_3 19 rfl rfl)
theorem dX1_blows_92 : decode cX1_blows 92 = .ok (.getfield 16, 3) := dk_180 0 16 (dk_at dksX1_blows_3 20 rfl rfl)
theorem dX1_blows_95 : decode cX1_blows 95 = .ok (.iload_n 1, 1) := dk_27 (dk_at dksX1_blows_3 23 rfl rfl)
theorem dX1_blows_96 : decode cX1_blows 96 = .ok (.aaload, 1) := dk_50 (dk_at dksX1_blows_4 0 rfl rfl)
theorem dX1_blows_97 : decode cX1_blows 97 = .ok (.iload_n 2, 1) := dk_28 (dk_at dksX1_blows_4 1 rfl rfl)
theorem dX1_blows_98 : decode cX1_blows 98 = .ok (.iaload, 1) := dk_46 (dk_at dksX1_blows_4 2 rfl rfl)
theorem dX1_blows_99 : decode cX1_blows 99 = .ok (.ifCond .le 27, 3) := dk_158 0 27 (dk_at dksX1_blows_4 3 rfl rfl)
theorem dX1_blows_102 : decode cX1_blows 102 = .ok (.aload_n 0, 1) := dk_42 (dk_at dksX1_blows_4 6 rfl rfl)
theorem dX1_blows_103 : decode cX1_blows 103 = .ok (.getfield 11, 3) := dk_180 0 11 (dk_at dksX1_blows_4 7 rfl rfl)
theorem dX1_blows_106 : decode cX1_blows 106 = .ok (.aload_n 0, 1) := dk_42 (dk_at dksX1_blows_4 10 rfl rfl)
theorem dX1_blows_107 : decode cX1_blows 107 = .ok (.getfield 38, 3) := dk_180 0 38 (dk_at dksX1_blows_4 11 rfl rfl)
theorem dX1_blows_110 : decode cX1_blows 110 = .ok (.iload_n 1, 1) := dk_27 (dk_at dksX1_blows_4 14 rfl rfl)
theorem dX1_blows_111 : decode cX1_blows 111 = .ok (.iaload, 1) := dk_46 (dk_at dksX1_blows_4 15 rfl rfl)
theorem dX1_blows_112 : decode cX1_blows 112 = .ok (.aaload, 1) := dk_50 (dk_at dksX1_blows_4 16 rfl rfl)
theorem dX1_blows_113 : decode cX1_blows 113 = .ok (.iload_n 2, 1) := dk_28 (dk_at dksX1_blows_4 17 rfl rfl)
theorem dX1_blows_114 : decode cX1_blows 114 = .ok (.dup2, 1) := dk_92 (dk_at dksX1_blows_4 18 rfl rfl)
theorem dX1_blows_115 : decode cX1_blows 115 = .ok (.iaload, 1) := dk_46 (dk_at dksX1_blows_4 19 rfl rfl)
theorem dX1_blows_116 : decode cX1_blows 116 = .ok (.aload_n 0, 1) := dk_42 (dk_at dksX1_blows_4 20 rfl rfl)
theorem dX1_blows_117 : decode cX1_blows 117 = .ok (.getfield 16, 3) := dk_180 0 16 (dk_at dksX1_blows_4 21 rfl rfl)
theorem dX1_blows_120 : decode cX1_blows 120 = .ok (.iload_n 1, 1) := dk_27 (dk_at dksX1_blows_5 0 rfl rfl)
theorem dX1_blows_121 : decode cX1_blows 121 = .ok (.aaload, 1) := dk_50 (dk_at dksX1_blows_5 1 rfl rfl)
theorem dX1_blows_122 : decode cX1_blows 122 = .ok (.iload_n 2, 1) := dk_28 (dk_at dksX1_blows_5 2 rfl rfl)
theorem dX1_blows_123 : decode cX1_blows 123 = .ok (.iaload, 1) := dk_46 (dk_at dksX1_blows_5 3 rfl rfl)
theorem dX1_blows_124 : decode cX1_blows 124 = .ok (.iadd, 1) := dk_96 (dk_at dksX1_blows_5 4 rfl rfl)
theorem dX1_blows_125 : decode cX1_blows 125 = .ok (.iastore, 1) := dk_79 (dk_at dksX1_blows_5 5 rfl rfl)
theorem dX1_blows_126 : decode cX1_blows 126 = .ok (.iinc 2 1, 3) := dk_132 2 1 (dk_at dksX1_blows_5 6 rfl rfl)
theorem dX1_blows_129 : decode cX1_blows 129 = .ok (.goto (-62), 3) := dk_167 255 194 (dk_at dksX1_blows_5 9 rfl rfl)
theorem dX1_blows_132 : decode cX1_blows 132 = .ok (.iinc 1 1, 3) := dk_132 1 1 (dk_at dksX1_blows_5 12 rfl rfl)
theorem dX1_blows_135 : decode cX1_blows 135 = .ok (.goto (-76), 3) := dk_167 255 180 (dk_at dksX1_blows_5 15 rfl rfl)
theorem dX1_blows_138 : decode cX1_blows 138 = .ok (.iconst 0, 1) := dk_3 (dk_at dksX1_blows_5 18 rfl rfl)
theorem dX1_blows_139 : decode cX1_blows 139 = .ok (.istore_n 1, 1) := dk_60 (dk_at dksX1_blows_5 19 rfl rfl)
theorem dX1_blows_140 : decode cX1_blows 140 = .ok (.iload_n 1, 1) := dk_27 (dk_at dksX1_blows_5 20 rfl rfl)
theorem dX1_blows_141 : decode cX1_blows 141 = .ok (.bipush 8, 2) := dk_16 8 (dk_at dksX1_blows_5 21 rfl rfl)
theorem dX1_blows_143 : decode cX1_blows 143 = .ok (.if_icmp .ge 43, 3) := dk_162 0 43 (dk_at dksX1_blows_6 0 rfl rfl)
theorem dX1_blows_146 : decode cX1_blows 146 = .ok (.iconst 0, 1) := dk_3 (dk_at dksX1_blows_6 3 rfl rfl)
theorem dX1_blows_147 : decode cX1_blows 147 = .ok (.istore_n 2, 1) := dk_61 (dk_at dksX1_blows_6 4 rfl rfl)
theorem dX1_blows_148 : decode cX1_blows 148 = .ok (.iload_n 2, 1) := dk_28 (dk_at dksX1_blows_6 5 rfl rfl)
theorem dX1_blows_149 : decode cX1_blows 149 = .ok (.iconst 5, 1) := dk_8 (dk_at dksX1_blows_6 6 rfl rfl)
theorem dX1_blows_150 : decode cX1_blows 150 = .ok (.if_icmp .ge 30, 3) := dk_162 0 30 (dk_at dksX1_blows_6 7 rfl rfl)
theorem dX1_blows_153 : decode cX1_blows 153 = .ok (.aload_n 0, 1) := dk_42 (dk_at dksX1_blows_6 10 rfl rfl)
theorem dX1_blows_154 : decode cX1_blows 154 = .ok (.getfield 11, 3) := dk_180 0 11 (dk_at dksX1_blows_6 11 rfl rfl)
theorem dX1_blows_157 : decode cX1_blows 157 = .ok (.iload_n 1, 1) := dk_27 (dk_at dksX1_blows_6 14 rfl rfl)
theorem dX1_blows_158 : decode cX1_blows 158 = .ok (.aaload, 1) := dk_50 (dk_at dksX1_blows_6 15 rfl rfl)
theorem dX1_blows_159 : decode cX1_blows 159 = .ok (.iload_n 2, 1) := dk_28 (dk_at dksX1_blows_6 16 rfl rfl)
theorem dX1_blows_160 : decode cX1_blows 160 = .ok (.bipush 99, 2) := dk_16 99 (dk_at dksX1_blows_6 17 rfl rfl)
theorem dX1_blows_162 : decode cX1_blows 162 = .ok (.aload_n 0, 1) := dk_42 (dk_at dksX1_blows_6 19 rfl rfl)
theorem dX1_blows_163 : decode cX1_blows 163 = .ok (.getfield 11, 3) := dk_180 0 11 (dk_at dksX1_blows_6 20 rfl rfl)
theorem dX1_blows_166 : decode cX1_blows 166 = .ok (.iload_n 1, 1) := dk_27 (dk_at dksX1_blows_6 23 rfl rfl)
theorem dX1_blows_167 : decode cX1_blows 167 = .ok (.aaload, 1) := dk_50 (dk_at dksX1_blows_7 0 rfl rfl)
theorem dX1_blows_168 : decode cX1_blows 168 = .ok (.iload_n 2, 1) := dk_28 (dk_at dksX1_blows_7 1 rfl rfl)
theorem dX1_blows_169 : decode cX1_blows 169 = .ok (.iaload, 1) := dk_46 (dk_at dksX1_blows_7 2 rfl rfl)
theorem dX1_blows_170 : decode cX1_blows 170 = .ok (.invokestatic 141, 3) := dk_184 0 141 (dk_at dksX1_blows_7 3 rfl rfl)
theorem dX1_blows_173 : decode cX1_blows 173 = .ok (.iastore, 1) := dk_79 (dk_at dksX1_blows_7 6 rfl rfl)
theorem dX1_blows_174 : decode cX1_blows 174 = .ok (.iinc 2 1, 3) := dk_132 2 1 (dk_at dksX1_blows_7 7 rfl rfl)
theorem dX1_blows_177 : decode cX1_blows 177 = .ok (.goto (-29), 3) := dk_167 255 227 (dk_at dksX1_blows_7 10 rfl rfl)
theorem dX1_blows_180 : decode cX1_blows 180 = .ok (.iinc 1 1, 3) := dk_132 1 1 (dk_at dksX1_blows_7 13 rfl rfl)
theorem dX1_blows_183 : decode cX1_blows 183 = .ok (.goto (-43), 3) := dk_167 255 213 (dk_at dksX1_blows_7 16 rfl rfl)
theorem dX1_blows_186 : decode cX1_blows 186 = .ok (.return_, 1) := dk_177 (dk_at dksX1_blows_7 19 rfl rfl)
abbrev cX1_carries : ByteArray := prog_16_method_29_code
def yX1_carries : MethodName := ⟨RX1, "carries", "(I)Z"⟩
def dkwX1_carries_1 : List UInt8 := [167, 0, 4, 3, 172]
abbrev dktX1_carries_1 : List UInt8 := dkwX1_carries_1 ++ []
def dkwX1_carries_0 : List UInt8 := [42, 180, 0, 38, 27, 46, 2, 159, 0, 20, 42, 180, 0, 11, 27, 50, 5, 46, 16, 10, 161, 0, 7, 4]
abbrev dktX1_carries_0 : List UInt8 := dkwX1_carries_0 ++ dktX1_carries_1
theorem dksX1_carries_0 : cX1_carries.data.toList.drop 0 = dktX1_carries_0 := by decide +kernel
theorem dksX1_carries_1 : cX1_carries.data.toList.drop 24 = dktX1_carries_1 := dk_seg dksX1_carries_0 24 rfl rfl
theorem dX1_carries_0 : decode cX1_carries 0 = .ok (.aload_n 0, 1) := dk_42 (dk_at dksX1_carries_0 0 rfl rfl)
theorem dX1_carries_1 : decode cX1_carries 1 = .ok (.getfield 38, 3) := dk_180 0 38 (dk_at dksX1_carries_0 1 rfl rfl)
theorem dX1_carries_4 : decode cX1_carries 4 = .ok (.iload_n 1, 1) := dk_27 (dk_at dksX1_carries_0 4 rfl rfl)
theorem dX1_carries_5 : decode cX1_carries 5 = .ok (.iaload, 1) := dk_46 (dk_at dksX1_carries_0 5 rfl rfl)
theorem dX1_carries_6 : decode cX1_carries 6 = .ok (.iconst (-1), 1) := dk_2 (dk_at dksX1_carries_0 6 rfl rfl)
theorem dX1_carries_7 : decode cX1_carries 7 = .ok (.if_icmp .eq 20, 3) := dk_159 0 20 (dk_at dksX1_carries_0 7 rfl rfl)
theorem dX1_carries_10 : decode cX1_carries 10 = .ok (.aload_n 0, 1) := dk_42 (dk_at dksX1_carries_0 10 rfl rfl)
theorem dX1_carries_11 : decode cX1_carries 11 = .ok (.getfield 11, 3) := dk_180 0 11 (dk_at dksX1_carries_0 11 rfl rfl)
theorem dX1_carries_14 : decode cX1_carries 14 = .ok (.iload_n 1, 1) := dk_27 (dk_at dksX1_carries_0 14 rfl rfl)
theorem dX1_carries_15 : decode cX1_carries 15 = .ok (.aaload, 1) := dk_50 (dk_at dksX1_carries_0 15 rfl rfl)
theorem dX1_carries_16 : decode cX1_carries 16 = .ok (.iconst 2, 1) := dk_5 (dk_at dksX1_carries_0 16 rfl rfl)
theorem dX1_carries_17 : decode cX1_carries 17 = .ok (.iaload, 1) := dk_46 (dk_at dksX1_carries_0 17 rfl rfl)
theorem dX1_carries_18 : decode cX1_carries 18 = .ok (.bipush 10, 2) := dk_16 10 (dk_at dksX1_carries_0 18 rfl rfl)
theorem dX1_carries_20 : decode cX1_carries 20 = .ok (.if_icmp .lt 7, 3) := dk_161 0 7 (dk_at dksX1_carries_0 20 rfl rfl)
theorem dX1_carries_23 : decode cX1_carries 23 = .ok (.iconst 1, 1) := dk_4 (dk_at dksX1_carries_0 23 rfl rfl)
theorem dX1_carries_24 : decode cX1_carries 24 = .ok (.goto 4, 3) := dk_167 0 4 (dk_at dksX1_carries_1 0 rfl rfl)
theorem dX1_carries_27 : decode cX1_carries 27 = .ok (.iconst 0, 1) := dk_3 (dk_at dksX1_carries_1 3 rfl rfl)
theorem dX1_carries_28 : decode cX1_carries 28 = .ok (.ireturn, 1) := dk_172 (dk_at dksX1_carries_1 4 rfl rfl)
abbrev cX1_fades : ByteArray := prog_16_method_31_code
def yX1_fades : MethodName := ⟨RX1, "fades", "()V"⟩
def dkwX1_fades_2 : List UInt8 := [132, 1, 1, 167, 255, 207, 177]
abbrev dktX1_fades_2 : List UInt8 := dkwX1_fades_2 ++ []
def dkwX1_fades_1 : List UInt8 := [180, 0, 11, 27, 50, 28, 46, 42, 27, 28, 182, 0, 199, 100, 184, 0, 147, 79, 132, 2, 1, 167, 255, 221]
abbrev dktX1_fades_1 : List UInt8 := dkwX1_fades_1 ++ dktX1_fades_2
def dkwX1_fades_0 : List UInt8 := [3, 60, 27, 16, 8, 162, 0, 49, 3, 61, 28, 8, 162, 0, 36, 42, 180, 0, 11, 27, 50, 28, 3, 42]
abbrev dktX1_fades_0 : List UInt8 := dkwX1_fades_0 ++ dktX1_fades_1
theorem dksX1_fades_0 : cX1_fades.data.toList.drop 0 = dktX1_fades_0 := by decide +kernel
theorem dksX1_fades_1 : cX1_fades.data.toList.drop 24 = dktX1_fades_1 := dk_seg dksX1_fades_0 24 rfl rfl
theorem dksX1_fades_2 : cX1_fades.data.toList.drop 48 = dktX1_fades_2 := dk_seg dksX1_fades_1 24 rfl rfl
theorem dX1_fades_0 : decode cX1_fades 0 = .ok (.iconst 0, 1) := dk_3 (dk_at dksX1_fades_0 0 rfl rfl)
theorem dX1_fades_1 : decode cX1_fades 1 = .ok (.istore_n 1, 1) := dk_60 (dk_at dksX1_fades_0 1 rfl rfl)
theorem dX1_fades_2 : decode cX1_fades 2 = .ok (.iload_n 1, 1) := dk_27 (dk_at dksX1_fades_0 2 rfl rfl)
theorem dX1_fades_3 : decode cX1_fades 3 = .ok (.bipush 8, 2) := dk_16 8 (dk_at dksX1_fades_0 3 rfl rfl)
theorem dX1_fades_5 : decode cX1_fades 5 = .ok (.if_icmp .ge 49, 3) := dk_162 0 49 (dk_at dksX1_fades_0 5 rfl rfl)
theorem dX1_fades_8 : decode cX1_fades 8 = .ok (.iconst 0, 1) := dk_3 (dk_at dksX1_fades_0 8 rfl rfl)
theorem dX1_fades_9 : decode cX1_fades 9 = .ok (.istore_n 2, 1) := dk_61 (dk_at dksX1_fades_0 9 rfl rfl)
theorem dX1_fades_10 : decode cX1_fades 10 = .ok (.iload_n 2, 1) := dk_28 (dk_at dksX1_fades_0 10 rfl rfl)
theorem dX1_fades_11 : decode cX1_fades 11 = .ok (.iconst 5, 1) := dk_8 (dk_at dksX1_fades_0 11 rfl rfl)
theorem dX1_fades_12 : decode cX1_fades 12 = .ok (.if_icmp .ge 36, 3) := dk_162 0 36 (dk_at dksX1_fades_0 12 rfl rfl)
theorem dX1_fades_15 : decode cX1_fades 15 = .ok (.aload_n 0, 1) := dk_42 (dk_at dksX1_fades_0 15 rfl rfl)
theorem dX1_fades_16 : decode cX1_fades 16 = .ok (.getfield 11, 3) := dk_180 0 11 (dk_at dksX1_fades_0 16 rfl rfl)
theorem dX1_fades_19 : decode cX1_fades 19 = .ok (.iload_n 1, 1) := dk_27 (dk_at dksX1_fades_0 19 rfl rfl)
theorem dX1_fades_20 : decode cX1_fades 20 = .ok (.aaload, 1) := dk_50 (dk_at dksX1_fades_0 20 rfl rfl)
theorem dX1_fades_21 : decode cX1_fades 21 = .ok (.iload_n 2, 1) := dk_28 (dk_at dksX1_fades_0 21 rfl rfl)
theorem dX1_fades_22 : decode cX1_fades 22 = .ok (.iconst 0, 1) := dk_3 (dk_at dksX1_fades_0 22 rfl rfl)
theorem dX1_fades_23 : decode cX1_fades 23 = .ok (.aload_n 0, 1) := dk_42 (dk_at dksX1_fades_0 23 rfl rfl)
theorem dX1_fades_24 : decode cX1_fades 24 = .ok (.getfield 11, 3) := dk_180 0 11 (dk_at dksX1_fades_1 0 rfl rfl)
theorem dX1_fades_27 : decode cX1_fades 27 = .ok (.iload_n 1, 1) := dk_27 (dk_at dksX1_fades_1 3 rfl rfl)
theorem dX1_fades_28 : decode cX1_fades 28 = .ok (.aaload, 1) := dk_50 (dk_at dksX1_fades_1 4 rfl rfl)
theorem dX1_fades_29 : decode cX1_fades 29 = .ok (.iload_n 2, 1) := dk_28 (dk_at dksX1_fades_1 5 rfl rfl)
theorem dX1_fades_30 : decode cX1_fades 30 = .ok (.iaload, 1) := dk_46 (dk_at dksX1_fades_1 6 rfl rfl)
theorem dX1_fades_31 : decode cX1_fades 31 = .ok (.aload_n 0, 1) := dk_42 (dk_at dksX1_fades_1 7 rfl rfl)
theorem dX1_fades_32 : decode cX1_fades 32 = .ok (.iload_n 1, 1) := dk_27 (dk_at dksX1_fades_1 8 rfl rfl)
theorem dX1_fades_33 : decode cX1_fades 33 = .ok (.iload_n 2, 1) := dk_28 (dk_at dksX1_fades_1 9 rfl rfl)
theorem dX1_fades_34 : decode cX1_fades 34 = .ok (.invokevirtual 199, 3) := dk_182 0 199 (dk_at dksX1_fades_1 10 rfl rfl)
theorem dX1_fades_37 : decode cX1_fades 37 = .ok (.isub, 1) := dk_100 (dk_at dksX1_fades_1 13 rfl rfl)
theorem dX1_fades_38 : decode cX1_fades 38 = .ok (.invokestatic 147, 3) := dk_184 0 147 (dk_at dksX1_fades_1 14 rfl rfl)
theorem dX1_fades_41 : decode cX1_fades 41 = .ok (.iastore, 1) := dk_79 (dk_at dksX1_fades_1 17 rfl rfl)
theorem dX1_fades_42 : decode cX1_fades 42 = .ok (.iinc 2 1, 3) := dk_132 2 1 (dk_at dksX1_fades_1 18 rfl rfl)
theorem dX1_fades_45 : decode cX1_fades 45 = .ok (.goto (-35), 3) := dk_167 255 221 (dk_at dksX1_fades_1 21 rfl rfl)
theorem dX1_fades_48 : decode cX1_fades 48 = .ok (.iinc 1 1, 3) := dk_132 1 1 (dk_at dksX1_fades_2 0 rfl rfl)
theorem dX1_fades_51 : decode cX1_fades 51 = .ok (.goto (-49), 3) := dk_167 255 207 (dk_at dksX1_fades_2 3 rfl rfl)
theorem dX1_fades_54 : decode cX1_fades 54 = .ok (.return_, 1) := dk_177 (dk_at dksX1_fades_2 6 rfl rfl)
abbrev cX1_fade : ByteArray := prog_16_method_17_code
def yX1_fade : MethodName := ⟨RX1, "fade", "(II)I"⟩
def dkwX1_fade_1 : List UInt8 := [172]
abbrev dktX1_fade_1 : List UInt8 := dkwX1_fade_1 ++ []
def dkwX1_fade_0 : List UInt8 := [42, 2, 181, 0, 107, 42, 28, 181, 0, 110, 42, 27, 181, 0, 113, 42, 16, 8, 4, 16, 99, 182, 0, 154]
abbrev dktX1_fade_0 : List UInt8 := dkwX1_fade_0 ++ dktX1_fade_1
theorem dksX1_fade_0 : cX1_fade.data.toList.drop 0 = dktX1_fade_0 := by decide +kernel
theorem dksX1_fade_1 : cX1_fade.data.toList.drop 24 = dktX1_fade_1 := dk_seg dksX1_fade_0 24 rfl rfl
theorem dX1_fade_0 : decode cX1_fade 0 = .ok (.aload_n 0, 1) := dk_42 (dk_at dksX1_fade_0 0 rfl rfl)
theorem dX1_fade_1 : decode cX1_fade 1 = .ok (.iconst (-1), 1) := dk_2 (dk_at dksX1_fade_0 1 rfl rfl)
theorem dX1_fade_2 : decode cX1_fade 2 = .ok (.putfield 107, 3) := dk_181 0 107 (dk_at dksX1_fade_0 2 rfl rfl)
theorem dX1_fade_5 : decode cX1_fade 5 = .ok (.aload_n 0, 1) := dk_42 (dk_at dksX1_fade_0 5 rfl rfl)
theorem dX1_fade_6 : decode cX1_fade 6 = .ok (.iload_n 2, 1) := dk_28 (dk_at dksX1_fade_0 6 rfl rfl)
theorem dX1_fade_7 : decode cX1_fade 7 = .ok (.putfield 110, 3) := dk_181 0 110 (dk_at dksX1_fade_0 7 rfl rfl)
theorem dX1_fade_10 : decode cX1_fade 10 = .ok (.aload_n 0, 1) := dk_42 (dk_at dksX1_fade_0 10 rfl rfl)
theorem dX1_fade_11 : decode cX1_fade 11 = .ok (.iload_n 1, 1) := dk_27 (dk_at dksX1_fade_0 11 rfl rfl)
theorem dX1_fade_12 : decode cX1_fade 12 = .ok (.putfield 113, 3) := dk_181 0 113 (dk_at dksX1_fade_0 12 rfl rfl)
theorem dX1_fade_15 : decode cX1_fade 15 = .ok (.aload_n 0, 1) := dk_42 (dk_at dksX1_fade_0 15 rfl rfl)
theorem dX1_fade_16 : decode cX1_fade 16 = .ok (.bipush 8, 2) := dk_16 8 (dk_at dksX1_fade_0 16 rfl rfl)
theorem dX1_fade_18 : decode cX1_fade 18 = .ok (.iconst 1, 1) := dk_4 (dk_at dksX1_fade_0 18 rfl rfl)
theorem dX1_fade_19 : decode cX1_fade 19 = .ok (.bipush 99, 2) := dk_16 99 (dk_at dksX1_fade_0 19 rfl rfl)
theorem dX1_fade_21 : decode cX1_fade 21 = .ok (.invokevirtual 154, 3) := dk_182 0 154 (dk_at dksX1_fade_0 21 rfl rfl)
theorem dX1_fade_24 : decode cX1_fade 24 = .ok (.ireturn, 1) := dk_172 (dk_at dksX1_fade_1 0 rfl rfl)
abbrev cX1_graves : ByteArray := prog_16_method_32_code
def yX1_graves : MethodName := ⟨RX1, "graves", "()V"⟩
def dkwX1_graves_3 : List UInt8 := [132, 1, 1, 167, 255, 183, 177]
abbrev dktX1_graves_3 : List UInt8 := dkwX1_graves_3 ++ []
def dkwX1_graves_2 : List UInt8 := [46, 50, 42, 180, 0, 22, 27, 46, 46, 42, 180, 0, 26, 27, 46, 4, 96, 5, 108, 96, 184, 0, 141, 79]
abbrev dktX1_graves_2 : List UInt8 := dkwX1_graves_2 ++ dktX1_graves_3
def dkwX1_graves_1 : List UInt8 := [42, 180, 0, 29, 27, 46, 50, 42, 180, 0, 22, 27, 46, 16, 99, 42, 180, 0, 11, 42, 180, 0, 29, 27]
abbrev dktX1_graves_1 : List UInt8 := dkwX1_graves_1 ++ dktX1_graves_2
def dkwX1_graves_0 : List UInt8 := [3, 60, 27, 42, 180, 0, 57, 162, 0, 71, 42, 180, 0, 32, 27, 46, 4, 160, 0, 55, 42, 180, 0, 11]
abbrev dktX1_graves_0 : List UInt8 := dkwX1_graves_0 ++ dktX1_graves_1
theorem dksX1_graves_0 : cX1_graves.data.toList.drop 0 = dktX1_graves_0 := by decide +kernel
theorem dksX1_graves_1 : cX1_graves.data.toList.drop 24 = dktX1_graves_1 := dk_seg dksX1_graves_0 24 rfl rfl
theorem dksX1_graves_2 : cX1_graves.data.toList.drop 48 = dktX1_graves_2 := dk_seg dksX1_graves_1 24 rfl rfl
theorem dksX1_graves_3 : cX1_graves.data.toList.drop 72 = dktX1_graves_3 := dk_seg dksX1_graves_2 24 rfl rfl
theorem dX1_graves_0 : decode cX1_graves 0 = .ok (.iconst 0, 1) := dk_3 (dk_at dksX1_graves_0 0 rfl rfl)
theorem dX1_graves_1 : decode cX1_graves 1 = .ok (.istore_n 1, 1) := dk_60 (dk_at dksX1_graves_0 1 rfl rfl)
theorem dX1_graves_2 : decode cX1_graves 2 = .ok (.iload_n 1, 1) := dk_27 (dk_at dksX1_graves_0 2 rfl rfl)
theorem dX1_graves_3 : decode cX1_graves 3 = .ok (.aload_n 0, 1) := dk_42 (dk_at dksX1_graves_0 3 rfl rfl)
theorem dX1_graves_4 : decode cX1_graves 4 = .ok (.getfield 57, 3) := dk_180 0 57 (dk_at dksX1_graves_0 4 rfl rfl)
theorem dX1_graves_7 : decode cX1_graves 7 = .ok (.if_icmp .ge 71, 3) := dk_162 0 71 (dk_at dksX1_graves_0 7 rfl rfl)
theorem dX1_graves_10 : decode cX1_graves 10 = .ok (.aload_n 0, 1) := dk_42 (dk_at dksX1_graves_0 10 rfl rfl)
theorem dX1_graves_11 : decode cX1_graves 11 = .ok (.getfield 32, 3) := dk_180 0 32 (dk_at dksX1_graves_0 11 rfl rfl)
theorem dX1_graves_14 : decode cX1_graves 14 = .ok (.iload_n 1, 1) := dk_27 (dk_at dksX1_graves_0 14 rfl rfl)
theorem dX1_graves_15 : decode cX1_graves 15 = .ok (.iaload, 1) := dk_46 (dk_at dksX1_graves_0 15 rfl rfl)
theorem dX1_graves_16 : decode cX1_graves 16 = .ok (.iconst 1, 1) := dk_4 (dk_at dksX1_graves_0 16 rfl rfl)
theorem dX1_graves_17 : decode cX1_graves 17 = .ok (.if_icmp .ne 55, 3) := dk_160 0 55 (dk_at dksX1_graves_0 17 rfl rfl)
theorem dX1_graves_20 : decode cX1_graves 20 = .ok (.aload_n 0, 1) := dk_42 (dk_at dksX1_graves_0 20 rfl rfl)
theorem dX1_graves_21 : decode cX1_graves 21 = .ok (.getfield 11, 3) := dk_180 0 11 (dk_at dksX1_graves_0 21 rfl rfl)
theorem dX1_graves_24 : decode cX1_graves 24 = .ok (.aload_n 0, 1) := dk_42 (dk_at dksX1_graves_1 0 rfl rfl)
theorem dX1_graves_25 : decode cX1_graves 25 = .ok (.getfield 29, 3) := dk_180 0 29 (dk_at dksX1_graves_1 1 rfl rfl)
theorem dX1_graves_28 : decode cX1_graves 28 = .ok (.iload_n 1, 1) := dk_27 (dk_at dksX1_graves_1 4 rfl rfl)
theorem dX1_graves_29 : decode cX1_graves 29 = .ok (.iaload, 1) := dk_46 (dk_at dksX1_graves_1 5 rfl rfl)
theorem dX1_graves_30 : decode cX1_graves 30 = .ok (.aaload, 1) := dk_50 (dk_at dksX1_graves_1 6 rfl rfl)
theorem dX1_graves_31 : decode cX1_graves 31 = .ok (.aload_n 0, 1) := dk_42 (dk_at dksX1_graves_1 7 rfl rfl)
theorem dX1_graves_32 : decode cX1_graves 32 = .ok (.getfield 22, 3) := dk_180 0 22 (dk_at dksX1_graves_1 8 rfl rfl)
theorem dX1_graves_35 : decode cX1_graves 35 = .ok (.iload_n 1, 1) := dk_27 (dk_at dksX1_graves_1 11 rfl rfl)
theorem dX1_graves_36 : decode cX1_graves 36 = .ok (.iaload, 1) := dk_46 (dk_at dksX1_graves_1 12 rfl rfl)
theorem dX1_graves_37 : decode cX1_graves 37 = .ok (.bipush 99, 2) := dk_16 99 (dk_at dksX1_graves_1 13 rfl rfl)
theorem dX1_graves_39 : decode cX1_graves 39 = .ok (.aload_n 0, 1) := dk_42 (dk_at dksX1_graves_1 15 rfl rfl)
theorem dX1_graves_40 : decode cX1_graves 40 = .ok (.getfield 11, 3) := dk_180 0 11 (dk_at dksX1_graves_1 16 rfl rfl)
theorem dX1_graves_43 : decode cX1_graves 43 = .ok (.aload_n 0, 1) := dk_42 (dk_at dksX1_graves_1 19 rfl rfl)
theorem dX1_graves_44 : decode cX1_graves 44 = .ok (.getfield 29, 3) := dk_180 0 29 (dk_at dksX1_graves_1 20 rfl rfl)
theorem dX1_graves_47 : decode cX1_graves 47 = .ok (.iload_n 1, 1) := dk_27 (dk_at dksX1_graves_1 23 rfl rfl)
theorem dX1_graves_48 : decode cX1_graves 48 = .ok (.iaload, 1) := dk_46 (dk_at dksX1_graves_2 0 rfl rfl)
theorem dX1_graves_49 : decode cX1_graves 49 = .ok (.aaload, 1) := dk_50 (dk_at dksX1_graves_2 1 rfl rfl)
theorem dX1_graves_50 : decode cX1_graves 50 = .ok (.aload_n 0, 1) := dk_42 (dk_at dksX1_graves_2 2 rfl rfl)
theorem dX1_graves_51 : decode cX1_graves 51 = .ok (.getfield 22, 3) := dk_180 0 22 (dk_at dksX1_graves_2 3 rfl rfl)
theorem dX1_graves_54 : decode cX1_graves 54 = .ok (.iload_n 1, 1) := dk_27 (dk_at dksX1_graves_2 6 rfl rfl)
theorem dX1_graves_55 : decode cX1_graves 55 = .ok (.iaload, 1) := dk_46 (dk_at dksX1_graves_2 7 rfl rfl)
theorem dX1_graves_56 : decode cX1_graves 56 = .ok (.iaload, 1) := dk_46 (dk_at dksX1_graves_2 8 rfl rfl)
theorem dX1_graves_57 : decode cX1_graves 57 = .ok (.aload_n 0, 1) := dk_42 (dk_at dksX1_graves_2 9 rfl rfl)
theorem dX1_graves_58 : decode cX1_graves 58 = .ok (.getfield 26, 3) := dk_180 0 26 (dk_at dksX1_graves_2 10 rfl rfl)
theorem dX1_graves_61 : decode cX1_graves 61 = .ok (.iload_n 1, 1) := dk_27 (dk_at dksX1_graves_2 13 rfl rfl)
theorem dX1_graves_62 : decode cX1_graves 62 = .ok (.iaload, 1) := dk_46 (dk_at dksX1_graves_2 14 rfl rfl)
theorem dX1_graves_63 : decode cX1_graves 63 = .ok (.iconst 1, 1) := dk_4 (dk_at dksX1_graves_2 15 rfl rfl)
theorem dX1_graves_64 : decode cX1_graves 64 = .ok (.iadd, 1) := dk_96 (dk_at dksX1_graves_2 16 rfl rfl)
theorem dX1_graves_65 : decode cX1_graves 65 = .ok (.iconst 2, 1) := dk_5 (dk_at dksX1_graves_2 17 rfl rfl)
theorem dX1_graves_66 : decode cX1_graves 66 = .ok (.idiv, 1) := dk_108 (dk_at dksX1_graves_2 18 rfl rfl)
theorem dX1_graves_67 : decode cX1_graves 67 = .ok (.iadd, 1) := dk_96 (dk_at dksX1_graves_2 19 rfl rfl)
theorem dX1_graves_68 : decode cX1_graves 68 = .ok (.invokestatic 141, 3) := dk_184 0 141 (dk_at dksX1_graves_2 20 rfl rfl)
theorem dX1_graves_71 : decode cX1_graves 71 = .ok (.iastore, 1) := dk_79 (dk_at dksX1_graves_2 23 rfl rfl)
theorem dX1_graves_72 : decode cX1_graves 72 = .ok (.iinc 1 1, 3) := dk_132 1 1 (dk_at dksX1_graves_3 0 rfl rfl)
theorem dX1_graves_75 : decode cX1_graves 75 = .ok (.goto (-73), 3) := dk_167 255 183 (dk_at dksX1_graves_3 3 rfl rfl)
theorem dX1_graves_78 : decode cX1_graves 78 = .ok (.return_, 1) := dk_177 (dk_at dksX1_graves_3 6 rfl rfl)
abbrev cX1_criesOut : ByteArray := prog_16_method_33_code
def yX1_criesOut : MethodName := ⟨RX1, "criesOut", "()V"⟩
def dkwX1_criesOut_3 : List UInt8 := [181, 0, 210, 177]
abbrev dktX1_criesOut_3 : List UInt8 := dkwX1_criesOut_3 ++ []
def dkwX1_criesOut_2 : List UInt8 := [27, 28, 182, 0, 205, 154, 0, 4, 177, 42, 27, 28, 7, 182, 0, 208, 87, 42, 89, 180, 0, 210, 4, 96]
abbrev dktX1_criesOut_2 : List UInt8 := dkwX1_criesOut_2 ++ dktX1_criesOut_3
def dkwX1_criesOut_1 : List UInt8 := [180, 0, 73, 161, 0, 4, 177, 42, 42, 180, 0, 57, 182, 0, 202, 60, 42, 16, 8, 182, 0, 202, 61, 42]
abbrev dktX1_criesOut_1 : List UInt8 := dkwX1_criesOut_1 ++ dktX1_criesOut_2
def dkwX1_criesOut_0 : List UInt8 := [42, 180, 0, 73, 153, 0, 24, 42, 180, 0, 57, 153, 0, 17, 42, 17, 3, 232, 182, 0, 202, 42]
abbrev dktX1_criesOut_0 : List UInt8 := dkwX1_criesOut_0 ++ dktX1_criesOut_1
theorem dksX1_criesOut_0 : cX1_criesOut.data.toList.drop 0 = dktX1_criesOut_0 := by decide +kernel
theorem dksX1_criesOut_1 : cX1_criesOut.data.toList.drop 22 = dktX1_criesOut_1 := dk_seg dksX1_criesOut_0 22 rfl rfl
theorem dksX1_criesOut_2 : cX1_criesOut.data.toList.drop 46 = dktX1_criesOut_2 := dk_seg dksX1_criesOut_1 24 rfl rfl
theorem dksX1_criesOut_3 : cX1_criesOut.data.toList.drop 70 = dktX1_criesOut_3 := dk_seg dksX1_criesOut_2 24 rfl rfl
theorem dX1_criesOut_0 : decode cX1_criesOut 0 = .ok (.aload_n 0, 1) := dk_42 (dk_at dksX1_criesOut_0 0 rfl rfl)
theorem dX1_criesOut_1 : decode cX1_criesOut 1 = .ok (.getfield 73, 3) := dk_180 0 73 (dk_at dksX1_criesOut_0 1 rfl rfl)
theorem dX1_criesOut_4 : decode cX1_criesOut 4 = .ok (.ifCond .eq 24, 3) := dk_153 0 24 (dk_at dksX1_criesOut_0 4 rfl rfl)
theorem dX1_criesOut_7 : decode cX1_criesOut 7 = .ok (.aload_n 0, 1) := dk_42 (dk_at dksX1_criesOut_0 7 rfl rfl)
theorem dX1_criesOut_8 : decode cX1_criesOut 8 = .ok (.getfield 57, 3) := dk_180 0 57 (dk_at dksX1_criesOut_0 8 rfl rfl)
theorem dX1_criesOut_11 : decode cX1_criesOut 11 = .ok (.ifCond .eq 17, 3) := dk_153 0 17 (dk_at dksX1_criesOut_0 11 rfl rfl)
theorem dX1_criesOut_14 : decode cX1_criesOut 14 = .ok (.aload_n 0, 1) := dk_42 (dk_at dksX1_criesOut_0 14 rfl rfl)
theorem dX1_criesOut_15 : decode cX1_criesOut 15 = .ok (.sipush 1000, 3) := dk_17 3 232 (dk_at dksX1_criesOut_0 15 rfl rfl)
theorem dX1_criesOut_18 : decode cX1_criesOut 18 = .ok (.invokevirtual 202, 3) := dk_182 0 202 (dk_at dksX1_criesOut_0 18 rfl rfl)
theorem dX1_criesOut_21 : decode cX1_criesOut 21 = .ok (.aload_n 0, 1) := dk_42 (dk_at dksX1_criesOut_0 21 rfl rfl)
theorem dX1_criesOut_22 : decode cX1_criesOut 22 = .ok (.getfield 73, 3) := dk_180 0 73 (dk_at dksX1_criesOut_1 0 rfl rfl)
theorem dX1_criesOut_25 : decode cX1_criesOut 25 = .ok (.if_icmp .lt 4, 3) := dk_161 0 4 (dk_at dksX1_criesOut_1 3 rfl rfl)
theorem dX1_criesOut_28 : decode cX1_criesOut 28 = .ok (.return_, 1) := dk_177 (dk_at dksX1_criesOut_1 6 rfl rfl)
theorem dX1_criesOut_29 : decode cX1_criesOut 29 = .ok (.aload_n 0, 1) := dk_42 (dk_at dksX1_criesOut_1 7 rfl rfl)
theorem dX1_criesOut_30 : decode cX1_criesOut 30 = .ok (.aload_n 0, 1) := dk_42 (dk_at dksX1_criesOut_1 8 rfl rfl)
theorem dX1_criesOut_31 : decode cX1_criesOut 31 = .ok (.getfield 57, 3) := dk_180 0 57 (dk_at dksX1_criesOut_1 9 rfl rfl)
theorem dX1_criesOut_34 : decode cX1_criesOut 34 = .ok (.invokevirtual 202, 3) := dk_182 0 202 (dk_at dksX1_criesOut_1 12 rfl rfl)
theorem dX1_criesOut_37 : decode cX1_criesOut 37 = .ok (.istore_n 1, 1) := dk_60 (dk_at dksX1_criesOut_1 15 rfl rfl)
theorem dX1_criesOut_38 : decode cX1_criesOut 38 = .ok (.aload_n 0, 1) := dk_42 (dk_at dksX1_criesOut_1 16 rfl rfl)
theorem dX1_criesOut_39 : decode cX1_criesOut 39 = .ok (.bipush 8, 2) := dk_16 8 (dk_at dksX1_criesOut_1 17 rfl rfl)
theorem dX1_criesOut_41 : decode cX1_criesOut 41 = .ok (.invokevirtual 202, 3) := dk_182 0 202 (dk_at dksX1_criesOut_1 19 rfl rfl)
theorem dX1_criesOut_44 : decode cX1_criesOut 44 = .ok (.istore_n 2, 1) := dk_61 (dk_at dksX1_criesOut_1 22 rfl rfl)
theorem dX1_criesOut_45 : decode cX1_criesOut 45 = .ok (.aload_n 0, 1) := dk_42 (dk_at dksX1_criesOut_1 23 rfl rfl)
theorem dX1_criesOut_46 : decode cX1_criesOut 46 = .ok (.iload_n 1, 1) := dk_27 (dk_at dksX1_criesOut_2 0 rfl rfl)
theorem dX1_criesOut_47 : decode cX1_criesOut 47 = .ok (.iload_n 2, 1) := dk_28 (dk_at dksX1_criesOut_2 1 rfl rfl)
theorem dX1_criesOut_48 : decode cX1_criesOut 48 = .ok (.invokevirtual 205, 3) := dk_182 0 205 (dk_at dksX1_criesOut_2 2 rfl rfl)
theorem dX1_criesOut_51 : decode cX1_criesOut 51 = .ok (.ifCond .ne 4, 3) := dk_154 0 4 (dk_at dksX1_criesOut_2 5 rfl rfl)
theorem dX1_criesOut_54 : decode cX1_criesOut 54 = .ok (.return_, 1) := dk_177 (dk_at dksX1_criesOut_2 8 rfl rfl)
theorem dX1_criesOut_55 : decode cX1_criesOut 55 = .ok (.aload_n 0, 1) := dk_42 (dk_at dksX1_criesOut_2 9 rfl rfl)
theorem dX1_criesOut_56 : decode cX1_criesOut 56 = .ok (.iload_n 1, 1) := dk_27 (dk_at dksX1_criesOut_2 10 rfl rfl)
theorem dX1_criesOut_57 : decode cX1_criesOut 57 = .ok (.iload_n 2, 1) := dk_28 (dk_at dksX1_criesOut_2 11 rfl rfl)
theorem dX1_criesOut_58 : decode cX1_criesOut 58 = .ok (.iconst 4, 1) := dk_7 (dk_at dksX1_criesOut_2 12 rfl rfl)
theorem dX1_criesOut_59 : decode cX1_criesOut 59 = .ok (.invokevirtual 208, 3) := dk_182 0 208 (dk_at dksX1_criesOut_2 13 rfl rfl)
theorem dX1_criesOut_62 : decode cX1_criesOut 62 = .ok (.pop, 1) := dk_87 (dk_at dksX1_criesOut_2 16 rfl rfl)
theorem dX1_criesOut_63 : decode cX1_criesOut 63 = .ok (.aload_n 0, 1) := dk_42 (dk_at dksX1_criesOut_2 17 rfl rfl)
theorem dX1_criesOut_64 : decode cX1_criesOut 64 = .ok (.dup, 1) := dk_89 (dk_at dksX1_criesOut_2 18 rfl rfl)
theorem dX1_criesOut_65 : decode cX1_criesOut 65 = .ok (.getfield 210, 3) := dk_180 0 210 (dk_at dksX1_criesOut_2 19 rfl rfl)
theorem dX1_criesOut_68 : decode cX1_criesOut 68 = .ok (.iconst 1, 1) := dk_4 (dk_at dksX1_criesOut_2 22 rfl rfl)
theorem dX1_criesOut_69 : decode cX1_criesOut 69 = .ok (.iadd, 1) := dk_96 (dk_at dksX1_criesOut_2 23 rfl rfl)
theorem dX1_criesOut_70 : decode cX1_criesOut 70 = .ok (.putfield 210, 3) := dk_181 0 210 (dk_at dksX1_criesOut_3 0 rfl rfl)
theorem dX1_criesOut_73 : decode cX1_criesOut 73 = .ok (.return_, 1) := dk_177 (dk_at dksX1_criesOut_3 3 rfl rfl)
abbrev cX1_draw : ByteArray := prog_16_method_5_code
def yX1_draw : MethodName := ⟨RX1, "draw", "(I)I"⟩
def dkwX1_draw_0 : List UInt8 := [42, 18, 83, 42, 180, 0, 67, 104, 18, 84, 96, 181, 0, 67, 42, 180, 0, 67, 16, 8, 124, 27, 112, 172]
abbrev dktX1_draw_0 : List UInt8 := dkwX1_draw_0 ++ []
theorem dksX1_draw_0 : cX1_draw.data.toList.drop 0 = dktX1_draw_0 := by decide +kernel
theorem dX1_draw_0 : decode cX1_draw 0 = .ok (.aload_n 0, 1) := dk_42 (dk_at dksX1_draw_0 0 rfl rfl)
theorem dX1_draw_1 : decode cX1_draw 1 = .ok (.ldc 83, 2) := dk_18 83 (dk_at dksX1_draw_0 1 rfl rfl)
theorem dX1_draw_3 : decode cX1_draw 3 = .ok (.aload_n 0, 1) := dk_42 (dk_at dksX1_draw_0 3 rfl rfl)
theorem dX1_draw_4 : decode cX1_draw 4 = .ok (.getfield 67, 3) := dk_180 0 67 (dk_at dksX1_draw_0 4 rfl rfl)
theorem dX1_draw_7 : decode cX1_draw 7 = .ok (.imul, 1) := dk_104 (dk_at dksX1_draw_0 7 rfl rfl)
theorem dX1_draw_8 : decode cX1_draw 8 = .ok (.ldc 84, 2) := dk_18 84 (dk_at dksX1_draw_0 8 rfl rfl)
theorem dX1_draw_10 : decode cX1_draw 10 = .ok (.iadd, 1) := dk_96 (dk_at dksX1_draw_0 10 rfl rfl)
theorem dX1_draw_11 : decode cX1_draw 11 = .ok (.putfield 67, 3) := dk_181 0 67 (dk_at dksX1_draw_0 11 rfl rfl)
theorem dX1_draw_14 : decode cX1_draw 14 = .ok (.aload_n 0, 1) := dk_42 (dk_at dksX1_draw_0 14 rfl rfl)
theorem dX1_draw_15 : decode cX1_draw 15 = .ok (.getfield 67, 3) := dk_180 0 67 (dk_at dksX1_draw_0 15 rfl rfl)
theorem dX1_draw_18 : decode cX1_draw 18 = .ok (.bipush 8, 2) := dk_16 8 (dk_at dksX1_draw_0 18 rfl rfl)
theorem dX1_draw_20 : decode cX1_draw 20 = .ok (.iushr, 1) := dk_124 (dk_at dksX1_draw_0 20 rfl rfl)
theorem dX1_draw_21 : decode cX1_draw 21 = .ok (.iload_n 1, 1) := dk_27 (dk_at dksX1_draw_0 21 rfl rfl)
theorem dX1_draw_22 : decode cX1_draw 22 = .ok (.irem, 1) := dk_112 (dk_at dksX1_draw_0 22 rfl rfl)
theorem dX1_draw_23 : decode cX1_draw 23 = .ok (.ireturn, 1) := dk_172 (dk_at dksX1_draw_0 23 rfl rfl)
abbrev cX1_cost : ByteArray := prog_16_method_16_code
def yX1_cost : MethodName := ⟨RX1, "cost", "(I)I"⟩
def dkwX1_cost_1 : List UInt8 := [182, 0, 154, 172]
abbrev dktX1_cost_1 : List UInt8 := dkwX1_cost_1 ++ []
def dkwX1_cost_0 : List UInt8 := [42, 27, 42, 180, 0, 29, 27, 46, 182, 0, 150, 42, 16, 9, 42, 180, 0, 26, 27, 46, 17, 3, 231]
abbrev dktX1_cost_0 : List UInt8 := dkwX1_cost_0 ++ dktX1_cost_1
theorem dksX1_cost_0 : cX1_cost.data.toList.drop 0 = dktX1_cost_0 := by decide +kernel
theorem dksX1_cost_1 : cX1_cost.data.toList.drop 23 = dktX1_cost_1 := dk_seg dksX1_cost_0 23 rfl rfl
theorem dX1_cost_0 : decode cX1_cost 0 = .ok (.aload_n 0, 1) := dk_42 (dk_at dksX1_cost_0 0 rfl rfl)
theorem dX1_cost_1 : decode cX1_cost 1 = .ok (.iload_n 1, 1) := dk_27 (dk_at dksX1_cost_0 1 rfl rfl)
theorem dX1_cost_2 : decode cX1_cost 2 = .ok (.aload_n 0, 1) := dk_42 (dk_at dksX1_cost_0 2 rfl rfl)
theorem dX1_cost_3 : decode cX1_cost 3 = .ok (.getfield 29, 3) := dk_180 0 29 (dk_at dksX1_cost_0 3 rfl rfl)
theorem dX1_cost_6 : decode cX1_cost 6 = .ok (.iload_n 1, 1) := dk_27 (dk_at dksX1_cost_0 6 rfl rfl)
theorem dX1_cost_7 : decode cX1_cost 7 = .ok (.iaload, 1) := dk_46 (dk_at dksX1_cost_0 7 rfl rfl)
theorem dX1_cost_8 : decode cX1_cost 8 = .ok (.invokevirtual 150, 3) := dk_182 0 150 (dk_at dksX1_cost_0 8 rfl rfl)
theorem dX1_cost_11 : decode cX1_cost 11 = .ok (.aload_n 0, 1) := dk_42 (dk_at dksX1_cost_0 11 rfl rfl)
theorem dX1_cost_12 : decode cX1_cost 12 = .ok (.bipush 9, 2) := dk_16 9 (dk_at dksX1_cost_0 12 rfl rfl)
theorem dX1_cost_14 : decode cX1_cost 14 = .ok (.aload_n 0, 1) := dk_42 (dk_at dksX1_cost_0 14 rfl rfl)
theorem dX1_cost_15 : decode cX1_cost 15 = .ok (.getfield 26, 3) := dk_180 0 26 (dk_at dksX1_cost_0 15 rfl rfl)
theorem dX1_cost_18 : decode cX1_cost 18 = .ok (.iload_n 1, 1) := dk_27 (dk_at dksX1_cost_0 18 rfl rfl)
theorem dX1_cost_19 : decode cX1_cost 19 = .ok (.iaload, 1) := dk_46 (dk_at dksX1_cost_0 19 rfl rfl)
theorem dX1_cost_20 : decode cX1_cost 20 = .ok (.sipush 999, 3) := dk_17 3 231 (dk_at dksX1_cost_0 20 rfl rfl)
theorem dX1_cost_23 : decode cX1_cost 23 = .ok (.invokevirtual 154, 3) := dk_182 0 154 (dk_at dksX1_cost_1 0 rfl rfl)
theorem dX1_cost_26 : decode cX1_cost 26 = .ok (.ireturn, 1) := dk_172 (dk_at dksX1_cost_1 3 rfl rfl)
abbrev cX1_thinks : ByteArray := prog_16_method_3_code
def yX1_thinks : MethodName := ⟨RX1, "thinks", "(LNamesWeather$Skies;)V"⟩
def dkwX1_thinks_3 : List UInt8 := [17, 0, 150, 181, 0, 70, 177]
abbrev dktX1_thinks_3 : List UInt8 := dkwX1_thinks_3 ++ []
def dkwX1_thinks_2 : List UInt8 := [42, 180, 0, 38, 28, 43, 180, 0, 38, 28, 46, 79, 132, 2, 1, 167, 255, 235, 42, 43, 182, 0, 76, 42]
abbrev dktX1_thinks_2 : List UInt8 := dkwX1_thinks_2 ++ dktX1_thinks_3
def dkwX1_thinks_1 : List UInt8 := [42, 43, 180, 0, 54, 181, 0, 54, 42, 43, 180, 0, 73, 181, 0, 73, 3, 61, 28, 16, 8, 162, 0, 21]
abbrev dktX1_thinks_1 : List UInt8 := dkwX1_thinks_1 ++ dktX1_thinks_2
def dkwX1_thinks_0 : List UInt8 := [42, 43, 180, 0, 44, 181, 0, 44, 42, 43, 180, 0, 48, 181, 0, 48, 42, 43, 180, 0, 51, 181, 0, 51]
abbrev dktX1_thinks_0 : List UInt8 := dkwX1_thinks_0 ++ dktX1_thinks_1
theorem dksX1_thinks_0 : cX1_thinks.data.toList.drop 0 = dktX1_thinks_0 := by decide +kernel
theorem dksX1_thinks_1 : cX1_thinks.data.toList.drop 24 = dktX1_thinks_1 := dk_seg dksX1_thinks_0 24 rfl rfl
theorem dksX1_thinks_2 : cX1_thinks.data.toList.drop 48 = dktX1_thinks_2 := dk_seg dksX1_thinks_1 24 rfl rfl
theorem dksX1_thinks_3 : cX1_thinks.data.toList.drop 72 = dktX1_thinks_3 := dk_seg dksX1_thinks_2 24 rfl rfl
theorem dX1_thinks_0 : decode cX1_thinks 0 = .ok (.aload_n 0, 1) := dk_42 (dk_at dksX1_thinks_0 0 rfl rfl)
theorem dX1_thinks_1 : decode cX1_thinks 1 = .ok (.aload_n 1, 1) := dk_43 (dk_at dksX1_thinks_0 1 rfl rfl)
theorem dX1_thinks_2 : decode cX1_thinks 2 = .ok (.getfield 44, 3) := dk_180 0 44 (dk_at dksX1_thinks_0 2 rfl rfl)
theorem dX1_thinks_5 : decode cX1_thinks 5 = .ok (.putfield 44, 3) := dk_181 0 44 (dk_at dksX1_thinks_0 5 rfl rfl)
theorem dX1_thinks_8 : decode cX1_thinks 8 = .ok (.aload_n 0, 1) := dk_42 (dk_at dksX1_thinks_0 8 rfl rfl)
theorem dX1_thinks_9 : decode cX1_thinks 9 = .ok (.aload_n 1, 1) := dk_43 (dk_at dksX1_thinks_0 9 rfl rfl)
theorem dX1_thinks_10 : decode cX1_thinks 10 = .ok (.getfield 48, 3) := dk_180 0 48 (dk_at dksX1_thinks_0 10 rfl rfl)
theorem dX1_thinks_13 : decode cX1_thinks 13 = .ok (.putfield 48, 3) := dk_181 0 48 (dk_at dksX1_thinks_0 13 rfl rfl)
theorem dX1_thinks_16 : decode cX1_thinks 16 = .ok (.aload_n 0, 1) := dk_42 (dk_at dksX1_thinks_0 16 rfl rfl)
theorem dX1_thinks_17 : decode cX1_thinks 17 = .ok (.aload_n 1, 1) := dk_43 (dk_at dksX1_thinks_0 17 rfl rfl)
theorem dX1_thinks_18 : decode cX1_thinks 18 = .ok (.getfield 51, 3) := dk_180 0 51 (dk_at dksX1_thinks_0 18 rfl rfl)
theorem dX1_thinks_21 : decode cX1_thinks 21 = .ok (.putfield 51, 3) := dk_181 0 51 (dk_at dksX1_thinks_0 21 rfl rfl)
theorem dX1_thinks_24 : decode cX1_thinks 24 = .ok (.aload_n 0, 1) := dk_42 (dk_at dksX1_thinks_1 0 rfl rfl)
theorem dX1_thinks_25 : decode cX1_thinks 25 = .ok (.aload_n 1, 1) := dk_43 (dk_at dksX1_thinks_1 1 rfl rfl)
theorem dX1_thinks_26 : decode cX1_thinks 26 = .ok (.getfield 54, 3) := dk_180 0 54 (dk_at dksX1_thinks_1 2 rfl rfl)
theorem dX1_thinks_29 : decode cX1_thinks 29 = .ok (.putfield 54, 3) := dk_181 0 54 (dk_at dksX1_thinks_1 5 rfl rfl)
theorem dX1_thinks_32 : decode cX1_thinks 32 = .ok (.aload_n 0, 1) := dk_42 (dk_at dksX1_thinks_1 8 rfl rfl)
theorem dX1_thinks_33 : decode cX1_thinks 33 = .ok (.aload_n 1, 1) := dk_43 (dk_at dksX1_thinks_1 9 rfl rfl)
theorem dX1_thinks_34 : decode cX1_thinks 34 = .ok (.getfield 73, 3) := dk_180 0 73 (dk_at dksX1_thinks_1 10 rfl rfl)
theorem dX1_thinks_37 : decode cX1_thinks 37 = .ok (.putfield 73, 3) := dk_181 0 73 (dk_at dksX1_thinks_1 13 rfl rfl)
theorem dX1_thinks_40 : decode cX1_thinks 40 = .ok (.iconst 0, 1) := dk_3 (dk_at dksX1_thinks_1 16 rfl rfl)
theorem dX1_thinks_41 : decode cX1_thinks 41 = .ok (.istore_n 2, 1) := dk_61 (dk_at dksX1_thinks_1 17 rfl rfl)
theorem dX1_thinks_42 : decode cX1_thinks 42 = .ok (.iload_n 2, 1) := dk_28 (dk_at dksX1_thinks_1 18 rfl rfl)
theorem dX1_thinks_43 : decode cX1_thinks 43 = .ok (.bipush 8, 2) := dk_16 8 (dk_at dksX1_thinks_1 19 rfl rfl)
theorem dX1_thinks_45 : decode cX1_thinks 45 = .ok (.if_icmp .ge 21, 3) := dk_162 0 21 (dk_at dksX1_thinks_1 21 rfl rfl)
theorem dX1_thinks_48 : decode cX1_thinks 48 = .ok (.aload_n 0, 1) := dk_42 (dk_at dksX1_thinks_2 0 rfl rfl)
theorem dX1_thinks_49 : decode cX1_thinks 49 = .ok (.getfield 38, 3) := dk_180 0 38 (dk_at dksX1_thinks_2 1 rfl rfl)
theorem dX1_thinks_52 : decode cX1_thinks 52 = .ok (.iload_n 2, 1) := dk_28 (dk_at dksX1_thinks_2 4 rfl rfl)
theorem dX1_thinks_53 : decode cX1_thinks 53 = .ok (.aload_n 1, 1) := dk_43 (dk_at dksX1_thinks_2 5 rfl rfl)
theorem dX1_thinks_54 : decode cX1_thinks 54 = .ok (.getfield 38, 3) := dk_180 0 38 (dk_at dksX1_thinks_2 6 rfl rfl)
theorem dX1_thinks_57 : decode cX1_thinks 57 = .ok (.iload_n 2, 1) := dk_28 (dk_at dksX1_thinks_2 9 rfl rfl)
theorem dX1_thinks_58 : decode cX1_thinks 58 = .ok (.iaload, 1) := dk_46 (dk_at dksX1_thinks_2 10 rfl rfl)
theorem dX1_thinks_59 : decode cX1_thinks 59 = .ok (.iastore, 1) := dk_79 (dk_at dksX1_thinks_2 11 rfl rfl)
theorem dX1_thinks_60 : decode cX1_thinks 60 = .ok (.iinc 2 1, 3) := dk_132 2 1 (dk_at dksX1_thinks_2 12 rfl rfl)
theorem dX1_thinks_63 : decode cX1_thinks 63 = .ok (.goto (-21), 3) := dk_167 255 235 (dk_at dksX1_thinks_2 15 rfl rfl)
theorem dX1_thinks_66 : decode cX1_thinks 66 = .ok (.aload_n 0, 1) := dk_42 (dk_at dksX1_thinks_2 18 rfl rfl)
theorem dX1_thinks_67 : decode cX1_thinks 67 = .ok (.aload_n 1, 1) := dk_43 (dk_at dksX1_thinks_2 19 rfl rfl)
theorem dX1_thinks_68 : decode cX1_thinks 68 = .ok (.invokevirtual 76, 3) := dk_182 0 76 (dk_at dksX1_thinks_2 20 rfl rfl)
theorem dX1_thinks_71 : decode cX1_thinks 71 = .ok (.aload_n 0, 1) := dk_42 (dk_at dksX1_thinks_2 23 rfl rfl)
theorem dX1_thinks_72 : decode cX1_thinks 72 = .ok (.sipush 150, 3) := dk_17 0 150 (dk_at dksX1_thinks_3 0 rfl rfl)
theorem dX1_thinks_75 : decode cX1_thinks 75 = .ok (.putfield 70, 3) := dk_181 0 70 (dk_at dksX1_thinks_3 3 rfl rfl)
theorem dX1_thinks_78 : decode cX1_thinks 78 = .ok (.return_, 1) := dk_177 (dk_at dksX1_thinks_3 6 rfl rfl)
abbrev cX1_areClashing : ByteArray := prog_16_method_11_code
def yX1_areClashing : MethodName := ⟨RX1, "areClashing", "(II)Z"⟩
def dkwX1_areClashing_1 : List UInt8 := [27, 28, 182, 0, 103, 153, 0, 5, 4, 172, 132, 3, 1, 167, 255, 221, 3, 172]
abbrev dktX1_areClashing_1 : List UInt8 := dkwX1_areClashing_1 ++ []
def dkwX1_areClashing_0 : List UInt8 := [3, 62, 29, 42, 180, 0, 48, 182, 0, 93, 162, 0, 30, 42, 180, 0, 48, 29, 182, 0, 97, 192, 0, 101]
abbrev dktX1_areClashing_0 : List UInt8 := dkwX1_areClashing_0 ++ dktX1_areClashing_1
theorem dksX1_areClashing_0 : cX1_areClashing.data.toList.drop 0 = dktX1_areClashing_0 := by decide +kernel
theorem dksX1_areClashing_1 : cX1_areClashing.data.toList.drop 24 = dktX1_areClashing_1 := dk_seg dksX1_areClashing_0 24 rfl rfl
theorem dX1_areClashing_0 : decode cX1_areClashing 0 = .ok (.iconst 0, 1) := dk_3 (dk_at dksX1_areClashing_0 0 rfl rfl)
theorem dX1_areClashing_1 : decode cX1_areClashing 1 = .ok (.istore_n 3, 1) := dk_62 (dk_at dksX1_areClashing_0 1 rfl rfl)
theorem dX1_areClashing_2 : decode cX1_areClashing 2 = .ok (.iload_n 3, 1) := dk_29 (dk_at dksX1_areClashing_0 2 rfl rfl)
theorem dX1_areClashing_3 : decode cX1_areClashing 3 = .ok (.aload_n 0, 1) := dk_42 (dk_at dksX1_areClashing_0 3 rfl rfl)
theorem dX1_areClashing_4 : decode cX1_areClashing 4 = .ok (.getfield 48, 3) := dk_180 0 48 (dk_at dksX1_areClashing_0 4 rfl rfl)
theorem dX1_areClashing_7 : decode cX1_areClashing 7 = .ok (.invokevirtual 93, 3) := dk_182 0 93 (dk_at dksX1_areClashing_0 7 rfl rfl)
theorem dX1_areClashing_10 : decode cX1_areClashing 10 = .ok (.if_icmp .ge 30, 3) := dk_162 0 30 (dk_at dksX1_areClashing_0 10 rfl rfl)
theorem dX1_areClashing_13 : decode cX1_areClashing 13 = .ok (.aload_n 0, 1) := dk_42 (dk_at dksX1_areClashing_0 13 rfl rfl)
theorem dX1_areClashing_14 : decode cX1_areClashing 14 = .ok (.getfield 48, 3) := dk_180 0 48 (dk_at dksX1_areClashing_0 14 rfl rfl)
theorem dX1_areClashing_17 : decode cX1_areClashing 17 = .ok (.iload_n 3, 1) := dk_29 (dk_at dksX1_areClashing_0 17 rfl rfl)
theorem dX1_areClashing_18 : decode cX1_areClashing 18 = .ok (.invokevirtual 97, 3) := dk_182 0 97 (dk_at dksX1_areClashing_0 18 rfl rfl)
theorem dX1_areClashing_21 : decode cX1_areClashing 21 = .ok (.checkcast 101, 3) := dk_192 0 101 (dk_at dksX1_areClashing_0 21 rfl rfl)
theorem dX1_areClashing_24 : decode cX1_areClashing 24 = .ok (.iload_n 1, 1) := dk_27 (dk_at dksX1_areClashing_1 0 rfl rfl)
theorem dX1_areClashing_25 : decode cX1_areClashing 25 = .ok (.iload_n 2, 1) := dk_28 (dk_at dksX1_areClashing_1 1 rfl rfl)
theorem dX1_areClashing_26 : decode cX1_areClashing 26 = .ok (.invokevirtual 103, 3) := dk_182 0 103 (dk_at dksX1_areClashing_1 2 rfl rfl)
theorem dX1_areClashing_29 : decode cX1_areClashing 29 = .ok (.ifCond .eq 5, 3) := dk_153 0 5 (dk_at dksX1_areClashing_1 5 rfl rfl)
theorem dX1_areClashing_32 : decode cX1_areClashing 32 = .ok (.iconst 1, 1) := dk_4 (dk_at dksX1_areClashing_1 8 rfl rfl)
theorem dX1_areClashing_33 : decode cX1_areClashing 33 = .ok (.ireturn, 1) := dk_172 (dk_at dksX1_areClashing_1 9 rfl rfl)
theorem dX1_areClashing_34 : decode cX1_areClashing 34 = .ok (.iinc 3 1, 3) := dk_132 3 1 (dk_at dksX1_areClashing_1 10 rfl rfl)
theorem dX1_areClashing_37 : decode cX1_areClashing 37 = .ok (.goto (-35), 3) := dk_167 255 221 (dk_at dksX1_areClashing_1 13 rfl rfl)
theorem dX1_areClashing_40 : decode cX1_areClashing 40 = .ok (.iconst 0, 1) := dk_3 (dk_at dksX1_areClashing_1 16 rfl rfl)
theorem dX1_areClashing_41 : decode cX1_areClashing 41 = .ok (.ireturn, 1) := dk_172 (dk_at dksX1_areClashing_1 17 rfl rfl)
abbrev cX1_takes : ByteArray := prog_16_method_4_code
def yX1_takes : MethodName := ⟨RX1, "takes", "(LNamesWeather$Skies;)V"⟩
def dkwX1_takes_2 : List UInt8 := [132, 3, 1, 167, 255, 232, 132, 2, 1, 167, 255, 216, 177]
abbrev dktX1_takes_2 : List UInt8 := dkwX1_takes_2 ++ []
def dkwX1_takes_1 : List UInt8 := [62, 29, 8, 162, 0, 25, 42, 180, 0, 19, 28, 50, 29, 43, 180, 0, 19, 28, 50, 29, 46, 79]
abbrev dktX1_takes_1 : List UInt8 := dkwX1_takes_1 ++ dktX1_takes_2
def dkwX1_takes_0 : List UInt8 := [42, 43, 182, 0, 80, 42, 43, 180, 0, 70, 181, 0, 70, 3, 61, 28, 42, 180, 0, 70, 162, 0, 38, 3]
abbrev dktX1_takes_0 : List UInt8 := dkwX1_takes_0 ++ dktX1_takes_1
theorem dksX1_takes_0 : cX1_takes.data.toList.drop 0 = dktX1_takes_0 := by decide +kernel
theorem dksX1_takes_1 : cX1_takes.data.toList.drop 24 = dktX1_takes_1 := dk_seg dksX1_takes_0 24 rfl rfl
theorem dksX1_takes_2 : cX1_takes.data.toList.drop 46 = dktX1_takes_2 := dk_seg dksX1_takes_1 22 rfl rfl
theorem dX1_takes_0 : decode cX1_takes 0 = .ok (.aload_n 0, 1) := dk_42 (dk_at dksX1_takes_0 0 rfl rfl)
theorem dX1_takes_1 : decode cX1_takes 1 = .ok (.aload_n 1, 1) := dk_43 (dk_at dksX1_takes_0 1 rfl rfl)
theorem dX1_takes_2 : decode cX1_takes 2 = .ok (.invokevirtual 80, 3) := dk_182 0 80 (dk_at dksX1_takes_0 2 rfl rfl)
theorem dX1_takes_5 : decode cX1_takes 5 = .ok (.aload_n 0, 1) := dk_42 (dk_at dksX1_takes_0 5 rfl rfl)
theorem dX1_takes_6 : decode cX1_takes 6 = .ok (.aload_n 1, 1) := dk_43 (dk_at dksX1_takes_0 6 rfl rfl)
theorem dX1_takes_7 : decode cX1_takes 7 = .ok (.getfield 70, 3) := dk_180 0 70 (dk_at dksX1_takes_0 7 rfl rfl)
theorem dX1_takes_10 : decode cX1_takes 10 = .ok (.putfield 70, 3) := dk_181 0 70 (dk_at dksX1_takes_0 10 rfl rfl)
theorem dX1_takes_13 : decode cX1_takes 13 = .ok (.iconst 0, 1) := dk_3 (dk_at dksX1_takes_0 13 rfl rfl)
theorem dX1_takes_14 : decode cX1_takes 14 = .ok (.istore_n 2, 1) := dk_61 (dk_at dksX1_takes_0 14 rfl rfl)
theorem dX1_takes_15 : decode cX1_takes 15 = .ok (.iload_n 2, 1) := dk_28 (dk_at dksX1_takes_0 15 rfl rfl)
theorem dX1_takes_16 : decode cX1_takes 16 = .ok (.aload_n 0, 1) := dk_42 (dk_at dksX1_takes_0 16 rfl rfl)
theorem dX1_takes_17 : decode cX1_takes 17 = .ok (.getfield 70, 3) := dk_180 0 70 (dk_at dksX1_takes_0 17 rfl rfl)
theorem dX1_takes_20 : decode cX1_takes 20 = .ok (.if_icmp .ge 38, 3) := dk_162 0 38 (dk_at dksX1_takes_0 20 rfl rfl)
theorem dX1_takes_23 : decode cX1_takes 23 = .ok (.iconst 0, 1) := dk_3 (dk_at dksX1_takes_0 23 rfl rfl)
theorem dX1_takes_24 : decode cX1_takes 24 = .ok (.istore_n 3, 1) := dk_62 (dk_at dksX1_takes_1 0 rfl rfl)
theorem dX1_takes_25 : decode cX1_takes 25 = .ok (.iload_n 3, 1) := dk_29 (dk_at dksX1_takes_1 1 rfl rfl)
theorem dX1_takes_26 : decode cX1_takes 26 = .ok (.iconst 5, 1) := dk_8 (dk_at dksX1_takes_1 2 rfl rfl)
theorem dX1_takes_27 : decode cX1_takes 27 = .ok (.if_icmp .ge 25, 3) := dk_162 0 25 (dk_at dksX1_takes_1 3 rfl rfl)
theorem dX1_takes_30 : decode cX1_takes 30 = .ok (.aload_n 0, 1) := dk_42 (dk_at dksX1_takes_1 6 rfl rfl)
theorem dX1_takes_31 : decode cX1_takes 31 = .ok (.getfield 19, 3) := dk_180 0 19 (dk_at dksX1_takes_1 7 rfl rfl)
theorem dX1_takes_34 : decode cX1_takes 34 = .ok (.iload_n 2, 1) := dk_28 (dk_at dksX1_takes_1 10 rfl rfl)
theorem dX1_takes_35 : decode cX1_takes 35 = .ok (.aaload, 1) := dk_50 (dk_at dksX1_takes_1 11 rfl rfl)
theorem dX1_takes_36 : decode cX1_takes 36 = .ok (.iload_n 3, 1) := dk_29 (dk_at dksX1_takes_1 12 rfl rfl)
theorem dX1_takes_37 : decode cX1_takes 37 = .ok (.aload_n 1, 1) := dk_43 (dk_at dksX1_takes_1 13 rfl rfl)
theorem dX1_takes_38 : decode cX1_takes 38 = .ok (.getfield 19, 3) := dk_180 0 19 (dk_at dksX1_takes_1 14 rfl rfl)
theorem dX1_takes_41 : decode cX1_takes 41 = .ok (.iload_n 2, 1) := dk_28 (dk_at dksX1_takes_1 17 rfl rfl)
theorem dX1_takes_42 : decode cX1_takes 42 = .ok (.aaload, 1) := dk_50 (dk_at dksX1_takes_1 18 rfl rfl)
theorem dX1_takes_43 : decode cX1_takes 43 = .ok (.iload_n 3, 1) := dk_29 (dk_at dksX1_takes_1 19 rfl rfl)
theorem dX1_takes_44 : decode cX1_takes 44 = .ok (.iaload, 1) := dk_46 (dk_at dksX1_takes_1 20 rfl rfl)
theorem dX1_takes_45 : decode cX1_takes 45 = .ok (.iastore, 1) := dk_79 (dk_at dksX1_takes_1 21 rfl rfl)
theorem dX1_takes_46 : decode cX1_takes 46 = .ok (.iinc 3 1, 3) := dk_132 3 1 (dk_at dksX1_takes_2 0 rfl rfl)
theorem dX1_takes_49 : decode cX1_takes 49 = .ok (.goto (-24), 3) := dk_167 255 232 (dk_at dksX1_takes_2 3 rfl rfl)
theorem dX1_takes_52 : decode cX1_takes 52 = .ok (.iinc 2 1, 3) := dk_132 2 1 (dk_at dksX1_takes_2 6 rfl rfl)
theorem dX1_takes_55 : decode cX1_takes 55 = .ok (.goto (-40), 3) := dk_167 255 216 (dk_at dksX1_takes_2 9 rfl rfl)
theorem dX1_takes_58 : decode cX1_takes 58 = .ok (.return_, 1) := dk_177 (dk_at dksX1_takes_2 12 rfl rfl)
theorem q162 : (Jvm.Cond.initialized "NamesWeather$Skies") ∈ lw_all := lw_g (lw_at lw_m1 2 rfl) rfl
theorem q204 : (Jvm.Cond.instantiable "NamesWeather$Skies" (23 : Nat)) ∈ lw_all := lw_g (lw_at lw_m1 44 rfl) rfl
theorem q206 : (Jvm.Cond.instanceMethod ({ cls := "NamesWeather$Skies", name := "<init>", desc := "()V" } : Jvm.MethodName)) ∈ lw_all := lw_g (lw_at lw_m1 46 rfl) rfl
theorem q207 : (Jvm.Cond.code ({ cls := "NamesWeather$Skies", name := "<init>", desc := "()V" } : Jvm.MethodName) prog_16_method_1_code (2 : Nat) (Option.none : Option Jvm.ClassFile.FieldType)) ∈ lw_all := lw_g (lw_at lw_m1 47 rfl) rfl
theorem q208 : (Jvm.Cond.methodLink "NamesWeather$Skies" (3 : Nat) ({ cls := "java/lang/Object", name := "<init>", desc := "()V" } : Jvm.MethodName)) ∈ lw_all := lw_g (lw_at lw_m1 48 rfl) rfl
theorem q209 : (Jvm.Cond.classLink "NamesWeather$Skies" (9 : Nat) "[[I") ∈ lw_all := lw_g (lw_at lw_m1 49 rfl) rfl
theorem q211 : (Jvm.Cond.classLink "NamesWeather$Skies" (41 : Nat) "java/util/ArrayList") ∈ lw_all := lw_g (lw_at lw_m1 51 rfl) rfl
theorem q213 : (Jvm.Cond.methodLink "NamesWeather$Skies" (43 : Nat) ({ cls := "java/util/ArrayList", name := "<init>", desc := "()V" } : Jvm.MethodName)) ∈ lw_all := lw_g (lw_at lw_m1 53 rfl) rfl
theorem q239 : (Jvm.Cond.fieldLink "NamesWeather$Skies" (11 : Nat) "NamesWeather$Skies" "sky" "[[I") ∈ lw_all := lw_g (lw_at lw_m1 79 rfl) rfl
theorem q242 : (Jvm.Cond.fieldLink "NamesWeather$Skies" (16 : Nat) "NamesWeather$Skies" "carried" "[[I") ∈ lw_all := lw_g (lw_at lw_m1 82 rfl) rfl
theorem q243 : (Jvm.Cond.fieldLink "NamesWeather$Skies" (19 : Nat) "NamesWeather$Skies" "book" "[[I") ∈ lw_all := lw_g (lw_at lw_m1 83 rfl) rfl
theorem q245 : (Jvm.Cond.fieldLink "NamesWeather$Skies" (22 : Nat) "NamesWeather$Skies" "kind" "[I") ∈ lw_all := lw_g (lw_at lw_m1 85 rfl) rfl
theorem q247 : (Jvm.Cond.fieldLink "NamesWeather$Skies" (26 : Nat) "NamesWeather$Skies" "strength" "[I") ∈ lw_all := lw_g (lw_at lw_m1 87 rfl) rfl
theorem q249 : (Jvm.Cond.fieldLink "NamesWeather$Skies" (29 : Nat) "NamesWeather$Skies" "island" "[I") ∈ lw_all := lw_g (lw_at lw_m1 89 rfl) rfl
theorem q251 : (Jvm.Cond.fieldLink "NamesWeather$Skies" (32 : Nat) "NamesWeather$Skies" "dead" "[I") ∈ lw_all := lw_g (lw_at lw_m1 91 rfl) rfl
theorem q253 : (Jvm.Cond.fieldLink "NamesWeather$Skies" (35 : Nat) "NamesWeather$Skies" "calls" "[I") ∈ lw_all := lw_g (lw_at lw_m1 93 rfl) rfl
theorem q255 : (Jvm.Cond.fieldLink "NamesWeather$Skies" (38 : Nat) "NamesWeather$Skies" "route" "[I") ∈ lw_all := lw_g (lw_at lw_m1 95 rfl) rfl
theorem q257 : (Jvm.Cond.fieldLink "NamesWeather$Skies" (44 : Nat) "NamesWeather$Skies" "law" "Ljava/util/ArrayList;") ∈ lw_all := lw_g (lw_at lw_m1 97 rfl) rfl
theorem q259 : (Jvm.Cond.fieldLink "NamesWeather$Skies" (48 : Nat) "NamesWeather$Skies" "quenching" "Ljava/util/ArrayList;") ∈ lw_all := lw_g (lw_at lw_m1 99 rfl) rfl
theorem q261 : (Jvm.Cond.fieldLink "NamesWeather$Skies" (51 : Nat) "NamesWeather$Skies" "wants" "Ljava/util/ArrayList;") ∈ lw_all := lw_g (lw_at lw_m1 101 rfl) rfl
theorem q263 : (Jvm.Cond.fieldLink "NamesWeather$Skies" (54 : Nat) "NamesWeather$Skies" "plan" "Ljava/util/ArrayList;") ∈ lw_all := lw_g (lw_at lw_m1 103 rfl) rfl
theorem q265 : (Jvm.Cond.fieldLink "NamesWeather$Skies" (57 : Nat) "NamesWeather$Skies" "many" "I") ∈ lw_all := lw_g (lw_at lw_m1 105 rfl) rfl
theorem q268 : (Jvm.Cond.fieldLink "NamesWeather$Skies" (73 : Nat) "NamesWeather$Skies" "cry" "I") ∈ lw_all := lw_g (lw_at lw_m1 108 rfl) rfl
theorem q270 : (Jvm.Cond.fieldLink "NamesWeather$Skies" (61 : Nat) "NamesWeather$Skies" "day" "I") ∈ lw_all := lw_g (lw_at lw_m1 110 rfl) rfl
theorem q272 : (Jvm.Cond.fieldLink "NamesWeather$Skies" (64 : Nat) "NamesWeather$Skies" "today" "I") ∈ lw_all := lw_g (lw_at lw_m1 112 rfl) rfl
theorem q274 : (Jvm.Cond.fieldLink "NamesWeather$Skies" (67 : Nat) "NamesWeather$Skies" "state" "I") ∈ lw_all := lw_g (lw_at lw_m1 114 rfl) rfl
theorem q276 : (Jvm.Cond.fieldLink "NamesWeather$Skies" (70 : Nat) "NamesWeather$Skies" "lines" "I") ∈ lw_all := lw_g (lw_at lw_m1 116 rfl) rfl
theorem q279 : (Jvm.Cond.fieldLink "NamesWeather$Skies" (210 : Nat) "NamesWeather$Skies" "cries" "I") ∈ lw_all := lw_g (lw_at lw_m1 119 rfl) rfl
theorem q280 : (Jvm.Cond.fieldLink "NamesWeather$Skies" (107 : Nat) "NamesWeather$Skies" "askedWho" "I") ∈ lw_all := lw_g (lw_at lw_m1 120 rfl) rfl
theorem q281 : (Jvm.Cond.fieldLink "NamesWeather$Skies" (110 : Nat) "NamesWeather$Skies" "askedKind" "I") ∈ lw_all := lw_g (lw_at lw_m1 121 rfl) rfl
theorem q282 : (Jvm.Cond.fieldLink "NamesWeather$Skies" (113 : Nat) "NamesWeather$Skies" "askedIsland" "I") ∈ lw_all := lw_g (lw_at lw_m1 122 rfl) rfl
theorem q283 : (Jvm.Cond.laysFinal "NamesWeather$Skies" "NamesWeather$Skies" "sky" "[[I") ∈ lw_all := lw_g (lw_at lw_m1 123 rfl) rfl
theorem q284 : (Jvm.Cond.soleField "NamesWeather$Skies" "sky") ∈ lw_all := lw_g (lw_at lw_m1 124 rfl) rfl
theorem q285 : (Jvm.Cond.laysFinal "NamesWeather$Skies" "NamesWeather$Skies" "carried" "[[I") ∈ lw_all := lw_g (lw_at lw_m1 125 rfl) rfl
theorem q286 : (Jvm.Cond.soleField "NamesWeather$Skies" "carried") ∈ lw_all := lw_g (lw_at lw_m1 126 rfl) rfl
theorem q287 : (Jvm.Cond.laysFinal "NamesWeather$Skies" "NamesWeather$Skies" "book" "[[I") ∈ lw_all := lw_g (lw_at lw_m1 127 rfl) rfl
theorem q288 : (Jvm.Cond.soleField "NamesWeather$Skies" "book") ∈ lw_all := lw_g (lw_at lw_m1 128 rfl) rfl
theorem q289 : (Jvm.Cond.laysFinal "NamesWeather$Skies" "NamesWeather$Skies" "kind" "[I") ∈ lw_all := lw_g (lw_at lw_m1 129 rfl) rfl
theorem q290 : (Jvm.Cond.soleField "NamesWeather$Skies" "kind") ∈ lw_all := lw_g (lw_at lw_m1 130 rfl) rfl
theorem q291 : (Jvm.Cond.laysFinal "NamesWeather$Skies" "NamesWeather$Skies" "strength" "[I") ∈ lw_all := lw_g (lw_at lw_m1 131 rfl) rfl
theorem q292 : (Jvm.Cond.soleField "NamesWeather$Skies" "strength") ∈ lw_all := lw_g (lw_at lw_m1 132 rfl) rfl
theorem q293 : (Jvm.Cond.laysFinal "NamesWeather$Skies" "NamesWeather$Skies" "island" "[I") ∈ lw_all := lw_g (lw_at lw_m1 133 rfl) rfl
theorem q294 : (Jvm.Cond.soleField "NamesWeather$Skies" "island") ∈ lw_all := lw_g (lw_at lw_m1 134 rfl) rfl
theorem q295 : (Jvm.Cond.laysFinal "NamesWeather$Skies" "NamesWeather$Skies" "dead" "[I") ∈ lw_all := lw_g (lw_at lw_m1 135 rfl) rfl
theorem q296 : (Jvm.Cond.soleField "NamesWeather$Skies" "dead") ∈ lw_all := lw_g (lw_at lw_m1 136 rfl) rfl
theorem q297 : (Jvm.Cond.laysFinal "NamesWeather$Skies" "NamesWeather$Skies" "calls" "[I") ∈ lw_all := lw_g (lw_at lw_m1 137 rfl) rfl
theorem q298 : (Jvm.Cond.soleField "NamesWeather$Skies" "calls") ∈ lw_all := lw_g (lw_at lw_m1 138 rfl) rfl
theorem q299 : (Jvm.Cond.laysFinal "NamesWeather$Skies" "NamesWeather$Skies" "route" "[I") ∈ lw_all := lw_g (lw_at lw_m1 139 rfl) rfl
theorem q300 : (Jvm.Cond.soleField "NamesWeather$Skies" "route") ∈ lw_all := lw_g (lw_at lw_m1 140 rfl) rfl
theorem q301 : (Jvm.Cond.lays "NamesWeather$Skies" "NamesWeather$Skies" "law" "Ljava/util/ArrayList;") ∈ lw_all := lw_g (lw_at lw_m1 141 rfl) rfl
theorem q302 : (Jvm.Cond.soleField "NamesWeather$Skies" "law") ∈ lw_all := lw_g (lw_at lw_m1 142 rfl) rfl
theorem q303 : (Jvm.Cond.lays "NamesWeather$Skies" "NamesWeather$Skies" "quenching" "Ljava/util/ArrayList;") ∈ lw_all := lw_g (lw_at lw_m1 143 rfl) rfl
theorem q304 : (Jvm.Cond.soleField "NamesWeather$Skies" "quenching") ∈ lw_all := lw_g (lw_at lw_m1 144 rfl) rfl
theorem q305 : (Jvm.Cond.lays "NamesWeather$Skies" "NamesWeather$Skies" "wants" "Ljava/util/ArrayList;") ∈ lw_all := lw_g (lw_at lw_m1 145 rfl) rfl
theorem q306 : (Jvm.Cond.soleField "NamesWeather$Skies" "wants") ∈ lw_all := lw_g (lw_at lw_m1 146 rfl) rfl
theorem q307 : (Jvm.Cond.lays "NamesWeather$Skies" "NamesWeather$Skies" "plan" "Ljava/util/ArrayList;") ∈ lw_all := lw_g (lw_at lw_m1 147 rfl) rfl
theorem q308 : (Jvm.Cond.soleField "NamesWeather$Skies" "plan") ∈ lw_all := lw_g (lw_at lw_m1 148 rfl) rfl
theorem q309 : (Jvm.Cond.lays "NamesWeather$Skies" "NamesWeather$Skies" "many" "I") ∈ lw_all := lw_g (lw_at lw_m1 149 rfl) rfl
theorem q310 : (Jvm.Cond.soleField "NamesWeather$Skies" "many") ∈ lw_all := lw_g (lw_at lw_m1 150 rfl) rfl
theorem q311 : (Jvm.Cond.lays "NamesWeather$Skies" "NamesWeather$Skies" "cry" "I") ∈ lw_all := lw_g (lw_at lw_m1 151 rfl) rfl
theorem q312 : (Jvm.Cond.soleField "NamesWeather$Skies" "cry") ∈ lw_all := lw_g (lw_at lw_m1 152 rfl) rfl
theorem q313 : (Jvm.Cond.lays "NamesWeather$Skies" "NamesWeather$Skies" "day" "I") ∈ lw_all := lw_g (lw_at lw_m1 153 rfl) rfl
theorem q314 : (Jvm.Cond.soleField "NamesWeather$Skies" "day") ∈ lw_all := lw_g (lw_at lw_m1 154 rfl) rfl
theorem q315 : (Jvm.Cond.lays "NamesWeather$Skies" "NamesWeather$Skies" "today" "I") ∈ lw_all := lw_g (lw_at lw_m1 155 rfl) rfl
theorem q316 : (Jvm.Cond.soleField "NamesWeather$Skies" "today") ∈ lw_all := lw_g (lw_at lw_m1 156 rfl) rfl
theorem q317 : (Jvm.Cond.lays "NamesWeather$Skies" "NamesWeather$Skies" "state" "I") ∈ lw_all := lw_g (lw_at lw_m1 157 rfl) rfl
theorem q318 : (Jvm.Cond.soleField "NamesWeather$Skies" "state") ∈ lw_all := lw_g (lw_at lw_m1 158 rfl) rfl
theorem q319 : (Jvm.Cond.lays "NamesWeather$Skies" "NamesWeather$Skies" "lines" "I") ∈ lw_all := lw_g (lw_at lw_m1 159 rfl) rfl
theorem q320 : (Jvm.Cond.soleField "NamesWeather$Skies" "lines") ∈ lw_all := lw_g (lw_at lw_m1 160 rfl) rfl
theorem q321 : (Jvm.Cond.lays "NamesWeather$Skies" "NamesWeather$Skies" "cries" "I") ∈ lw_all := lw_g (lw_at lw_m1 161 rfl) rfl
theorem q322 : (Jvm.Cond.soleField "NamesWeather$Skies" "cries") ∈ lw_all := lw_g (lw_at lw_m1 162 rfl) rfl
theorem q323 : (Jvm.Cond.lays "NamesWeather$Skies" "NamesWeather$Skies" "askedWho" "I") ∈ lw_all := lw_g (lw_at lw_m1 163 rfl) rfl
theorem q324 : (Jvm.Cond.soleField "NamesWeather$Skies" "askedWho") ∈ lw_all := lw_g (lw_at lw_m1 164 rfl) rfl
theorem q325 : (Jvm.Cond.lays "NamesWeather$Skies" "NamesWeather$Skies" "askedKind" "I") ∈ lw_all := lw_g (lw_at lw_m1 165 rfl) rfl
theorem q326 : (Jvm.Cond.soleField "NamesWeather$Skies" "askedKind") ∈ lw_all := lw_g (lw_at lw_m1 166 rfl) rfl
theorem q327 : (Jvm.Cond.lays "NamesWeather$Skies" "NamesWeather$Skies" "askedIsland" "I") ∈ lw_all := lw_g (lw_at lw_m1 167 rfl) rfl
theorem q328 : (Jvm.Cond.soleField "NamesWeather$Skies" "askedIsland") ∈ lw_all := lw_g (lw_at lw_m1 168 rfl) rfl
theorem q329 : (Jvm.Cond.superclass "NamesWeather$Skies" "java/lang/Object") ∈ lw_all := lw_g (lw_at lw_m1 169 rfl) rfl
theorem q725 : (Jvm.Cond.fieldLinkNest "NamesWeather$Skies" (125 : Nat) "NamesWeather$Line" "word" "I" "NamesWeather") ∈ lw_tbl := lw_at lw_m3 85 rfl
theorem q727 : (Jvm.Cond.fieldLinkNest "NamesWeather$Skies" (138 : Nat) "NamesWeather$Line" "comesTo" "LNamesWeather$Term;" "NamesWeather") ∈ lw_tbl := lw_at lw_m3 87 rfl
theorem q729 : (Jvm.Cond.fieldLinkNest "NamesWeather$Skies" (128 : Nat) "NamesWeather$Line" "when" "LNamesWeather$Term;" "NamesWeather") ∈ lw_tbl := lw_at lw_m3 89 rfl
theorem q782 : (Jvm.Cond.selects "NamesWeather$Skies" ({ cls := "java/lang/Object", name := "getClass", desc := "()Ljava/lang/Class;" } : Jvm.MethodName) ({ cls := "java/lang/Object", name := "getClass", desc := "()Ljava/lang/Class;" } : Jvm.MethodName)) ∈ lw_all := lw_g (lw_at lw_m3 142 rfl) rfl
theorem q825 : (Jvm.Cond.fieldLinkNest "NamesWeather$Skies" (183 : Nat) "NamesWeather$Quench" "by" "I" "NamesWeather") ∈ lw_tbl := lw_at lw_m3 185 rfl
theorem q827 : (Jvm.Cond.fieldLinkNest "NamesWeather$Skies" (178 : Nat) "NamesWeather$Quench" "of" "I" "NamesWeather") ∈ lw_tbl := lw_at lw_m3 187 rfl
theorem q829 : (Jvm.Cond.fieldLinkNest "NamesWeather$Skies" (180 : Nat) "NamesWeather$Quench" "much" "I" "NamesWeather") ∈ lw_tbl := lw_at lw_m3 189 rfl
theorem q943 : (Jvm.Cond.instanceMethod ({ cls := "NamesWeather$Skies", name := "moves", desc := "(LNamesWeather$Skies;)V" } : Jvm.MethodName)) ∈ lw_all := lw_g (lw_at lw_m4 63 rfl) rfl
theorem q944 : (Jvm.Cond.selects "NamesWeather$Skies" ({ cls := "NamesWeather$Skies", name := "moves", desc := "(LNamesWeather$Skies;)V" } : Jvm.MethodName) ({ cls := "NamesWeather$Skies", name := "moves", desc := "(LNamesWeather$Skies;)V" } : Jvm.MethodName)) ∈ lw_all := lw_g (lw_at lw_m4 64 rfl) rfl
theorem q945 : (Jvm.Cond.code ({ cls := "NamesWeather$Skies", name := "moves", desc := "(LNamesWeather$Skies;)V" } : Jvm.MethodName) prog_16_method_2_code (4 : Nat) (Option.none : Option Jvm.ClassFile.FieldType)) ∈ lw_all := lw_g (lw_at lw_m4 65 rfl) rfl
theorem q961 : (Jvm.Cond.instanceMethod ({ cls := "NamesWeather$Skies", name := "comes", desc := "(III)V" } : Jvm.MethodName)) ∈ lw_all := lw_g (lw_at lw_m4 81 rfl) rfl
theorem q962 : (Jvm.Cond.selects "NamesWeather$Skies" ({ cls := "NamesWeather$Skies", name := "comes", desc := "(III)V" } : Jvm.MethodName) ({ cls := "NamesWeather$Skies", name := "comes", desc := "(III)V" } : Jvm.MethodName)) ∈ lw_all := lw_g (lw_at lw_m4 82 rfl) rfl
theorem q963 : (Jvm.Cond.code ({ cls := "NamesWeather$Skies", name := "comes", desc := "(III)V" } : Jvm.MethodName) prog_16_method_25_code (4 : Nat) (Option.none : Option Jvm.ClassFile.FieldType)) ∈ lw_all := lw_g (lw_at lw_m4 83 rfl) rfl
theorem q981 : (Jvm.Cond.instanceMethod ({ cls := "NamesWeather$Skies", name := "canCall", desc := "(II)Z" } : Jvm.MethodName)) ∈ lw_all := lw_g (lw_at lw_m4 101 rfl) rfl
theorem q982 : (Jvm.Cond.selects "NamesWeather$Skies" ({ cls := "NamesWeather$Skies", name := "canCall", desc := "(II)Z" } : Jvm.MethodName) ({ cls := "NamesWeather$Skies", name := "canCall", desc := "(II)Z" } : Jvm.MethodName)) ∈ lw_all := lw_g (lw_at lw_m4 102 rfl) rfl
theorem q983 : (Jvm.Cond.code ({ cls := "NamesWeather$Skies", name := "canCall", desc := "(II)Z" } : Jvm.MethodName) prog_16_method_18_code (3 : Nat) (Option.some Jvm.ClassFile.FieldType.boolean)) ∈ lw_all := lw_g (lw_at lw_m4 103 rfl) rfl
theorem q984 : (Jvm.Cond.methodLink "NamesWeather$Skies" (89 : Nat) ({ cls := "NamesWeather$Skies", name := "is", desc := "(I)Z" } : Jvm.MethodName)) ∈ lw_all := lw_g (lw_at lw_m4 104 rfl) rfl
theorem q985 : (Jvm.Cond.instanceMethod ({ cls := "NamesWeather$Skies", name := "is", desc := "(I)Z" } : Jvm.MethodName)) ∈ lw_all := lw_g (lw_at lw_m4 105 rfl) rfl
theorem q986 : (Jvm.Cond.selects "NamesWeather$Skies" ({ cls := "NamesWeather$Skies", name := "is", desc := "(I)Z" } : Jvm.MethodName) ({ cls := "NamesWeather$Skies", name := "is", desc := "(I)Z" } : Jvm.MethodName)) ∈ lw_all := lw_g (lw_at lw_m4 106 rfl) rfl
theorem q987 : (Jvm.Cond.code ({ cls := "NamesWeather$Skies", name := "is", desc := "(I)Z" } : Jvm.MethodName) prog_16_method_7_code (2 : Nat) (Option.some Jvm.ClassFile.FieldType.boolean)) ∈ lw_all := lw_g (lw_at lw_m4 107 rfl) rfl
theorem q988 : (Jvm.Cond.methodLinkNest "NamesWeather$Skies" (85 : Nat) ({ cls := "NamesWeather", name := "isIn", desc := "(III)Z" } : Jvm.MethodName) "NamesWeather") ∈ lw_tbl := lw_at lw_m4 108 rfl
theorem q994 : (Jvm.Cond.instanceMethod ({ cls := "NamesWeather$Skies", name := "calls", desc := "(III)I" } : Jvm.MethodName)) ∈ lw_all := lw_g (lw_at lw_m4 114 rfl) rfl
theorem q995 : (Jvm.Cond.selects "NamesWeather$Skies" ({ cls := "NamesWeather$Skies", name := "calls", desc := "(III)I" } : Jvm.MethodName) ({ cls := "NamesWeather$Skies", name := "calls", desc := "(III)I" } : Jvm.MethodName)) ∈ lw_all := lw_g (lw_at lw_m4 115 rfl) rfl
theorem q996 : (Jvm.Cond.code ({ cls := "NamesWeather$Skies", name := "calls", desc := "(III)I" } : Jvm.MethodName) prog_16_method_19_code (6 : Nat) (Option.some Jvm.ClassFile.FieldType.int)) ∈ lw_all := lw_g (lw_at lw_m4 116 rfl) rfl
theorem q997 : (Jvm.Cond.methodLink "NamesWeather$Skies" (158 : Nat) ({ cls := "NamesWeather$Skies", name := "add", desc := "(II)I" } : Jvm.MethodName)) ∈ lw_all := lw_g (lw_at lw_m4 117 rfl) rfl
theorem q998 : (Jvm.Cond.instanceMethod ({ cls := "NamesWeather$Skies", name := "add", desc := "(II)I" } : Jvm.MethodName)) ∈ lw_all := lw_g (lw_at lw_m4 118 rfl) rfl
theorem q999 : (Jvm.Cond.selects "NamesWeather$Skies" ({ cls := "NamesWeather$Skies", name := "add", desc := "(II)I" } : Jvm.MethodName) ({ cls := "NamesWeather$Skies", name := "add", desc := "(II)I" } : Jvm.MethodName)) ∈ lw_all := lw_g (lw_at lw_m4 119 rfl) rfl
theorem q1000 : (Jvm.Cond.code ({ cls := "NamesWeather$Skies", name := "add", desc := "(II)I" } : Jvm.MethodName) prog_16_method_15_code (3 : Nat) (Option.some Jvm.ClassFile.FieldType.int)) ∈ lw_all := lw_g (lw_at lw_m4 120 rfl) rfl
theorem q1001 : (Jvm.Cond.methodLink "NamesWeather$Skies" (150 : Nat) ({ cls := "NamesWeather$Skies", name := "asks", desc := "(II)V" } : Jvm.MethodName)) ∈ lw_all := lw_g (lw_at lw_m4 121 rfl) rfl
theorem q1002 : (Jvm.Cond.privateMethod ({ cls := "NamesWeather$Skies", name := "asks", desc := "(II)V" } : Jvm.MethodName)) ∈ lw_tbl := lw_at lw_m4 122 rfl
theorem q1003 : (Jvm.Cond.instanceMethod ({ cls := "NamesWeather$Skies", name := "asks", desc := "(II)V" } : Jvm.MethodName)) ∈ lw_all := lw_g (lw_at lw_m4 123 rfl) rfl
theorem q1004 : (Jvm.Cond.code ({ cls := "NamesWeather$Skies", name := "asks", desc := "(II)V" } : Jvm.MethodName) prog_16_method_14_code (3 : Nat) (Option.none : Option Jvm.ClassFile.FieldType)) ∈ lw_all := lw_g (lw_at lw_m4 124 rfl) rfl
theorem q1005 : (Jvm.Cond.methodLink "NamesWeather$Skies" (154 : Nat) ({ cls := "NamesWeather$Skies", name := "tells", desc := "(III)I" } : Jvm.MethodName)) ∈ lw_all := lw_g (lw_at lw_m4 125 rfl) rfl
theorem q1006 : (Jvm.Cond.privateMethod ({ cls := "NamesWeather$Skies", name := "tells", desc := "(III)I" } : Jvm.MethodName)) ∈ lw_tbl := lw_at lw_m4 126 rfl
theorem q1007 : (Jvm.Cond.instanceMethod ({ cls := "NamesWeather$Skies", name := "tells", desc := "(III)I" } : Jvm.MethodName)) ∈ lw_all := lw_g (lw_at lw_m4 127 rfl) rfl
theorem q1008 : (Jvm.Cond.code ({ cls := "NamesWeather$Skies", name := "tells", desc := "(III)I" } : Jvm.MethodName) prog_16_method_13_code (6 : Nat) (Option.some Jvm.ClassFile.FieldType.int)) ∈ lw_all := lw_g (lw_at lw_m4 128 rfl) rfl
theorem q1009 : (Jvm.Cond.methodLink "NamesWeather$Skies" (93 : Nat) ({ cls := "java/util/ArrayList", name := "size", desc := "()I" } : Jvm.MethodName)) ∈ lw_all := lw_g (lw_at lw_m4 129 rfl) rfl
theorem q1010 : (Jvm.Cond.methodLink "NamesWeather$Skies" (97 : Nat) ({ cls := "java/util/ArrayList", name := "get", desc := "(I)Ljava/lang/Object;" } : Jvm.MethodName)) ∈ lw_all := lw_g (lw_at lw_m4 130 rfl) rfl
theorem q1022 : (Jvm.Cond.classLink "NamesWeather$Skies" (123 : Nat) "NamesWeather$Line") ∈ lw_all := lw_g (lw_at lw_m4 142 rfl) rfl
theorem q1023 : (Jvm.Cond.methodLink "NamesWeather$Skies" (132 : Nat) ({ cls := "NamesWeather$Term", name := "of", desc := "(LNamesWeather$Asker;)I" } : Jvm.MethodName)) ∈ lw_all := lw_g (lw_at lw_m4 143 rfl) rfl
theorem q1039 : (Jvm.Cond.castable "NamesWeather$Skies" "NamesWeather$Asker") ∈ lw_tbl := lw_at lw_m4 159 rfl
theorem q1040 : (Jvm.Cond.selects "NamesWeather$Skies" ({ cls := "NamesWeather$Asker", name := "fact", desc := "(I)I" } : Jvm.MethodName) ({ cls := "NamesWeather$Skies", name := "fact", desc := "(I)I" } : Jvm.MethodName)) ∈ lw_all := lw_g (lw_at lw_m4 160 rfl) rfl
theorem q1041 : (Jvm.Cond.unhidden "NamesWeather$Skies" "fact" "(I)I") ∈ lw_tbl := lw_at lw_m4 161 rfl
theorem q1042 : (Jvm.Cond.instanceMethod ({ cls := "NamesWeather$Skies", name := "fact", desc := "(I)I" } : Jvm.MethodName)) ∈ lw_all := lw_g (lw_at lw_m4 162 rfl) rfl
theorem q1043 : (Jvm.Cond.publicMethod ({ cls := "NamesWeather$Skies", name := "fact", desc := "(I)I" } : Jvm.MethodName)) ∈ lw_tbl := lw_at lw_m4 163 rfl
theorem q1044 : (Jvm.Cond.code ({ cls := "NamesWeather$Skies", name := "fact", desc := "(I)I" } : Jvm.MethodName) prog_16_method_12_code (3 : Nat) (Option.some Jvm.ClassFile.FieldType.int)) ∈ lw_all := lw_g (lw_at lw_m4 164 rfl) rfl
theorem q1045 : (Jvm.Cond.methodLink "NamesWeather$Skies" (116 : Nat) ({ cls := "NamesWeather$Skies", name := "all", desc := "(I)I" } : Jvm.MethodName)) ∈ lw_all := lw_g (lw_at lw_m4 165 rfl) rfl
theorem q1046 : (Jvm.Cond.instanceMethod ({ cls := "NamesWeather$Skies", name := "all", desc := "(I)I" } : Jvm.MethodName)) ∈ lw_all := lw_g (lw_at lw_m4 166 rfl) rfl
theorem q1047 : (Jvm.Cond.selects "NamesWeather$Skies" ({ cls := "NamesWeather$Skies", name := "all", desc := "(I)I" } : Jvm.MethodName) ({ cls := "NamesWeather$Skies", name := "all", desc := "(I)I" } : Jvm.MethodName)) ∈ lw_all := lw_g (lw_at lw_m4 167 rfl) rfl
theorem q1048 : (Jvm.Cond.code ({ cls := "NamesWeather$Skies", name := "all", desc := "(I)I" } : Jvm.MethodName) prog_16_method_10_code (4 : Nat) (Option.some Jvm.ClassFile.FieldType.int)) ∈ lw_all := lw_g (lw_at lw_m4 168 rfl) rfl
theorem q1049 : (Jvm.Cond.methodLink "NamesWeather$Skies" (120 : Nat) ({ cls := "NamesWeather$Skies", name := "folk", desc := "(I)I" } : Jvm.MethodName)) ∈ lw_all := lw_g (lw_at lw_m4 169 rfl) rfl
theorem q1050 : (Jvm.Cond.instanceMethod ({ cls := "NamesWeather$Skies", name := "folk", desc := "(I)I" } : Jvm.MethodName)) ∈ lw_all := lw_g (lw_at lw_m4 170 rfl) rfl
theorem q1051 : (Jvm.Cond.selects "NamesWeather$Skies" ({ cls := "NamesWeather$Skies", name := "folk", desc := "(I)I" } : Jvm.MethodName) ({ cls := "NamesWeather$Skies", name := "folk", desc := "(I)I" } : Jvm.MethodName)) ∈ lw_all := lw_g (lw_at lw_m4 171 rfl) rfl
theorem q1052 : (Jvm.Cond.code ({ cls := "NamesWeather$Skies", name := "folk", desc := "(I)I" } : Jvm.MethodName) prog_16_method_9_code (4 : Nat) (Option.some Jvm.ClassFile.FieldType.int)) ∈ lw_all := lw_g (lw_at lw_m4 172 rfl) rfl
theorem q1058 : (Jvm.Cond.methodLink "NamesWeather$Skies" (141 : Nat) ({ cls := "java/lang/Math", name := "min", desc := "(II)I" } : Jvm.MethodName)) ∈ lw_all := lw_g (lw_at lw_m4 178 rfl) rfl
theorem q1059 : (Jvm.Cond.methodLink "NamesWeather$Skies" (147 : Nat) ({ cls := "java/lang/Math", name := "max", desc := "(II)I" } : Jvm.MethodName)) ∈ lw_all := lw_g (lw_at lw_m4 179 rfl) rfl
theorem q1060 : (Jvm.Cond.methodLink "NamesWeather$Skies" (161 : Nat) ({ cls := "NamesWeather$Skies", name := "notes", desc := "(IIII)V" } : Jvm.MethodName)) ∈ lw_all := lw_g (lw_at lw_m4 180 rfl) rfl
theorem q1061 : (Jvm.Cond.privateMethod ({ cls := "NamesWeather$Skies", name := "notes", desc := "(IIII)V" } : Jvm.MethodName)) ∈ lw_tbl := lw_at lw_m4 181 rfl
theorem q1062 : (Jvm.Cond.instanceMethod ({ cls := "NamesWeather$Skies", name := "notes", desc := "(IIII)V" } : Jvm.MethodName)) ∈ lw_all := lw_g (lw_at lw_m4 182 rfl) rfl
theorem q1063 : (Jvm.Cond.code ({ cls := "NamesWeather$Skies", name := "notes", desc := "(IIII)V" } : Jvm.MethodName) prog_16_method_6_code (6 : Nat) (Option.none : Option Jvm.ClassFile.FieldType)) ∈ lw_all := lw_g (lw_at lw_m4 183 rfl) rfl
theorem q1069 : (Jvm.Cond.instanceMethod ({ cls := "NamesWeather$Skies", name := "canMove", desc := "(II)Z" } : Jvm.MethodName)) ∈ lw_all := lw_g (lw_at lw_m4 189 rfl) rfl
theorem q1070 : (Jvm.Cond.selects "NamesWeather$Skies" ({ cls := "NamesWeather$Skies", name := "canMove", desc := "(II)Z" } : Jvm.MethodName) ({ cls := "NamesWeather$Skies", name := "canMove", desc := "(II)Z" } : Jvm.MethodName)) ∈ lw_all := lw_g (lw_at lw_m4 190 rfl) rfl
theorem q1071 : (Jvm.Cond.code ({ cls := "NamesWeather$Skies", name := "canMove", desc := "(II)Z" } : Jvm.MethodName) prog_16_method_20_code (3 : Nat) (Option.some Jvm.ClassFile.FieldType.boolean)) ∈ lw_all := lw_g (lw_at lw_m4 191 rfl) rfl
theorem q1072 : (Jvm.Cond.methodLink "NamesWeather$Skies" (165 : Nat) ({ cls := "NamesWeather$Skies", name := "lives", desc := "(I)Z" } : Jvm.MethodName)) ∈ lw_all := lw_g (lw_at lw_m4 192 rfl) rfl
theorem q1073 : (Jvm.Cond.instanceMethod ({ cls := "NamesWeather$Skies", name := "lives", desc := "(I)Z" } : Jvm.MethodName)) ∈ lw_all := lw_g (lw_at lw_m4 193 rfl) rfl
theorem q1074 : (Jvm.Cond.selects "NamesWeather$Skies" ({ cls := "NamesWeather$Skies", name := "lives", desc := "(I)Z" } : Jvm.MethodName) ({ cls := "NamesWeather$Skies", name := "lives", desc := "(I)Z" } : Jvm.MethodName)) ∈ lw_all := lw_g (lw_at lw_m4 194 rfl) rfl
theorem q1075 : (Jvm.Cond.code ({ cls := "NamesWeather$Skies", name := "lives", desc := "(I)Z" } : Jvm.MethodName) prog_16_method_8_code (2 : Nat) (Option.some Jvm.ClassFile.FieldType.boolean)) ∈ lw_all := lw_g (lw_at lw_m4 195 rfl) rfl
theorem q1077 : (Jvm.Cond.instanceMethod ({ cls := "NamesWeather$Skies", name := "moveTo", desc := "(II)V" } : Jvm.MethodName)) ∈ lw_all := lw_g (lw_at lw_m4 197 rfl) rfl
theorem q1078 : (Jvm.Cond.selects "NamesWeather$Skies" ({ cls := "NamesWeather$Skies", name := "moveTo", desc := "(II)V" } : Jvm.MethodName) ({ cls := "NamesWeather$Skies", name := "moveTo", desc := "(II)V" } : Jvm.MethodName)) ∈ lw_all := lw_g (lw_at lw_m4 198 rfl) rfl
theorem q1079 : (Jvm.Cond.code ({ cls := "NamesWeather$Skies", name := "moveTo", desc := "(II)V" } : Jvm.MethodName) prog_16_method_21_code (3 : Nat) (Option.none : Option Jvm.ClassFile.FieldType)) ∈ lw_all := lw_g (lw_at lw_m4 199 rfl) rfl
theorem q1086 : (Jvm.Cond.instanceMethod ({ cls := "NamesWeather$Skies", name := "buries", desc := "(I)V" } : Jvm.MethodName)) ∈ lw_all := lw_g (lw_at lw_m4 206 rfl) rfl
theorem q1087 : (Jvm.Cond.selects "NamesWeather$Skies" ({ cls := "NamesWeather$Skies", name := "buries", desc := "(I)V" } : Jvm.MethodName) ({ cls := "NamesWeather$Skies", name := "buries", desc := "(I)V" } : Jvm.MethodName)) ∈ lw_all := lw_g (lw_at lw_m4 207 rfl) rfl
theorem q1088 : (Jvm.Cond.code ({ cls := "NamesWeather$Skies", name := "buries", desc := "(I)V" } : Jvm.MethodName) prog_16_method_22_code (2 : Nat) (Option.none : Option Jvm.ClassFile.FieldType)) ∈ lw_all := lw_g (lw_at lw_m4 208 rfl) rfl
theorem q1094 : (Jvm.Cond.instanceMethod ({ cls := "NamesWeather$Skies", name := "mostOf", desc := "(I)I" } : Jvm.MethodName)) ∈ lw_all := lw_g (lw_at lw_m4 214 rfl) rfl
theorem q1095 : (Jvm.Cond.selects "NamesWeather$Skies" ({ cls := "NamesWeather$Skies", name := "mostOf", desc := "(I)I" } : Jvm.MethodName) ({ cls := "NamesWeather$Skies", name := "mostOf", desc := "(I)I" } : Jvm.MethodName)) ∈ lw_all := lw_g (lw_at lw_m4 215 rfl) rfl
theorem q1096 : (Jvm.Cond.code ({ cls := "NamesWeather$Skies", name := "mostOf", desc := "(I)I" } : Jvm.MethodName) prog_16_method_23_code (4 : Nat) (Option.some Jvm.ClassFile.FieldType.int)) ∈ lw_all := lw_g (lw_at lw_m4 216 rfl) rfl
theorem q1098 : (Jvm.Cond.instanceMethod ({ cls := "NamesWeather$Skies", name := "births", desc := "(I)I" } : Jvm.MethodName)) ∈ lw_all := lw_g (lw_at lw_m4 218 rfl) rfl
theorem q1099 : (Jvm.Cond.selects "NamesWeather$Skies" ({ cls := "NamesWeather$Skies", name := "births", desc := "(I)I" } : Jvm.MethodName) ({ cls := "NamesWeather$Skies", name := "births", desc := "(I)I" } : Jvm.MethodName)) ∈ lw_all := lw_g (lw_at lw_m4 219 rfl) rfl
theorem q1100 : (Jvm.Cond.code ({ cls := "NamesWeather$Skies", name := "births", desc := "(I)I" } : Jvm.MethodName) prog_16_method_26_code (2 : Nat) (Option.some Jvm.ClassFile.FieldType.int)) ∈ lw_all := lw_g (lw_at lw_m4 220 rfl) rfl
theorem q1101 : (Jvm.Cond.methodLink "NamesWeather$Skies" (168 : Nat) ({ cls := "NamesWeather$Skies", name := "mostOf", desc := "(I)I" } : Jvm.MethodName)) ∈ lw_all := lw_g (lw_at lw_m4 221 rfl) rfl
theorem q1102 : (Jvm.Cond.methodLink "NamesWeather$Skies" (171 : Nat) ({ cls := "NamesWeather$Skies", name := "strengthOf", desc := "(I)I" } : Jvm.MethodName)) ∈ lw_all := lw_g (lw_at lw_m4 222 rfl) rfl
theorem q1103 : (Jvm.Cond.instanceMethod ({ cls := "NamesWeather$Skies", name := "strengthOf", desc := "(I)I" } : Jvm.MethodName)) ∈ lw_all := lw_g (lw_at lw_m4 223 rfl) rfl
theorem q1104 : (Jvm.Cond.selects "NamesWeather$Skies" ({ cls := "NamesWeather$Skies", name := "strengthOf", desc := "(I)I" } : Jvm.MethodName) ({ cls := "NamesWeather$Skies", name := "strengthOf", desc := "(I)I" } : Jvm.MethodName)) ∈ lw_all := lw_g (lw_at lw_m4 224 rfl) rfl
theorem q1105 : (Jvm.Cond.code ({ cls := "NamesWeather$Skies", name := "strengthOf", desc := "(I)I" } : Jvm.MethodName) prog_16_method_24_code (2 : Nat) (Option.some Jvm.ClassFile.FieldType.int)) ∈ lw_all := lw_g (lw_at lw_m4 225 rfl) rfl
theorem q1106 : (Jvm.Cond.methodLink "NamesWeather$Skies" (174 : Nat) ({ cls := "NamesWeather$Skies", name := "comes", desc := "(III)V" } : Jvm.MethodName)) ∈ lw_all := lw_g (lw_at lw_m4 226 rfl) rfl
theorem q1112 : (Jvm.Cond.instanceMethod ({ cls := "NamesWeather$Skies", name := "morning", desc := "()V" } : Jvm.MethodName)) ∈ lw_all := lw_g (lw_at lw_m4 232 rfl) rfl
theorem q1113 : (Jvm.Cond.selects "NamesWeather$Skies" ({ cls := "NamesWeather$Skies", name := "morning", desc := "()V" } : Jvm.MethodName) ({ cls := "NamesWeather$Skies", name := "morning", desc := "()V" } : Jvm.MethodName)) ∈ lw_all := lw_g (lw_at lw_m4 233 rfl) rfl
theorem q1114 : (Jvm.Cond.code ({ cls := "NamesWeather$Skies", name := "morning", desc := "()V" } : Jvm.MethodName) prog_16_method_28_code (2 : Nat) (Option.none : Option Jvm.ClassFile.FieldType)) ∈ lw_all := lw_g (lw_at lw_m4 234 rfl) rfl
theorem q1115 : (Jvm.Cond.classLink "NamesWeather$Skies" (186 : Nat) "NamesWeather$Deed") ∈ lw_all := lw_g (lw_at lw_m4 235 rfl) rfl
theorem q1116 : (Jvm.Cond.methodLink "NamesWeather$Skies" (188 : Nat) ({ cls := "NamesWeather$Deed", name := "isOf", desc := "(I)Z" } : Jvm.MethodName)) ∈ lw_all := lw_g (lw_at lw_m4 236 rfl) rfl
theorem q1123 : (Jvm.Cond.methodLink "NamesWeather$Skies" (190 : Nat) ({ cls := "NamesWeather$Deed", name := "does", desc := "(LNamesWeather$Skies;)V" } : Jvm.MethodName)) ∈ lw_all := lw_g (lw_at lw_m5 3 rfl) rfl
theorem q1153 : (Jvm.Cond.methodLink "NamesWeather$Skies" (193 : Nat) ({ cls := "NamesWeather$Skies", name := "quenches", desc := "()V" } : Jvm.MethodName)) ∈ lw_all := lw_g (lw_at lw_m5 33 rfl) rfl
theorem q1154 : (Jvm.Cond.privateMethod ({ cls := "NamesWeather$Skies", name := "quenches", desc := "()V" } : Jvm.MethodName)) ∈ lw_tbl := lw_at lw_m5 34 rfl
theorem q1155 : (Jvm.Cond.instanceMethod ({ cls := "NamesWeather$Skies", name := "quenches", desc := "()V" } : Jvm.MethodName)) ∈ lw_all := lw_g (lw_at lw_m5 35 rfl) rfl
theorem q1156 : (Jvm.Cond.code ({ cls := "NamesWeather$Skies", name := "quenches", desc := "()V" } : Jvm.MethodName) prog_16_method_27_code (4 : Nat) (Option.none : Option Jvm.ClassFile.FieldType)) ∈ lw_all := lw_g (lw_at lw_m5 36 rfl) rfl
theorem q1157 : (Jvm.Cond.classLink "NamesWeather$Skies" (101 : Nat) "NamesWeather$Quench") ∈ lw_all := lw_g (lw_at lw_m5 37 rfl) rfl
theorem q1159 : (Jvm.Cond.instanceMethod ({ cls := "NamesWeather$Skies", name := "evening", desc := "(Z)V" } : Jvm.MethodName)) ∈ lw_all := lw_g (lw_at lw_m5 39 rfl) rfl
theorem q1160 : (Jvm.Cond.selects "NamesWeather$Skies" ({ cls := "NamesWeather$Skies", name := "evening", desc := "(Z)V" } : Jvm.MethodName) ({ cls := "NamesWeather$Skies", name := "evening", desc := "(Z)V" } : Jvm.MethodName)) ∈ lw_all := lw_g (lw_at lw_m5 40 rfl) rfl
theorem q1161 : (Jvm.Cond.code ({ cls := "NamesWeather$Skies", name := "evening", desc := "(Z)V" } : Jvm.MethodName) prog_16_method_34_code (2 : Nat) (Option.none : Option Jvm.ClassFile.FieldType)) ∈ lw_all := lw_g (lw_at lw_m5 41 rfl) rfl
theorem q1162 : (Jvm.Cond.methodLink "NamesWeather$Skies" (213 : Nat) ({ cls := "NamesWeather$Skies", name := "blows", desc := "()V" } : Jvm.MethodName)) ∈ lw_all := lw_g (lw_at lw_m5 42 rfl) rfl
theorem q1163 : (Jvm.Cond.privateMethod ({ cls := "NamesWeather$Skies", name := "blows", desc := "()V" } : Jvm.MethodName)) ∈ lw_tbl := lw_at lw_m5 43 rfl
theorem q1164 : (Jvm.Cond.instanceMethod ({ cls := "NamesWeather$Skies", name := "blows", desc := "()V" } : Jvm.MethodName)) ∈ lw_all := lw_g (lw_at lw_m5 44 rfl) rfl
theorem q1165 : (Jvm.Cond.code ({ cls := "NamesWeather$Skies", name := "blows", desc := "()V" } : Jvm.MethodName) prog_16_method_30_code (3 : Nat) (Option.none : Option Jvm.ClassFile.FieldType)) ∈ lw_all := lw_g (lw_at lw_m5 45 rfl) rfl
theorem q1166 : (Jvm.Cond.methodLink "NamesWeather$Skies" (196 : Nat) ({ cls := "NamesWeather$Skies", name := "carries", desc := "(I)Z" } : Jvm.MethodName)) ∈ lw_all := lw_g (lw_at lw_m5 46 rfl) rfl
theorem q1167 : (Jvm.Cond.privateMethod ({ cls := "NamesWeather$Skies", name := "carries", desc := "(I)Z" } : Jvm.MethodName)) ∈ lw_tbl := lw_at lw_m5 47 rfl
theorem q1168 : (Jvm.Cond.instanceMethod ({ cls := "NamesWeather$Skies", name := "carries", desc := "(I)Z" } : Jvm.MethodName)) ∈ lw_all := lw_g (lw_at lw_m5 48 rfl) rfl
theorem q1169 : (Jvm.Cond.code ({ cls := "NamesWeather$Skies", name := "carries", desc := "(I)Z" } : Jvm.MethodName) prog_16_method_29_code (2 : Nat) (Option.some Jvm.ClassFile.FieldType.boolean)) ∈ lw_all := lw_g (lw_at lw_m5 49 rfl) rfl
theorem q1170 : (Jvm.Cond.methodLink "NamesWeather$Skies" (216 : Nat) ({ cls := "NamesWeather$Skies", name := "fades", desc := "()V" } : Jvm.MethodName)) ∈ lw_all := lw_g (lw_at lw_m5 50 rfl) rfl
theorem q1171 : (Jvm.Cond.privateMethod ({ cls := "NamesWeather$Skies", name := "fades", desc := "()V" } : Jvm.MethodName)) ∈ lw_tbl := lw_at lw_m5 51 rfl
theorem q1172 : (Jvm.Cond.instanceMethod ({ cls := "NamesWeather$Skies", name := "fades", desc := "()V" } : Jvm.MethodName)) ∈ lw_all := lw_g (lw_at lw_m5 52 rfl) rfl
theorem q1173 : (Jvm.Cond.code ({ cls := "NamesWeather$Skies", name := "fades", desc := "()V" } : Jvm.MethodName) prog_16_method_31_code (3 : Nat) (Option.none : Option Jvm.ClassFile.FieldType)) ∈ lw_all := lw_g (lw_at lw_m5 53 rfl) rfl
theorem q1174 : (Jvm.Cond.methodLink "NamesWeather$Skies" (199 : Nat) ({ cls := "NamesWeather$Skies", name := "fade", desc := "(II)I" } : Jvm.MethodName)) ∈ lw_all := lw_g (lw_at lw_m5 54 rfl) rfl
theorem q1175 : (Jvm.Cond.instanceMethod ({ cls := "NamesWeather$Skies", name := "fade", desc := "(II)I" } : Jvm.MethodName)) ∈ lw_all := lw_g (lw_at lw_m5 55 rfl) rfl
theorem q1176 : (Jvm.Cond.selects "NamesWeather$Skies" ({ cls := "NamesWeather$Skies", name := "fade", desc := "(II)I" } : Jvm.MethodName) ({ cls := "NamesWeather$Skies", name := "fade", desc := "(II)I" } : Jvm.MethodName)) ∈ lw_all := lw_g (lw_at lw_m5 56 rfl) rfl
theorem q1177 : (Jvm.Cond.code ({ cls := "NamesWeather$Skies", name := "fade", desc := "(II)I" } : Jvm.MethodName) prog_16_method_17_code (3 : Nat) (Option.some Jvm.ClassFile.FieldType.int)) ∈ lw_all := lw_g (lw_at lw_m5 57 rfl) rfl
theorem q1178 : (Jvm.Cond.methodLink "NamesWeather$Skies" (219 : Nat) ({ cls := "NamesWeather$Skies", name := "graves", desc := "()V" } : Jvm.MethodName)) ∈ lw_all := lw_g (lw_at lw_m5 58 rfl) rfl
theorem q1179 : (Jvm.Cond.privateMethod ({ cls := "NamesWeather$Skies", name := "graves", desc := "()V" } : Jvm.MethodName)) ∈ lw_tbl := lw_at lw_m5 59 rfl
theorem q1180 : (Jvm.Cond.instanceMethod ({ cls := "NamesWeather$Skies", name := "graves", desc := "()V" } : Jvm.MethodName)) ∈ lw_all := lw_g (lw_at lw_m5 60 rfl) rfl
theorem q1181 : (Jvm.Cond.code ({ cls := "NamesWeather$Skies", name := "graves", desc := "()V" } : Jvm.MethodName) prog_16_method_32_code (2 : Nat) (Option.none : Option Jvm.ClassFile.FieldType)) ∈ lw_all := lw_g (lw_at lw_m5 61 rfl) rfl
theorem q1182 : (Jvm.Cond.methodLink "NamesWeather$Skies" (222 : Nat) ({ cls := "NamesWeather$Skies", name := "criesOut", desc := "()V" } : Jvm.MethodName)) ∈ lw_all := lw_g (lw_at lw_m5 62 rfl) rfl
theorem q1183 : (Jvm.Cond.privateMethod ({ cls := "NamesWeather$Skies", name := "criesOut", desc := "()V" } : Jvm.MethodName)) ∈ lw_tbl := lw_at lw_m5 63 rfl
theorem q1184 : (Jvm.Cond.instanceMethod ({ cls := "NamesWeather$Skies", name := "criesOut", desc := "()V" } : Jvm.MethodName)) ∈ lw_all := lw_g (lw_at lw_m5 64 rfl) rfl
theorem q1185 : (Jvm.Cond.code ({ cls := "NamesWeather$Skies", name := "criesOut", desc := "()V" } : Jvm.MethodName) prog_16_method_33_code (3 : Nat) (Option.none : Option Jvm.ClassFile.FieldType)) ∈ lw_all := lw_g (lw_at lw_m5 65 rfl) rfl
theorem q1186 : (Jvm.Cond.methodLink "NamesWeather$Skies" (202 : Nat) ({ cls := "NamesWeather$Skies", name := "draw", desc := "(I)I" } : Jvm.MethodName)) ∈ lw_all := lw_g (lw_at lw_m5 66 rfl) rfl
theorem q1187 : (Jvm.Cond.instanceMethod ({ cls := "NamesWeather$Skies", name := "draw", desc := "(I)I" } : Jvm.MethodName)) ∈ lw_all := lw_g (lw_at lw_m5 67 rfl) rfl
theorem q1188 : (Jvm.Cond.selects "NamesWeather$Skies" ({ cls := "NamesWeather$Skies", name := "draw", desc := "(I)I" } : Jvm.MethodName) ({ cls := "NamesWeather$Skies", name := "draw", desc := "(I)I" } : Jvm.MethodName)) ∈ lw_all := lw_g (lw_at lw_m5 68 rfl) rfl
theorem q1189 : (Jvm.Cond.code ({ cls := "NamesWeather$Skies", name := "draw", desc := "(I)I" } : Jvm.MethodName) prog_16_method_5_code (2 : Nat) (Option.some Jvm.ClassFile.FieldType.int)) ∈ lw_all := lw_g (lw_at lw_m5 69 rfl) rfl
theorem q1190 : (Jvm.Cond.constant "NamesWeather$Skies" (83 : Nat) (1664525 : Int32)) ∈ lw_all := lw_g (lw_at lw_m5 70 rfl) rfl
theorem q1191 : (Jvm.Cond.constant "NamesWeather$Skies" (84 : Nat) (1013904223 : Int32)) ∈ lw_all := lw_g (lw_at lw_m5 71 rfl) rfl
theorem q1192 : (Jvm.Cond.methodLink "NamesWeather$Skies" (205 : Nat) ({ cls := "NamesWeather$Skies", name := "canCall", desc := "(II)Z" } : Jvm.MethodName)) ∈ lw_all := lw_g (lw_at lw_m5 72 rfl) rfl
theorem q1193 : (Jvm.Cond.methodLink "NamesWeather$Skies" (208 : Nat) ({ cls := "NamesWeather$Skies", name := "calls", desc := "(III)I" } : Jvm.MethodName)) ∈ lw_all := lw_g (lw_at lw_m5 73 rfl) rfl
theorem q1200 : (Jvm.Cond.instanceMethod ({ cls := "NamesWeather$Skies", name := "cost", desc := "(I)I" } : Jvm.MethodName)) ∈ lw_all := lw_g (lw_at lw_m5 80 rfl) rfl
theorem q1201 : (Jvm.Cond.selects "NamesWeather$Skies" ({ cls := "NamesWeather$Skies", name := "cost", desc := "(I)I" } : Jvm.MethodName) ({ cls := "NamesWeather$Skies", name := "cost", desc := "(I)I" } : Jvm.MethodName)) ∈ lw_all := lw_g (lw_at lw_m5 81 rfl) rfl
theorem q1202 : (Jvm.Cond.code ({ cls := "NamesWeather$Skies", name := "cost", desc := "(I)I" } : Jvm.MethodName) prog_16_method_16_code (2 : Nat) (Option.some Jvm.ClassFile.FieldType.int)) ∈ lw_all := lw_g (lw_at lw_m5 82 rfl) rfl
theorem q1213 : (Jvm.Cond.instanceMethod ({ cls := "NamesWeather$Skies", name := "thinks", desc := "(LNamesWeather$Skies;)V" } : Jvm.MethodName)) ∈ lw_all := lw_g (lw_at lw_m5 93 rfl) rfl
theorem q1214 : (Jvm.Cond.selects "NamesWeather$Skies" ({ cls := "NamesWeather$Skies", name := "thinks", desc := "(LNamesWeather$Skies;)V" } : Jvm.MethodName) ({ cls := "NamesWeather$Skies", name := "thinks", desc := "(LNamesWeather$Skies;)V" } : Jvm.MethodName)) ∈ lw_all := lw_g (lw_at lw_m5 94 rfl) rfl
theorem q1215 : (Jvm.Cond.code ({ cls := "NamesWeather$Skies", name := "thinks", desc := "(LNamesWeather$Skies;)V" } : Jvm.MethodName) prog_16_method_3_code (3 : Nat) (Option.none : Option Jvm.ClassFile.FieldType)) ∈ lw_all := lw_g (lw_at lw_m5 95 rfl) rfl
theorem q1216 : (Jvm.Cond.methodLink "NamesWeather$Skies" (76 : Nat) ({ cls := "NamesWeather$Skies", name := "moves", desc := "(LNamesWeather$Skies;)V" } : Jvm.MethodName)) ∈ lw_all := lw_g (lw_at lw_m5 96 rfl) rfl
theorem q1232 : (Jvm.Cond.instanceMethod ({ cls := "NamesWeather$Skies", name := "areClashing", desc := "(II)Z" } : Jvm.MethodName)) ∈ lw_all := lw_g (lw_at lw_m5 112 rfl) rfl
theorem q1233 : (Jvm.Cond.selects "NamesWeather$Skies" ({ cls := "NamesWeather$Skies", name := "areClashing", desc := "(II)Z" } : Jvm.MethodName) ({ cls := "NamesWeather$Skies", name := "areClashing", desc := "(II)Z" } : Jvm.MethodName)) ∈ lw_all := lw_g (lw_at lw_m5 113 rfl) rfl
theorem q1234 : (Jvm.Cond.code ({ cls := "NamesWeather$Skies", name := "areClashing", desc := "(II)Z" } : Jvm.MethodName) prog_16_method_11_code (4 : Nat) (Option.some Jvm.ClassFile.FieldType.boolean)) ∈ lw_all := lw_g (lw_at lw_m5 114 rfl) rfl
theorem q1235 : (Jvm.Cond.methodLink "NamesWeather$Skies" (103 : Nat) ({ cls := "NamesWeather$Quench", name := "isOf", desc := "(II)Z" } : Jvm.MethodName)) ∈ lw_all := lw_g (lw_at lw_m5 115 rfl) rfl
theorem q1395 : (Jvm.Cond.instanceMethod ({ cls := "NamesWeather$Skies", name := "takes", desc := "(LNamesWeather$Skies;)V" } : Jvm.MethodName)) ∈ lw_all := lw_g (lw_at lw_m6 35 rfl) rfl
theorem q1396 : (Jvm.Cond.selects "NamesWeather$Skies" ({ cls := "NamesWeather$Skies", name := "takes", desc := "(LNamesWeather$Skies;)V" } : Jvm.MethodName) ({ cls := "NamesWeather$Skies", name := "takes", desc := "(LNamesWeather$Skies;)V" } : Jvm.MethodName)) ∈ lw_all := lw_g (lw_at lw_m6 36 rfl) rfl
theorem q1397 : (Jvm.Cond.code ({ cls := "NamesWeather$Skies", name := "takes", desc := "(LNamesWeather$Skies;)V" } : Jvm.MethodName) prog_16_method_4_code (4 : Nat) (Option.none : Option Jvm.ClassFile.FieldType)) ∈ lw_all := lw_g (lw_at lw_m6 37 rfl) rfl
theorem q1398 : (Jvm.Cond.methodLink "NamesWeather$Skies" (80 : Nat) ({ cls := "NamesWeather$Skies", name := "thinks", desc := "(LNamesWeather$Skies;)V" } : Jvm.MethodName)) ∈ lw_all := lw_g (lw_at lw_m6 38 rfl) rfl
theorem q2114 : (Jvm.Cond.castable "NamesWeather$Skies" "java/lang/Object") ∈ lw_tbl := lw_at lw_m9 34 rfl
theorem in_X1 : ∀ w ∈ wsX10, w ∈ lw_all := lw_in wsX10 [283, 285, 287, 289, 291, 293, 295, 297, 299, 301, 303, 305, 307, 309, 311, 313, 315, 317, 319, 321, 323, 325, 327] (by decide +kernel) (by decide +kernel)
