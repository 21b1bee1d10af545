/-! NamesWeather -/
set_option maxRecDepth 100000
def RX0 : String := "NamesWeather"
def TX0 : u_T := fun k => match k with
  | 0 => ("NamesWeather", "tape", "[B", true)
  | 1 => ("NamesWeather", "taped", "I", false)
  | 2 => ("NamesWeather", "faultKind", "I", false)
  | 3 => ("NamesWeather", "faultPlace", "I", false)
  | 4 => ("NamesWeather", "skies", "LNamesWeather$Skies;", true)
  | 5 => ("NamesWeather", "kept", "LNamesWeather$Skies;", true)
  | 6 => ("NamesWeather", "thought", "LNamesWeather$Skies;", true)
  | 7 => ("NamesWeather", "back", "[LNamesWeather$Skies;", true)
  | 8 => ("NamesWeather", "backMany", "I", false)
  | 9 => ("NamesWeather", "hasImage", "Z", false)
  | 10 => ("NamesWeather", "adds", "[I", true)
  | 11 => ("NamesWeather", "boat", "[I", true)
  | _ => ("NamesWeather", "costs", "[I", true)
def tyX0 : Nat → FieldType := fun k => match k with
  | 0 => .array .byte
  | 1 => .int
  | 2 => .int
  | 3 => .int
  | 4 => .object "NamesWeather$Skies"
  | 5 => .object "NamesWeather$Skies"
  | 6 => .object "NamesWeather$Skies"
  | 7 => .array (.object "NamesWeather$Skies")
  | 8 => .int
  | 9 => .boolean
  | 10 => .array .int
  | 11 => .array .int
  | _ => .array .int
abbrev wsX00 : List Cond := u_ws RX0 TX0 13
set_option maxRecDepth 100000 in
theorem nmX0 : ∀ a, a < 13 → ∀ b, b < 13 → a ≠ b → (TX0 a).2.1 ≠ (TX0 b).2.1 := by decide +kernel
set_option maxRecDepth 100000 in
theorem tyX0_ok : ∀ k, k < 13 → parseFieldDescriptor (TX0 k).2.2.1 = some (tyX0 k) := by decide +kernel
abbrev cX0_init : ByteArray := prog_1_method_1_code
def yX0_init : MethodName := ⟨RX0, "<init>", "()V"⟩
def dkwX0_init_4 : List UInt8 := [181, 0, 34, 42, 16, 12, 188, 10, 181, 0, 38, 42, 16, 12, 188, 10, 181, 0, 41, 177]
abbrev dktX0_init_4 : List UInt8 := dkwX0_init_4 ++ []
def dkwX0_init_3 : List UInt8 := [180, 0, 30, 27, 187, 0, 17, 89, 183, 0, 19, 83, 132, 1, 1, 167, 255, 234, 42, 16, 12, 188, 10]
abbrev dktX0_init_3 : List UInt8 := dkwX0_init_3 ++ dktX0_init_4
def dkwX0_init_2 : List UInt8 := [183, 0, 19, 181, 0, 27, 42, 16, 6, 189, 0, 17, 181, 0, 30, 3, 60, 27, 16, 6, 162, 0, 22, 42]
abbrev dktX0_init_2 : List UInt8 := dkwX0_init_2 ++ dktX0_init_3
def dkwX0_init_1 : List UInt8 := [183, 0, 19, 181, 0, 20, 42, 187, 0, 17, 89, 183, 0, 19, 181, 0, 24, 42, 187, 0, 17, 89]
abbrev dktX0_init_1 : List UInt8 := dkwX0_init_1 ++ dktX0_init_2
def dkwX0_init_0 : List UInt8 := [42, 183, 0, 1, 42, 17, 1, 144, 188, 8, 181, 0, 9, 42, 2, 181, 0, 13, 42, 187, 0, 17, 89]
abbrev dktX0_init_0 : List UInt8 := dkwX0_init_0 ++ dktX0_init_1
theorem dksX0_init_0 : cX0_init.data.toList.drop 0 = dktX0_init_0 := by decide +kernel
theorem dksX0_init_1 : cX0_init.data.toList.drop 23 = dktX0_init_1 := dk_seg dksX0_init_0 23 rfl rfl
theorem dksX0_init_2 : cX0_init.data.toList.drop 45 = dktX0_init_2 := dk_seg dksX0_init_1 22 rfl rfl
theorem dksX0_init_3 : cX0_init.data.toList.drop 69 = dktX0_init_3 := dk_seg dksX0_init_2 24 rfl rfl
theorem dksX0_init_4 : cX0_init.data.toList.drop 92 = dktX0_init_4 := dk_seg dksX0_init_3 23 rfl rfl
theorem dX0_init_0 : decode cX0_init 0 = .ok (.aload_n 0, 1) := dk_42 (dk_at dksX0_init_0 0 rfl rfl)
theorem dX0_init_1 : decode cX0_init 1 = .ok (.invokespecial 1, 3) := dk_183 0 1 (dk_at dksX0_init_0 1 rfl rfl)
theorem dX0_init_4 : decode cX0_init 4 = .ok (.aload_n 0, 1) := dk_42 (dk_at dksX0_init_0 4 rfl rfl)
theorem dX0_init_5 : decode cX0_init 5 = .ok (.sipush 400, 3) := dk_17 1 144 (dk_at dksX0_init_0 5 rfl rfl)
theorem dX0_init_8 : decode cX0_init 8 = .ok (.newarray .byte, 2) := dk_188_8 (dk_at dksX0_init_0 8 rfl rfl)
theorem dX0_init_10 : decode cX0_init 10 = .ok (.putfield 9, 3) := dk_181 0 9 (dk_at dksX0_init_0 10 rfl rfl)
theorem dX0_init_13 : decode cX0_init 13 = .ok (.aload_n 0, 1) := dk_42 (dk_at dksX0_init_0 13 rfl rfl)
theorem dX0_init_14 : decode cX0_init 14 = .ok (.iconst (-1), 1) := dk_2 (dk_at dksX0_init_0 14 rfl rfl)
theorem dX0_init_15 : decode cX0_init 15 = .ok (.putfield 13, 3) := dk_181 0 13 (dk_at dksX0_init_0 15 rfl rfl)
theorem dX0_init_18 : decode cX0_init 18 = .ok (.aload_n 0, 1) := dk_42 (dk_at dksX0_init_0 18 rfl rfl)
theorem dX0_init_19 : decode cX0_init 19 = .ok (.new 17, 3) := dk_187 0 17 (dk_at dksX0_init_0 19 rfl rfl)
theorem dX0_init_22 : decode cX0_init 22 = .ok (.dup, 1) := dk_89 (dk_at dksX0_init_0 22 rfl rfl)
theorem dX0_init_23 : decode cX0_init 23 = .ok (.invokespecial 19, 3) := dk_183 0 19 (dk_at dksX0_init_1 0 rfl rfl)
theorem dX0_init_26 : decode cX0_init 26 = .ok (.putfield 20, 3) := dk_181 0 20 (dk_at dksX0_init_1 3 rfl rfl)
theorem dX0_init_29 : decode cX0_init 29 = .ok (.aload_n 0, 1) := dk_42 (dk_at dksX0_init_1 6 rfl rfl)
theorem dX0_init_30 : decode cX0_init 30 = .ok (.new 17, 3) := dk_187 0 17 (dk_at dksX0_init_1 7 rfl rfl)
theorem dX0_init_33 : decode cX0_init 33 = .ok (.dup, 1) := dk_89 (dk_at dksX0_init_1 10 rfl rfl)
theorem dX0_init_34 : decode cX0_init 34 = .ok (.invokespecial 19, 3) := dk_183 0 19 (dk_at dksX0_init_1 11 rfl rfl)
theorem dX0_init_37 : decode cX0_init 37 = .ok (.putfield 24, 3) := dk_181 0 24 (dk_at dksX0_init_1 14 rfl rfl)
theorem dX0_init_40 : decode cX0_init 40 = .ok (.aload_n 0, 1) := dk_42 (dk_at dksX0_init_1 17 rfl rfl)
theorem dX0_init_41 : decode cX0_init 41 = .ok (.new 17, 3) := dk_187 0 17 (dk_at dksX0_init_1 18 rfl rfl)
theorem dX0_init_44 : decode cX0_init 44 = .ok (.dup, 1) := dk_89 (dk_at dksX0_init_1 21 rfl rfl)
theorem dX0_init_45 : decode cX0_init 45 = .ok (.invokespecial 19, 3) := dk_183 0 19 (dk_at dksX0_init_2 0 rfl rfl)
theorem dX0_init_48 : decode cX0_init 48 = .ok (.putfield 27, 3) := dk_181 0 27 (dk_at dksX0_init_2 3 rfl rfl)
theorem dX0_init_51 : decode cX0_init 51 = .ok (.aload_n 0, 1) := dk_42 (dk_at dksX0_init_2 6 rfl rfl)
theorem dX0_init_52 : decode cX0_init 52 = .ok (.bipush 6, 2) := dk_16 6 (dk_at dksX0_init_2 7 rfl rfl)
theorem dX0_init_54 : decode cX0_init 54 = .ok (.anewarray 17, 3) := dk_189 0 17 (dk_at dksX0_init_2 9 rfl rfl)
theorem dX0_init_57 : decode cX0_init 57 = .ok (.putfield 30, 3) := dk_181 0 30 (dk_at dksX0_init_2 12 rfl rfl)
theorem dX0_init_60 : decode cX0_init 60 = .ok (.iconst 0, 1) := dk_3 (dk_at dksX0_init_2 15 rfl rfl)
theorem dX0_init_61 : decode cX0_init 61 = .ok (.istore_n 1, 1) := dk_60 (dk_at dksX0_init_2 16 rfl rfl)
theorem dX0_init_62 : decode cX0_init 62 = .ok (.iload_n 1, 1) := dk_27 (dk_at dksX0_init_2 17 rfl rfl)
theorem dX0_init_63 : decode cX0_init 63 = .ok (.bipush 6, 2) := dk_16 6 (dk_at dksX0_init_2 18 rfl rfl)
theorem dX0_init_65 : decode cX0_init 65 = .ok (.if_icmp .ge 22, 3) := dk_162 0 22 (dk_at dksX0_init_2 20 rfl rfl)
theorem dX0_init_68 : decode cX0_init 68 = .ok (.aload_n 0, 1) := dk_42 (dk_at dksX0_init_2 23 rfl rfl)
theorem dX0_init_69 : decode cX0_init 69 = .ok (.getfield 30, 3) := dk_180 0 30 (dk_at dksX0_init_3 0 rfl rfl)
theorem dX0_init_72 : decode cX0_init 72 = .ok (.iload_n 1, 1) := dk_27 (dk_at dksX0_init_3 3 rfl rfl)
theorem dX0_init_73 : decode cX0_init 73 = .ok (.new 17, 3) := dk_187 0 17 (dk_at dksX0_init_3 4 rfl rfl)
theorem dX0_init_76 : decode cX0_init 76 = .ok (.dup, 1) := dk_89 (dk_at dksX0_init_3 7 rfl rfl)
theorem dX0_init_77 : decode cX0_init 77 = .ok (.invokespecial 19, 3) := dk_183 0 19 (dk_at dksX0_init_3 8 rfl rfl)
theorem dX0_init_80 : decode cX0_init 80 = .ok (.aastore, 1) := dk_83 (dk_at dksX0_init_3 11 rfl rfl)
theorem dX0_init_81 : decode cX0_init 81 = .ok (.iinc 1 1, 3) := dk_132 1 1 (dk_at dksX0_init_3 12 rfl rfl)
theorem dX0_init_84 : decode cX0_init 84 = .ok (.goto (-22), 3) := dk_167 255 234 (dk_at dksX0_init_3 15 rfl rfl)
theorem dX0_init_87 : decode cX0_init 87 = .ok (.aload_n 0, 1) := dk_42 (dk_at dksX0_init_3 18 rfl rfl)
theorem dX0_init_88 : decode cX0_init 88 = .ok (.bipush 12, 2) := dk_16 12 (dk_at dksX0_init_3 19 rfl rfl)
theorem dX0_init_90 : decode cX0_init 90 = .ok (.newarray .int, 2) := dk_188_10 (dk_at dksX0_init_3 21 rfl rfl)
theorem dX0_init_92 : decode cX0_init 92 = .ok (.putfield 34, 3) := dk_181 0 34 (dk_at dksX0_init_4 0 rfl rfl)
theorem dX0_init_95 : decode cX0_init 95 = .ok (.aload_n 0, 1) := dk_42 (dk_at dksX0_init_4 3 rfl rfl)
theorem dX0_init_96 : decode cX0_init 96 = .ok (.bipush 12, 2) := dk_16 12 (dk_at dksX0_init_4 4 rfl rfl)
theorem dX0_init_98 : decode cX0_init 98 = .ok (.newarray .int, 2) := dk_188_10 (dk_at dksX0_init_4 6 rfl rfl)
theorem dX0_init_100 : decode cX0_init 100 = .ok (.putfield 38, 3) := dk_181 0 38 (dk_at dksX0_init_4 8 rfl rfl)
theorem dX0_init_103 : decode cX0_init 103 = .ok (.aload_n 0, 1) := dk_42 (dk_at dksX0_init_4 11 rfl rfl)
theorem dX0_init_104 : decode cX0_init 104 = .ok (.bipush 12, 2) := dk_16 12 (dk_at dksX0_init_4 12 rfl rfl)
theorem dX0_init_106 : decode cX0_init 106 = .ok (.newarray .int, 2) := dk_188_10 (dk_at dksX0_init_4 14 rfl rfl)
theorem dX0_init_108 : decode cX0_init 108 = .ok (.putfield 41, 3) := dk_181 0 41 (dk_at dksX0_init_4 16 rfl rfl)
theorem dX0_init_111 : decode cX0_init 111 = .ok (.return_, 1) := dk_177 (dk_at dksX0_init_4 19 rfl rfl)
abbrev cX0_feed : ByteArray := prog_1_method_3_code
def yX0_feed : MethodName := ⟨RX0, "feed", "(IIIII)I"⟩
def dkwX0_feed_2 : List UInt8 := [172]
abbrev dktX0_feed_2 : List UInt8 := dkwX0_feed_2 ++ []
def dkwX0_feed_1 : List UInt8 := [182, 0, 47, 42, 29, 182, 0, 47, 42, 21, 4, 182, 0, 47, 42, 21, 5, 182, 0, 47, 42, 180, 0, 44]
abbrev dktX0_feed_1 : List UInt8 := dkwX0_feed_1 ++ dktX0_feed_2
def dkwX0_feed_0 : List UInt8 := [42, 180, 0, 44, 16, 20, 96, 17, 1, 144, 164, 0, 5, 2, 172, 42, 27, 182, 0, 47, 42, 28]
abbrev dktX0_feed_0 : List UInt8 := dkwX0_feed_0 ++ dktX0_feed_1
theorem dksX0_feed_0 : cX0_feed.data.toList.drop 0 = dktX0_feed_0 := by decide +kernel
theorem dksX0_feed_1 : cX0_feed.data.toList.drop 22 = dktX0_feed_1 := dk_seg dksX0_feed_0 22 rfl rfl
theorem dksX0_feed_2 : cX0_feed.data.toList.drop 46 = dktX0_feed_2 := dk_seg dksX0_feed_1 24 rfl rfl
theorem dX0_feed_0 : decode cX0_feed 0 = .ok (.aload_n 0, 1) := dk_42 (dk_at dksX0_feed_0 0 rfl rfl)
theorem dX0_feed_1 : decode cX0_feed 1 = .ok (.getfield 44, 3) := dk_180 0 44 (dk_at dksX0_feed_0 1 rfl rfl)
theorem dX0_feed_4 : decode cX0_feed 4 = .ok (.bipush 20, 2) := dk_16 20 (dk_at dksX0_feed_0 4 rfl rfl)
theorem dX0_feed_6 : decode cX0_feed 6 = .ok (.iadd, 1) := dk_96 (dk_at dksX0_feed_0 6 rfl rfl)
theorem dX0_feed_7 : decode cX0_feed 7 = .ok (.sipush 400, 3) := dk_17 1 144 (dk_at dksX0_feed_0 7 rfl rfl)
theorem dX0_feed_10 : decode cX0_feed 10 = .ok (.if_icmp .le 5, 3) := dk_164 0 5 (dk_at dksX0_feed_0 10 rfl rfl)
theorem dX0_feed_13 : decode cX0_feed 13 = .ok (.iconst (-1), 1) := dk_2 (dk_at dksX0_feed_0 13 rfl rfl)
theorem dX0_feed_14 : decode cX0_feed 14 = .ok (.ireturn, 1) := dk_172 (dk_at dksX0_feed_0 14 rfl rfl)
theorem dX0_feed_15 : decode cX0_feed 15 = .ok (.aload_n 0, 1) := dk_42 (dk_at dksX0_feed_0 15 rfl rfl)
theorem dX0_feed_16 : decode cX0_feed 16 = .ok (.iload_n 1, 1) := dk_27 (dk_at dksX0_feed_0 16 rfl rfl)
theorem dX0_feed_17 : decode cX0_feed 17 = .ok (.invokevirtual 47, 3) := dk_182 0 47 (dk_at dksX0_feed_0 17 rfl rfl)
theorem dX0_feed_20 : decode cX0_feed 20 = .ok (.aload_n 0, 1) := dk_42 (dk_at dksX0_feed_0 20 rfl rfl)
theorem dX0_feed_21 : decode cX0_feed 21 = .ok (.iload_n 2, 1) := dk_28 (dk_at dksX0_feed_0 21 rfl rfl)
theorem dX0_feed_22 : decode cX0_feed 22 = .ok (.invokevirtual 47, 3) := dk_182 0 47 (dk_at dksX0_feed_1 0 rfl rfl)
theorem dX0_feed_25 : decode cX0_feed 25 = .ok (.aload_n 0, 1) := dk_42 (dk_at dksX0_feed_1 3 rfl rfl)
theorem dX0_feed_26 : decode cX0_feed 26 = .ok (.iload_n 3, 1) := dk_29 (dk_at dksX0_feed_1 4 rfl rfl)
theorem dX0_feed_27 : decode cX0_feed 27 = .ok (.invokevirtual 47, 3) := dk_182 0 47 (dk_at dksX0_feed_1 5 rfl rfl)
theorem dX0_feed_30 : decode cX0_feed 30 = .ok (.aload_n 0, 1) := dk_42 (dk_at dksX0_feed_1 8 rfl rfl)
theorem dX0_feed_31 : decode cX0_feed 31 = .ok (.iload 4, 2) := dk_21 4 (dk_at dksX0_feed_1 9 rfl rfl)
theorem dX0_feed_33 : decode cX0_feed 33 = .ok (.invokevirtual 47, 3) := dk_182 0 47 (dk_at dksX0_feed_1 11 rfl rfl)
theorem dX0_feed_36 : decode cX0_feed 36 = .ok (.aload_n 0, 1) := dk_42 (dk_at dksX0_feed_1 14 rfl rfl)
theorem dX0_feed_37 : decode cX0_feed 37 = .ok (.iload 5, 2) := dk_21 5 (dk_at dksX0_feed_1 15 rfl rfl)
theorem dX0_feed_39 : decode cX0_feed 39 = .ok (.invokevirtual 47, 3) := dk_182 0 47 (dk_at dksX0_feed_1 17 rfl rfl)
theorem dX0_feed_42 : decode cX0_feed 42 = .ok (.aload_n 0, 1) := dk_42 (dk_at dksX0_feed_1 20 rfl rfl)
theorem dX0_feed_43 : decode cX0_feed 43 = .ok (.getfield 44, 3) := dk_180 0 44 (dk_at dksX0_feed_1 21 rfl rfl)
theorem dX0_feed_46 : decode cX0_feed 46 = .ok (.ireturn, 1) := dk_172 (dk_at dksX0_feed_2 0 rfl rfl)
abbrev cX0_word : ByteArray := prog_1_method_4_code
def yX0_word : MethodName := ⟨RX0, "word", "(I)V"⟩
def dkwX0_word_1 : List UInt8 := [180, 0, 44, 4, 96, 181, 0, 44, 132, 2, 248, 167, 255, 226, 177]
abbrev dktX0_word_1 : List UInt8 := dkwX0_word_1 ++ []
def dkwX0_word_0 : List UInt8 := [16, 24, 61, 28, 155, 0, 32, 42, 180, 0, 9, 42, 180, 0, 44, 27, 28, 122, 145, 84, 42, 89]
abbrev dktX0_word_0 : List UInt8 := dkwX0_word_0 ++ dktX0_word_1
theorem dksX0_word_0 : cX0_word.data.toList.drop 0 = dktX0_word_0 := by decide +kernel
theorem dksX0_word_1 : cX0_word.data.toList.drop 22 = dktX0_word_1 := dk_seg dksX0_word_0 22 rfl rfl
theorem dX0_word_0 : decode cX0_word 0 = .ok (.bipush 24, 2) := dk_16 24 (dk_at dksX0_word_0 0 rfl rfl)
theorem dX0_word_2 : decode cX0_word 2 = .ok (.istore_n 2, 1) := dk_61 (dk_at dksX0_word_0 2 rfl rfl)
theorem dX0_word_3 : decode cX0_word 3 = .ok (.iload_n 2, 1) := dk_28 (dk_at dksX0_word_0 3 rfl rfl)
theorem dX0_word_4 : decode cX0_word 4 = .ok (.ifCond .lt 32, 3) := dk_155 0 32 (dk_at dksX0_word_0 4 rfl rfl)
theorem dX0_word_7 : decode cX0_word 7 = .ok (.aload_n 0, 1) := dk_42 (dk_at dksX0_word_0 7 rfl rfl)
theorem dX0_word_8 : decode cX0_word 8 = .ok (.getfield 9, 3) := dk_180 0 9 (dk_at dksX0_word_0 8 rfl rfl)
theorem dX0_word_11 : decode cX0_word 11 = .ok (.aload_n 0, 1) := dk_42 (dk_at dksX0_word_0 11 rfl rfl)
theorem dX0_word_12 : decode cX0_word 12 = .ok (.getfield 44, 3) := dk_180 0 44 (dk_at dksX0_word_0 12 rfl rfl)
theorem dX0_word_15 : decode cX0_word 15 = .ok (.iload_n 1, 1) := dk_27 (dk_at dksX0_word_0 15 rfl rfl)
theorem dX0_word_16 : decode cX0_word 16 = .ok (.iload_n 2, 1) := dk_28 (dk_at dksX0_word_0 16 rfl rfl)
theorem dX0_word_17 : decode cX0_word 17 = .ok (.ishr, 1) := dk_122 (dk_at dksX0_word_0 17 rfl rfl)
theorem dX0_word_18 : decode cX0_word 18 = .ok (.i2b, 1) := dk_145 (dk_at dksX0_word_0 18 rfl rfl)
theorem dX0_word_19 : decode cX0_word 19 = .ok (.bastore, 1) := dk_84 (dk_at dksX0_word_0 19 rfl rfl)
theorem dX0_word_20 : decode cX0_word 20 = .ok (.aload_n 0, 1) := dk_42 (dk_at dksX0_word_0 20 rfl rfl)
theorem dX0_word_21 : decode cX0_word 21 = .ok (.dup, 1) := dk_89 (dk_at dksX0_word_0 21 rfl rfl)
theorem dX0_word_22 : decode cX0_word 22 = .ok (.getfield 44, 3) := dk_180 0 44 (dk_at dksX0_word_1 0 rfl rfl)
theorem dX0_word_25 : decode cX0_word 25 = .ok (.iconst 1, 1) := dk_4 (dk_at dksX0_word_1 3 rfl rfl)
theorem dX0_word_26 : decode cX0_word 26 = .ok (.iadd, 1) := dk_96 (dk_at dksX0_word_1 4 rfl rfl)
theorem dX0_word_27 : decode cX0_word 27 = .ok (.putfield 44, 3) := dk_181 0 44 (dk_at dksX0_word_1 5 rfl rfl)
theorem dX0_word_30 : decode cX0_word 30 = .ok (.iinc 2 (-8), 3) := dk_132 2 248 (dk_at dksX0_word_1 8 rfl rfl)
theorem dX0_word_33 : decode cX0_word 33 = .ok (.goto (-30), 3) := dk_167 255 226 (dk_at dksX0_word_1 11 rfl rfl)
theorem dX0_word_36 : decode cX0_word 36 = .ok (.return_, 1) := dk_177 (dk_at dksX0_word_1 14 rfl rfl)
abbrev cX0_end : ByteArray := prog_1_method_5_code
def yX0_end : MethodName := ⟨RX0, "end", "(I)Z"⟩
def dkwX0_end_0 : List UInt8 := [27, 3, 42, 180, 0, 44, 184, 0, 51, 154, 0, 5, 3, 172, 42, 27, 181, 0, 44, 4, 172]
abbrev dktX0_end_0 : List UInt8 := dkwX0_end_0 ++ []
theorem dksX0_end_0 : cX0_end.data.toList.drop 0 = dktX0_end_0 := by decide +kernel
theorem dX0_end_0 : decode cX0_end 0 = .ok (.iload_n 1, 1) := dk_27 (dk_at dksX0_end_0 0 rfl rfl)
theorem dX0_end_1 : decode cX0_end 1 = .ok (.iconst 0, 1) := dk_3 (dk_at dksX0_end_0 1 rfl rfl)
theorem dX0_end_2 : decode cX0_end 2 = .ok (.aload_n 0, 1) := dk_42 (dk_at dksX0_end_0 2 rfl rfl)
theorem dX0_end_3 : decode cX0_end 3 = .ok (.getfield 44, 3) := dk_180 0 44 (dk_at dksX0_end_0 3 rfl rfl)
theorem dX0_end_6 : decode cX0_end 6 = .ok (.invokestatic 51, 3) := dk_184 0 51 (dk_at dksX0_end_0 6 rfl rfl)
theorem dX0_end_9 : decode cX0_end 9 = .ok (.ifCond .ne 5, 3) := dk_154 0 5 (dk_at dksX0_end_0 9 rfl rfl)
theorem dX0_end_12 : decode cX0_end 12 = .ok (.iconst 0, 1) := dk_3 (dk_at dksX0_end_0 12 rfl rfl)
theorem dX0_end_13 : decode cX0_end 13 = .ok (.ireturn, 1) := dk_172 (dk_at dksX0_end_0 13 rfl rfl)
theorem dX0_end_14 : decode cX0_end 14 = .ok (.aload_n 0, 1) := dk_42 (dk_at dksX0_end_0 14 rfl rfl)
theorem dX0_end_15 : decode cX0_end 15 = .ok (.iload_n 1, 1) := dk_27 (dk_at dksX0_end_0 15 rfl rfl)
theorem dX0_end_16 : decode cX0_end 16 = .ok (.putfield 44, 3) := dk_181 0 44 (dk_at dksX0_end_0 16 rfl rfl)
theorem dX0_end_19 : decode cX0_end 19 = .ok (.iconst 1, 1) := dk_4 (dk_at dksX0_end_0 19 rfl rfl)
theorem dX0_end_20 : decode cX0_end 20 = .ok (.ireturn, 1) := dk_172 (dk_at dksX0_end_0 20 rfl rfl)
abbrev cX0_isIn : ByteArray := prog_1_method_2_code
def yX0_isIn : MethodName := ⟨RX0, "isIn", "(III)Z"⟩
def dkwX0_isIn_0 : List UInt8 := [26, 27, 161, 0, 12, 26, 28, 163, 0, 7, 4, 167, 0, 4, 3, 172]
abbrev dktX0_isIn_0 : List UInt8 := dkwX0_isIn_0 ++ []
theorem dksX0_isIn_0 : cX0_isIn.data.toList.drop 0 = dktX0_isIn_0 := by decide +kernel
theorem dX0_isIn_0 : decode cX0_isIn 0 = .ok (.iload_n 0, 1) := dk_26 (dk_at dksX0_isIn_0 0 rfl rfl)
theorem dX0_isIn_1 : decode cX0_isIn 1 = .ok (.iload_n 1, 1) := dk_27 (dk_at dksX0_isIn_0 1 rfl rfl)
theorem dX0_isIn_2 : decode cX0_isIn 2 = .ok (.if_icmp .lt 12, 3) := dk_161 0 12 (dk_at dksX0_isIn_0 2 rfl rfl)
theorem dX0_isIn_5 : decode cX0_isIn 5 = .ok (.iload_n 0, 1) := dk_26 (dk_at dksX0_isIn_0 5 rfl rfl)
theorem dX0_isIn_6 : decode cX0_isIn 6 = .ok (.iload_n 2, 1) := dk_28 (dk_at dksX0_isIn_0 6 rfl rfl)
theorem dX0_isIn_7 : decode cX0_isIn 7 = .ok (.if_icmp .gt 7, 3) := dk_163 0 7 (dk_at dksX0_isIn_0 7 rfl rfl)
theorem dX0_isIn_10 : decode cX0_isIn 10 = .ok (.iconst 1, 1) := dk_4 (dk_at dksX0_isIn_0 10 rfl rfl)
theorem dX0_isIn_11 : decode cX0_isIn 11 = .ok (.goto 4, 3) := dk_167 0 4 (dk_at dksX0_isIn_0 11 rfl rfl)
theorem dX0_isIn_14 : decode cX0_isIn 14 = .ok (.iconst 0, 1) := dk_3 (dk_at dksX0_isIn_0 14 rfl rfl)
theorem dX0_isIn_15 : decode cX0_isIn 15 = .ok (.ireturn, 1) := dk_172 (dk_at dksX0_isIn_0 15 rfl rfl)
abbrev cX0_text : ByteArray := prog_1_method_7_code
def yX0_text : MethodName := ⟨RX0, "text", "(I)I"⟩
def dkwX0_text_3 : List UInt8 := [191]
abbrev dktX0_text_3 : List UInt8 := dkwX0_text_3 ++ []
def dkwX0_text_2 : List UInt8 := [180, 0, 103, 181, 0, 13, 2, 62, 42, 3, 181, 0, 44, 29, 172, 58, 4, 42, 3, 181, 0, 44, 25, 4]
abbrev dktX0_text_2 : List UInt8 := dkwX0_text_2 ++ dktX0_text_3
def dkwX0_text_1 : List UInt8 := [167, 0, 4, 2, 61, 42, 3, 181, 0, 44, 28, 172, 77, 42, 44, 180, 0, 100, 181, 0, 91, 42, 44]
abbrev dktX0_text_1 : List UInt8 := dkwX0_text_1 ++ dktX0_text_2
def dkwX0_text_0 : List UInt8 := [42, 3, 181, 0, 91, 42, 2, 181, 0, 13, 27, 3, 6, 184, 0, 51, 153, 0, 11, 42, 27, 182, 0, 94]
abbrev dktX0_text_0 : List UInt8 := dkwX0_text_0 ++ dktX0_text_1
theorem dksX0_text_0 : cX0_text.data.toList.drop 0 = dktX0_text_0 := by decide +kernel
theorem dksX0_text_1 : cX0_text.data.toList.drop 24 = dktX0_text_1 := dk_seg dksX0_text_0 24 rfl rfl
theorem dksX0_text_2 : cX0_text.data.toList.drop 47 = dktX0_text_2 := dk_seg dksX0_text_1 23 rfl rfl
theorem dksX0_text_3 : cX0_text.data.toList.drop 71 = dktX0_text_3 := dk_seg dksX0_text_2 24 rfl rfl
theorem dX0_text_0 : decode cX0_text 0 = .ok (.aload_n 0, 1) := dk_42 (dk_at dksX0_text_0 0 rfl rfl)
theorem dX0_text_1 : decode cX0_text 1 = .ok (.iconst 0, 1) := dk_3 (dk_at dksX0_text_0 1 rfl rfl)
theorem dX0_text_2 : decode cX0_text 2 = .ok (.putfield 91, 3) := dk_181 0 91 (dk_at dksX0_text_0 2 rfl rfl)
theorem dX0_text_5 : decode cX0_text 5 = .ok (.aload_n 0, 1) := dk_42 (dk_at dksX0_text_0 5 rfl rfl)
theorem dX0_text_6 : decode cX0_text 6 = .ok (.iconst (-1), 1) := dk_2 (dk_at dksX0_text_0 6 rfl rfl)
theorem dX0_text_7 : decode cX0_text 7 = .ok (.putfield 13, 3) := dk_181 0 13 (dk_at dksX0_text_0 7 rfl rfl)
theorem dX0_text_10 : decode cX0_text 10 = .ok (.iload_n 1, 1) := dk_27 (dk_at dksX0_text_0 10 rfl rfl)
theorem dX0_text_11 : decode cX0_text 11 = .ok (.iconst 0, 1) := dk_3 (dk_at dksX0_text_0 11 rfl rfl)
theorem dX0_text_12 : decode cX0_text 12 = .ok (.iconst 3, 1) := dk_6 (dk_at dksX0_text_0 12 rfl rfl)
theorem dX0_text_13 : decode cX0_text 13 = .ok (.invokestatic 51, 3) := dk_184 0 51 (dk_at dksX0_text_0 13 rfl rfl)
theorem dX0_text_16 : decode cX0_text 16 = .ok (.ifCond .eq 11, 3) := dk_153 0 11 (dk_at dksX0_text_0 16 rfl rfl)
theorem dX0_text_19 : decode cX0_text 19 = .ok (.aload_n 0, 1) := dk_42 (dk_at dksX0_text_0 19 rfl rfl)
theorem dX0_text_20 : decode cX0_text 20 = .ok (.iload_n 1, 1) := dk_27 (dk_at dksX0_text_0 20 rfl rfl)
theorem dX0_text_21 : decode cX0_text 21 = .ok (.invokevirtual 94, 3) := dk_182 0 94 (dk_at dksX0_text_0 21 rfl rfl)
theorem dX0_text_24 : decode cX0_text 24 = .ok (.goto 4, 3) := dk_167 0 4 (dk_at dksX0_text_1 0 rfl rfl)
theorem dX0_text_27 : decode cX0_text 27 = .ok (.iconst (-1), 1) := dk_2 (dk_at dksX0_text_1 3 rfl rfl)
theorem dX0_text_28 : decode cX0_text 28 = .ok (.istore_n 2, 1) := dk_61 (dk_at dksX0_text_1 4 rfl rfl)
theorem dX0_text_29 : decode cX0_text 29 = .ok (.aload_n 0, 1) := dk_42 (dk_at dksX0_text_1 5 rfl rfl)
theorem dX0_text_30 : decode cX0_text 30 = .ok (.iconst 0, 1) := dk_3 (dk_at dksX0_text_1 6 rfl rfl)
theorem dX0_text_31 : decode cX0_text 31 = .ok (.putfield 44, 3) := dk_181 0 44 (dk_at dksX0_text_1 7 rfl rfl)
theorem dX0_text_34 : decode cX0_text 34 = .ok (.iload_n 2, 1) := dk_28 (dk_at dksX0_text_1 10 rfl rfl)
theorem dX0_text_35 : decode cX0_text 35 = .ok (.ireturn, 1) := dk_172 (dk_at dksX0_text_1 11 rfl rfl)
theorem dX0_text_36 : decode cX0_text 36 = .ok (.astore_n 2, 1) := dk_77 (dk_at dksX0_text_1 12 rfl rfl)
theorem dX0_text_37 : decode cX0_text 37 = .ok (.aload_n 0, 1) := dk_42 (dk_at dksX0_text_1 13 rfl rfl)
theorem dX0_text_38 : decode cX0_text 38 = .ok (.aload_n 2, 1) := dk_44 (dk_at dksX0_text_1 14 rfl rfl)
theorem dX0_text_39 : decode cX0_text 39 = .ok (.getfield 100, 3) := dk_180 0 100 (dk_at dksX0_text_1 15 rfl rfl)
theorem dX0_text_42 : decode cX0_text 42 = .ok (.putfield 91, 3) := dk_181 0 91 (dk_at dksX0_text_1 18 rfl rfl)
theorem dX0_text_45 : decode cX0_text 45 = .ok (.aload_n 0, 1) := dk_42 (dk_at dksX0_text_1 21 rfl rfl)
theorem dX0_text_46 : decode cX0_text 46 = .ok (.aload_n 2, 1) := dk_44 (dk_at dksX0_text_1 22 rfl rfl)
theorem dX0_text_47 : decode cX0_text 47 = .ok (.getfield 103, 3) := dk_180 0 103 (dk_at dksX0_text_2 0 rfl rfl)
theorem dX0_text_50 : decode cX0_text 50 = .ok (.putfield 13, 3) := dk_181 0 13 (dk_at dksX0_text_2 3 rfl rfl)
theorem dX0_text_53 : decode cX0_text 53 = .ok (.iconst (-1), 1) := dk_2 (dk_at dksX0_text_2 6 rfl rfl)
theorem dX0_text_54 : decode cX0_text 54 = .ok (.istore_n 3, 1) := dk_62 (dk_at dksX0_text_2 7 rfl rfl)
theorem dX0_text_55 : decode cX0_text 55 = .ok (.aload_n 0, 1) := dk_42 (dk_at dksX0_text_2 8 rfl rfl)
theorem dX0_text_56 : decode cX0_text 56 = .ok (.iconst 0, 1) := dk_3 (dk_at dksX0_text_2 9 rfl rfl)
theorem dX0_text_57 : decode cX0_text 57 = .ok (.putfield 44, 3) := dk_181 0 44 (dk_at dksX0_text_2 10 rfl rfl)
theorem dX0_text_60 : decode cX0_text 60 = .ok (.iload_n 3, 1) := dk_29 (dk_at dksX0_text_2 13 rfl rfl)
theorem dX0_text_61 : decode cX0_text 61 = .ok (.ireturn, 1) := dk_172 (dk_at dksX0_text_2 14 rfl rfl)
theorem dX0_text_62 : decode cX0_text 62 = .ok (.astore 4, 2) := dk_58 4 (dk_at dksX0_text_2 15 rfl rfl)
theorem dX0_text_64 : decode cX0_text 64 = .ok (.aload_n 0, 1) := dk_42 (dk_at dksX0_text_2 17 rfl rfl)
theorem dX0_text_65 : decode cX0_text 65 = .ok (.iconst 0, 1) := dk_3 (dk_at dksX0_text_2 18 rfl rfl)
theorem dX0_text_66 : decode cX0_text 66 = .ok (.putfield 44, 3) := dk_181 0 44 (dk_at dksX0_text_2 19 rfl rfl)
theorem dX0_text_69 : decode cX0_text 69 = .ok (.aload 4, 2) := dk_25 4 (dk_at dksX0_text_2 22 rfl rfl)
theorem dX0_text_71 : decode cX0_text 71 = .ok (.athrow, 1) := dk_191 (dk_at dksX0_text_3 0 rfl rfl)
abbrev cX0_reads : ByteArray := prog_1_method_6_code
def yX0_reads : MethodName := ⟨RX0, "reads", "(I)I"⟩
def dkwX0_reads_6 : List UInt8 := [172]
abbrev dktX0_reads_6 : List UInt8 := dkwX0_reads_6 ++ []
def dkwX0_reads_5 : List UInt8 := [180, 0, 20, 44, 182, 0, 83, 181, 0, 86, 42, 182, 0, 88, 42, 180, 0, 20, 180, 0, 86, 182, 0, 67]
abbrev dktX0_reads_5 : List UInt8 := dkwX0_reads_5 ++ dktX0_reads_6
def dkwX0_reads_4 : List UInt8 := [180, 0, 20, 44, 182, 0, 78, 181, 0, 81, 42, 180, 0, 20, 180, 0, 81, 182, 0, 67, 172, 42]
abbrev dktX0_reads_4 : List UInt8 := dkwX0_reads_4 ++ dktX0_reads_5
def dkwX0_reads_3 : List UInt8 := [180, 0, 20, 44, 182, 0, 73, 181, 0, 76, 42, 180, 0, 20, 180, 0, 76, 182, 0, 67, 172, 42]
abbrev dktX0_reads_3 : List UInt8 := dkwX0_reads_3 ++ dktX0_reads_4
def dkwX0_reads_2 : List UInt8 := [42, 180, 0, 20, 44, 182, 0, 60, 181, 0, 64, 42, 180, 0, 20, 180, 0, 64, 182, 0, 67, 172, 42]
abbrev dktX0_reads_2 : List UInt8 := dkwX0_reads_2 ++ dktX0_reads_3
def dkwX0_reads_1 : List UInt8 := [170, 0, 0, 0, 91, 0, 0, 0, 0, 0, 0, 0, 2, 0, 0, 0, 25, 0, 0, 0, 47, 0, 0, 0, 69]
abbrev dktX0_reads_1 : List UInt8 := dkwX0_reads_1 ++ dktX0_reads_2
def dkwX0_reads_0 : List UInt8 := [187, 0, 55, 89, 42, 27, 183, 0, 57, 77, 27]
abbrev dktX0_reads_0 : List UInt8 := dkwX0_reads_0 ++ dktX0_reads_1
theorem dksX0_reads_0 : cX0_reads.data.toList.drop 0 = dktX0_reads_0 := by decide +kernel
theorem dksX0_reads_1 : cX0_reads.data.toList.drop 11 = dktX0_reads_1 := dk_seg dksX0_reads_0 11 rfl rfl
theorem dksX0_reads_2 : cX0_reads.data.toList.drop 36 = dktX0_reads_2 := dk_seg dksX0_reads_1 25 rfl rfl
theorem dksX0_reads_3 : cX0_reads.data.toList.drop 59 = dktX0_reads_3 := dk_seg dksX0_reads_2 23 rfl rfl
theorem dksX0_reads_4 : cX0_reads.data.toList.drop 81 = dktX0_reads_4 := dk_seg dksX0_reads_3 22 rfl rfl
theorem dksX0_reads_5 : cX0_reads.data.toList.drop 103 = dktX0_reads_5 := dk_seg dksX0_reads_4 22 rfl rfl
theorem dksX0_reads_6 : cX0_reads.data.toList.drop 127 = dktX0_reads_6 := dk_seg dksX0_reads_5 24 rfl rfl
theorem dX0_reads_0 : decode cX0_reads 0 = .ok (.new 55, 3) := dk_187 0 55 (dk_at dksX0_reads_0 0 rfl rfl)
theorem dX0_reads_3 : decode cX0_reads 3 = .ok (.dup, 1) := dk_89 (dk_at dksX0_reads_0 3 rfl rfl)
theorem dX0_reads_4 : decode cX0_reads 4 = .ok (.aload_n 0, 1) := dk_42 (dk_at dksX0_reads_0 4 rfl rfl)
theorem dX0_reads_5 : decode cX0_reads 5 = .ok (.iload_n 1, 1) := dk_27 (dk_at dksX0_reads_0 5 rfl rfl)
theorem dX0_reads_6 : decode cX0_reads 6 = .ok (.invokespecial 57, 3) := dk_183 0 57 (dk_at dksX0_reads_0 6 rfl rfl)
theorem dX0_reads_9 : decode cX0_reads 9 = .ok (.astore_n 2, 1) := dk_77 (dk_at dksX0_reads_0 9 rfl rfl)
theorem dX0_reads_10 : decode cX0_reads 10 = .ok (.iload_n 1, 1) := dk_27 (dk_at dksX0_reads_0 10 rfl rfl)
theorem dX0_reads_11 : decode cX0_reads 11 = .ok (.tableswitch 91 0 2 #[25, 47, 69], 25) := by decide +kernel
theorem dX0_reads_36 : decode cX0_reads 36 = .ok (.aload_n 0, 1) := dk_42 (dk_at dksX0_reads_2 0 rfl rfl)
theorem dX0_reads_37 : decode cX0_reads 37 = .ok (.getfield 20, 3) := dk_180 0 20 (dk_at dksX0_reads_2 1 rfl rfl)
theorem dX0_reads_40 : decode cX0_reads 40 = .ok (.aload_n 2, 1) := dk_44 (dk_at dksX0_reads_2 4 rfl rfl)
theorem dX0_reads_41 : decode cX0_reads 41 = .ok (.invokevirtual 60, 3) := dk_182 0 60 (dk_at dksX0_reads_2 5 rfl rfl)
theorem dX0_reads_44 : decode cX0_reads 44 = .ok (.putfield 64, 3) := dk_181 0 64 (dk_at dksX0_reads_2 8 rfl rfl)
theorem dX0_reads_47 : decode cX0_reads 47 = .ok (.aload_n 0, 1) := dk_42 (dk_at dksX0_reads_2 11 rfl rfl)
theorem dX0_reads_48 : decode cX0_reads 48 = .ok (.getfield 20, 3) := dk_180 0 20 (dk_at dksX0_reads_2 12 rfl rfl)
theorem dX0_reads_51 : decode cX0_reads 51 = .ok (.getfield 64, 3) := dk_180 0 64 (dk_at dksX0_reads_2 15 rfl rfl)
theorem dX0_reads_54 : decode cX0_reads 54 = .ok (.invokevirtual 67, 3) := dk_182 0 67 (dk_at dksX0_reads_2 18 rfl rfl)
theorem dX0_reads_57 : decode cX0_reads 57 = .ok (.ireturn, 1) := dk_172 (dk_at dksX0_reads_2 21 rfl rfl)
theorem dX0_reads_58 : decode cX0_reads 58 = .ok (.aload_n 0, 1) := dk_42 (dk_at dksX0_reads_2 22 rfl rfl)
theorem dX0_reads_59 : decode cX0_reads 59 = .ok (.getfield 20, 3) := dk_180 0 20 (dk_at dksX0_reads_3 0 rfl rfl)
theorem dX0_reads_62 : decode cX0_reads 62 = .ok (.aload_n 2, 1) := dk_44 (dk_at dksX0_reads_3 3 rfl rfl)
theorem dX0_reads_63 : decode cX0_reads 63 = .ok (.invokevirtual 73, 3) := dk_182 0 73 (dk_at dksX0_reads_3 4 rfl rfl)
theorem dX0_reads_66 : decode cX0_reads 66 = .ok (.putfield 76, 3) := dk_181 0 76 (dk_at dksX0_reads_3 7 rfl rfl)
theorem dX0_reads_69 : decode cX0_reads 69 = .ok (.aload_n 0, 1) := dk_42 (dk_at dksX0_reads_3 10 rfl rfl)
theorem dX0_reads_70 : decode cX0_reads 70 = .ok (.getfield 20, 3) := dk_180 0 20 (dk_at dksX0_reads_3 11 rfl rfl)
theorem dX0_reads_73 : decode cX0_reads 73 = .ok (.getfield 76, 3) := dk_180 0 76 (dk_at dksX0_reads_3 14 rfl rfl)
theorem dX0_reads_76 : decode cX0_reads 76 = .ok (.invokevirtual 67, 3) := dk_182 0 67 (dk_at dksX0_reads_3 17 rfl rfl)
theorem dX0_reads_79 : decode cX0_reads 79 = .ok (.ireturn, 1) := dk_172 (dk_at dksX0_reads_3 20 rfl rfl)
theorem dX0_reads_80 : decode cX0_reads 80 = .ok (.aload_n 0, 1) := dk_42 (dk_at dksX0_reads_3 21 rfl rfl)
theorem dX0_reads_81 : decode cX0_reads 81 = .ok (.getfield 20, 3) := dk_180 0 20 (dk_at dksX0_reads_4 0 rfl rfl)
theorem dX0_reads_84 : decode cX0_reads 84 = .ok (.aload_n 2, 1) := dk_44 (dk_at dksX0_reads_4 3 rfl rfl)
theorem dX0_reads_85 : decode cX0_reads 85 = .ok (.invokevirtual 78, 3) := dk_182 0 78 (dk_at dksX0_reads_4 4 rfl rfl)
theorem dX0_reads_88 : decode cX0_reads 88 = .ok (.putfield 81, 3) := dk_181 0 81 (dk_at dksX0_reads_4 7 rfl rfl)
theorem dX0_reads_91 : decode cX0_reads 91 = .ok (.aload_n 0, 1) := dk_42 (dk_at dksX0_reads_4 10 rfl rfl)
theorem dX0_reads_92 : decode cX0_reads 92 = .ok (.getfield 20, 3) := dk_180 0 20 (dk_at dksX0_reads_4 11 rfl rfl)
theorem dX0_reads_95 : decode cX0_reads 95 = .ok (.getfield 81, 3) := dk_180 0 81 (dk_at dksX0_reads_4 14 rfl rfl)
theorem dX0_reads_98 : decode cX0_reads 98 = .ok (.invokevirtual 67, 3) := dk_182 0 67 (dk_at dksX0_reads_4 17 rfl rfl)
theorem dX0_reads_101 : decode cX0_reads 101 = .ok (.ireturn, 1) := dk_172 (dk_at dksX0_reads_4 20 rfl rfl)
theorem dX0_reads_102 : decode cX0_reads 102 = .ok (.aload_n 0, 1) := dk_42 (dk_at dksX0_reads_4 21 rfl rfl)
theorem dX0_reads_103 : decode cX0_reads 103 = .ok (.getfield 20, 3) := dk_180 0 20 (dk_at dksX0_reads_5 0 rfl rfl)
theorem dX0_reads_106 : decode cX0_reads 106 = .ok (.aload_n 2, 1) := dk_44 (dk_at dksX0_reads_5 3 rfl rfl)
theorem dX0_reads_107 : decode cX0_reads 107 = .ok (.invokevirtual 83, 3) := dk_182 0 83 (dk_at dksX0_reads_5 4 rfl rfl)
theorem dX0_reads_110 : decode cX0_reads 110 = .ok (.putfield 86, 3) := dk_181 0 86 (dk_at dksX0_reads_5 7 rfl rfl)
theorem dX0_reads_113 : decode cX0_reads 113 = .ok (.aload_n 0, 1) := dk_42 (dk_at dksX0_reads_5 10 rfl rfl)
theorem dX0_reads_114 : decode cX0_reads 114 = .ok (.invokevirtual 88, 3) := dk_182 0 88 (dk_at dksX0_reads_5 11 rfl rfl)
theorem dX0_reads_117 : decode cX0_reads 117 = .ok (.aload_n 0, 1) := dk_42 (dk_at dksX0_reads_5 14 rfl rfl)
theorem dX0_reads_118 : decode cX0_reads 118 = .ok (.getfield 20, 3) := dk_180 0 20 (dk_at dksX0_reads_5 15 rfl rfl)
theorem dX0_reads_121 : decode cX0_reads 121 = .ok (.getfield 86, 3) := dk_180 0 86 (dk_at dksX0_reads_5 18 rfl rfl)
theorem dX0_reads_124 : decode cX0_reads 124 = .ok (.invokevirtual 67, 3) := dk_182 0 67 (dk_at dksX0_reads_5 21 rfl rfl)
theorem dX0_reads_127 : decode cX0_reads 127 = .ok (.ireturn, 1) := dk_172 (dk_at dksX0_reads_6 0 rfl rfl)
abbrev cX0_forgets : ByteArray := prog_1_method_9_code
def yX0_forgets : MethodName := ⟨RX0, "forgets", "()V"⟩
def dkwX0_forgets_0 : List UInt8 := [42, 3, 181, 0, 106, 177]
abbrev dktX0_forgets_0 : List UInt8 := dkwX0_forgets_0 ++ []
theorem dksX0_forgets_0 : cX0_forgets.data.toList.drop 0 = dktX0_forgets_0 := by decide +kernel
theorem dX0_forgets_0 : decode cX0_forgets 0 = .ok (.aload_n 0, 1) := dk_42 (dk_at dksX0_forgets_0 0 rfl rfl)
theorem dX0_forgets_1 : decode cX0_forgets 1 = .ok (.iconst 0, 1) := dk_3 (dk_at dksX0_forgets_0 1 rfl rfl)
theorem dX0_forgets_2 : decode cX0_forgets 2 = .ok (.putfield 106, 3) := dk_181 0 106 (dk_at dksX0_forgets_0 2 rfl rfl)
theorem dX0_forgets_5 : decode cX0_forgets 5 = .ok (.return_, 1) := dk_177 (dk_at dksX0_forgets_0 5 rfl rfl)
abbrev cX0_fault : ByteArray := prog_1_method_8_code
def yX0_fault : MethodName := ⟨RX0, "fault", "(I)I"⟩
def dkwX0_fault_1 : List UInt8 := [172]
abbrev dktX0_fault_1 : List UInt8 := dkwX0_fault_1 ++ []
def dkwX0_fault_0 : List UInt8 := [27, 154, 0, 10, 42, 180, 0, 91, 167, 0, 16, 27, 4, 160, 0, 10, 42, 180, 0, 13, 167, 0, 4, 2]
abbrev dktX0_fault_0 : List UInt8 := dkwX0_fault_0 ++ dktX0_fault_1
theorem dksX0_fault_0 : cX0_fault.data.toList.drop 0 = dktX0_fault_0 := by decide +kernel
theorem dksX0_fault_1 : cX0_fault.data.toList.drop 24 = dktX0_fault_1 := dk_seg dksX0_fault_0 24 rfl rfl
theorem dX0_fault_0 : decode cX0_fault 0 = .ok (.iload_n 1, 1) := dk_27 (dk_at dksX0_fault_0 0 rfl rfl)
theorem dX0_fault_1 : decode cX0_fault 1 = .ok (.ifCond .ne 10, 3) := dk_154 0 10 (dk_at dksX0_fault_0 1 rfl rfl)
theorem dX0_fault_4 : decode cX0_fault 4 = .ok (.aload_n 0, 1) := dk_42 (dk_at dksX0_fault_0 4 rfl rfl)
theorem dX0_fault_5 : decode cX0_fault 5 = .ok (.getfield 91, 3) := dk_180 0 91 (dk_at dksX0_fault_0 5 rfl rfl)
theorem dX0_fault_8 : decode cX0_fault 8 = .ok (.goto 16, 3) := dk_167 0 16 (dk_at dksX0_fault_0 8 rfl rfl)
theorem dX0_fault_11 : decode cX0_fault 11 = .ok (.iload_n 1, 1) := dk_27 (dk_at dksX0_fault_0 11 rfl rfl)
theorem dX0_fault_12 : decode cX0_fault 12 = .ok (.iconst 1, 1) := dk_4 (dk_at dksX0_fault_0 12 rfl rfl)
theorem dX0_fault_13 : decode cX0_fault 13 = .ok (.if_icmp .ne 10, 3) := dk_160 0 10 (dk_at dksX0_fault_0 13 rfl rfl)
theorem dX0_fault_16 : decode cX0_fault 16 = .ok (.aload_n 0, 1) := dk_42 (dk_at dksX0_fault_0 16 rfl rfl)
theorem dX0_fault_17 : decode cX0_fault 17 = .ok (.getfield 13, 3) := dk_180 0 13 (dk_at dksX0_fault_0 17 rfl rfl)
theorem dX0_fault_20 : decode cX0_fault 20 = .ok (.goto 4, 3) := dk_167 0 4 (dk_at dksX0_fault_0 20 rfl rfl)
theorem dX0_fault_23 : decode cX0_fault 23 = .ok (.iconst (-1), 1) := dk_2 (dk_at dksX0_fault_0 23 rfl rfl)
theorem dX0_fault_24 : decode cX0_fault 24 = .ok (.ireturn, 1) := dk_172 (dk_at dksX0_fault_1 0 rfl rfl)
abbrev cX0_undo : ByteArray := prog_1_method_11_code
def yX0_undo : MethodName := ⟨RX0, "undo", "()Z"⟩
def dkwX0_undo_1 : List UInt8 := [180, 0, 30, 42, 180, 0, 106, 50, 182, 0, 109, 4, 172]
abbrev dktX0_undo_1 : List UInt8 := dkwX0_undo_1 ++ []
def dkwX0_undo_0 : List UInt8 := [42, 180, 0, 106, 154, 0, 5, 3, 172, 42, 89, 180, 0, 106, 4, 100, 181, 0, 106, 42, 180, 0, 20, 42]
abbrev dktX0_undo_0 : List UInt8 := dkwX0_undo_0 ++ dktX0_undo_1
theorem dksX0_undo_0 : cX0_undo.data.toList.drop 0 = dktX0_undo_0 := by decide +kernel
theorem dksX0_undo_1 : cX0_undo.data.toList.drop 24 = dktX0_undo_1 := dk_seg dksX0_undo_0 24 rfl rfl
theorem dX0_undo_0 : decode cX0_undo 0 = .ok (.aload_n 0, 1) := dk_42 (dk_at dksX0_undo_0 0 rfl rfl)
theorem dX0_undo_1 : decode cX0_undo 1 = .ok (.getfield 106, 3) := dk_180 0 106 (dk_at dksX0_undo_0 1 rfl rfl)
theorem dX0_undo_4 : decode cX0_undo 4 = .ok (.ifCond .ne 5, 3) := dk_154 0 5 (dk_at dksX0_undo_0 4 rfl rfl)
theorem dX0_undo_7 : decode cX0_undo 7 = .ok (.iconst 0, 1) := dk_3 (dk_at dksX0_undo_0 7 rfl rfl)
theorem dX0_undo_8 : decode cX0_undo 8 = .ok (.ireturn, 1) := dk_172 (dk_at dksX0_undo_0 8 rfl rfl)
theorem dX0_undo_9 : decode cX0_undo 9 = .ok (.aload_n 0, 1) := dk_42 (dk_at dksX0_undo_0 9 rfl rfl)
theorem dX0_undo_10 : decode cX0_undo 10 = .ok (.dup, 1) := dk_89 (dk_at dksX0_undo_0 10 rfl rfl)
theorem dX0_undo_11 : decode cX0_undo 11 = .ok (.getfield 106, 3) := dk_180 0 106 (dk_at dksX0_undo_0 11 rfl rfl)
theorem dX0_undo_14 : decode cX0_undo 14 = .ok (.iconst 1, 1) := dk_4 (dk_at dksX0_undo_0 14 rfl rfl)
theorem dX0_undo_15 : decode cX0_undo 15 = .ok (.isub, 1) := dk_100 (dk_at dksX0_undo_0 15 rfl rfl)
theorem dX0_undo_16 : decode cX0_undo 16 = .ok (.putfield 106, 3) := dk_181 0 106 (dk_at dksX0_undo_0 16 rfl rfl)
theorem dX0_undo_19 : decode cX0_undo 19 = .ok (.aload_n 0, 1) := dk_42 (dk_at dksX0_undo_0 19 rfl rfl)
theorem dX0_undo_20 : decode cX0_undo 20 = .ok (.getfield 20, 3) := dk_180 0 20 (dk_at dksX0_undo_0 20 rfl rfl)
theorem dX0_undo_23 : decode cX0_undo 23 = .ok (.aload_n 0, 1) := dk_42 (dk_at dksX0_undo_0 23 rfl rfl)
theorem dX0_undo_24 : decode cX0_undo 24 = .ok (.getfield 30, 3) := dk_180 0 30 (dk_at dksX0_undo_1 0 rfl rfl)
theorem dX0_undo_27 : decode cX0_undo 27 = .ok (.aload_n 0, 1) := dk_42 (dk_at dksX0_undo_1 3 rfl rfl)
theorem dX0_undo_28 : decode cX0_undo 28 = .ok (.getfield 106, 3) := dk_180 0 106 (dk_at dksX0_undo_1 4 rfl rfl)
theorem dX0_undo_31 : decode cX0_undo 31 = .ok (.aaload, 1) := dk_50 (dk_at dksX0_undo_1 7 rfl rfl)
theorem dX0_undo_32 : decode cX0_undo 32 = .ok (.invokevirtual 109, 3) := dk_182 0 109 (dk_at dksX0_undo_1 8 rfl rfl)
theorem dX0_undo_35 : decode cX0_undo 35 = .ok (.iconst 1, 1) := dk_4 (dk_at dksX0_undo_1 11 rfl rfl)
theorem dX0_undo_36 : decode cX0_undo 36 = .ok (.ireturn, 1) := dk_172 (dk_at dksX0_undo_1 12 rfl rfl)
abbrev cX0_state : ByteArray := prog_1_method_14_code
def yX0_state : MethodName := ⟨RX0, "state", "(I)I"⟩
def dkwX0_state_0 : List UInt8 := [42, 180, 0, 20, 180, 0, 113, 61, 42, 180, 0, 20, 27, 181, 0, 113, 42, 182, 0, 88, 28, 172]
abbrev dktX0_state_0 : List UInt8 := dkwX0_state_0 ++ []
theorem dksX0_state_0 : cX0_state.data.toList.drop 0 = dktX0_state_0 := by decide +kernel
theorem dX0_state_0 : decode cX0_state 0 = .ok (.aload_n 0, 1) := dk_42 (dk_at dksX0_state_0 0 rfl rfl)
theorem dX0_state_1 : decode cX0_state 1 = .ok (.getfield 20, 3) := dk_180 0 20 (dk_at dksX0_state_0 1 rfl rfl)
theorem dX0_state_4 : decode cX0_state 4 = .ok (.getfield 113, 3) := dk_180 0 113 (dk_at dksX0_state_0 4 rfl rfl)
theorem dX0_state_7 : decode cX0_state 7 = .ok (.istore_n 2, 1) := dk_61 (dk_at dksX0_state_0 7 rfl rfl)
theorem dX0_state_8 : decode cX0_state 8 = .ok (.aload_n 0, 1) := dk_42 (dk_at dksX0_state_0 8 rfl rfl)
theorem dX0_state_9 : decode cX0_state 9 = .ok (.getfield 20, 3) := dk_180 0 20 (dk_at dksX0_state_0 9 rfl rfl)
theorem dX0_state_12 : decode cX0_state 12 = .ok (.iload_n 1, 1) := dk_27 (dk_at dksX0_state_0 12 rfl rfl)
theorem dX0_state_13 : decode cX0_state 13 = .ok (.putfield 113, 3) := dk_181 0 113 (dk_at dksX0_state_0 13 rfl rfl)
theorem dX0_state_16 : decode cX0_state 16 = .ok (.aload_n 0, 1) := dk_42 (dk_at dksX0_state_0 16 rfl rfl)
theorem dX0_state_17 : decode cX0_state 17 = .ok (.invokevirtual 88, 3) := dk_182 0 88 (dk_at dksX0_state_0 17 rfl rfl)
theorem dX0_state_20 : decode cX0_state 20 = .ok (.iload_n 2, 1) := dk_28 (dk_at dksX0_state_0 20 rfl rfl)
theorem dX0_state_21 : decode cX0_state 21 = .ok (.ireturn, 1) := dk_172 (dk_at dksX0_state_0 21 rfl rfl)
abbrev cX0_person : ByteArray := prog_1_method_15_code
def yX0_person : MethodName := ⟨RX0, "person", "(III)I"⟩
def dkwX0_person_2 : List UInt8 := [42, 182, 0, 88, 42, 180, 0, 20, 180, 0, 123, 4, 100, 172]
abbrev dktX0_person_2 : List UInt8 := dkwX0_person_2 ++ []
def dkwX0_person_1 : List UInt8 := [42, 180, 0, 20, 180, 0, 123, 16, 12, 160, 0, 5, 2, 172, 42, 180, 0, 20, 27, 28, 29, 182, 0, 126]
abbrev dktX0_person_1 : List UInt8 := dkwX0_person_1 ++ dktX0_person_2
def dkwX0_person_0 : List UInt8 := [27, 184, 0, 116, 153, 0, 32, 28, 4, 16, 9, 184, 0, 51, 153, 0, 22, 29, 184, 0, 120, 153, 0, 15]
abbrev dktX0_person_0 : List UInt8 := dkwX0_person_0 ++ dktX0_person_1
theorem dksX0_person_0 : cX0_person.data.toList.drop 0 = dktX0_person_0 := by decide +kernel
theorem dksX0_person_1 : cX0_person.data.toList.drop 24 = dktX0_person_1 := dk_seg dksX0_person_0 24 rfl rfl
theorem dksX0_person_2 : cX0_person.data.toList.drop 48 = dktX0_person_2 := dk_seg dksX0_person_1 24 rfl rfl
theorem dX0_person_0 : decode cX0_person 0 = .ok (.iload_n 1, 1) := dk_27 (dk_at dksX0_person_0 0 rfl rfl)
theorem dX0_person_1 : decode cX0_person 1 = .ok (.invokestatic 116, 3) := dk_184 0 116 (dk_at dksX0_person_0 1 rfl rfl)
theorem dX0_person_4 : decode cX0_person 4 = .ok (.ifCond .eq 32, 3) := dk_153 0 32 (dk_at dksX0_person_0 4 rfl rfl)
theorem dX0_person_7 : decode cX0_person 7 = .ok (.iload_n 2, 1) := dk_28 (dk_at dksX0_person_0 7 rfl rfl)
theorem dX0_person_8 : decode cX0_person 8 = .ok (.iconst 1, 1) := dk_4 (dk_at dksX0_person_0 8 rfl rfl)
theorem dX0_person_9 : decode cX0_person 9 = .ok (.bipush 9, 2) := dk_16 9 (dk_at dksX0_person_0 9 rfl rfl)
theorem dX0_person_11 : decode cX0_person 11 = .ok (.invokestatic 51, 3) := dk_184 0 51 (dk_at dksX0_person_0 11 rfl rfl)
theorem dX0_person_14 : decode cX0_person 14 = .ok (.ifCond .eq 22, 3) := dk_153 0 22 (dk_at dksX0_person_0 14 rfl rfl)
theorem dX0_person_17 : decode cX0_person 17 = .ok (.iload_n 3, 1) := dk_29 (dk_at dksX0_person_0 17 rfl rfl)
theorem dX0_person_18 : decode cX0_person 18 = .ok (.invokestatic 120, 3) := dk_184 0 120 (dk_at dksX0_person_0 18 rfl rfl)
theorem dX0_person_21 : decode cX0_person 21 = .ok (.ifCond .eq 15, 3) := dk_153 0 15 (dk_at dksX0_person_0 21 rfl rfl)
theorem dX0_person_24 : decode cX0_person 24 = .ok (.aload_n 0, 1) := dk_42 (dk_at dksX0_person_1 0 rfl rfl)
theorem dX0_person_25 : decode cX0_person 25 = .ok (.getfield 20, 3) := dk_180 0 20 (dk_at dksX0_person_1 1 rfl rfl)
theorem dX0_person_28 : decode cX0_person 28 = .ok (.getfield 123, 3) := dk_180 0 123 (dk_at dksX0_person_1 4 rfl rfl)
theorem dX0_person_31 : decode cX0_person 31 = .ok (.bipush 12, 2) := dk_16 12 (dk_at dksX0_person_1 7 rfl rfl)
theorem dX0_person_33 : decode cX0_person 33 = .ok (.if_icmp .ne 5, 3) := dk_160 0 5 (dk_at dksX0_person_1 9 rfl rfl)
theorem dX0_person_36 : decode cX0_person 36 = .ok (.iconst (-1), 1) := dk_2 (dk_at dksX0_person_1 12 rfl rfl)
theorem dX0_person_37 : decode cX0_person 37 = .ok (.ireturn, 1) := dk_172 (dk_at dksX0_person_1 13 rfl rfl)
theorem dX0_person_38 : decode cX0_person 38 = .ok (.aload_n 0, 1) := dk_42 (dk_at dksX0_person_1 14 rfl rfl)
theorem dX0_person_39 : decode cX0_person 39 = .ok (.getfield 20, 3) := dk_180 0 20 (dk_at dksX0_person_1 15 rfl rfl)
theorem dX0_person_42 : decode cX0_person 42 = .ok (.iload_n 1, 1) := dk_27 (dk_at dksX0_person_1 18 rfl rfl)
theorem dX0_person_43 : decode cX0_person 43 = .ok (.iload_n 2, 1) := dk_28 (dk_at dksX0_person_1 19 rfl rfl)
theorem dX0_person_44 : decode cX0_person 44 = .ok (.iload_n 3, 1) := dk_29 (dk_at dksX0_person_1 20 rfl rfl)
theorem dX0_person_45 : decode cX0_person 45 = .ok (.invokevirtual 126, 3) := dk_182 0 126 (dk_at dksX0_person_1 21 rfl rfl)
theorem dX0_person_48 : decode cX0_person 48 = .ok (.aload_n 0, 1) := dk_42 (dk_at dksX0_person_2 0 rfl rfl)
theorem dX0_person_49 : decode cX0_person 49 = .ok (.invokevirtual 88, 3) := dk_182 0 88 (dk_at dksX0_person_2 1 rfl rfl)
theorem dX0_person_52 : decode cX0_person 52 = .ok (.aload_n 0, 1) := dk_42 (dk_at dksX0_person_2 4 rfl rfl)
theorem dX0_person_53 : decode cX0_person 53 = .ok (.getfield 20, 3) := dk_180 0 20 (dk_at dksX0_person_2 5 rfl rfl)
theorem dX0_person_56 : decode cX0_person 56 = .ok (.getfield 123, 3) := dk_180 0 123 (dk_at dksX0_person_2 8 rfl rfl)
theorem dX0_person_59 : decode cX0_person 59 = .ok (.iconst 1, 1) := dk_4 (dk_at dksX0_person_2 11 rfl rfl)
theorem dX0_person_60 : decode cX0_person 60 = .ok (.isub, 1) := dk_100 (dk_at dksX0_person_2 12 rfl rfl)
theorem dX0_person_61 : decode cX0_person 61 = .ok (.ireturn, 1) := dk_172 (dk_at dksX0_person_2 13 rfl rfl)
abbrev cX0_isKind : ByteArray := prog_1_method_13_code
def yX0_isKind : MethodName := ⟨RX0, "isKind", "(I)Z"⟩
def dkwX0_isKind_0 : List UInt8 := [26, 3, 7, 184, 0, 51, 172]
abbrev dktX0_isKind_0 : List UInt8 := dkwX0_isKind_0 ++ []
theorem dksX0_isKind_0 : cX0_isKind.data.toList.drop 0 = dktX0_isKind_0 := by decide +kernel
theorem dX0_isKind_0 : decode cX0_isKind 0 = .ok (.iload_n 0, 1) := dk_26 (dk_at dksX0_isKind_0 0 rfl rfl)
theorem dX0_isKind_1 : decode cX0_isKind 1 = .ok (.iconst 0, 1) := dk_3 (dk_at dksX0_isKind_0 1 rfl rfl)
theorem dX0_isKind_2 : decode cX0_isKind 2 = .ok (.iconst 4, 1) := dk_7 (dk_at dksX0_isKind_0 2 rfl rfl)
theorem dX0_isKind_3 : decode cX0_isKind 3 = .ok (.invokestatic 51, 3) := dk_184 0 51 (dk_at dksX0_isKind_0 3 rfl rfl)
theorem dX0_isKind_6 : decode cX0_isKind 6 = .ok (.ireturn, 1) := dk_172 (dk_at dksX0_isKind_0 6 rfl rfl)
abbrev cX0_isIsland : ByteArray := prog_1_method_12_code
def yX0_isIsland : MethodName := ⟨RX0, "isIsland", "(I)Z"⟩
def dkwX0_isIsland_0 : List UInt8 := [26, 3, 16, 7, 184, 0, 51, 172]
abbrev dktX0_isIsland_0 : List UInt8 := dkwX0_isIsland_0 ++ []
theorem dksX0_isIsland_0 : cX0_isIsland.data.toList.drop 0 = dktX0_isIsland_0 := by decide +kernel
theorem dX0_isIsland_0 : decode cX0_isIsland 0 = .ok (.iload_n 0, 1) := dk_26 (dk_at dksX0_isIsland_0 0 rfl rfl)
theorem dX0_isIsland_1 : decode cX0_isIsland 1 = .ok (.iconst 0, 1) := dk_3 (dk_at dksX0_isIsland_0 1 rfl rfl)
theorem dX0_isIsland_2 : decode cX0_isIsland 2 = .ok (.bipush 7, 2) := dk_16 7 (dk_at dksX0_isIsland_0 2 rfl rfl)
theorem dX0_isIsland_4 : decode cX0_isIsland 4 = .ok (.invokestatic 51, 3) := dk_184 0 51 (dk_at dksX0_isIsland_0 4 rfl rfl)
theorem dX0_isIsland_7 : decode cX0_isIsland 7 = .ok (.ireturn, 1) := dk_172 (dk_at dksX0_isIsland_0 7 rfl rfl)
abbrev cX0_sky : ByteArray := prog_1_method_16_code
def yX0_sky : MethodName := ⟨RX0, "sky", "(III)Z"⟩
def dkwX0_sky_1 : List UInt8 := [3, 172, 42, 180, 0, 20, 180, 0, 130, 27, 50, 28, 29, 79, 42, 182, 0, 88, 4, 172]
abbrev dktX0_sky_1 : List UInt8 := dkwX0_sky_1 ++ []
def dkwX0_sky_0 : List UInt8 := [27, 184, 0, 120, 153, 0, 20, 28, 184, 0, 116, 153, 0, 13, 29, 3, 16, 99, 184, 0, 51, 154, 0, 5]
abbrev dktX0_sky_0 : List UInt8 := dkwX0_sky_0 ++ dktX0_sky_1
theorem dksX0_sky_0 : cX0_sky.data.toList.drop 0 = dktX0_sky_0 := by decide +kernel
theorem dksX0_sky_1 : cX0_sky.data.toList.drop 24 = dktX0_sky_1 := dk_seg dksX0_sky_0 24 rfl rfl
theorem dX0_sky_0 : decode cX0_sky 0 = .ok (.iload_n 1, 1) := dk_27 (dk_at dksX0_sky_0 0 rfl rfl)
theorem dX0_sky_1 : decode cX0_sky 1 = .ok (.invokestatic 120, 3) := dk_184 0 120 (dk_at dksX0_sky_0 1 rfl rfl)
theorem dX0_sky_4 : decode cX0_sky 4 = .ok (.ifCond .eq 20, 3) := dk_153 0 20 (dk_at dksX0_sky_0 4 rfl rfl)
theorem dX0_sky_7 : decode cX0_sky 7 = .ok (.iload_n 2, 1) := dk_28 (dk_at dksX0_sky_0 7 rfl rfl)
theorem dX0_sky_8 : decode cX0_sky 8 = .ok (.invokestatic 116, 3) := dk_184 0 116 (dk_at dksX0_sky_0 8 rfl rfl)
theorem dX0_sky_11 : decode cX0_sky 11 = .ok (.ifCond .eq 13, 3) := dk_153 0 13 (dk_at dksX0_sky_0 11 rfl rfl)
theorem dX0_sky_14 : decode cX0_sky 14 = .ok (.iload_n 3, 1) := dk_29 (dk_at dksX0_sky_0 14 rfl rfl)
theorem dX0_sky_15 : decode cX0_sky 15 = .ok (.iconst 0, 1) := dk_3 (dk_at dksX0_sky_0 15 rfl rfl)
theorem dX0_sky_16 : decode cX0_sky 16 = .ok (.bipush 99, 2) := dk_16 99 (dk_at dksX0_sky_0 16 rfl rfl)
theorem dX0_sky_18 : decode cX0_sky 18 = .ok (.invokestatic 51, 3) := dk_184 0 51 (dk_at dksX0_sky_0 18 rfl rfl)
theorem dX0_sky_21 : decode cX0_sky 21 = .ok (.ifCond .ne 5, 3) := dk_154 0 5 (dk_at dksX0_sky_0 21 rfl rfl)
theorem dX0_sky_24 : decode cX0_sky 24 = .ok (.iconst 0, 1) := dk_3 (dk_at dksX0_sky_1 0 rfl rfl)
theorem dX0_sky_25 : decode cX0_sky 25 = .ok (.ireturn, 1) := dk_172 (dk_at dksX0_sky_1 1 rfl rfl)
theorem dX0_sky_26 : decode cX0_sky 26 = .ok (.aload_n 0, 1) := dk_42 (dk_at dksX0_sky_1 2 rfl rfl)
theorem dX0_sky_27 : decode cX0_sky 27 = .ok (.getfield 20, 3) := dk_180 0 20 (dk_at dksX0_sky_1 3 rfl rfl)
theorem dX0_sky_30 : decode cX0_sky 30 = .ok (.getfield 130, 3) := dk_180 0 130 (dk_at dksX0_sky_1 6 rfl rfl)
theorem dX0_sky_33 : decode cX0_sky 33 = .ok (.iload_n 1, 1) := dk_27 (dk_at dksX0_sky_1 9 rfl rfl)
theorem dX0_sky_34 : decode cX0_sky 34 = .ok (.aaload, 1) := dk_50 (dk_at dksX0_sky_1 10 rfl rfl)
theorem dX0_sky_35 : decode cX0_sky 35 = .ok (.iload_n 2, 1) := dk_28 (dk_at dksX0_sky_1 11 rfl rfl)
theorem dX0_sky_36 : decode cX0_sky 36 = .ok (.iload_n 3, 1) := dk_29 (dk_at dksX0_sky_1 12 rfl rfl)
theorem dX0_sky_37 : decode cX0_sky 37 = .ok (.iastore, 1) := dk_79 (dk_at dksX0_sky_1 13 rfl rfl)
theorem dX0_sky_38 : decode cX0_sky 38 = .ok (.aload_n 0, 1) := dk_42 (dk_at dksX0_sky_1 14 rfl rfl)
theorem dX0_sky_39 : decode cX0_sky 39 = .ok (.invokevirtual 88, 3) := dk_182 0 88 (dk_at dksX0_sky_1 15 rfl rfl)
theorem dX0_sky_42 : decode cX0_sky 42 = .ok (.iconst 1, 1) := dk_4 (dk_at dksX0_sky_1 18 rfl rfl)
theorem dX0_sky_43 : decode cX0_sky 43 = .ok (.ireturn, 1) := dk_172 (dk_at dksX0_sky_1 19 rfl rfl)
abbrev cX0_cry : ByteArray := prog_1_method_17_code
def yX0_cry : MethodName := ⟨RX0, "cry", "(I)Z"⟩
def dkwX0_cry_1 : List UInt8 := [182, 0, 88, 4, 172]
abbrev dktX0_cry_1 : List UInt8 := dkwX0_cry_1 ++ []
def dkwX0_cry_0 : List UInt8 := [27, 3, 17, 3, 232, 184, 0, 51, 154, 0, 5, 3, 172, 42, 180, 0, 20, 27, 181, 0, 134, 42]
abbrev dktX0_cry_0 : List UInt8 := dkwX0_cry_0 ++ dktX0_cry_1
theorem dksX0_cry_0 : cX0_cry.data.toList.drop 0 = dktX0_cry_0 := by decide +kernel
theorem dksX0_cry_1 : cX0_cry.data.toList.drop 22 = dktX0_cry_1 := dk_seg dksX0_cry_0 22 rfl rfl
theorem dX0_cry_0 : decode cX0_cry 0 = .ok (.iload_n 1, 1) := dk_27 (dk_at dksX0_cry_0 0 rfl rfl)
theorem dX0_cry_1 : decode cX0_cry 1 = .ok (.iconst 0, 1) := dk_3 (dk_at dksX0_cry_0 1 rfl rfl)
theorem dX0_cry_2 : decode cX0_cry 2 = .ok (.sipush 1000, 3) := dk_17 3 232 (dk_at dksX0_cry_0 2 rfl rfl)
theorem dX0_cry_5 : decode cX0_cry 5 = .ok (.invokestatic 51, 3) := dk_184 0 51 (dk_at dksX0_cry_0 5 rfl rfl)
theorem dX0_cry_8 : decode cX0_cry 8 = .ok (.ifCond .ne 5, 3) := dk_154 0 5 (dk_at dksX0_cry_0 8 rfl rfl)
theorem dX0_cry_11 : decode cX0_cry 11 = .ok (.iconst 0, 1) := dk_3 (dk_at dksX0_cry_0 11 rfl rfl)
theorem dX0_cry_12 : decode cX0_cry 12 = .ok (.ireturn, 1) := dk_172 (dk_at dksX0_cry_0 12 rfl rfl)
theorem dX0_cry_13 : decode cX0_cry 13 = .ok (.aload_n 0, 1) := dk_42 (dk_at dksX0_cry_0 13 rfl rfl)
theorem dX0_cry_14 : decode cX0_cry 14 = .ok (.getfield 20, 3) := dk_180 0 20 (dk_at dksX0_cry_0 14 rfl rfl)
theorem dX0_cry_17 : decode cX0_cry 17 = .ok (.iload_n 1, 1) := dk_27 (dk_at dksX0_cry_0 17 rfl rfl)
theorem dX0_cry_18 : decode cX0_cry 18 = .ok (.putfield 134, 3) := dk_181 0 134 (dk_at dksX0_cry_0 18 rfl rfl)
theorem dX0_cry_21 : decode cX0_cry 21 = .ok (.aload_n 0, 1) := dk_42 (dk_at dksX0_cry_0 21 rfl rfl)
theorem dX0_cry_22 : decode cX0_cry 22 = .ok (.invokevirtual 88, 3) := dk_182 0 88 (dk_at dksX0_cry_1 0 rfl rfl)
theorem dX0_cry_25 : decode cX0_cry 25 = .ok (.iconst 1, 1) := dk_4 (dk_at dksX0_cry_1 3 rfl rfl)
theorem dX0_cry_26 : decode cX0_cry 26 = .ok (.ireturn, 1) := dk_172 (dk_at dksX0_cry_1 4 rfl rfl)
abbrev cX0_route : ByteArray := prog_1_method_18_code
def yX0_route : MethodName := ⟨RX0, "route", "(II)Z"⟩
def dkwX0_route_1 : List UInt8 := [42, 180, 0, 20, 180, 0, 137, 27, 28, 79, 42, 182, 0, 88, 4, 172]
abbrev dktX0_route_1 : List UInt8 := dkwX0_route_1 ++ []
def dkwX0_route_0 : List UInt8 := [27, 184, 0, 120, 153, 0, 18, 28, 2, 16, 7, 184, 0, 51, 153, 0, 8, 27, 28, 160, 0, 5, 3, 172]
abbrev dktX0_route_0 : List UInt8 := dkwX0_route_0 ++ dktX0_route_1
theorem dksX0_route_0 : cX0_route.data.toList.drop 0 = dktX0_route_0 := by decide +kernel
theorem dksX0_route_1 : cX0_route.data.toList.drop 24 = dktX0_route_1 := dk_seg dksX0_route_0 24 rfl rfl
theorem dX0_route_0 : decode cX0_route 0 = .ok (.iload_n 1, 1) := dk_27 (dk_at dksX0_route_0 0 rfl rfl)
theorem dX0_route_1 : decode cX0_route 1 = .ok (.invokestatic 120, 3) := dk_184 0 120 (dk_at dksX0_route_0 1 rfl rfl)
theorem dX0_route_4 : decode cX0_route 4 = .ok (.ifCond .eq 18, 3) := dk_153 0 18 (dk_at dksX0_route_0 4 rfl rfl)
theorem dX0_route_7 : decode cX0_route 7 = .ok (.iload_n 2, 1) := dk_28 (dk_at dksX0_route_0 7 rfl rfl)
theorem dX0_route_8 : decode cX0_route 8 = .ok (.iconst (-1), 1) := dk_2 (dk_at dksX0_route_0 8 rfl rfl)
theorem dX0_route_9 : decode cX0_route 9 = .ok (.bipush 7, 2) := dk_16 7 (dk_at dksX0_route_0 9 rfl rfl)
theorem dX0_route_11 : decode cX0_route 11 = .ok (.invokestatic 51, 3) := dk_184 0 51 (dk_at dksX0_route_0 11 rfl rfl)
theorem dX0_route_14 : decode cX0_route 14 = .ok (.ifCond .eq 8, 3) := dk_153 0 8 (dk_at dksX0_route_0 14 rfl rfl)
theorem dX0_route_17 : decode cX0_route 17 = .ok (.iload_n 1, 1) := dk_27 (dk_at dksX0_route_0 17 rfl rfl)
theorem dX0_route_18 : decode cX0_route 18 = .ok (.iload_n 2, 1) := dk_28 (dk_at dksX0_route_0 18 rfl rfl)
theorem dX0_route_19 : decode cX0_route 19 = .ok (.if_icmp .ne 5, 3) := dk_160 0 5 (dk_at dksX0_route_0 19 rfl rfl)
theorem dX0_route_22 : decode cX0_route 22 = .ok (.iconst 0, 1) := dk_3 (dk_at dksX0_route_0 22 rfl rfl)
theorem dX0_route_23 : decode cX0_route 23 = .ok (.ireturn, 1) := dk_172 (dk_at dksX0_route_0 23 rfl rfl)
theorem dX0_route_24 : decode cX0_route 24 = .ok (.aload_n 0, 1) := dk_42 (dk_at dksX0_route_1 0 rfl rfl)
theorem dX0_route_25 : decode cX0_route 25 = .ok (.getfield 20, 3) := dk_180 0 20 (dk_at dksX0_route_1 1 rfl rfl)
theorem dX0_route_28 : decode cX0_route 28 = .ok (.getfield 137, 3) := dk_180 0 137 (dk_at dksX0_route_1 4 rfl rfl)
theorem dX0_route_31 : decode cX0_route 31 = .ok (.iload_n 1, 1) := dk_27 (dk_at dksX0_route_1 7 rfl rfl)
theorem dX0_route_32 : decode cX0_route 32 = .ok (.iload_n 2, 1) := dk_28 (dk_at dksX0_route_1 8 rfl rfl)
theorem dX0_route_33 : decode cX0_route 33 = .ok (.iastore, 1) := dk_79 (dk_at dksX0_route_1 9 rfl rfl)
theorem dX0_route_34 : decode cX0_route 34 = .ok (.aload_n 0, 1) := dk_42 (dk_at dksX0_route_1 10 rfl rfl)
theorem dX0_route_35 : decode cX0_route 35 = .ok (.invokevirtual 88, 3) := dk_182 0 88 (dk_at dksX0_route_1 11 rfl rfl)
theorem dX0_route_38 : decode cX0_route 38 = .ok (.iconst 1, 1) := dk_4 (dk_at dksX0_route_1 14 rfl rfl)
theorem dX0_route_39 : decode cX0_route 39 = .ok (.ireturn, 1) := dk_172 (dk_at dksX0_route_1 15 rfl rfl)
abbrev cX0_call : ByteArray := prog_1_method_19_code
def yX0_call : MethodName := ⟨RX0, "call", "(II)I"⟩
def dkwX0_call_1 : List UInt8 := [3, 182, 0, 147, 172]
abbrev dktX0_call_1 : List UInt8 := dkwX0_call_1 ++ []
def dkwX0_call_0 : List UInt8 := [42, 180, 0, 20, 27, 28, 182, 0, 140, 154, 0, 5, 2, 172, 42, 182, 0, 144, 42, 180, 0, 20, 27, 28]
abbrev dktX0_call_0 : List UInt8 := dkwX0_call_0 ++ dktX0_call_1
theorem dksX0_call_0 : cX0_call.data.toList.drop 0 = dktX0_call_0 := by decide +kernel
theorem dksX0_call_1 : cX0_call.data.toList.drop 24 = dktX0_call_1 := dk_seg dksX0_call_0 24 rfl rfl
theorem dX0_call_0 : decode cX0_call 0 = .ok (.aload_n 0, 1) := dk_42 (dk_at dksX0_call_0 0 rfl rfl)
theorem dX0_call_1 : decode cX0_call 1 = .ok (.getfield 20, 3) := dk_180 0 20 (dk_at dksX0_call_0 1 rfl rfl)
theorem dX0_call_4 : decode cX0_call 4 = .ok (.iload_n 1, 1) := dk_27 (dk_at dksX0_call_0 4 rfl rfl)
theorem dX0_call_5 : decode cX0_call 5 = .ok (.iload_n 2, 1) := dk_28 (dk_at dksX0_call_0 5 rfl rfl)
theorem dX0_call_6 : decode cX0_call 6 = .ok (.invokevirtual 140, 3) := dk_182 0 140 (dk_at dksX0_call_0 6 rfl rfl)
theorem dX0_call_9 : decode cX0_call 9 = .ok (.ifCond .ne 5, 3) := dk_154 0 5 (dk_at dksX0_call_0 9 rfl rfl)
theorem dX0_call_12 : decode cX0_call 12 = .ok (.iconst (-1), 1) := dk_2 (dk_at dksX0_call_0 12 rfl rfl)
theorem dX0_call_13 : decode cX0_call 13 = .ok (.ireturn, 1) := dk_172 (dk_at dksX0_call_0 13 rfl rfl)
theorem dX0_call_14 : decode cX0_call 14 = .ok (.aload_n 0, 1) := dk_42 (dk_at dksX0_call_0 14 rfl rfl)
theorem dX0_call_15 : decode cX0_call 15 = .ok (.invokevirtual 144, 3) := dk_182 0 144 (dk_at dksX0_call_0 15 rfl rfl)
theorem dX0_call_18 : decode cX0_call 18 = .ok (.aload_n 0, 1) := dk_42 (dk_at dksX0_call_0 18 rfl rfl)
theorem dX0_call_19 : decode cX0_call 19 = .ok (.getfield 20, 3) := dk_180 0 20 (dk_at dksX0_call_0 19 rfl rfl)
theorem dX0_call_22 : decode cX0_call 22 = .ok (.iload_n 1, 1) := dk_27 (dk_at dksX0_call_0 22 rfl rfl)
theorem dX0_call_23 : decode cX0_call 23 = .ok (.iload_n 2, 1) := dk_28 (dk_at dksX0_call_0 23 rfl rfl)
theorem dX0_call_24 : decode cX0_call 24 = .ok (.iconst 0, 1) := dk_3 (dk_at dksX0_call_1 0 rfl rfl)
theorem dX0_call_25 : decode cX0_call 25 = .ok (.invokevirtual 147, 3) := dk_182 0 147 (dk_at dksX0_call_1 1 rfl rfl)
theorem dX0_call_28 : decode cX0_call 28 = .ok (.ireturn, 1) := dk_172 (dk_at dksX0_call_1 4 rfl rfl)
abbrev cX0_keeps : ByteArray := prog_1_method_10_code
def yX0_keeps : MethodName := ⟨RX0, "keeps", "()V"⟩
def dkwX0_keeps_3 : List UInt8 := [180, 0, 20, 182, 0, 109, 42, 89, 180, 0, 106, 4, 96, 181, 0, 106, 177]
abbrev dktX0_keeps_3 : List UInt8 := dkwX0_keeps_3 ++ []
def dkwX0_keeps_2 : List UInt8 := [8, 43, 83, 42, 89, 180, 0, 106, 4, 100, 181, 0, 106, 42, 180, 0, 30, 42, 180, 0, 106, 50, 42]
abbrev dktX0_keeps_2 : List UInt8 := dkwX0_keeps_2 ++ dktX0_keeps_3
def dkwX0_keeps_1 : List UInt8 := [42, 180, 0, 30, 28, 4, 100, 42, 180, 0, 30, 28, 50, 83, 132, 2, 1, 167, 255, 233, 42, 180, 0, 30]
abbrev dktX0_keeps_1 : List UInt8 := dkwX0_keeps_1 ++ dktX0_keeps_2
def dkwX0_keeps_0 : List UInt8 := [42, 180, 0, 106, 16, 6, 160, 0, 55, 42, 180, 0, 30, 3, 50, 76, 4, 61, 28, 16, 6, 162, 0, 23]
abbrev dktX0_keeps_0 : List UInt8 := dkwX0_keeps_0 ++ dktX0_keeps_1
theorem dksX0_keeps_0 : cX0_keeps.data.toList.drop 0 = dktX0_keeps_0 := by decide +kernel
theorem dksX0_keeps_1 : cX0_keeps.data.toList.drop 24 = dktX0_keeps_1 := dk_seg dksX0_keeps_0 24 rfl rfl
theorem dksX0_keeps_2 : cX0_keeps.data.toList.drop 48 = dktX0_keeps_2 := dk_seg dksX0_keeps_1 24 rfl rfl
theorem dksX0_keeps_3 : cX0_keeps.data.toList.drop 71 = dktX0_keeps_3 := dk_seg dksX0_keeps_2 23 rfl rfl
theorem dX0_keeps_0 : decode cX0_keeps 0 = .ok (.aload_n 0, 1) := dk_42 (dk_at dksX0_keeps_0 0 rfl rfl)
theorem dX0_keeps_1 : decode cX0_keeps 1 = .ok (.getfield 106, 3) := dk_180 0 106 (dk_at dksX0_keeps_0 1 rfl rfl)
theorem dX0_keeps_4 : decode cX0_keeps 4 = .ok (.bipush 6, 2) := dk_16 6 (dk_at dksX0_keeps_0 4 rfl rfl)
theorem dX0_keeps_6 : decode cX0_keeps 6 = .ok (.if_icmp .ne 55, 3) := dk_160 0 55 (dk_at dksX0_keeps_0 6 rfl rfl)
theorem dX0_keeps_9 : decode cX0_keeps 9 = .ok (.aload_n 0, 1) := dk_42 (dk_at dksX0_keeps_0 9 rfl rfl)
theorem dX0_keeps_10 : decode cX0_keeps 10 = .ok (.getfield 30, 3) := dk_180 0 30 (dk_at dksX0_keeps_0 10 rfl rfl)
theorem dX0_keeps_13 : decode cX0_keeps 13 = .ok (.iconst 0, 1) := dk_3 (dk_at dksX0_keeps_0 13 rfl rfl)
theorem dX0_keeps_14 : decode cX0_keeps 14 = .ok (.aaload, 1) := dk_50 (dk_at dksX0_keeps_0 14 rfl rfl)
theorem dX0_keeps_15 : decode cX0_keeps 15 = .ok (.astore_n 1, 1) := dk_76 (dk_at dksX0_keeps_0 15 rfl rfl)
theorem dX0_keeps_16 : decode cX0_keeps 16 = .ok (.iconst 1, 1) := dk_4 (dk_at dksX0_keeps_0 16 rfl rfl)
theorem dX0_keeps_17 : decode cX0_keeps 17 = .ok (.istore_n 2, 1) := dk_61 (dk_at dksX0_keeps_0 17 rfl rfl)
theorem dX0_keeps_18 : decode cX0_keeps 18 = .ok (.iload_n 2, 1) := dk_28 (dk_at dksX0_keeps_0 18 rfl rfl)
theorem dX0_keeps_19 : decode cX0_keeps 19 = .ok (.bipush 6, 2) := dk_16 6 (dk_at dksX0_keeps_0 19 rfl rfl)
theorem dX0_keeps_21 : decode cX0_keeps 21 = .ok (.if_icmp .ge 23, 3) := dk_162 0 23 (dk_at dksX0_keeps_0 21 rfl rfl)
theorem dX0_keeps_24 : decode cX0_keeps 24 = .ok (.aload_n 0, 1) := dk_42 (dk_at dksX0_keeps_1 0 rfl rfl)
theorem dX0_keeps_25 : decode cX0_keeps 25 = .ok (.getfield 30, 3) := dk_180 0 30 (dk_at dksX0_keeps_1 1 rfl rfl)
theorem dX0_keeps_28 : decode cX0_keeps 28 = .ok (.iload_n 2, 1) := dk_28 (dk_at dksX0_keeps_1 4 rfl rfl)
theorem dX0_keeps_29 : decode cX0_keeps 29 = .ok (.iconst 1, 1) := dk_4 (dk_at dksX0_keeps_1 5 rfl rfl)
theorem dX0_keeps_30 : decode cX0_keeps 30 = .ok (.isub, 1) := dk_100 (dk_at dksX0_keeps_1 6 rfl rfl)
theorem dX0_keeps_31 : decode cX0_keeps 31 = .ok (.aload_n 0, 1) := dk_42 (dk_at dksX0_keeps_1 7 rfl rfl)
theorem dX0_keeps_32 : decode cX0_keeps 32 = .ok (.getfield 30, 3) := dk_180 0 30 (dk_at dksX0_keeps_1 8 rfl rfl)
theorem dX0_keeps_35 : decode cX0_keeps 35 = .ok (.iload_n 2, 1) := dk_28 (dk_at dksX0_keeps_1 11 rfl rfl)
theorem dX0_keeps_36 : decode cX0_keeps 36 = .ok (.aaload, 1) := dk_50 (dk_at dksX0_keeps_1 12 rfl rfl)
theorem dX0_keeps_37 : decode cX0_keeps 37 = .ok (.aastore, 1) := dk_83 (dk_at dksX0_keeps_1 13 rfl rfl)
theorem dX0_keeps_38 : decode cX0_keeps 38 = .ok (.iinc 2 1, 3) := dk_132 2 1 (dk_at dksX0_keeps_1 14 rfl rfl)
theorem dX0_keeps_41 : decode cX0_keeps 41 = .ok (.goto (-23), 3) := dk_167 255 233 (dk_at dksX0_keeps_1 17 rfl rfl)
theorem dX0_keeps_44 : decode cX0_keeps 44 = .ok (.aload_n 0, 1) := dk_42 (dk_at dksX0_keeps_1 20 rfl rfl)
theorem dX0_keeps_45 : decode cX0_keeps 45 = .ok (.getfield 30, 3) := dk_180 0 30 (dk_at dksX0_keeps_1 21 rfl rfl)
theorem dX0_keeps_48 : decode cX0_keeps 48 = .ok (.iconst 5, 1) := dk_8 (dk_at dksX0_keeps_2 0 rfl rfl)
theorem dX0_keeps_49 : decode cX0_keeps 49 = .ok (.aload_n 1, 1) := dk_43 (dk_at dksX0_keeps_2 1 rfl rfl)
theorem dX0_keeps_50 : decode cX0_keeps 50 = .ok (.aastore, 1) := dk_83 (dk_at dksX0_keeps_2 2 rfl rfl)
theorem dX0_keeps_51 : decode cX0_keeps 51 = .ok (.aload_n 0, 1) := dk_42 (dk_at dksX0_keeps_2 3 rfl rfl)
theorem dX0_keeps_52 : decode cX0_keeps 52 = .ok (.dup, 1) := dk_89 (dk_at dksX0_keeps_2 4 rfl rfl)
theorem dX0_keeps_53 : decode cX0_keeps 53 = .ok (.getfield 106, 3) := dk_180 0 106 (dk_at dksX0_keeps_2 5 rfl rfl)
theorem dX0_keeps_56 : decode cX0_keeps 56 = .ok (.iconst 1, 1) := dk_4 (dk_at dksX0_keeps_2 8 rfl rfl)
theorem dX0_keeps_57 : decode cX0_keeps 57 = .ok (.isub, 1) := dk_100 (dk_at dksX0_keeps_2 9 rfl rfl)
theorem dX0_keeps_58 : decode cX0_keeps 58 = .ok (.putfield 106, 3) := dk_181 0 106 (dk_at dksX0_keeps_2 10 rfl rfl)
theorem dX0_keeps_61 : decode cX0_keeps 61 = .ok (.aload_n 0, 1) := dk_42 (dk_at dksX0_keeps_2 13 rfl rfl)
theorem dX0_keeps_62 : decode cX0_keeps 62 = .ok (.getfield 30, 3) := dk_180 0 30 (dk_at dksX0_keeps_2 14 rfl rfl)
theorem dX0_keeps_65 : decode cX0_keeps 65 = .ok (.aload_n 0, 1) := dk_42 (dk_at dksX0_keeps_2 17 rfl rfl)
theorem dX0_keeps_66 : decode cX0_keeps 66 = .ok (.getfield 106, 3) := dk_180 0 106 (dk_at dksX0_keeps_2 18 rfl rfl)
theorem dX0_keeps_69 : decode cX0_keeps 69 = .ok (.aaload, 1) := dk_50 (dk_at dksX0_keeps_2 21 rfl rfl)
theorem dX0_keeps_70 : decode cX0_keeps 70 = .ok (.aload_n 0, 1) := dk_42 (dk_at dksX0_keeps_2 22 rfl rfl)
theorem dX0_keeps_71 : decode cX0_keeps 71 = .ok (.getfield 20, 3) := dk_180 0 20 (dk_at dksX0_keeps_3 0 rfl rfl)
theorem dX0_keeps_74 : decode cX0_keeps 74 = .ok (.invokevirtual 109, 3) := dk_182 0 109 (dk_at dksX0_keeps_3 3 rfl rfl)
theorem dX0_keeps_77 : decode cX0_keeps 77 = .ok (.aload_n 0, 1) := dk_42 (dk_at dksX0_keeps_3 6 rfl rfl)
theorem dX0_keeps_78 : decode cX0_keeps 78 = .ok (.dup, 1) := dk_89 (dk_at dksX0_keeps_3 7 rfl rfl)
theorem dX0_keeps_79 : decode cX0_keeps 79 = .ok (.getfield 106, 3) := dk_180 0 106 (dk_at dksX0_keeps_3 8 rfl rfl)
theorem dX0_keeps_82 : decode cX0_keeps 82 = .ok (.iconst 1, 1) := dk_4 (dk_at dksX0_keeps_3 11 rfl rfl)
theorem dX0_keeps_83 : decode cX0_keeps 83 = .ok (.iadd, 1) := dk_96 (dk_at dksX0_keeps_3 12 rfl rfl)
theorem dX0_keeps_84 : decode cX0_keeps 84 = .ok (.putfield 106, 3) := dk_181 0 106 (dk_at dksX0_keeps_3 13 rfl rfl)
theorem dX0_keeps_87 : decode cX0_keeps 87 = .ok (.return_, 1) := dk_177 (dk_at dksX0_keeps_3 16 rfl rfl)
abbrev cX0_move : ByteArray := prog_1_method_20_code
def yX0_move : MethodName := ⟨RX0, "move", "(II)Z"⟩
def dkwX0_move_1 : List UInt8 := [182, 0, 154, 4, 172]
abbrev dktX0_move_1 : List UInt8 := dkwX0_move_1 ++ []
def dkwX0_move_0 : List UInt8 := [42, 180, 0, 20, 27, 28, 182, 0, 151, 154, 0, 5, 3, 172, 42, 182, 0, 144, 42, 180, 0, 20, 27, 28]
abbrev dktX0_move_0 : List UInt8 := dkwX0_move_0 ++ dktX0_move_1
theorem dksX0_move_0 : cX0_move.data.toList.drop 0 = dktX0_move_0 := by decide +kernel
theorem dksX0_move_1 : cX0_move.data.toList.drop 24 = dktX0_move_1 := dk_seg dksX0_move_0 24 rfl rfl
theorem dX0_move_0 : decode cX0_move 0 = .ok (.aload_n 0, 1) := dk_42 (dk_at dksX0_move_0 0 rfl rfl)
theorem dX0_move_1 : decode cX0_move 1 = .ok (.getfield 20, 3) := dk_180 0 20 (dk_at dksX0_move_0 1 rfl rfl)
theorem dX0_move_4 : decode cX0_move 4 = .ok (.iload_n 1, 1) := dk_27 (dk_at dksX0_move_0 4 rfl rfl)
theorem dX0_move_5 : decode cX0_move 5 = .ok (.iload_n 2, 1) := dk_28 (dk_at dksX0_move_0 5 rfl rfl)
theorem dX0_move_6 : decode cX0_move 6 = .ok (.invokevirtual 151, 3) := dk_182 0 151 (dk_at dksX0_move_0 6 rfl rfl)
theorem dX0_move_9 : decode cX0_move 9 = .ok (.ifCond .ne 5, 3) := dk_154 0 5 (dk_at dksX0_move_0 9 rfl rfl)
theorem dX0_move_12 : decode cX0_move 12 = .ok (.iconst 0, 1) := dk_3 (dk_at dksX0_move_0 12 rfl rfl)
theorem dX0_move_13 : decode cX0_move 13 = .ok (.ireturn, 1) := dk_172 (dk_at dksX0_move_0 13 rfl rfl)
theorem dX0_move_14 : decode cX0_move 14 = .ok (.aload_n 0, 1) := dk_42 (dk_at dksX0_move_0 14 rfl rfl)
theorem dX0_move_15 : decode cX0_move 15 = .ok (.invokevirtual 144, 3) := dk_182 0 144 (dk_at dksX0_move_0 15 rfl rfl)
theorem dX0_move_18 : decode cX0_move 18 = .ok (.aload_n 0, 1) := dk_42 (dk_at dksX0_move_0 18 rfl rfl)
theorem dX0_move_19 : decode cX0_move 19 = .ok (.getfield 20, 3) := dk_180 0 20 (dk_at dksX0_move_0 19 rfl rfl)
theorem dX0_move_22 : decode cX0_move 22 = .ok (.iload_n 1, 1) := dk_27 (dk_at dksX0_move_0 22 rfl rfl)
theorem dX0_move_23 : decode cX0_move 23 = .ok (.iload_n 2, 1) := dk_28 (dk_at dksX0_move_0 23 rfl rfl)
theorem dX0_move_24 : decode cX0_move 24 = .ok (.invokevirtual 154, 3) := dk_182 0 154 (dk_at dksX0_move_1 0 rfl rfl)
theorem dX0_move_27 : decode cX0_move 27 = .ok (.iconst 1, 1) := dk_4 (dk_at dksX0_move_1 3 rfl rfl)
theorem dX0_move_28 : decode cX0_move 28 = .ok (.ireturn, 1) := dk_172 (dk_at dksX0_move_1 4 rfl rfl)
abbrev cX0_bury : ByteArray := prog_1_method_21_code
def yX0_bury : MethodName := ⟨RX0, "bury", "(I)Z"⟩
def dkwX0_bury_1 : List UInt8 := [182, 0, 161, 4, 172]
abbrev dktX0_bury_1 : List UInt8 := dkwX0_bury_1 ++ []
def dkwX0_bury_0 : List UInt8 := [42, 180, 0, 20, 27, 182, 0, 158, 154, 0, 5, 3, 172, 42, 182, 0, 144, 42, 180, 0, 20, 27]
abbrev dktX0_bury_0 : List UInt8 := dkwX0_bury_0 ++ dktX0_bury_1
theorem dksX0_bury_0 : cX0_bury.data.toList.drop 0 = dktX0_bury_0 := by decide +kernel
theorem dksX0_bury_1 : cX0_bury.data.toList.drop 22 = dktX0_bury_1 := dk_seg dksX0_bury_0 22 rfl rfl
theorem dX0_bury_0 : decode cX0_bury 0 = .ok (.aload_n 0, 1) := dk_42 (dk_at dksX0_bury_0 0 rfl rfl)
theorem dX0_bury_1 : decode cX0_bury 1 = .ok (.getfield 20, 3) := dk_180 0 20 (dk_at dksX0_bury_0 1 rfl rfl)
theorem dX0_bury_4 : decode cX0_bury 4 = .ok (.iload_n 1, 1) := dk_27 (dk_at dksX0_bury_0 4 rfl rfl)
theorem dX0_bury_5 : decode cX0_bury 5 = .ok (.invokevirtual 158, 3) := dk_182 0 158 (dk_at dksX0_bury_0 5 rfl rfl)
theorem dX0_bury_8 : decode cX0_bury 8 = .ok (.ifCond .ne 5, 3) := dk_154 0 5 (dk_at dksX0_bury_0 8 rfl rfl)
theorem dX0_bury_11 : decode cX0_bury 11 = .ok (.iconst 0, 1) := dk_3 (dk_at dksX0_bury_0 11 rfl rfl)
theorem dX0_bury_12 : decode cX0_bury 12 = .ok (.ireturn, 1) := dk_172 (dk_at dksX0_bury_0 12 rfl rfl)
theorem dX0_bury_13 : decode cX0_bury 13 = .ok (.aload_n 0, 1) := dk_42 (dk_at dksX0_bury_0 13 rfl rfl)
theorem dX0_bury_14 : decode cX0_bury 14 = .ok (.invokevirtual 144, 3) := dk_182 0 144 (dk_at dksX0_bury_0 14 rfl rfl)
theorem dX0_bury_17 : decode cX0_bury 17 = .ok (.aload_n 0, 1) := dk_42 (dk_at dksX0_bury_0 17 rfl rfl)
theorem dX0_bury_18 : decode cX0_bury 18 = .ok (.getfield 20, 3) := dk_180 0 20 (dk_at dksX0_bury_0 18 rfl rfl)
theorem dX0_bury_21 : decode cX0_bury 21 = .ok (.iload_n 1, 1) := dk_27 (dk_at dksX0_bury_0 21 rfl rfl)
theorem dX0_bury_22 : decode cX0_bury 22 = .ok (.invokevirtual 161, 3) := dk_182 0 161 (dk_at dksX0_bury_1 0 rfl rfl)
theorem dX0_bury_25 : decode cX0_bury 25 = .ok (.iconst 1, 1) := dk_4 (dk_at dksX0_bury_1 3 rfl rfl)
theorem dX0_bury_26 : decode cX0_bury 26 = .ok (.ireturn, 1) := dk_172 (dk_at dksX0_bury_1 4 rfl rfl)
abbrev cX0_birth : ByteArray := prog_1_method_22_code
def yX0_birth : MethodName := ⟨RX0, "birth", "(I)I"⟩
def dkwX0_birth_1 : List UInt8 := [182, 0, 164, 2, 160, 0, 5, 2, 172, 42, 182, 0, 144, 42, 180, 0, 20, 27, 182, 0, 167, 172]
abbrev dktX0_birth_1 : List UInt8 := dkwX0_birth_1 ++ []
def dkwX0_birth_0 : List UInt8 := [27, 184, 0, 120, 153, 0, 27, 42, 180, 0, 20, 180, 0, 123, 16, 12, 159, 0, 15, 42, 180, 0, 20, 27]
abbrev dktX0_birth_0 : List UInt8 := dkwX0_birth_0 ++ dktX0_birth_1
theorem dksX0_birth_0 : cX0_birth.data.toList.drop 0 = dktX0_birth_0 := by decide +kernel
theorem dksX0_birth_1 : cX0_birth.data.toList.drop 24 = dktX0_birth_1 := dk_seg dksX0_birth_0 24 rfl rfl
theorem dX0_birth_0 : decode cX0_birth 0 = .ok (.iload_n 1, 1) := dk_27 (dk_at dksX0_birth_0 0 rfl rfl)
theorem dX0_birth_1 : decode cX0_birth 1 = .ok (.invokestatic 120, 3) := dk_184 0 120 (dk_at dksX0_birth_0 1 rfl rfl)
theorem dX0_birth_4 : decode cX0_birth 4 = .ok (.ifCond .eq 27, 3) := dk_153 0 27 (dk_at dksX0_birth_0 4 rfl rfl)
theorem dX0_birth_7 : decode cX0_birth 7 = .ok (.aload_n 0, 1) := dk_42 (dk_at dksX0_birth_0 7 rfl rfl)
theorem dX0_birth_8 : decode cX0_birth 8 = .ok (.getfield 20, 3) := dk_180 0 20 (dk_at dksX0_birth_0 8 rfl rfl)
theorem dX0_birth_11 : decode cX0_birth 11 = .ok (.getfield 123, 3) := dk_180 0 123 (dk_at dksX0_birth_0 11 rfl rfl)
theorem dX0_birth_14 : decode cX0_birth 14 = .ok (.bipush 12, 2) := dk_16 12 (dk_at dksX0_birth_0 14 rfl rfl)
theorem dX0_birth_16 : decode cX0_birth 16 = .ok (.if_icmp .eq 15, 3) := dk_159 0 15 (dk_at dksX0_birth_0 16 rfl rfl)
theorem dX0_birth_19 : decode cX0_birth 19 = .ok (.aload_n 0, 1) := dk_42 (dk_at dksX0_birth_0 19 rfl rfl)
theorem dX0_birth_20 : decode cX0_birth 20 = .ok (.getfield 20, 3) := dk_180 0 20 (dk_at dksX0_birth_0 20 rfl rfl)
theorem dX0_birth_23 : decode cX0_birth 23 = .ok (.iload_n 1, 1) := dk_27 (dk_at dksX0_birth_0 23 rfl rfl)
theorem dX0_birth_24 : decode cX0_birth 24 = .ok (.invokevirtual 164, 3) := dk_182 0 164 (dk_at dksX0_birth_1 0 rfl rfl)
theorem dX0_birth_27 : decode cX0_birth 27 = .ok (.iconst (-1), 1) := dk_2 (dk_at dksX0_birth_1 3 rfl rfl)
theorem dX0_birth_28 : decode cX0_birth 28 = .ok (.if_icmp .ne 5, 3) := dk_160 0 5 (dk_at dksX0_birth_1 4 rfl rfl)
theorem dX0_birth_31 : decode cX0_birth 31 = .ok (.iconst (-1), 1) := dk_2 (dk_at dksX0_birth_1 7 rfl rfl)
theorem dX0_birth_32 : decode cX0_birth 32 = .ok (.ireturn, 1) := dk_172 (dk_at dksX0_birth_1 8 rfl rfl)
theorem dX0_birth_33 : decode cX0_birth 33 = .ok (.aload_n 0, 1) := dk_42 (dk_at dksX0_birth_1 9 rfl rfl)
theorem dX0_birth_34 : decode cX0_birth 34 = .ok (.invokevirtual 144, 3) := dk_182 0 144 (dk_at dksX0_birth_1 10 rfl rfl)
theorem dX0_birth_37 : decode cX0_birth 37 = .ok (.aload_n 0, 1) := dk_42 (dk_at dksX0_birth_1 13 rfl rfl)
theorem dX0_birth_38 : decode cX0_birth 38 = .ok (.getfield 20, 3) := dk_180 0 20 (dk_at dksX0_birth_1 14 rfl rfl)
theorem dX0_birth_41 : decode cX0_birth 41 = .ok (.iload_n 1, 1) := dk_27 (dk_at dksX0_birth_1 17 rfl rfl)
theorem dX0_birth_42 : decode cX0_birth 42 = .ok (.invokevirtual 167, 3) := dk_182 0 167 (dk_at dksX0_birth_1 18 rfl rfl)
theorem dX0_birth_45 : decode cX0_birth 45 = .ok (.ireturn, 1) := dk_172 (dk_at dksX0_birth_1 21 rfl rfl)
abbrev cX0_days : ByteArray := prog_1_method_23_code
def yX0_days : MethodName := ⟨RX0, "days", "(I)I"⟩
def dkwX0_days_3 : List UInt8 := [180, 0, 20, 180, 0, 173, 172]
abbrev dktX0_days_3 : List UInt8 := dkwX0_days_3 ++ []
def dkwX0_days_2 : List UInt8 := [42, 180, 0, 20, 182, 0, 176, 42, 180, 0, 20, 4, 182, 0, 179, 132, 2, 1, 167, 255, 229, 42]
abbrev dktX0_days_2 : List UInt8 := dkwX0_days_2 ++ dktX0_days_3
def dkwX0_days_1 : List UInt8 := [164, 0, 5, 2, 172, 42, 180, 0, 20, 3, 181, 0, 173, 3, 61, 28, 27, 162, 0, 28, 42, 182, 0, 144]
abbrev dktX0_days_1 : List UInt8 := dkwX0_days_1 ++ dktX0_days_2
def dkwX0_days_0 : List UInt8 := [27, 4, 16, 60, 184, 0, 51, 153, 0, 18, 42, 180, 0, 20, 180, 0, 170, 27, 96, 17, 3, 231]
abbrev dktX0_days_0 : List UInt8 := dkwX0_days_0 ++ dktX0_days_1
theorem dksX0_days_0 : cX0_days.data.toList.drop 0 = dktX0_days_0 := by decide +kernel
theorem dksX0_days_1 : cX0_days.data.toList.drop 22 = dktX0_days_1 := dk_seg dksX0_days_0 22 rfl rfl
theorem dksX0_days_2 : cX0_days.data.toList.drop 46 = dktX0_days_2 := dk_seg dksX0_days_1 24 rfl rfl
theorem dksX0_days_3 : cX0_days.data.toList.drop 68 = dktX0_days_3 := dk_seg dksX0_days_2 22 rfl rfl
theorem dX0_days_0 : decode cX0_days 0 = .ok (.iload_n 1, 1) := dk_27 (dk_at dksX0_days_0 0 rfl rfl)
theorem dX0_days_1 : decode cX0_days 1 = .ok (.iconst 1, 1) := dk_4 (dk_at dksX0_days_0 1 rfl rfl)
theorem dX0_days_2 : decode cX0_days 2 = .ok (.bipush 60, 2) := dk_16 60 (dk_at dksX0_days_0 2 rfl rfl)
theorem dX0_days_4 : decode cX0_days 4 = .ok (.invokestatic 51, 3) := dk_184 0 51 (dk_at dksX0_days_0 4 rfl rfl)
theorem dX0_days_7 : decode cX0_days 7 = .ok (.ifCond .eq 18, 3) := dk_153 0 18 (dk_at dksX0_days_0 7 rfl rfl)
theorem dX0_days_10 : decode cX0_days 10 = .ok (.aload_n 0, 1) := dk_42 (dk_at dksX0_days_0 10 rfl rfl)
theorem dX0_days_11 : decode cX0_days 11 = .ok (.getfield 20, 3) := dk_180 0 20 (dk_at dksX0_days_0 11 rfl rfl)
theorem dX0_days_14 : decode cX0_days 14 = .ok (.getfield 170, 3) := dk_180 0 170 (dk_at dksX0_days_0 14 rfl rfl)
theorem dX0_days_17 : decode cX0_days 17 = .ok (.iload_n 1, 1) := dk_27 (dk_at dksX0_days_0 17 rfl rfl)
theorem dX0_days_18 : decode cX0_days 18 = .ok (.iadd, 1) := dk_96 (dk_at dksX0_days_0 18 rfl rfl)
theorem dX0_days_19 : decode cX0_days 19 = .ok (.sipush 999, 3) := dk_17 3 231 (dk_at dksX0_days_0 19 rfl rfl)
theorem dX0_days_22 : decode cX0_days 22 = .ok (.if_icmp .le 5, 3) := dk_164 0 5 (dk_at dksX0_days_1 0 rfl rfl)
theorem dX0_days_25 : decode cX0_days 25 = .ok (.iconst (-1), 1) := dk_2 (dk_at dksX0_days_1 3 rfl rfl)
theorem dX0_days_26 : decode cX0_days 26 = .ok (.ireturn, 1) := dk_172 (dk_at dksX0_days_1 4 rfl rfl)
theorem dX0_days_27 : decode cX0_days 27 = .ok (.aload_n 0, 1) := dk_42 (dk_at dksX0_days_1 5 rfl rfl)
theorem dX0_days_28 : decode cX0_days 28 = .ok (.getfield 20, 3) := dk_180 0 20 (dk_at dksX0_days_1 6 rfl rfl)
theorem dX0_days_31 : decode cX0_days 31 = .ok (.iconst 0, 1) := dk_3 (dk_at dksX0_days_1 9 rfl rfl)
theorem dX0_days_32 : decode cX0_days 32 = .ok (.putfield 173, 3) := dk_181 0 173 (dk_at dksX0_days_1 10 rfl rfl)
theorem dX0_days_35 : decode cX0_days 35 = .ok (.iconst 0, 1) := dk_3 (dk_at dksX0_days_1 13 rfl rfl)
theorem dX0_days_36 : decode cX0_days 36 = .ok (.istore_n 2, 1) := dk_61 (dk_at dksX0_days_1 14 rfl rfl)
theorem dX0_days_37 : decode cX0_days 37 = .ok (.iload_n 2, 1) := dk_28 (dk_at dksX0_days_1 15 rfl rfl)
theorem dX0_days_38 : decode cX0_days 38 = .ok (.iload_n 1, 1) := dk_27 (dk_at dksX0_days_1 16 rfl rfl)
theorem dX0_days_39 : decode cX0_days 39 = .ok (.if_icmp .ge 28, 3) := dk_162 0 28 (dk_at dksX0_days_1 17 rfl rfl)
theorem dX0_days_42 : decode cX0_days 42 = .ok (.aload_n 0, 1) := dk_42 (dk_at dksX0_days_1 20 rfl rfl)
theorem dX0_days_43 : decode cX0_days 43 = .ok (.invokevirtual 144, 3) := dk_182 0 144 (dk_at dksX0_days_1 21 rfl rfl)
theorem dX0_days_46 : decode cX0_days 46 = .ok (.aload_n 0, 1) := dk_42 (dk_at dksX0_days_2 0 rfl rfl)
theorem dX0_days_47 : decode cX0_days 47 = .ok (.getfield 20, 3) := dk_180 0 20 (dk_at dksX0_days_2 1 rfl rfl)
theorem dX0_days_50 : decode cX0_days 50 = .ok (.invokevirtual 176, 3) := dk_182 0 176 (dk_at dksX0_days_2 4 rfl rfl)
theorem dX0_days_53 : decode cX0_days 53 = .ok (.aload_n 0, 1) := dk_42 (dk_at dksX0_days_2 7 rfl rfl)
theorem dX0_days_54 : decode cX0_days 54 = .ok (.getfield 20, 3) := dk_180 0 20 (dk_at dksX0_days_2 8 rfl rfl)
theorem dX0_days_57 : decode cX0_days 57 = .ok (.iconst 1, 1) := dk_4 (dk_at dksX0_days_2 11 rfl rfl)
theorem dX0_days_58 : decode cX0_days 58 = .ok (.invokevirtual 179, 3) := dk_182 0 179 (dk_at dksX0_days_2 12 rfl rfl)
theorem dX0_days_61 : decode cX0_days 61 = .ok (.iinc 2 1, 3) := dk_132 2 1 (dk_at dksX0_days_2 15 rfl rfl)
theorem dX0_days_64 : decode cX0_days 64 = .ok (.goto (-27), 3) := dk_167 255 229 (dk_at dksX0_days_2 18 rfl rfl)
theorem dX0_days_67 : decode cX0_days 67 = .ok (.aload_n 0, 1) := dk_42 (dk_at dksX0_days_2 21 rfl rfl)
theorem dX0_days_68 : decode cX0_days 68 = .ok (.getfield 20, 3) := dk_180 0 20 (dk_at dksX0_days_3 0 rfl rfl)
theorem dX0_days_71 : decode cX0_days 71 = .ok (.getfield 173, 3) := dk_180 0 173 (dk_at dksX0_days_3 3 rfl rfl)
theorem dX0_days_74 : decode cX0_days 74 = .ok (.ireturn, 1) := dk_172 (dk_at dksX0_days_3 6 rfl rfl)
abbrev cX0_of : ByteArray := prog_1_method_24_code
def yX0_of : MethodName := ⟨RX0, "of", "(II)I"⟩
def dkwX0_of_6 : List UInt8 := [182, 0, 202, 167, 0, 4, 2, 172]
abbrev dktX0_of_6 : List UInt8 := dkwX0_of_6 ++ []
def dkwX0_of_5 : List UInt8 := [42, 180, 0, 20, 27, 28, 16, 10, 100, 182, 0, 140, 153, 0, 18, 42, 180, 0, 20, 27, 28, 16, 10, 100]
abbrev dktX0_of_5 : List UInt8 := dkwX0_of_5 ++ dktX0_of_6
def dkwX0_of_4 : List UInt8 := [46, 172, 42, 180, 0, 20, 27, 182, 0, 199, 172, 28, 16, 10, 100, 184, 0, 120, 154, 0, 6, 16, 254, 172]
abbrev dktX0_of_4 : List UInt8 := dkwX0_of_4 ++ dktX0_of_5
def dkwX0_of_3 : List UInt8 := [180, 0, 191, 27, 46, 172, 42, 180, 0, 20, 180, 0, 194, 27, 46, 172, 42, 180, 0, 20, 180, 0, 197, 27]
abbrev dktX0_of_3 : List UInt8 := dkwX0_of_3 ++ dktX0_of_4
def dkwX0_of_2 : List UInt8 := [42, 180, 0, 20, 180, 0, 186, 27, 46, 172, 42, 180, 0, 20, 180, 0, 188, 27, 46, 172, 42, 180, 0, 20]
abbrev dktX0_of_2 : List UInt8 := dkwX0_of_2 ++ dktX0_of_3
def dkwX0_of_1 : List UInt8 := [170, 0, 0, 0, 96, 0, 0, 0, 0, 0, 0, 0, 5, 0, 0, 0, 37, 0, 0, 0, 47, 0, 0, 0, 57, 0, 0, 0, 67, 0, 0, 0, 77, 0, 0, 0, 87]
abbrev dktX0_of_1 : List UInt8 := dkwX0_of_1 ++ dktX0_of_2
def dkwX0_of_0 : List UInt8 := [42, 180, 0, 20, 27, 182, 0, 183, 154, 0, 6, 16, 254, 172, 28]
abbrev dktX0_of_0 : List UInt8 := dkwX0_of_0 ++ dktX0_of_1
theorem dksX0_of_0 : cX0_of.data.toList.drop 0 = dktX0_of_0 := by decide +kernel
theorem dksX0_of_1 : cX0_of.data.toList.drop 15 = dktX0_of_1 := dk_seg dksX0_of_0 15 rfl rfl
theorem dksX0_of_2 : cX0_of.data.toList.drop 52 = dktX0_of_2 := dk_seg dksX0_of_1 37 rfl rfl
theorem dksX0_of_3 : cX0_of.data.toList.drop 76 = dktX0_of_3 := dk_seg dksX0_of_2 24 rfl rfl
theorem dksX0_of_4 : cX0_of.data.toList.drop 100 = dktX0_of_4 := dk_seg dksX0_of_3 24 rfl rfl
theorem dksX0_of_5 : cX0_of.data.toList.drop 124 = dktX0_of_5 := dk_seg dksX0_of_4 24 rfl rfl
theorem dksX0_of_6 : cX0_of.data.toList.drop 148 = dktX0_of_6 := dk_seg dksX0_of_5 24 rfl rfl
theorem dX0_of_0 : decode cX0_of 0 = .ok (.aload_n 0, 1) := dk_42 (dk_at dksX0_of_0 0 rfl rfl)
theorem dX0_of_1 : decode cX0_of 1 = .ok (.getfield 20, 3) := dk_180 0 20 (dk_at dksX0_of_0 1 rfl rfl)
theorem dX0_of_4 : decode cX0_of 4 = .ok (.iload_n 1, 1) := dk_27 (dk_at dksX0_of_0 4 rfl rfl)
theorem dX0_of_5 : decode cX0_of 5 = .ok (.invokevirtual 183, 3) := dk_182 0 183 (dk_at dksX0_of_0 5 rfl rfl)
theorem dX0_of_8 : decode cX0_of 8 = .ok (.ifCond .ne 6, 3) := dk_154 0 6 (dk_at dksX0_of_0 8 rfl rfl)
theorem dX0_of_11 : decode cX0_of 11 = .ok (.bipush (-2), 2) := dk_16 254 (dk_at dksX0_of_0 11 rfl rfl)
theorem dX0_of_13 : decode cX0_of 13 = .ok (.ireturn, 1) := dk_172 (dk_at dksX0_of_0 13 rfl rfl)
theorem dX0_of_14 : decode cX0_of 14 = .ok (.iload_n 2, 1) := dk_28 (dk_at dksX0_of_0 14 rfl rfl)
theorem dX0_of_15 : decode cX0_of 15 = .ok (.tableswitch 96 0 5 #[37, 47, 57, 67, 77, 87], 37) := by decide +kernel
theorem dX0_of_52 : decode cX0_of 52 = .ok (.aload_n 0, 1) := dk_42 (dk_at dksX0_of_2 0 rfl rfl)
theorem dX0_of_53 : decode cX0_of 53 = .ok (.getfield 20, 3) := dk_180 0 20 (dk_at dksX0_of_2 1 rfl rfl)
theorem dX0_of_56 : decode cX0_of 56 = .ok (.getfield 186, 3) := dk_180 0 186 (dk_at dksX0_of_2 4 rfl rfl)
theorem dX0_of_59 : decode cX0_of 59 = .ok (.iload_n 1, 1) := dk_27 (dk_at dksX0_of_2 7 rfl rfl)
theorem dX0_of_60 : decode cX0_of 60 = .ok (.iaload, 1) := dk_46 (dk_at dksX0_of_2 8 rfl rfl)
theorem dX0_of_61 : decode cX0_of 61 = .ok (.ireturn, 1) := dk_172 (dk_at dksX0_of_2 9 rfl rfl)
theorem dX0_of_62 : decode cX0_of 62 = .ok (.aload_n 0, 1) := dk_42 (dk_at dksX0_of_2 10 rfl rfl)
theorem dX0_of_63 : decode cX0_of 63 = .ok (.getfield 20, 3) := dk_180 0 20 (dk_at dksX0_of_2 11 rfl rfl)
theorem dX0_of_66 : decode cX0_of 66 = .ok (.getfield 188, 3) := dk_180 0 188 (dk_at dksX0_of_2 14 rfl rfl)
theorem dX0_of_69 : decode cX0_of 69 = .ok (.iload_n 1, 1) := dk_27 (dk_at dksX0_of_2 17 rfl rfl)
theorem dX0_of_70 : decode cX0_of 70 = .ok (.iaload, 1) := dk_46 (dk_at dksX0_of_2 18 rfl rfl)
theorem dX0_of_71 : decode cX0_of 71 = .ok (.ireturn, 1) := dk_172 (dk_at dksX0_of_2 19 rfl rfl)
theorem dX0_of_72 : decode cX0_of 72 = .ok (.aload_n 0, 1) := dk_42 (dk_at dksX0_of_2 20 rfl rfl)
theorem dX0_of_73 : decode cX0_of 73 = .ok (.getfield 20, 3) := dk_180 0 20 (dk_at dksX0_of_2 21 rfl rfl)
theorem dX0_of_76 : decode cX0_of 76 = .ok (.getfield 191, 3) := dk_180 0 191 (dk_at dksX0_of_3 0 rfl rfl)
theorem dX0_of_79 : decode cX0_of 79 = .ok (.iload_n 1, 1) := dk_27 (dk_at dksX0_of_3 3 rfl rfl)
theorem dX0_of_80 : decode cX0_of 80 = .ok (.iaload, 1) := dk_46 (dk_at dksX0_of_3 4 rfl rfl)
theorem dX0_of_81 : decode cX0_of 81 = .ok (.ireturn, 1) := dk_172 (dk_at dksX0_of_3 5 rfl rfl)
theorem dX0_of_82 : decode cX0_of 82 = .ok (.aload_n 0, 1) := dk_42 (dk_at dksX0_of_3 6 rfl rfl)
theorem dX0_of_83 : decode cX0_of 83 = .ok (.getfield 20, 3) := dk_180 0 20 (dk_at dksX0_of_3 7 rfl rfl)
theorem dX0_of_86 : decode cX0_of 86 = .ok (.getfield 194, 3) := dk_180 0 194 (dk_at dksX0_of_3 10 rfl rfl)
theorem dX0_of_89 : decode cX0_of 89 = .ok (.iload_n 1, 1) := dk_27 (dk_at dksX0_of_3 13 rfl rfl)
theorem dX0_of_90 : decode cX0_of 90 = .ok (.iaload, 1) := dk_46 (dk_at dksX0_of_3 14 rfl rfl)
theorem dX0_of_91 : decode cX0_of 91 = .ok (.ireturn, 1) := dk_172 (dk_at dksX0_of_3 15 rfl rfl)
theorem dX0_of_92 : decode cX0_of 92 = .ok (.aload_n 0, 1) := dk_42 (dk_at dksX0_of_3 16 rfl rfl)
theorem dX0_of_93 : decode cX0_of 93 = .ok (.getfield 20, 3) := dk_180 0 20 (dk_at dksX0_of_3 17 rfl rfl)
theorem dX0_of_96 : decode cX0_of 96 = .ok (.getfield 197, 3) := dk_180 0 197 (dk_at dksX0_of_3 20 rfl rfl)
theorem dX0_of_99 : decode cX0_of 99 = .ok (.iload_n 1, 1) := dk_27 (dk_at dksX0_of_3 23 rfl rfl)
theorem dX0_of_100 : decode cX0_of 100 = .ok (.iaload, 1) := dk_46 (dk_at dksX0_of_4 0 rfl rfl)
theorem dX0_of_101 : decode cX0_of 101 = .ok (.ireturn, 1) := dk_172 (dk_at dksX0_of_4 1 rfl rfl)
theorem dX0_of_102 : decode cX0_of 102 = .ok (.aload_n 0, 1) := dk_42 (dk_at dksX0_of_4 2 rfl rfl)
theorem dX0_of_103 : decode cX0_of 103 = .ok (.getfield 20, 3) := dk_180 0 20 (dk_at dksX0_of_4 3 rfl rfl)
theorem dX0_of_106 : decode cX0_of 106 = .ok (.iload_n 1, 1) := dk_27 (dk_at dksX0_of_4 6 rfl rfl)
theorem dX0_of_107 : decode cX0_of 107 = .ok (.invokevirtual 199, 3) := dk_182 0 199 (dk_at dksX0_of_4 7 rfl rfl)
theorem dX0_of_110 : decode cX0_of 110 = .ok (.ireturn, 1) := dk_172 (dk_at dksX0_of_4 10 rfl rfl)
theorem dX0_of_111 : decode cX0_of 111 = .ok (.iload_n 2, 1) := dk_28 (dk_at dksX0_of_4 11 rfl rfl)
theorem dX0_of_112 : decode cX0_of 112 = .ok (.bipush 10, 2) := dk_16 10 (dk_at dksX0_of_4 12 rfl rfl)
theorem dX0_of_114 : decode cX0_of 114 = .ok (.isub, 1) := dk_100 (dk_at dksX0_of_4 14 rfl rfl)
theorem dX0_of_115 : decode cX0_of 115 = .ok (.invokestatic 120, 3) := dk_184 0 120 (dk_at dksX0_of_4 15 rfl rfl)
theorem dX0_of_118 : decode cX0_of 118 = .ok (.ifCond .ne 6, 3) := dk_154 0 6 (dk_at dksX0_of_4 18 rfl rfl)
theorem dX0_of_121 : decode cX0_of 121 = .ok (.bipush (-2), 2) := dk_16 254 (dk_at dksX0_of_4 21 rfl rfl)
theorem dX0_of_123 : decode cX0_of 123 = .ok (.ireturn, 1) := dk_172 (dk_at dksX0_of_4 23 rfl rfl)
theorem dX0_of_124 : decode cX0_of 124 = .ok (.aload_n 0, 1) := dk_42 (dk_at dksX0_of_5 0 rfl rfl)
theorem dX0_of_125 : decode cX0_of 125 = .ok (.getfield 20, 3) := dk_180 0 20 (dk_at dksX0_of_5 1 rfl rfl)
theorem dX0_of_128 : decode cX0_of 128 = .ok (.iload_n 1, 1) := dk_27 (dk_at dksX0_of_5 4 rfl rfl)
theorem dX0_of_129 : decode cX0_of 129 = .ok (.iload_n 2, 1) := dk_28 (dk_at dksX0_of_5 5 rfl rfl)
theorem dX0_of_130 : decode cX0_of 130 = .ok (.bipush 10, 2) := dk_16 10 (dk_at dksX0_of_5 6 rfl rfl)
theorem dX0_of_132 : decode cX0_of 132 = .ok (.isub, 1) := dk_100 (dk_at dksX0_of_5 8 rfl rfl)
theorem dX0_of_133 : decode cX0_of 133 = .ok (.invokevirtual 140, 3) := dk_182 0 140 (dk_at dksX0_of_5 9 rfl rfl)
theorem dX0_of_136 : decode cX0_of 136 = .ok (.ifCond .eq 18, 3) := dk_153 0 18 (dk_at dksX0_of_5 12 rfl rfl)
theorem dX0_of_139 : decode cX0_of 139 = .ok (.aload_n 0, 1) := dk_42 (dk_at dksX0_of_5 15 rfl rfl)
theorem dX0_of_140 : decode cX0_of 140 = .ok (.getfield 20, 3) := dk_180 0 20 (dk_at dksX0_of_5 16 rfl rfl)
theorem dX0_of_143 : decode cX0_of 143 = .ok (.iload_n 1, 1) := dk_27 (dk_at dksX0_of_5 19 rfl rfl)
theorem dX0_of_144 : decode cX0_of 144 = .ok (.iload_n 2, 1) := dk_28 (dk_at dksX0_of_5 20 rfl rfl)
theorem dX0_of_145 : decode cX0_of 145 = .ok (.bipush 10, 2) := dk_16 10 (dk_at dksX0_of_5 21 rfl rfl)
theorem dX0_of_147 : decode cX0_of 147 = .ok (.isub, 1) := dk_100 (dk_at dksX0_of_5 23 rfl rfl)
theorem dX0_of_148 : decode cX0_of 148 = .ok (.invokevirtual 202, 3) := dk_182 0 202 (dk_at dksX0_of_6 0 rfl rfl)
theorem dX0_of_151 : decode cX0_of 151 = .ok (.goto 4, 3) := dk_167 0 4 (dk_at dksX0_of_6 3 rfl rfl)
theorem dX0_of_154 : decode cX0_of 154 = .ok (.iconst (-1), 1) := dk_2 (dk_at dksX0_of_6 6 rfl rfl)
theorem dX0_of_155 : decode cX0_of 155 = .ok (.ireturn, 1) := dk_172 (dk_at dksX0_of_6 7 rfl rfl)
abbrev cX0_skyOf : ByteArray := prog_1_method_26_code
def yX0_skyOf : MethodName := ⟨RX0, "skyOf", "(III)I"⟩
def dkwX0_skyOf_1 : List UInt8 := [2, 172, 42, 29, 182, 0, 209, 42, 180, 0, 27, 180, 0, 130, 27, 50, 28, 46, 172]
abbrev dktX0_skyOf_1 : List UInt8 := dkwX0_skyOf_1 ++ []
def dkwX0_skyOf_0 : List UInt8 := [27, 184, 0, 120, 153, 0, 20, 28, 184, 0, 116, 153, 0, 13, 29, 3, 16, 60, 184, 0, 51, 154, 0, 5]
abbrev dktX0_skyOf_0 : List UInt8 := dkwX0_skyOf_0 ++ dktX0_skyOf_1
theorem dksX0_skyOf_0 : cX0_skyOf.data.toList.drop 0 = dktX0_skyOf_0 := by decide +kernel
theorem dksX0_skyOf_1 : cX0_skyOf.data.toList.drop 24 = dktX0_skyOf_1 := dk_seg dksX0_skyOf_0 24 rfl rfl
theorem dX0_skyOf_0 : decode cX0_skyOf 0 = .ok (.iload_n 1, 1) := dk_27 (dk_at dksX0_skyOf_0 0 rfl rfl)
theorem dX0_skyOf_1 : decode cX0_skyOf 1 = .ok (.invokestatic 120, 3) := dk_184 0 120 (dk_at dksX0_skyOf_0 1 rfl rfl)
theorem dX0_skyOf_4 : decode cX0_skyOf 4 = .ok (.ifCond .eq 20, 3) := dk_153 0 20 (dk_at dksX0_skyOf_0 4 rfl rfl)
theorem dX0_skyOf_7 : decode cX0_skyOf 7 = .ok (.iload_n 2, 1) := dk_28 (dk_at dksX0_skyOf_0 7 rfl rfl)
theorem dX0_skyOf_8 : decode cX0_skyOf 8 = .ok (.invokestatic 116, 3) := dk_184 0 116 (dk_at dksX0_skyOf_0 8 rfl rfl)
theorem dX0_skyOf_11 : decode cX0_skyOf 11 = .ok (.ifCond .eq 13, 3) := dk_153 0 13 (dk_at dksX0_skyOf_0 11 rfl rfl)
theorem dX0_skyOf_14 : decode cX0_skyOf 14 = .ok (.iload_n 3, 1) := dk_29 (dk_at dksX0_skyOf_0 14 rfl rfl)
theorem dX0_skyOf_15 : decode cX0_skyOf 15 = .ok (.iconst 0, 1) := dk_3 (dk_at dksX0_skyOf_0 15 rfl rfl)
theorem dX0_skyOf_16 : decode cX0_skyOf 16 = .ok (.bipush 60, 2) := dk_16 60 (dk_at dksX0_skyOf_0 16 rfl rfl)
theorem dX0_skyOf_18 : decode cX0_skyOf 18 = .ok (.invokestatic 51, 3) := dk_184 0 51 (dk_at dksX0_skyOf_0 18 rfl rfl)
theorem dX0_skyOf_21 : decode cX0_skyOf 21 = .ok (.ifCond .ne 5, 3) := dk_154 0 5 (dk_at dksX0_skyOf_0 21 rfl rfl)
theorem dX0_skyOf_24 : decode cX0_skyOf 24 = .ok (.iconst (-1), 1) := dk_2 (dk_at dksX0_skyOf_1 0 rfl rfl)
theorem dX0_skyOf_25 : decode cX0_skyOf 25 = .ok (.ireturn, 1) := dk_172 (dk_at dksX0_skyOf_1 1 rfl rfl)
theorem dX0_skyOf_26 : decode cX0_skyOf 26 = .ok (.aload_n 0, 1) := dk_42 (dk_at dksX0_skyOf_1 2 rfl rfl)
theorem dX0_skyOf_27 : decode cX0_skyOf 27 = .ok (.iload_n 3, 1) := dk_29 (dk_at dksX0_skyOf_1 3 rfl rfl)
theorem dX0_skyOf_28 : decode cX0_skyOf 28 = .ok (.invokevirtual 209, 3) := dk_182 0 209 (dk_at dksX0_skyOf_1 4 rfl rfl)
theorem dX0_skyOf_31 : decode cX0_skyOf 31 = .ok (.aload_n 0, 1) := dk_42 (dk_at dksX0_skyOf_1 7 rfl rfl)
theorem dX0_skyOf_32 : decode cX0_skyOf 32 = .ok (.getfield 27, 3) := dk_180 0 27 (dk_at dksX0_skyOf_1 8 rfl rfl)
theorem dX0_skyOf_35 : decode cX0_skyOf 35 = .ok (.getfield 130, 3) := dk_180 0 130 (dk_at dksX0_skyOf_1 11 rfl rfl)
theorem dX0_skyOf_38 : decode cX0_skyOf 38 = .ok (.iload_n 1, 1) := dk_27 (dk_at dksX0_skyOf_1 14 rfl rfl)
theorem dX0_skyOf_39 : decode cX0_skyOf 39 = .ok (.aaload, 1) := dk_50 (dk_at dksX0_skyOf_1 15 rfl rfl)
theorem dX0_skyOf_40 : decode cX0_skyOf 40 = .ok (.iload_n 2, 1) := dk_28 (dk_at dksX0_skyOf_1 16 rfl rfl)
theorem dX0_skyOf_41 : decode cX0_skyOf 41 = .ok (.iaload, 1) := dk_46 (dk_at dksX0_skyOf_1 17 rfl rfl)
theorem dX0_skyOf_42 : decode cX0_skyOf 42 = .ok (.ireturn, 1) := dk_172 (dk_at dksX0_skyOf_1 18 rfl rfl)
abbrev cX0_thinksOf : ByteArray := prog_1_method_25_code
def yX0_thinksOf : MethodName := ⟨RX0, "thinksOf", "(I)V"⟩
def dkwX0_thinksOf_1 : List UInt8 := [182, 0, 176, 42, 180, 0, 27, 3, 182, 0, 179, 132, 2, 1, 167, 255, 233, 177]
abbrev dktX0_thinksOf_1 : List UInt8 := dkwX0_thinksOf_1 ++ []
def dkwX0_thinksOf_0 : List UInt8 := [42, 180, 0, 27, 42, 180, 0, 20, 182, 0, 206, 3, 61, 28, 27, 162, 0, 24, 42, 180, 0, 27]
abbrev dktX0_thinksOf_0 : List UInt8 := dkwX0_thinksOf_0 ++ dktX0_thinksOf_1
theorem dksX0_thinksOf_0 : cX0_thinksOf.data.toList.drop 0 = dktX0_thinksOf_0 := by decide +kernel
theorem dksX0_thinksOf_1 : cX0_thinksOf.data.toList.drop 22 = dktX0_thinksOf_1 := dk_seg dksX0_thinksOf_0 22 rfl rfl
theorem dX0_thinksOf_0 : decode cX0_thinksOf 0 = .ok (.aload_n 0, 1) := dk_42 (dk_at dksX0_thinksOf_0 0 rfl rfl)
theorem dX0_thinksOf_1 : decode cX0_thinksOf 1 = .ok (.getfield 27, 3) := dk_180 0 27 (dk_at dksX0_thinksOf_0 1 rfl rfl)
theorem dX0_thinksOf_4 : decode cX0_thinksOf 4 = .ok (.aload_n 0, 1) := dk_42 (dk_at dksX0_thinksOf_0 4 rfl rfl)
theorem dX0_thinksOf_5 : decode cX0_thinksOf 5 = .ok (.getfield 20, 3) := dk_180 0 20 (dk_at dksX0_thinksOf_0 5 rfl rfl)
theorem dX0_thinksOf_8 : decode cX0_thinksOf 8 = .ok (.invokevirtual 206, 3) := dk_182 0 206 (dk_at dksX0_thinksOf_0 8 rfl rfl)
theorem dX0_thinksOf_11 : decode cX0_thinksOf 11 = .ok (.iconst 0, 1) := dk_3 (dk_at dksX0_thinksOf_0 11 rfl rfl)
theorem dX0_thinksOf_12 : decode cX0_thinksOf 12 = .ok (.istore_n 2, 1) := dk_61 (dk_at dksX0_thinksOf_0 12 rfl rfl)
theorem dX0_thinksOf_13 : decode cX0_thinksOf 13 = .ok (.iload_n 2, 1) := dk_28 (dk_at dksX0_thinksOf_0 13 rfl rfl)
theorem dX0_thinksOf_14 : decode cX0_thinksOf 14 = .ok (.iload_n 1, 1) := dk_27 (dk_at dksX0_thinksOf_0 14 rfl rfl)
theorem dX0_thinksOf_15 : decode cX0_thinksOf 15 = .ok (.if_icmp .ge 24, 3) := dk_162 0 24 (dk_at dksX0_thinksOf_0 15 rfl rfl)
theorem dX0_thinksOf_18 : decode cX0_thinksOf 18 = .ok (.aload_n 0, 1) := dk_42 (dk_at dksX0_thinksOf_0 18 rfl rfl)
theorem dX0_thinksOf_19 : decode cX0_thinksOf 19 = .ok (.getfield 27, 3) := dk_180 0 27 (dk_at dksX0_thinksOf_0 19 rfl rfl)
theorem dX0_thinksOf_22 : decode cX0_thinksOf 22 = .ok (.invokevirtual 176, 3) := dk_182 0 176 (dk_at dksX0_thinksOf_1 0 rfl rfl)
theorem dX0_thinksOf_25 : decode cX0_thinksOf 25 = .ok (.aload_n 0, 1) := dk_42 (dk_at dksX0_thinksOf_1 3 rfl rfl)
theorem dX0_thinksOf_26 : decode cX0_thinksOf 26 = .ok (.getfield 27, 3) := dk_180 0 27 (dk_at dksX0_thinksOf_1 4 rfl rfl)
theorem dX0_thinksOf_29 : decode cX0_thinksOf 29 = .ok (.iconst 0, 1) := dk_3 (dk_at dksX0_thinksOf_1 7 rfl rfl)
theorem dX0_thinksOf_30 : decode cX0_thinksOf 30 = .ok (.invokevirtual 179, 3) := dk_182 0 179 (dk_at dksX0_thinksOf_1 8 rfl rfl)
theorem dX0_thinksOf_33 : decode cX0_thinksOf 33 = .ok (.iinc 2 1, 3) := dk_132 2 1 (dk_at dksX0_thinksOf_1 11 rfl rfl)
theorem dX0_thinksOf_36 : decode cX0_thinksOf 36 = .ok (.goto (-23), 3) := dk_167 255 233 (dk_at dksX0_thinksOf_1 14 rfl rfl)
theorem dX0_thinksOf_39 : decode cX0_thinksOf 39 = .ok (.return_, 1) := dk_177 (dk_at dksX0_thinksOf_1 17 rfl rfl)
abbrev cX0_at : ByteArray := prog_1_method_28_code
def yX0_at : MethodName := ⟨RX0, "at", "(II)I"⟩
def dkwX0_at_4 : List UInt8 := [180, 0, 20, 27, 28, 16, 10, 100, 182, 0, 218, 167, 0, 5, 16, 254, 172]
abbrev dktX0_at_4 : List UInt8 := dkwX0_at_4 ++ []
def dkwX0_at_3 : List UInt8 := [182, 0, 215, 172, 42, 27, 4, 182, 0, 215, 172, 28, 16, 10, 100, 184, 0, 116, 153, 0, 18, 42]
abbrev dktX0_at_3 : List UInt8 := dkwX0_at_3 ++ dktX0_at_4
def dkwX0_at_2 : List UInt8 := [42, 180, 0, 20, 180, 0, 137, 27, 46, 172, 42, 180, 0, 20, 27, 182, 0, 212, 172, 42, 27, 3]
abbrev dktX0_at_2 : List UInt8 := dkwX0_at_2 ++ dktX0_at_3
def dkwX0_at_1 : List UInt8 := [170, 0, 0, 0, 62, 0, 0, 0, 0, 0, 0, 0, 3, 0, 0, 0, 29, 0, 0, 0, 39, 0, 0, 0, 48, 0, 0, 0, 55]
abbrev dktX0_at_1 : List UInt8 := dkwX0_at_1 ++ dktX0_at_2
def dkwX0_at_0 : List UInt8 := [27, 184, 0, 120, 154, 0, 6, 16, 254, 172, 28]
abbrev dktX0_at_0 : List UInt8 := dkwX0_at_0 ++ dktX0_at_1
theorem dksX0_at_0 : cX0_at.data.toList.drop 0 = dktX0_at_0 := by decide +kernel
theorem dksX0_at_1 : cX0_at.data.toList.drop 11 = dktX0_at_1 := dk_seg dksX0_at_0 11 rfl rfl
theorem dksX0_at_2 : cX0_at.data.toList.drop 40 = dktX0_at_2 := dk_seg dksX0_at_1 29 rfl rfl
theorem dksX0_at_3 : cX0_at.data.toList.drop 62 = dktX0_at_3 := dk_seg dksX0_at_2 22 rfl rfl
theorem dksX0_at_4 : cX0_at.data.toList.drop 84 = dktX0_at_4 := dk_seg dksX0_at_3 22 rfl rfl
theorem dX0_at_0 : decode cX0_at 0 = .ok (.iload_n 1, 1) := dk_27 (dk_at dksX0_at_0 0 rfl rfl)
theorem dX0_at_1 : decode cX0_at 1 = .ok (.invokestatic 120, 3) := dk_184 0 120 (dk_at dksX0_at_0 1 rfl rfl)
theorem dX0_at_4 : decode cX0_at 4 = .ok (.ifCond .ne 6, 3) := dk_154 0 6 (dk_at dksX0_at_0 4 rfl rfl)
theorem dX0_at_7 : decode cX0_at 7 = .ok (.bipush (-2), 2) := dk_16 254 (dk_at dksX0_at_0 7 rfl rfl)
theorem dX0_at_9 : decode cX0_at 9 = .ok (.ireturn, 1) := dk_172 (dk_at dksX0_at_0 9 rfl rfl)
theorem dX0_at_10 : decode cX0_at 10 = .ok (.iload_n 2, 1) := dk_28 (dk_at dksX0_at_0 10 rfl rfl)
theorem dX0_at_11 : decode cX0_at 11 = .ok (.tableswitch 62 0 3 #[29, 39, 48, 55], 29) := by decide +kernel
theorem dX0_at_40 : decode cX0_at 40 = .ok (.aload_n 0, 1) := dk_42 (dk_at dksX0_at_2 0 rfl rfl)
theorem dX0_at_41 : decode cX0_at 41 = .ok (.getfield 20, 3) := dk_180 0 20 (dk_at dksX0_at_2 1 rfl rfl)
theorem dX0_at_44 : decode cX0_at 44 = .ok (.getfield 137, 3) := dk_180 0 137 (dk_at dksX0_at_2 4 rfl rfl)
theorem dX0_at_47 : decode cX0_at 47 = .ok (.iload_n 1, 1) := dk_27 (dk_at dksX0_at_2 7 rfl rfl)
theorem dX0_at_48 : decode cX0_at 48 = .ok (.iaload, 1) := dk_46 (dk_at dksX0_at_2 8 rfl rfl)
theorem dX0_at_49 : decode cX0_at 49 = .ok (.ireturn, 1) := dk_172 (dk_at dksX0_at_2 9 rfl rfl)
theorem dX0_at_50 : decode cX0_at 50 = .ok (.aload_n 0, 1) := dk_42 (dk_at dksX0_at_2 10 rfl rfl)
theorem dX0_at_51 : decode cX0_at 51 = .ok (.getfield 20, 3) := dk_180 0 20 (dk_at dksX0_at_2 11 rfl rfl)
theorem dX0_at_54 : decode cX0_at 54 = .ok (.iload_n 1, 1) := dk_27 (dk_at dksX0_at_2 14 rfl rfl)
theorem dX0_at_55 : decode cX0_at 55 = .ok (.invokevirtual 212, 3) := dk_182 0 212 (dk_at dksX0_at_2 15 rfl rfl)
theorem dX0_at_58 : decode cX0_at 58 = .ok (.ireturn, 1) := dk_172 (dk_at dksX0_at_2 18 rfl rfl)
theorem dX0_at_59 : decode cX0_at 59 = .ok (.aload_n 0, 1) := dk_42 (dk_at dksX0_at_2 19 rfl rfl)
theorem dX0_at_60 : decode cX0_at 60 = .ok (.iload_n 1, 1) := dk_27 (dk_at dksX0_at_2 20 rfl rfl)
theorem dX0_at_61 : decode cX0_at 61 = .ok (.iconst 0, 1) := dk_3 (dk_at dksX0_at_2 21 rfl rfl)
theorem dX0_at_62 : decode cX0_at 62 = .ok (.invokevirtual 215, 3) := dk_182 0 215 (dk_at dksX0_at_3 0 rfl rfl)
theorem dX0_at_65 : decode cX0_at 65 = .ok (.ireturn, 1) := dk_172 (dk_at dksX0_at_3 3 rfl rfl)
theorem dX0_at_66 : decode cX0_at 66 = .ok (.aload_n 0, 1) := dk_42 (dk_at dksX0_at_3 4 rfl rfl)
theorem dX0_at_67 : decode cX0_at 67 = .ok (.iload_n 1, 1) := dk_27 (dk_at dksX0_at_3 5 rfl rfl)
theorem dX0_at_68 : decode cX0_at 68 = .ok (.iconst 1, 1) := dk_4 (dk_at dksX0_at_3 6 rfl rfl)
theorem dX0_at_69 : decode cX0_at 69 = .ok (.invokevirtual 215, 3) := dk_182 0 215 (dk_at dksX0_at_3 7 rfl rfl)
theorem dX0_at_72 : decode cX0_at 72 = .ok (.ireturn, 1) := dk_172 (dk_at dksX0_at_3 10 rfl rfl)
theorem dX0_at_73 : decode cX0_at 73 = .ok (.iload_n 2, 1) := dk_28 (dk_at dksX0_at_3 11 rfl rfl)
theorem dX0_at_74 : decode cX0_at 74 = .ok (.bipush 10, 2) := dk_16 10 (dk_at dksX0_at_3 12 rfl rfl)
theorem dX0_at_76 : decode cX0_at 76 = .ok (.isub, 1) := dk_100 (dk_at dksX0_at_3 14 rfl rfl)
theorem dX0_at_77 : decode cX0_at 77 = .ok (.invokestatic 116, 3) := dk_184 0 116 (dk_at dksX0_at_3 15 rfl rfl)
theorem dX0_at_80 : decode cX0_at 80 = .ok (.ifCond .eq 18, 3) := dk_153 0 18 (dk_at dksX0_at_3 18 rfl rfl)
theorem dX0_at_83 : decode cX0_at 83 = .ok (.aload_n 0, 1) := dk_42 (dk_at dksX0_at_3 21 rfl rfl)
theorem dX0_at_84 : decode cX0_at 84 = .ok (.getfield 20, 3) := dk_180 0 20 (dk_at dksX0_at_4 0 rfl rfl)
theorem dX0_at_87 : decode cX0_at 87 = .ok (.iload_n 1, 1) := dk_27 (dk_at dksX0_at_4 3 rfl rfl)
theorem dX0_at_88 : decode cX0_at 88 = .ok (.iload_n 2, 1) := dk_28 (dk_at dksX0_at_4 4 rfl rfl)
theorem dX0_at_89 : decode cX0_at 89 = .ok (.bipush 10, 2) := dk_16 10 (dk_at dksX0_at_4 5 rfl rfl)
theorem dX0_at_91 : decode cX0_at 91 = .ok (.isub, 1) := dk_100 (dk_at dksX0_at_4 7 rfl rfl)
theorem dX0_at_92 : decode cX0_at 92 = .ok (.invokevirtual 218, 3) := dk_182 0 218 (dk_at dksX0_at_4 8 rfl rfl)
theorem dX0_at_95 : decode cX0_at 95 = .ok (.goto 5, 3) := dk_167 0 5 (dk_at dksX0_at_4 11 rfl rfl)
theorem dX0_at_98 : decode cX0_at 98 = .ok (.bipush (-2), 2) := dk_16 254 (dk_at dksX0_at_4 14 rfl rfl)
theorem dX0_at_100 : decode cX0_at 100 = .ok (.ireturn, 1) := dk_172 (dk_at dksX0_at_4 16 rfl rfl)
abbrev cX0_thereOf : ByteArray := prog_1_method_27_code
def yX0_thereOf : MethodName := ⟨RX0, "thereOf", "(II)I"⟩
def dkwX0_thereOf_2 : List UInt8 := [4, 21, 4, 120, 167, 0, 4, 3, 128, 62, 132, 4, 1, 167, 255, 202, 29, 172]
abbrev dktX0_thereOf_2 : List UInt8 := dkwX0_thereOf_2 ++ []
def dkwX0_thereOf_1 : List UInt8 := [180, 0, 191, 21, 4, 46, 27, 160, 0, 24, 42, 180, 0, 20, 180, 0, 194, 21, 4, 46, 28, 160, 0, 10]
abbrev dktX0_thereOf_1 : List UInt8 := dkwX0_thereOf_1 ++ dktX0_thereOf_2
def dkwX0_thereOf_0 : List UInt8 := [3, 62, 3, 54, 4, 21, 4, 42, 180, 0, 20, 180, 0, 123, 162, 0, 48, 29, 42, 180, 0, 20]
abbrev dktX0_thereOf_0 : List UInt8 := dkwX0_thereOf_0 ++ dktX0_thereOf_1
theorem dksX0_thereOf_0 : cX0_thereOf.data.toList.drop 0 = dktX0_thereOf_0 := by decide +kernel
theorem dksX0_thereOf_1 : cX0_thereOf.data.toList.drop 22 = dktX0_thereOf_1 := dk_seg dksX0_thereOf_0 22 rfl rfl
theorem dksX0_thereOf_2 : cX0_thereOf.data.toList.drop 46 = dktX0_thereOf_2 := dk_seg dksX0_thereOf_1 24 rfl rfl
theorem dX0_thereOf_0 : decode cX0_thereOf 0 = .ok (.iconst 0, 1) := dk_3 (dk_at dksX0_thereOf_0 0 rfl rfl)
theorem dX0_thereOf_1 : decode cX0_thereOf 1 = .ok (.istore_n 3, 1) := dk_62 (dk_at dksX0_thereOf_0 1 rfl rfl)
theorem dX0_thereOf_2 : decode cX0_thereOf 2 = .ok (.iconst 0, 1) := dk_3 (dk_at dksX0_thereOf_0 2 rfl rfl)
theorem dX0_thereOf_3 : decode cX0_thereOf 3 = .ok (.istore 4, 2) := dk_54 4 (dk_at dksX0_thereOf_0 3 rfl rfl)
theorem dX0_thereOf_5 : decode cX0_thereOf 5 = .ok (.iload 4, 2) := dk_21 4 (dk_at dksX0_thereOf_0 5 rfl rfl)
theorem dX0_thereOf_7 : decode cX0_thereOf 7 = .ok (.aload_n 0, 1) := dk_42 (dk_at dksX0_thereOf_0 7 rfl rfl)
theorem dX0_thereOf_8 : decode cX0_thereOf 8 = .ok (.getfield 20, 3) := dk_180 0 20 (dk_at dksX0_thereOf_0 8 rfl rfl)
theorem dX0_thereOf_11 : decode cX0_thereOf 11 = .ok (.getfield 123, 3) := dk_180 0 123 (dk_at dksX0_thereOf_0 11 rfl rfl)
theorem dX0_thereOf_14 : decode cX0_thereOf 14 = .ok (.if_icmp .ge 48, 3) := dk_162 0 48 (dk_at dksX0_thereOf_0 14 rfl rfl)
theorem dX0_thereOf_17 : decode cX0_thereOf 17 = .ok (.iload_n 3, 1) := dk_29 (dk_at dksX0_thereOf_0 17 rfl rfl)
theorem dX0_thereOf_18 : decode cX0_thereOf 18 = .ok (.aload_n 0, 1) := dk_42 (dk_at dksX0_thereOf_0 18 rfl rfl)
theorem dX0_thereOf_19 : decode cX0_thereOf 19 = .ok (.getfield 20, 3) := dk_180 0 20 (dk_at dksX0_thereOf_0 19 rfl rfl)
theorem dX0_thereOf_22 : decode cX0_thereOf 22 = .ok (.getfield 191, 3) := dk_180 0 191 (dk_at dksX0_thereOf_1 0 rfl rfl)
theorem dX0_thereOf_25 : decode cX0_thereOf 25 = .ok (.iload 4, 2) := dk_21 4 (dk_at dksX0_thereOf_1 3 rfl rfl)
theorem dX0_thereOf_27 : decode cX0_thereOf 27 = .ok (.iaload, 1) := dk_46 (dk_at dksX0_thereOf_1 5 rfl rfl)
theorem dX0_thereOf_28 : decode cX0_thereOf 28 = .ok (.iload_n 1, 1) := dk_27 (dk_at dksX0_thereOf_1 6 rfl rfl)
theorem dX0_thereOf_29 : decode cX0_thereOf 29 = .ok (.if_icmp .ne 24, 3) := dk_160 0 24 (dk_at dksX0_thereOf_1 7 rfl rfl)
theorem dX0_thereOf_32 : decode cX0_thereOf 32 = .ok (.aload_n 0, 1) := dk_42 (dk_at dksX0_thereOf_1 10 rfl rfl)
theorem dX0_thereOf_33 : decode cX0_thereOf 33 = .ok (.getfield 20, 3) := dk_180 0 20 (dk_at dksX0_thereOf_1 11 rfl rfl)
theorem dX0_thereOf_36 : decode cX0_thereOf 36 = .ok (.getfield 194, 3) := dk_180 0 194 (dk_at dksX0_thereOf_1 14 rfl rfl)
theorem dX0_thereOf_39 : decode cX0_thereOf 39 = .ok (.iload 4, 2) := dk_21 4 (dk_at dksX0_thereOf_1 17 rfl rfl)
theorem dX0_thereOf_41 : decode cX0_thereOf 41 = .ok (.iaload, 1) := dk_46 (dk_at dksX0_thereOf_1 19 rfl rfl)
theorem dX0_thereOf_42 : decode cX0_thereOf 42 = .ok (.iload_n 2, 1) := dk_28 (dk_at dksX0_thereOf_1 20 rfl rfl)
theorem dX0_thereOf_43 : decode cX0_thereOf 43 = .ok (.if_icmp .ne 10, 3) := dk_160 0 10 (dk_at dksX0_thereOf_1 21 rfl rfl)
theorem dX0_thereOf_46 : decode cX0_thereOf 46 = .ok (.iconst 1, 1) := dk_4 (dk_at dksX0_thereOf_2 0 rfl rfl)
theorem dX0_thereOf_47 : decode cX0_thereOf 47 = .ok (.iload 4, 2) := dk_21 4 (dk_at dksX0_thereOf_2 1 rfl rfl)
theorem dX0_thereOf_49 : decode cX0_thereOf 49 = .ok (.ishl, 1) := dk_120 (dk_at dksX0_thereOf_2 3 rfl rfl)
theorem dX0_thereOf_50 : decode cX0_thereOf 50 = .ok (.goto 4, 3) := dk_167 0 4 (dk_at dksX0_thereOf_2 4 rfl rfl)
theorem dX0_thereOf_53 : decode cX0_thereOf 53 = .ok (.iconst 0, 1) := dk_3 (dk_at dksX0_thereOf_2 7 rfl rfl)
theorem dX0_thereOf_54 : decode cX0_thereOf 54 = .ok (.ior, 1) := dk_128 (dk_at dksX0_thereOf_2 8 rfl rfl)
theorem dX0_thereOf_55 : decode cX0_thereOf 55 = .ok (.istore_n 3, 1) := dk_62 (dk_at dksX0_thereOf_2 9 rfl rfl)
theorem dX0_thereOf_56 : decode cX0_thereOf 56 = .ok (.iinc 4 1, 3) := dk_132 4 1 (dk_at dksX0_thereOf_2 10 rfl rfl)
theorem dX0_thereOf_59 : decode cX0_thereOf 59 = .ok (.goto (-54), 3) := dk_167 255 202 (dk_at dksX0_thereOf_2 13 rfl rfl)
theorem dX0_thereOf_62 : decode cX0_thereOf 62 = .ok (.iload_n 3, 1) := dk_29 (dk_at dksX0_thereOf_2 16 rfl rfl)
theorem dX0_thereOf_63 : decode cX0_thereOf 63 = .ok (.ireturn, 1) := dk_172 (dk_at dksX0_thereOf_2 17 rfl rfl)
abbrev cX0_clash : ByteArray := prog_1_method_29_code
def yX0_clash : MethodName := ⟨RX0, "clash", "(II)I"⟩
def dkwX0_clash_1 : List UInt8 := [182, 0, 221, 153, 0, 7, 4, 167, 0, 4, 3, 172]
abbrev dktX0_clash_1 : List UInt8 := dkwX0_clash_1 ++ []
def dkwX0_clash_0 : List UInt8 := [27, 184, 0, 116, 153, 0, 10, 28, 184, 0, 116, 154, 0, 7, 2, 167, 0, 20, 42, 180, 0, 20, 27, 28]
abbrev dktX0_clash_0 : List UInt8 := dkwX0_clash_0 ++ dktX0_clash_1
theorem dksX0_clash_0 : cX0_clash.data.toList.drop 0 = dktX0_clash_0 := by decide +kernel
theorem dksX0_clash_1 : cX0_clash.data.toList.drop 24 = dktX0_clash_1 := dk_seg dksX0_clash_0 24 rfl rfl
theorem dX0_clash_0 : decode cX0_clash 0 = .ok (.iload_n 1, 1) := dk_27 (dk_at dksX0_clash_0 0 rfl rfl)
theorem dX0_clash_1 : decode cX0_clash 1 = .ok (.invokestatic 116, 3) := dk_184 0 116 (dk_at dksX0_clash_0 1 rfl rfl)
theorem dX0_clash_4 : decode cX0_clash 4 = .ok (.ifCond .eq 10, 3) := dk_153 0 10 (dk_at dksX0_clash_0 4 rfl rfl)
theorem dX0_clash_7 : decode cX0_clash 7 = .ok (.iload_n 2, 1) := dk_28 (dk_at dksX0_clash_0 7 rfl rfl)
theorem dX0_clash_8 : decode cX0_clash 8 = .ok (.invokestatic 116, 3) := dk_184 0 116 (dk_at dksX0_clash_0 8 rfl rfl)
theorem dX0_clash_11 : decode cX0_clash 11 = .ok (.ifCond .ne 7, 3) := dk_154 0 7 (dk_at dksX0_clash_0 11 rfl rfl)
theorem dX0_clash_14 : decode cX0_clash 14 = .ok (.iconst (-1), 1) := dk_2 (dk_at dksX0_clash_0 14 rfl rfl)
theorem dX0_clash_15 : decode cX0_clash 15 = .ok (.goto 20, 3) := dk_167 0 20 (dk_at dksX0_clash_0 15 rfl rfl)
theorem dX0_clash_18 : decode cX0_clash 18 = .ok (.aload_n 0, 1) := dk_42 (dk_at dksX0_clash_0 18 rfl rfl)
theorem dX0_clash_19 : decode cX0_clash 19 = .ok (.getfield 20, 3) := dk_180 0 20 (dk_at dksX0_clash_0 19 rfl rfl)
theorem dX0_clash_22 : decode cX0_clash 22 = .ok (.iload_n 1, 1) := dk_27 (dk_at dksX0_clash_0 22 rfl rfl)
theorem dX0_clash_23 : decode cX0_clash 23 = .ok (.iload_n 2, 1) := dk_28 (dk_at dksX0_clash_0 23 rfl rfl)
theorem dX0_clash_24 : decode cX0_clash 24 = .ok (.invokevirtual 221, 3) := dk_182 0 221 (dk_at dksX0_clash_1 0 rfl rfl)
theorem dX0_clash_27 : decode cX0_clash 27 = .ok (.ifCond .eq 7, 3) := dk_153 0 7 (dk_at dksX0_clash_1 3 rfl rfl)
theorem dX0_clash_30 : decode cX0_clash 30 = .ok (.iconst 1, 1) := dk_4 (dk_at dksX0_clash_1 6 rfl rfl)
theorem dX0_clash_31 : decode cX0_clash 31 = .ok (.goto 4, 3) := dk_167 0 4 (dk_at dksX0_clash_1 7 rfl rfl)
theorem dX0_clash_34 : decode cX0_clash 34 = .ok (.iconst 0, 1) := dk_3 (dk_at dksX0_clash_1 10 rfl rfl)
theorem dX0_clash_35 : decode cX0_clash 35 = .ok (.ireturn, 1) := dk_172 (dk_at dksX0_clash_1 11 rfl rfl)
abbrev cX0_book : ByteArray := prog_1_method_30_code
def yX0_book : MethodName := ⟨RX0, "book", "(II)I"⟩
def dkwX0_book_1 : List UInt8 := [153, 0, 17, 42, 180, 0, 20, 180, 0, 227, 27, 50, 28, 46, 167, 0, 4, 2, 172]
abbrev dktX0_book_1 : List UInt8 := dkwX0_book_1 ++ []
def dkwX0_book_0 : List UInt8 := [27, 3, 42, 180, 0, 20, 180, 0, 224, 4, 100, 184, 0, 51, 153, 0, 26, 28, 3, 7, 184, 0, 51]
abbrev dktX0_book_0 : List UInt8 := dkwX0_book_0 ++ dktX0_book_1
theorem dksX0_book_0 : cX0_book.data.toList.drop 0 = dktX0_book_0 := by decide +kernel
theorem dksX0_book_1 : cX0_book.data.toList.drop 23 = dktX0_book_1 := dk_seg dksX0_book_0 23 rfl rfl
theorem dX0_book_0 : decode cX0_book 0 = .ok (.iload_n 1, 1) := dk_27 (dk_at dksX0_book_0 0 rfl rfl)
theorem dX0_book_1 : decode cX0_book 1 = .ok (.iconst 0, 1) := dk_3 (dk_at dksX0_book_0 1 rfl rfl)
theorem dX0_book_2 : decode cX0_book 2 = .ok (.aload_n 0, 1) := dk_42 (dk_at dksX0_book_0 2 rfl rfl)
theorem dX0_book_3 : decode cX0_book 3 = .ok (.getfield 20, 3) := dk_180 0 20 (dk_at dksX0_book_0 3 rfl rfl)
theorem dX0_book_6 : decode cX0_book 6 = .ok (.getfield 224, 3) := dk_180 0 224 (dk_at dksX0_book_0 6 rfl rfl)
theorem dX0_book_9 : decode cX0_book 9 = .ok (.iconst 1, 1) := dk_4 (dk_at dksX0_book_0 9 rfl rfl)
theorem dX0_book_10 : decode cX0_book 10 = .ok (.isub, 1) := dk_100 (dk_at dksX0_book_0 10 rfl rfl)
theorem dX0_book_11 : decode cX0_book 11 = .ok (.invokestatic 51, 3) := dk_184 0 51 (dk_at dksX0_book_0 11 rfl rfl)
theorem dX0_book_14 : decode cX0_book 14 = .ok (.ifCond .eq 26, 3) := dk_153 0 26 (dk_at dksX0_book_0 14 rfl rfl)
theorem dX0_book_17 : decode cX0_book 17 = .ok (.iload_n 2, 1) := dk_28 (dk_at dksX0_book_0 17 rfl rfl)
theorem dX0_book_18 : decode cX0_book 18 = .ok (.iconst 0, 1) := dk_3 (dk_at dksX0_book_0 18 rfl rfl)
theorem dX0_book_19 : decode cX0_book 19 = .ok (.iconst 4, 1) := dk_7 (dk_at dksX0_book_0 19 rfl rfl)
theorem dX0_book_20 : decode cX0_book 20 = .ok (.invokestatic 51, 3) := dk_184 0 51 (dk_at dksX0_book_0 20 rfl rfl)
theorem dX0_book_23 : decode cX0_book 23 = .ok (.ifCond .eq 17, 3) := dk_153 0 17 (dk_at dksX0_book_1 0 rfl rfl)
theorem dX0_book_26 : decode cX0_book 26 = .ok (.aload_n 0, 1) := dk_42 (dk_at dksX0_book_1 3 rfl rfl)
theorem dX0_book_27 : decode cX0_book 27 = .ok (.getfield 20, 3) := dk_180 0 20 (dk_at dksX0_book_1 4 rfl rfl)
theorem dX0_book_30 : decode cX0_book 30 = .ok (.getfield 227, 3) := dk_180 0 227 (dk_at dksX0_book_1 7 rfl rfl)
theorem dX0_book_33 : decode cX0_book 33 = .ok (.iload_n 1, 1) := dk_27 (dk_at dksX0_book_1 10 rfl rfl)
theorem dX0_book_34 : decode cX0_book 34 = .ok (.aaload, 1) := dk_50 (dk_at dksX0_book_1 11 rfl rfl)
theorem dX0_book_35 : decode cX0_book 35 = .ok (.iload_n 2, 1) := dk_28 (dk_at dksX0_book_1 12 rfl rfl)
theorem dX0_book_36 : decode cX0_book 36 = .ok (.iaload, 1) := dk_46 (dk_at dksX0_book_1 13 rfl rfl)
theorem dX0_book_37 : decode cX0_book 37 = .ok (.goto 4, 3) := dk_167 0 4 (dk_at dksX0_book_1 14 rfl rfl)
theorem dX0_book_40 : decode cX0_book 40 = .ok (.iconst (-1), 1) := dk_2 (dk_at dksX0_book_1 17 rfl rfl)
theorem dX0_book_41 : decode cX0_book 41 = .ok (.ireturn, 1) := dk_172 (dk_at dksX0_book_1 18 rfl rfl)
abbrev cX0_meets : ByteArray := prog_1_method_32_code
def yX0_meets : MethodName := ⟨RX0, "meets", "(I)I"⟩
def dkwX0_meets_8 : List UInt8 := [167, 0, 4, 29, 172]
abbrev dktX0_meets_8 : List UInt8 := dkwX0_meets_8 ++ []
def dkwX0_meets_7 : List UInt8 := [132, 5, 1, 167, 255, 158, 42, 180, 0, 27, 3, 182, 0, 179, 167, 255, 125, 27, 154, 0, 7, 28]
abbrev dktX0_meets_7 : List UInt8 := dkwX0_meets_7 ++ dktX0_meets_8
def dkwX0_meets_6 : List UInt8 := [167, 0, 4, 3, 96, 61, 21, 7, 154, 0, 8, 29, 2, 159, 0, 7, 29, 167, 0, 5, 21, 5, 62]
abbrev dktX0_meets_6 : List UInt8 := dkwX0_meets_6 ++ dktX0_meets_7
def dkwX0_meets_5 : List UInt8 := [25, 6, 42, 180, 0, 27, 182, 0, 248, 54, 7, 28, 21, 7, 153, 0, 11, 25, 6, 180, 0, 252]
abbrev dktX0_meets_5 : List UInt8 := dkwX0_meets_5 ++ dktX0_meets_6
def dkwX0_meets_4 : List UInt8 := [192, 0, 234, 58, 6, 25, 6, 180, 0, 236, 42, 180, 0, 27, 180, 0, 170, 159, 0, 6, 167, 0, 48]
abbrev dktX0_meets_4 : List UInt8 := dkwX0_meets_4 ++ dktX0_meets_5
def dkwX0_meets_3 : List UInt8 := [180, 0, 20, 180, 0, 81, 182, 0, 67, 162, 0, 89, 42, 180, 0, 20, 180, 0, 81, 21, 5, 182, 0, 230]
abbrev dktX0_meets_3 : List UInt8 := dkwX0_meets_3 ++ dktX0_meets_4
def dkwX0_meets_2 : List UInt8 := [180, 0, 27, 180, 0, 170, 21, 4, 163, 0, 125, 42, 180, 0, 27, 182, 0, 176, 3, 54, 5, 21, 5, 42]
abbrev dktX0_meets_2 : List UInt8 := dkwX0_meets_2 ++ dktX0_meets_3
def dkwX0_meets_1 : List UInt8 := [96, 42, 182, 0, 242, 184, 0, 245, 54, 4, 42, 180, 0, 27, 42, 180, 0, 20, 182, 0, 206, 42]
abbrev dktX0_meets_1 : List UInt8 := dkwX0_meets_1 ++ dktX0_meets_2
def dkwX0_meets_0 : List UInt8 := [27, 3, 4, 184, 0, 51, 154, 0, 5, 2, 172, 3, 61, 2, 62, 42, 180, 0, 20, 180, 0, 170, 16, 99]
abbrev dktX0_meets_0 : List UInt8 := dkwX0_meets_0 ++ dktX0_meets_1
theorem dksX0_meets_0 : cX0_meets.data.toList.drop 0 = dktX0_meets_0 := by decide +kernel
theorem dksX0_meets_1 : cX0_meets.data.toList.drop 24 = dktX0_meets_1 := dk_seg dksX0_meets_0 24 rfl rfl
theorem dksX0_meets_2 : cX0_meets.data.toList.drop 46 = dktX0_meets_2 := dk_seg dksX0_meets_1 22 rfl rfl
theorem dksX0_meets_3 : cX0_meets.data.toList.drop 70 = dktX0_meets_3 := dk_seg dksX0_meets_2 24 rfl rfl
theorem dksX0_meets_4 : cX0_meets.data.toList.drop 94 = dktX0_meets_4 := dk_seg dksX0_meets_3 24 rfl rfl
theorem dksX0_meets_5 : cX0_meets.data.toList.drop 117 = dktX0_meets_5 := dk_seg dksX0_meets_4 23 rfl rfl
theorem dksX0_meets_6 : cX0_meets.data.toList.drop 139 = dktX0_meets_6 := dk_seg dksX0_meets_5 22 rfl rfl
theorem dksX0_meets_7 : cX0_meets.data.toList.drop 162 = dktX0_meets_7 := dk_seg dksX0_meets_6 23 rfl rfl
theorem dksX0_meets_8 : cX0_meets.data.toList.drop 184 = dktX0_meets_8 := dk_seg dksX0_meets_7 22 rfl rfl
theorem dX0_meets_0 : decode cX0_meets 0 = .ok (.iload_n 1, 1) := dk_27 (dk_at dksX0_meets_0 0 rfl rfl)
theorem dX0_meets_1 : decode cX0_meets 1 = .ok (.iconst 0, 1) := dk_3 (dk_at dksX0_meets_0 1 rfl rfl)
theorem dX0_meets_2 : decode cX0_meets 2 = .ok (.iconst 1, 1) := dk_4 (dk_at dksX0_meets_0 2 rfl rfl)
theorem dX0_meets_3 : decode cX0_meets 3 = .ok (.invokestatic 51, 3) := dk_184 0 51 (dk_at dksX0_meets_0 3 rfl rfl)
theorem dX0_meets_6 : decode cX0_meets 6 = .ok (.ifCond .ne 5, 3) := dk_154 0 5 (dk_at dksX0_meets_0 6 rfl rfl)
theorem dX0_meets_9 : decode cX0_meets 9 = .ok (.iconst (-1), 1) := dk_2 (dk_at dksX0_meets_0 9 rfl rfl)
theorem dX0_meets_10 : decode cX0_meets 10 = .ok (.ireturn, 1) := dk_172 (dk_at dksX0_meets_0 10 rfl rfl)
theorem dX0_meets_11 : decode cX0_meets 11 = .ok (.iconst 0, 1) := dk_3 (dk_at dksX0_meets_0 11 rfl rfl)
theorem dX0_meets_12 : decode cX0_meets 12 = .ok (.istore_n 2, 1) := dk_61 (dk_at dksX0_meets_0 12 rfl rfl)
theorem dX0_meets_13 : decode cX0_meets 13 = .ok (.iconst (-1), 1) := dk_2 (dk_at dksX0_meets_0 13 rfl rfl)
theorem dX0_meets_14 : decode cX0_meets 14 = .ok (.istore_n 3, 1) := dk_62 (dk_at dksX0_meets_0 14 rfl rfl)
theorem dX0_meets_15 : decode cX0_meets 15 = .ok (.aload_n 0, 1) := dk_42 (dk_at dksX0_meets_0 15 rfl rfl)
theorem dX0_meets_16 : decode cX0_meets 16 = .ok (.getfield 20, 3) := dk_180 0 20 (dk_at dksX0_meets_0 16 rfl rfl)
theorem dX0_meets_19 : decode cX0_meets 19 = .ok (.getfield 170, 3) := dk_180 0 170 (dk_at dksX0_meets_0 19 rfl rfl)
theorem dX0_meets_22 : decode cX0_meets 22 = .ok (.bipush 99, 2) := dk_16 99 (dk_at dksX0_meets_0 22 rfl rfl)
theorem dX0_meets_24 : decode cX0_meets 24 = .ok (.iadd, 1) := dk_96 (dk_at dksX0_meets_1 0 rfl rfl)
theorem dX0_meets_25 : decode cX0_meets 25 = .ok (.aload_n 0, 1) := dk_42 (dk_at dksX0_meets_1 1 rfl rfl)
theorem dX0_meets_26 : decode cX0_meets 26 = .ok (.invokevirtual 242, 3) := dk_182 0 242 (dk_at dksX0_meets_1 2 rfl rfl)
theorem dX0_meets_29 : decode cX0_meets 29 = .ok (.invokestatic 245, 3) := dk_184 0 245 (dk_at dksX0_meets_1 5 rfl rfl)
theorem dX0_meets_32 : decode cX0_meets 32 = .ok (.istore 4, 2) := dk_54 4 (dk_at dksX0_meets_1 8 rfl rfl)
theorem dX0_meets_34 : decode cX0_meets 34 = .ok (.aload_n 0, 1) := dk_42 (dk_at dksX0_meets_1 10 rfl rfl)
theorem dX0_meets_35 : decode cX0_meets 35 = .ok (.getfield 27, 3) := dk_180 0 27 (dk_at dksX0_meets_1 11 rfl rfl)
theorem dX0_meets_38 : decode cX0_meets 38 = .ok (.aload_n 0, 1) := dk_42 (dk_at dksX0_meets_1 14 rfl rfl)
theorem dX0_meets_39 : decode cX0_meets 39 = .ok (.getfield 20, 3) := dk_180 0 20 (dk_at dksX0_meets_1 15 rfl rfl)
theorem dX0_meets_42 : decode cX0_meets 42 = .ok (.invokevirtual 206, 3) := dk_182 0 206 (dk_at dksX0_meets_1 18 rfl rfl)
theorem dX0_meets_45 : decode cX0_meets 45 = .ok (.aload_n 0, 1) := dk_42 (dk_at dksX0_meets_1 21 rfl rfl)
theorem dX0_meets_46 : decode cX0_meets 46 = .ok (.getfield 27, 3) := dk_180 0 27 (dk_at dksX0_meets_2 0 rfl rfl)
theorem dX0_meets_49 : decode cX0_meets 49 = .ok (.getfield 170, 3) := dk_180 0 170 (dk_at dksX0_meets_2 3 rfl rfl)
theorem dX0_meets_52 : decode cX0_meets 52 = .ok (.iload 4, 2) := dk_21 4 (dk_at dksX0_meets_2 6 rfl rfl)
theorem dX0_meets_54 : decode cX0_meets 54 = .ok (.if_icmp .gt 125, 3) := dk_163 0 125 (dk_at dksX0_meets_2 8 rfl rfl)
theorem dX0_meets_57 : decode cX0_meets 57 = .ok (.aload_n 0, 1) := dk_42 (dk_at dksX0_meets_2 11 rfl rfl)
theorem dX0_meets_58 : decode cX0_meets 58 = .ok (.getfield 27, 3) := dk_180 0 27 (dk_at dksX0_meets_2 12 rfl rfl)
theorem dX0_meets_61 : decode cX0_meets 61 = .ok (.invokevirtual 176, 3) := dk_182 0 176 (dk_at dksX0_meets_2 15 rfl rfl)
theorem dX0_meets_64 : decode cX0_meets 64 = .ok (.iconst 0, 1) := dk_3 (dk_at dksX0_meets_2 18 rfl rfl)
theorem dX0_meets_65 : decode cX0_meets 65 = .ok (.istore 5, 2) := dk_54 5 (dk_at dksX0_meets_2 19 rfl rfl)
theorem dX0_meets_67 : decode cX0_meets 67 = .ok (.iload 5, 2) := dk_21 5 (dk_at dksX0_meets_2 21 rfl rfl)
theorem dX0_meets_69 : decode cX0_meets 69 = .ok (.aload_n 0, 1) := dk_42 (dk_at dksX0_meets_2 23 rfl rfl)
theorem dX0_meets_70 : decode cX0_meets 70 = .ok (.getfield 20, 3) := dk_180 0 20 (dk_at dksX0_meets_3 0 rfl rfl)
theorem dX0_meets_73 : decode cX0_meets 73 = .ok (.getfield 81, 3) := dk_180 0 81 (dk_at dksX0_meets_3 3 rfl rfl)
theorem dX0_meets_76 : decode cX0_meets 76 = .ok (.invokevirtual 67, 3) := dk_182 0 67 (dk_at dksX0_meets_3 6 rfl rfl)
theorem dX0_meets_79 : decode cX0_meets 79 = .ok (.if_icmp .ge 89, 3) := dk_162 0 89 (dk_at dksX0_meets_3 9 rfl rfl)
theorem dX0_meets_82 : decode cX0_meets 82 = .ok (.aload_n 0, 1) := dk_42 (dk_at dksX0_meets_3 12 rfl rfl)
theorem dX0_meets_83 : decode cX0_meets 83 = .ok (.getfield 20, 3) := dk_180 0 20 (dk_at dksX0_meets_3 13 rfl rfl)
theorem dX0_meets_86 : decode cX0_meets 86 = .ok (.getfield 81, 3) := dk_180 0 81 (dk_at dksX0_meets_3 16 rfl rfl)
theorem dX0_meets_89 : decode cX0_meets 89 = .ok (.iload 5, 2) := dk_21 5 (dk_at dksX0_meets_3 19 rfl rfl)
theorem dX0_meets_91 : decode cX0_meets 91 = .ok (.invokevirtual 230, 3) := dk_182 0 230 (dk_at dksX0_meets_3 21 rfl rfl)
theorem dX0_meets_94 : decode cX0_meets 94 = .ok (.checkcast 234, 3) := dk_192 0 234 (dk_at dksX0_meets_4 0 rfl rfl)
theorem dX0_meets_97 : decode cX0_meets 97 = .ok (.astore 6, 2) := dk_58 6 (dk_at dksX0_meets_4 3 rfl rfl)
theorem dX0_meets_99 : decode cX0_meets 99 = .ok (.aload 6, 2) := dk_25 6 (dk_at dksX0_meets_4 5 rfl rfl)
theorem dX0_meets_101 : decode cX0_meets 101 = .ok (.getfield 236, 3) := dk_180 0 236 (dk_at dksX0_meets_4 7 rfl rfl)
theorem dX0_meets_104 : decode cX0_meets 104 = .ok (.aload_n 0, 1) := dk_42 (dk_at dksX0_meets_4 10 rfl rfl)
theorem dX0_meets_105 : decode cX0_meets 105 = .ok (.getfield 27, 3) := dk_180 0 27 (dk_at dksX0_meets_4 11 rfl rfl)
theorem dX0_meets_108 : decode cX0_meets 108 = .ok (.getfield 170, 3) := dk_180 0 170 (dk_at dksX0_meets_4 14 rfl rfl)
theorem dX0_meets_111 : decode cX0_meets 111 = .ok (.if_icmp .eq 6, 3) := dk_159 0 6 (dk_at dksX0_meets_4 17 rfl rfl)
theorem dX0_meets_114 : decode cX0_meets 114 = .ok (.goto 48, 3) := dk_167 0 48 (dk_at dksX0_meets_4 20 rfl rfl)
theorem dX0_meets_117 : decode cX0_meets 117 = .ok (.aload 6, 2) := dk_25 6 (dk_at dksX0_meets_5 0 rfl rfl)
theorem dX0_meets_119 : decode cX0_meets 119 = .ok (.aload_n 0, 1) := dk_42 (dk_at dksX0_meets_5 2 rfl rfl)
theorem dX0_meets_120 : decode cX0_meets 120 = .ok (.getfield 27, 3) := dk_180 0 27 (dk_at dksX0_meets_5 3 rfl rfl)
theorem dX0_meets_123 : decode cX0_meets 123 = .ok (.invokevirtual 248, 3) := dk_182 0 248 (dk_at dksX0_meets_5 6 rfl rfl)
theorem dX0_meets_126 : decode cX0_meets 126 = .ok (.istore 7, 2) := dk_54 7 (dk_at dksX0_meets_5 9 rfl rfl)
theorem dX0_meets_128 : decode cX0_meets 128 = .ok (.iload_n 2, 1) := dk_28 (dk_at dksX0_meets_5 11 rfl rfl)
theorem dX0_meets_129 : decode cX0_meets 129 = .ok (.iload 7, 2) := dk_21 7 (dk_at dksX0_meets_5 12 rfl rfl)
theorem dX0_meets_131 : decode cX0_meets 131 = .ok (.ifCond .eq 11, 3) := dk_153 0 11 (dk_at dksX0_meets_5 14 rfl rfl)
theorem dX0_meets_134 : decode cX0_meets 134 = .ok (.aload 6, 2) := dk_25 6 (dk_at dksX0_meets_5 17 rfl rfl)
theorem dX0_meets_136 : decode cX0_meets 136 = .ok (.getfield 252, 3) := dk_180 0 252 (dk_at dksX0_meets_5 19 rfl rfl)
theorem dX0_meets_139 : decode cX0_meets 139 = .ok (.goto 4, 3) := dk_167 0 4 (dk_at dksX0_meets_6 0 rfl rfl)
theorem dX0_meets_142 : decode cX0_meets 142 = .ok (.iconst 0, 1) := dk_3 (dk_at dksX0_meets_6 3 rfl rfl)
theorem dX0_meets_143 : decode cX0_meets 143 = .ok (.iadd, 1) := dk_96 (dk_at dksX0_meets_6 4 rfl rfl)
theorem dX0_meets_144 : decode cX0_meets 144 = .ok (.istore_n 2, 1) := dk_61 (dk_at dksX0_meets_6 5 rfl rfl)
theorem dX0_meets_145 : decode cX0_meets 145 = .ok (.iload 7, 2) := dk_21 7 (dk_at dksX0_meets_6 6 rfl rfl)
theorem dX0_meets_147 : decode cX0_meets 147 = .ok (.ifCond .ne 8, 3) := dk_154 0 8 (dk_at dksX0_meets_6 8 rfl rfl)
theorem dX0_meets_150 : decode cX0_meets 150 = .ok (.iload_n 3, 1) := dk_29 (dk_at dksX0_meets_6 11 rfl rfl)
theorem dX0_meets_151 : decode cX0_meets 151 = .ok (.iconst (-1), 1) := dk_2 (dk_at dksX0_meets_6 12 rfl rfl)
theorem dX0_meets_152 : decode cX0_meets 152 = .ok (.if_icmp .eq 7, 3) := dk_159 0 7 (dk_at dksX0_meets_6 13 rfl rfl)
theorem dX0_meets_155 : decode cX0_meets 155 = .ok (.iload_n 3, 1) := dk_29 (dk_at dksX0_meets_6 16 rfl rfl)
theorem dX0_meets_156 : decode cX0_meets 156 = .ok (.goto 5, 3) := dk_167 0 5 (dk_at dksX0_meets_6 17 rfl rfl)
theorem dX0_meets_159 : decode cX0_meets 159 = .ok (.iload 5, 2) := dk_21 5 (dk_at dksX0_meets_6 20 rfl rfl)
theorem dX0_meets_161 : decode cX0_meets 161 = .ok (.istore_n 3, 1) := dk_62 (dk_at dksX0_meets_6 22 rfl rfl)
theorem dX0_meets_162 : decode cX0_meets 162 = .ok (.iinc 5 1, 3) := dk_132 5 1 (dk_at dksX0_meets_7 0 rfl rfl)
theorem dX0_meets_165 : decode cX0_meets 165 = .ok (.goto (-98), 3) := dk_167 255 158 (dk_at dksX0_meets_7 3 rfl rfl)
theorem dX0_meets_168 : decode cX0_meets 168 = .ok (.aload_n 0, 1) := dk_42 (dk_at dksX0_meets_7 6 rfl rfl)
theorem dX0_meets_169 : decode cX0_meets 169 = .ok (.getfield 27, 3) := dk_180 0 27 (dk_at dksX0_meets_7 7 rfl rfl)
theorem dX0_meets_172 : decode cX0_meets 172 = .ok (.iconst 0, 1) := dk_3 (dk_at dksX0_meets_7 10 rfl rfl)
theorem dX0_meets_173 : decode cX0_meets 173 = .ok (.invokevirtual 179, 3) := dk_182 0 179 (dk_at dksX0_meets_7 11 rfl rfl)
theorem dX0_meets_176 : decode cX0_meets 176 = .ok (.goto (-131), 3) := dk_167 255 125 (dk_at dksX0_meets_7 14 rfl rfl)
theorem dX0_meets_179 : decode cX0_meets 179 = .ok (.iload_n 1, 1) := dk_27 (dk_at dksX0_meets_7 17 rfl rfl)
theorem dX0_meets_180 : decode cX0_meets 180 = .ok (.ifCond .ne 7, 3) := dk_154 0 7 (dk_at dksX0_meets_7 18 rfl rfl)
theorem dX0_meets_183 : decode cX0_meets 183 = .ok (.iload_n 2, 1) := dk_28 (dk_at dksX0_meets_7 21 rfl rfl)
theorem dX0_meets_184 : decode cX0_meets 184 = .ok (.goto 4, 3) := dk_167 0 4 (dk_at dksX0_meets_8 0 rfl rfl)
theorem dX0_meets_187 : decode cX0_meets 187 = .ok (.iload_n 3, 1) := dk_29 (dk_at dksX0_meets_8 3 rfl rfl)
theorem dX0_meets_188 : decode cX0_meets 188 = .ok (.ireturn, 1) := dk_172 (dk_at dksX0_meets_8 4 rfl rfl)
abbrev cX0_lastWanted : ByteArray := prog_1_method_31_code
def yX0_lastWanted : MethodName := ⟨RX0, "lastWanted", "()I"⟩
def dkwX0_lastWanted_2 : List UInt8 := [172]
abbrev dktX0_lastWanted_2 : List UInt8 := dkwX0_lastWanted_2 ++ []
def dkwX0_lastWanted_1 : List UInt8 := [180, 0, 81, 28, 182, 0, 230, 192, 0, 234, 180, 0, 236, 184, 0, 237, 60, 132, 2, 1, 167, 255, 217, 27]
abbrev dktX0_lastWanted_1 : List UInt8 := dkwX0_lastWanted_1 ++ dktX0_lastWanted_2
def dkwX0_lastWanted_0 : List UInt8 := [2, 60, 3, 61, 28, 42, 180, 0, 20, 180, 0, 81, 182, 0, 67, 162, 0, 31, 27, 42, 180, 0, 20]
abbrev dktX0_lastWanted_0 : List UInt8 := dkwX0_lastWanted_0 ++ dktX0_lastWanted_1
theorem dksX0_lastWanted_0 : cX0_lastWanted.data.toList.drop 0 = dktX0_lastWanted_0 := by decide +kernel
theorem dksX0_lastWanted_1 : cX0_lastWanted.data.toList.drop 23 = dktX0_lastWanted_1 := dk_seg dksX0_lastWanted_0 23 rfl rfl
theorem dksX0_lastWanted_2 : cX0_lastWanted.data.toList.drop 47 = dktX0_lastWanted_2 := dk_seg dksX0_lastWanted_1 24 rfl rfl
theorem dX0_lastWanted_0 : decode cX0_lastWanted 0 = .ok (.iconst (-1), 1) := dk_2 (dk_at dksX0_lastWanted_0 0 rfl rfl)
theorem dX0_lastWanted_1 : decode cX0_lastWanted 1 = .ok (.istore_n 1, 1) := dk_60 (dk_at dksX0_lastWanted_0 1 rfl rfl)
theorem dX0_lastWanted_2 : decode cX0_lastWanted 2 = .ok (.iconst 0, 1) := dk_3 (dk_at dksX0_lastWanted_0 2 rfl rfl)
theorem dX0_lastWanted_3 : decode cX0_lastWanted 3 = .ok (.istore_n 2, 1) := dk_61 (dk_at dksX0_lastWanted_0 3 rfl rfl)
theorem dX0_lastWanted_4 : decode cX0_lastWanted 4 = .ok (.iload_n 2, 1) := dk_28 (dk_at dksX0_lastWanted_0 4 rfl rfl)
theorem dX0_lastWanted_5 : decode cX0_lastWanted 5 = .ok (.aload_n 0, 1) := dk_42 (dk_at dksX0_lastWanted_0 5 rfl rfl)
theorem dX0_lastWanted_6 : decode cX0_lastWanted 6 = .ok (.getfield 20, 3) := dk_180 0 20 (dk_at dksX0_lastWanted_0 6 rfl rfl)
theorem dX0_lastWanted_9 : decode cX0_lastWanted 9 = .ok (.getfield 81, 3) := dk_180 0 81 (dk_at dksX0_lastWanted_0 9 rfl rfl)
theorem dX0_lastWanted_12 : decode cX0_lastWanted 12 = .ok (.invokevirtual 67, 3) := dk_182 0 67 (dk_at dksX0_lastWanted_0 12 rfl rfl)
theorem dX0_lastWanted_15 : decode cX0_lastWanted 15 = .ok (.if_icmp .ge 31, 3) := dk_162 0 31 (dk_at dksX0_lastWanted_0 15 rfl rfl)
theorem dX0_lastWanted_18 : decode cX0_lastWanted 18 = .ok (.iload_n 1, 1) := dk_27 (dk_at dksX0_lastWanted_0 18 rfl rfl)
theorem dX0_lastWanted_19 : decode cX0_lastWanted 19 = .ok (.aload_n 0, 1) := dk_42 (dk_at dksX0_lastWanted_0 19 rfl rfl)
theorem dX0_lastWanted_20 : decode cX0_lastWanted 20 = .ok (.getfield 20, 3) := dk_180 0 20 (dk_at dksX0_lastWanted_0 20 rfl rfl)
theorem dX0_lastWanted_23 : decode cX0_lastWanted 23 = .ok (.getfield 81, 3) := dk_180 0 81 (dk_at dksX0_lastWanted_1 0 rfl rfl)
theorem dX0_lastWanted_26 : decode cX0_lastWanted 26 = .ok (.iload_n 2, 1) := dk_28 (dk_at dksX0_lastWanted_1 3 rfl rfl)
theorem dX0_lastWanted_27 : decode cX0_lastWanted 27 = .ok (.invokevirtual 230, 3) := dk_182 0 230 (dk_at dksX0_lastWanted_1 4 rfl rfl)
theorem dX0_lastWanted_30 : decode cX0_lastWanted 30 = .ok (.checkcast 234, 3) := dk_192 0 234 (dk_at dksX0_lastWanted_1 7 rfl rfl)
theorem dX0_lastWanted_33 : decode cX0_lastWanted 33 = .ok (.getfield 236, 3) := dk_180 0 236 (dk_at dksX0_lastWanted_1 10 rfl rfl)
theorem dX0_lastWanted_36 : decode cX0_lastWanted 36 = .ok (.invokestatic 237, 3) := dk_184 0 237 (dk_at dksX0_lastWanted_1 13 rfl rfl)
theorem dX0_lastWanted_39 : decode cX0_lastWanted 39 = .ok (.istore_n 1, 1) := dk_60 (dk_at dksX0_lastWanted_1 16 rfl rfl)
theorem dX0_lastWanted_40 : decode cX0_lastWanted 40 = .ok (.iinc 2 1, 3) := dk_132 2 1 (dk_at dksX0_lastWanted_1 17 rfl rfl)
theorem dX0_lastWanted_43 : decode cX0_lastWanted 43 = .ok (.goto (-39), 3) := dk_167 255 217 (dk_at dksX0_lastWanted_1 20 rfl rfl)
theorem dX0_lastWanted_46 : decode cX0_lastWanted 46 = .ok (.iload_n 1, 1) := dk_27 (dk_at dksX0_lastWanted_1 23 rfl rfl)
theorem dX0_lastWanted_47 : decode cX0_lastWanted 47 = .ok (.ireturn, 1) := dk_172 (dk_at dksX0_lastWanted_2 0 rfl rfl)
abbrev cX0_calls : ByteArray := prog_1_method_35_code
def yX0_calls : MethodName := ⟨RX0, "calls", "(II)I"⟩
def dkwX0_calls_8 : List UInt8 := [184, 1, 12, 172]
abbrev dktX0_calls_8 : List UInt8 := dkwX0_calls_8 ++ []
def dkwX0_calls_7 : List UInt8 := [132, 7, 1, 167, 255, 202, 21, 6, 2, 159, 0, 8, 28, 4, 160, 0, 8, 21, 6, 167, 0, 8, 21, 6]
abbrev dktX0_calls_7 : List UInt8 := dkwX0_calls_7 ++ dktX0_calls_8
def dkwX0_calls_6 : List UInt8 := [21, 6, 2, 159, 0, 16, 21, 7, 184, 1, 12, 21, 6, 184, 1, 12, 162, 0, 7, 21, 7, 54, 6]
abbrev dktX0_calls_6 : List UInt8 := dkwX0_calls_6 ++ dktX0_calls_7
def dkwX0_calls_5 : List UInt8 := [163, 0, 53, 21, 7, 21, 4, 2, 130, 126, 154, 0, 37, 42, 21, 7, 182, 1, 9, 21, 5, 161, 0, 26]
abbrev dktX0_calls_5 : List UInt8 := dkwX0_calls_5 ++ dktX0_calls_6
def dkwX0_calls_4 : List UInt8 := [182, 1, 1, 50, 45, 182, 0, 255, 46, 100, 54, 5, 2, 54, 6, 3, 54, 7, 21, 7, 21, 4]
abbrev dktX0_calls_4 : List UInt8 := dkwX0_calls_4 ++ dktX0_calls_5
def dkwX0_calls_3 : List UInt8 := [182, 1, 1, 45, 182, 0, 255, 182, 1, 3, 54, 4, 45, 182, 1, 6, 42, 180, 0, 20, 180, 0, 130, 45]
abbrev dktX0_calls_3 : List UInt8 := dkwX0_calls_3 ++ dktX0_calls_4
def dkwX0_calls_2 : List UInt8 := [160, 0, 5, 2, 172, 42, 180, 0, 20, 180, 0, 81, 27, 182, 0, 230, 192, 0, 234, 78, 42, 45]
abbrev dktX0_calls_2 : List UInt8 := dkwX0_calls_2 ++ dktX0_calls_3
def dkwX0_calls_1 : List UInt8 := [184, 0, 51, 153, 0, 24, 42, 180, 0, 20, 180, 0, 81, 27, 182, 0, 230, 192, 0, 234, 182, 0, 255, 2]
abbrev dktX0_calls_1 : List UInt8 := dkwX0_calls_1 ++ dktX0_calls_2
def dkwX0_calls_0 : List UInt8 := [27, 3, 42, 180, 0, 20, 180, 0, 81, 182, 0, 67, 4, 100, 184, 0, 51, 153, 0, 33, 28, 3, 4]
abbrev dktX0_calls_0 : List UInt8 := dkwX0_calls_0 ++ dktX0_calls_1
theorem dksX0_calls_0 : cX0_calls.data.toList.drop 0 = dktX0_calls_0 := by decide +kernel
theorem dksX0_calls_1 : cX0_calls.data.toList.drop 23 = dktX0_calls_1 := dk_seg dksX0_calls_0 23 rfl rfl
theorem dksX0_calls_2 : cX0_calls.data.toList.drop 47 = dktX0_calls_2 := dk_seg dksX0_calls_1 24 rfl rfl
theorem dksX0_calls_3 : cX0_calls.data.toList.drop 69 = dktX0_calls_3 := dk_seg dksX0_calls_2 22 rfl rfl
theorem dksX0_calls_4 : cX0_calls.data.toList.drop 93 = dktX0_calls_4 := dk_seg dksX0_calls_3 24 rfl rfl
theorem dksX0_calls_5 : cX0_calls.data.toList.drop 115 = dktX0_calls_5 := dk_seg dksX0_calls_4 22 rfl rfl
theorem dksX0_calls_6 : cX0_calls.data.toList.drop 139 = dktX0_calls_6 := dk_seg dksX0_calls_5 24 rfl rfl
theorem dksX0_calls_7 : cX0_calls.data.toList.drop 162 = dktX0_calls_7 := dk_seg dksX0_calls_6 23 rfl rfl
theorem dksX0_calls_8 : cX0_calls.data.toList.drop 186 = dktX0_calls_8 := dk_seg dksX0_calls_7 24 rfl rfl
theorem dX0_calls_0 : decode cX0_calls 0 = .ok (.iload_n 1, 1) := dk_27 (dk_at dksX0_calls_0 0 rfl rfl)
theorem dX0_calls_1 : decode cX0_calls 1 = .ok (.iconst 0, 1) := dk_3 (dk_at dksX0_calls_0 1 rfl rfl)
theorem dX0_calls_2 : decode cX0_calls 2 = .ok (.aload_n 0, 1) := dk_42 (dk_at dksX0_calls_0 2 rfl rfl)
theorem dX0_calls_3 : decode cX0_calls 3 = .ok (.getfield 20, 3) := dk_180 0 20 (dk_at dksX0_calls_0 3 rfl rfl)
theorem dX0_calls_6 : decode cX0_calls 6 = .ok (.getfield 81, 3) := dk_180 0 81 (dk_at dksX0_calls_0 6 rfl rfl)
theorem dX0_calls_9 : decode cX0_calls 9 = .ok (.invokevirtual 67, 3) := dk_182 0 67 (dk_at dksX0_calls_0 9 rfl rfl)
theorem dX0_calls_12 : decode cX0_calls 12 = .ok (.iconst 1, 1) := dk_4 (dk_at dksX0_calls_0 12 rfl rfl)
theorem dX0_calls_13 : decode cX0_calls 13 = .ok (.isub, 1) := dk_100 (dk_at dksX0_calls_0 13 rfl rfl)
theorem dX0_calls_14 : decode cX0_calls 14 = .ok (.invokestatic 51, 3) := dk_184 0 51 (dk_at dksX0_calls_0 14 rfl rfl)
theorem dX0_calls_17 : decode cX0_calls 17 = .ok (.ifCond .eq 33, 3) := dk_153 0 33 (dk_at dksX0_calls_0 17 rfl rfl)
theorem dX0_calls_20 : decode cX0_calls 20 = .ok (.iload_n 2, 1) := dk_28 (dk_at dksX0_calls_0 20 rfl rfl)
theorem dX0_calls_21 : decode cX0_calls 21 = .ok (.iconst 0, 1) := dk_3 (dk_at dksX0_calls_0 21 rfl rfl)
theorem dX0_calls_22 : decode cX0_calls 22 = .ok (.iconst 1, 1) := dk_4 (dk_at dksX0_calls_0 22 rfl rfl)
theorem dX0_calls_23 : decode cX0_calls 23 = .ok (.invokestatic 51, 3) := dk_184 0 51 (dk_at dksX0_calls_1 0 rfl rfl)
theorem dX0_calls_26 : decode cX0_calls 26 = .ok (.ifCond .eq 24, 3) := dk_153 0 24 (dk_at dksX0_calls_1 3 rfl rfl)
theorem dX0_calls_29 : decode cX0_calls 29 = .ok (.aload_n 0, 1) := dk_42 (dk_at dksX0_calls_1 6 rfl rfl)
theorem dX0_calls_30 : decode cX0_calls 30 = .ok (.getfield 20, 3) := dk_180 0 20 (dk_at dksX0_calls_1 7 rfl rfl)
theorem dX0_calls_33 : decode cX0_calls 33 = .ok (.getfield 81, 3) := dk_180 0 81 (dk_at dksX0_calls_1 10 rfl rfl)
theorem dX0_calls_36 : decode cX0_calls 36 = .ok (.iload_n 1, 1) := dk_27 (dk_at dksX0_calls_1 13 rfl rfl)
theorem dX0_calls_37 : decode cX0_calls 37 = .ok (.invokevirtual 230, 3) := dk_182 0 230 (dk_at dksX0_calls_1 14 rfl rfl)
theorem dX0_calls_40 : decode cX0_calls 40 = .ok (.checkcast 234, 3) := dk_192 0 234 (dk_at dksX0_calls_1 17 rfl rfl)
theorem dX0_calls_43 : decode cX0_calls 43 = .ok (.invokevirtual 255, 3) := dk_182 0 255 (dk_at dksX0_calls_1 20 rfl rfl)
theorem dX0_calls_46 : decode cX0_calls 46 = .ok (.iconst (-1), 1) := dk_2 (dk_at dksX0_calls_1 23 rfl rfl)
theorem dX0_calls_47 : decode cX0_calls 47 = .ok (.if_icmp .ne 5, 3) := dk_160 0 5 (dk_at dksX0_calls_2 0 rfl rfl)
theorem dX0_calls_50 : decode cX0_calls 50 = .ok (.iconst (-1), 1) := dk_2 (dk_at dksX0_calls_2 3 rfl rfl)
theorem dX0_calls_51 : decode cX0_calls 51 = .ok (.ireturn, 1) := dk_172 (dk_at dksX0_calls_2 4 rfl rfl)
theorem dX0_calls_52 : decode cX0_calls 52 = .ok (.aload_n 0, 1) := dk_42 (dk_at dksX0_calls_2 5 rfl rfl)
theorem dX0_calls_53 : decode cX0_calls 53 = .ok (.getfield 20, 3) := dk_180 0 20 (dk_at dksX0_calls_2 6 rfl rfl)
theorem dX0_calls_56 : decode cX0_calls 56 = .ok (.getfield 81, 3) := dk_180 0 81 (dk_at dksX0_calls_2 9 rfl rfl)
theorem dX0_calls_59 : decode cX0_calls 59 = .ok (.iload_n 1, 1) := dk_27 (dk_at dksX0_calls_2 12 rfl rfl)
theorem dX0_calls_60 : decode cX0_calls 60 = .ok (.invokevirtual 230, 3) := dk_182 0 230 (dk_at dksX0_calls_2 13 rfl rfl)
theorem dX0_calls_63 : decode cX0_calls 63 = .ok (.checkcast 234, 3) := dk_192 0 234 (dk_at dksX0_calls_2 16 rfl rfl)
theorem dX0_calls_66 : decode cX0_calls 66 = .ok (.astore_n 3, 1) := dk_78 (dk_at dksX0_calls_2 19 rfl rfl)
theorem dX0_calls_67 : decode cX0_calls 67 = .ok (.aload_n 0, 1) := dk_42 (dk_at dksX0_calls_2 20 rfl rfl)
theorem dX0_calls_68 : decode cX0_calls 68 = .ok (.aload_n 3, 1) := dk_45 (dk_at dksX0_calls_2 21 rfl rfl)
theorem dX0_calls_69 : decode cX0_calls 69 = .ok (.invokevirtual 257, 3) := dk_182 1 1 (dk_at dksX0_calls_3 0 rfl rfl)
theorem dX0_calls_72 : decode cX0_calls 72 = .ok (.aload_n 3, 1) := dk_45 (dk_at dksX0_calls_3 3 rfl rfl)
theorem dX0_calls_73 : decode cX0_calls 73 = .ok (.invokevirtual 255, 3) := dk_182 0 255 (dk_at dksX0_calls_3 4 rfl rfl)
theorem dX0_calls_76 : decode cX0_calls 76 = .ok (.invokevirtual 259, 3) := dk_182 1 3 (dk_at dksX0_calls_3 7 rfl rfl)
theorem dX0_calls_79 : decode cX0_calls 79 = .ok (.istore 4, 2) := dk_54 4 (dk_at dksX0_calls_3 10 rfl rfl)
theorem dX0_calls_81 : decode cX0_calls 81 = .ok (.aload_n 3, 1) := dk_45 (dk_at dksX0_calls_3 12 rfl rfl)
theorem dX0_calls_82 : decode cX0_calls 82 = .ok (.invokevirtual 262, 3) := dk_182 1 6 (dk_at dksX0_calls_3 13 rfl rfl)
theorem dX0_calls_85 : decode cX0_calls 85 = .ok (.aload_n 0, 1) := dk_42 (dk_at dksX0_calls_3 16 rfl rfl)
theorem dX0_calls_86 : decode cX0_calls 86 = .ok (.getfield 20, 3) := dk_180 0 20 (dk_at dksX0_calls_3 17 rfl rfl)
theorem dX0_calls_89 : decode cX0_calls 89 = .ok (.getfield 130, 3) := dk_180 0 130 (dk_at dksX0_calls_3 20 rfl rfl)
theorem dX0_calls_92 : decode cX0_calls 92 = .ok (.aload_n 3, 1) := dk_45 (dk_at dksX0_calls_3 23 rfl rfl)
theorem dX0_calls_93 : decode cX0_calls 93 = .ok (.invokevirtual 257, 3) := dk_182 1 1 (dk_at dksX0_calls_4 0 rfl rfl)
theorem dX0_calls_96 : decode cX0_calls 96 = .ok (.aaload, 1) := dk_50 (dk_at dksX0_calls_4 3 rfl rfl)
theorem dX0_calls_97 : decode cX0_calls 97 = .ok (.aload_n 3, 1) := dk_45 (dk_at dksX0_calls_4 4 rfl rfl)
theorem dX0_calls_98 : decode cX0_calls 98 = .ok (.invokevirtual 255, 3) := dk_182 0 255 (dk_at dksX0_calls_4 5 rfl rfl)
theorem dX0_calls_101 : decode cX0_calls 101 = .ok (.iaload, 1) := dk_46 (dk_at dksX0_calls_4 8 rfl rfl)
theorem dX0_calls_102 : decode cX0_calls 102 = .ok (.isub, 1) := dk_100 (dk_at dksX0_calls_4 9 rfl rfl)
theorem dX0_calls_103 : decode cX0_calls 103 = .ok (.istore 5, 2) := dk_54 5 (dk_at dksX0_calls_4 10 rfl rfl)
theorem dX0_calls_105 : decode cX0_calls 105 = .ok (.iconst (-1), 1) := dk_2 (dk_at dksX0_calls_4 12 rfl rfl)
theorem dX0_calls_106 : decode cX0_calls 106 = .ok (.istore 6, 2) := dk_54 6 (dk_at dksX0_calls_4 13 rfl rfl)
theorem dX0_calls_108 : decode cX0_calls 108 = .ok (.iconst 0, 1) := dk_3 (dk_at dksX0_calls_4 15 rfl rfl)
theorem dX0_calls_109 : decode cX0_calls 109 = .ok (.istore 7, 2) := dk_54 7 (dk_at dksX0_calls_4 16 rfl rfl)
theorem dX0_calls_111 : decode cX0_calls 111 = .ok (.iload 7, 2) := dk_21 7 (dk_at dksX0_calls_4 18 rfl rfl)
theorem dX0_calls_113 : decode cX0_calls 113 = .ok (.iload 4, 2) := dk_21 4 (dk_at dksX0_calls_4 20 rfl rfl)
theorem dX0_calls_115 : decode cX0_calls 115 = .ok (.if_icmp .gt 53, 3) := dk_163 0 53 (dk_at dksX0_calls_5 0 rfl rfl)
theorem dX0_calls_118 : decode cX0_calls 118 = .ok (.iload 7, 2) := dk_21 7 (dk_at dksX0_calls_5 3 rfl rfl)
theorem dX0_calls_120 : decode cX0_calls 120 = .ok (.iload 4, 2) := dk_21 4 (dk_at dksX0_calls_5 5 rfl rfl)
theorem dX0_calls_122 : decode cX0_calls 122 = .ok (.iconst (-1), 1) := dk_2 (dk_at dksX0_calls_5 7 rfl rfl)
theorem dX0_calls_123 : decode cX0_calls 123 = .ok (.ixor, 1) := dk_130 (dk_at dksX0_calls_5 8 rfl rfl)
theorem dX0_calls_124 : decode cX0_calls 124 = .ok (.iand, 1) := dk_126 (dk_at dksX0_calls_5 9 rfl rfl)
theorem dX0_calls_125 : decode cX0_calls 125 = .ok (.ifCond .ne 37, 3) := dk_154 0 37 (dk_at dksX0_calls_5 10 rfl rfl)
theorem dX0_calls_128 : decode cX0_calls 128 = .ok (.aload_n 0, 1) := dk_42 (dk_at dksX0_calls_5 13 rfl rfl)
theorem dX0_calls_129 : decode cX0_calls 129 = .ok (.iload 7, 2) := dk_21 7 (dk_at dksX0_calls_5 14 rfl rfl)
theorem dX0_calls_131 : decode cX0_calls 131 = .ok (.invokevirtual 265, 3) := dk_182 1 9 (dk_at dksX0_calls_5 16 rfl rfl)
theorem dX0_calls_134 : decode cX0_calls 134 = .ok (.iload 5, 2) := dk_21 5 (dk_at dksX0_calls_5 19 rfl rfl)
theorem dX0_calls_136 : decode cX0_calls 136 = .ok (.if_icmp .lt 26, 3) := dk_161 0 26 (dk_at dksX0_calls_5 21 rfl rfl)
theorem dX0_calls_139 : decode cX0_calls 139 = .ok (.iload 6, 2) := dk_21 6 (dk_at dksX0_calls_6 0 rfl rfl)
theorem dX0_calls_141 : decode cX0_calls 141 = .ok (.iconst (-1), 1) := dk_2 (dk_at dksX0_calls_6 2 rfl rfl)
theorem dX0_calls_142 : decode cX0_calls 142 = .ok (.if_icmp .eq 16, 3) := dk_159 0 16 (dk_at dksX0_calls_6 3 rfl rfl)
theorem dX0_calls_145 : decode cX0_calls 145 = .ok (.iload 7, 2) := dk_21 7 (dk_at dksX0_calls_6 6 rfl rfl)
theorem dX0_calls_147 : decode cX0_calls 147 = .ok (.invokestatic 268, 3) := dk_184 1 12 (dk_at dksX0_calls_6 8 rfl rfl)
theorem dX0_calls_150 : decode cX0_calls 150 = .ok (.iload 6, 2) := dk_21 6 (dk_at dksX0_calls_6 11 rfl rfl)
theorem dX0_calls_152 : decode cX0_calls 152 = .ok (.invokestatic 268, 3) := dk_184 1 12 (dk_at dksX0_calls_6 13 rfl rfl)
theorem dX0_calls_155 : decode cX0_calls 155 = .ok (.if_icmp .ge 7, 3) := dk_162 0 7 (dk_at dksX0_calls_6 16 rfl rfl)
theorem dX0_calls_158 : decode cX0_calls 158 = .ok (.iload 7, 2) := dk_21 7 (dk_at dksX0_calls_6 19 rfl rfl)
theorem dX0_calls_160 : decode cX0_calls 160 = .ok (.istore 6, 2) := dk_54 6 (dk_at dksX0_calls_6 21 rfl rfl)
theorem dX0_calls_162 : decode cX0_calls 162 = .ok (.iinc 7 1, 3) := dk_132 7 1 (dk_at dksX0_calls_7 0 rfl rfl)
theorem dX0_calls_165 : decode cX0_calls 165 = .ok (.goto (-54), 3) := dk_167 255 202 (dk_at dksX0_calls_7 3 rfl rfl)
theorem dX0_calls_168 : decode cX0_calls 168 = .ok (.iload 6, 2) := dk_21 6 (dk_at dksX0_calls_7 6 rfl rfl)
theorem dX0_calls_170 : decode cX0_calls 170 = .ok (.iconst (-1), 1) := dk_2 (dk_at dksX0_calls_7 8 rfl rfl)
theorem dX0_calls_171 : decode cX0_calls 171 = .ok (.if_icmp .eq 8, 3) := dk_159 0 8 (dk_at dksX0_calls_7 9 rfl rfl)
theorem dX0_calls_174 : decode cX0_calls 174 = .ok (.iload_n 2, 1) := dk_28 (dk_at dksX0_calls_7 12 rfl rfl)
theorem dX0_calls_175 : decode cX0_calls 175 = .ok (.iconst 1, 1) := dk_4 (dk_at dksX0_calls_7 13 rfl rfl)
theorem dX0_calls_176 : decode cX0_calls 176 = .ok (.if_icmp .ne 8, 3) := dk_160 0 8 (dk_at dksX0_calls_7 14 rfl rfl)
theorem dX0_calls_179 : decode cX0_calls 179 = .ok (.iload 6, 2) := dk_21 6 (dk_at dksX0_calls_7 17 rfl rfl)
theorem dX0_calls_181 : decode cX0_calls 181 = .ok (.goto 8, 3) := dk_167 0 8 (dk_at dksX0_calls_7 19 rfl rfl)
theorem dX0_calls_184 : decode cX0_calls 184 = .ok (.iload 6, 2) := dk_21 6 (dk_at dksX0_calls_7 22 rfl rfl)
theorem dX0_calls_186 : decode cX0_calls 186 = .ok (.invokestatic 268, 3) := dk_184 1 12 (dk_at dksX0_calls_8 0 rfl rfl)
theorem dX0_calls_189 : decode cX0_calls 189 = .ok (.ireturn, 1) := dk_172 (dk_at dksX0_calls_8 3 rfl rfl)
abbrev cX0_laysAdds : ByteArray := prog_1_method_33_code
def yX0_laysAdds : MethodName := ⟨RX0, "laysAdds", "(II)I"⟩
def dkwX0_laysAdds_4 : List UInt8 := [167, 255, 165, 29, 172]
abbrev dktX0_laysAdds_4 : List UInt8 := dkwX0_laysAdds_4 ++ []
def dkwX0_laysAdds_3 : List UInt8 := [167, 0, 4, 3, 79, 29, 21, 5, 153, 0, 10, 4, 21, 4, 120, 167, 0, 4, 3, 128, 62, 132, 4, 1]
abbrev dktX0_laysAdds_3 : List UInt8 := dkwX0_laysAdds_3 ++ dktX0_laysAdds_4
def dkwX0_laysAdds_2 : List UInt8 := [3, 54, 5, 42, 180, 0, 34, 21, 4, 21, 5, 153, 0, 16, 42, 180, 0, 20, 21, 4, 27, 182, 0, 202]
abbrev dktX0_laysAdds_2 : List UInt8 := dkwX0_laysAdds_2 ++ dktX0_laysAdds_3
def dkwX0_laysAdds_1 : List UInt8 := [21, 4, 46, 28, 160, 0, 20, 42, 180, 0, 20, 21, 4, 27, 182, 0, 140, 153, 0, 7, 4, 167, 0, 4]
abbrev dktX0_laysAdds_1 : List UInt8 := dkwX0_laysAdds_1 ++ dktX0_laysAdds_2
def dkwX0_laysAdds_0 : List UInt8 := [3, 62, 3, 54, 4, 21, 4, 42, 180, 0, 20, 180, 0, 123, 162, 0, 85, 42, 180, 0, 20, 180, 0, 186]
abbrev dktX0_laysAdds_0 : List UInt8 := dkwX0_laysAdds_0 ++ dktX0_laysAdds_1
theorem dksX0_laysAdds_0 : cX0_laysAdds.data.toList.drop 0 = dktX0_laysAdds_0 := by decide +kernel
theorem dksX0_laysAdds_1 : cX0_laysAdds.data.toList.drop 24 = dktX0_laysAdds_1 := dk_seg dksX0_laysAdds_0 24 rfl rfl
theorem dksX0_laysAdds_2 : cX0_laysAdds.data.toList.drop 48 = dktX0_laysAdds_2 := dk_seg dksX0_laysAdds_1 24 rfl rfl
theorem dksX0_laysAdds_3 : cX0_laysAdds.data.toList.drop 72 = dktX0_laysAdds_3 := dk_seg dksX0_laysAdds_2 24 rfl rfl
theorem dksX0_laysAdds_4 : cX0_laysAdds.data.toList.drop 96 = dktX0_laysAdds_4 := dk_seg dksX0_laysAdds_3 24 rfl rfl
theorem dX0_laysAdds_0 : decode cX0_laysAdds 0 = .ok (.iconst 0, 1) := dk_3 (dk_at dksX0_laysAdds_0 0 rfl rfl)
theorem dX0_laysAdds_1 : decode cX0_laysAdds 1 = .ok (.istore_n 3, 1) := dk_62 (dk_at dksX0_laysAdds_0 1 rfl rfl)
theorem dX0_laysAdds_2 : decode cX0_laysAdds 2 = .ok (.iconst 0, 1) := dk_3 (dk_at dksX0_laysAdds_0 2 rfl rfl)
theorem dX0_laysAdds_3 : decode cX0_laysAdds 3 = .ok (.istore 4, 2) := dk_54 4 (dk_at dksX0_laysAdds_0 3 rfl rfl)
theorem dX0_laysAdds_5 : decode cX0_laysAdds 5 = .ok (.iload 4, 2) := dk_21 4 (dk_at dksX0_laysAdds_0 5 rfl rfl)
theorem dX0_laysAdds_7 : decode cX0_laysAdds 7 = .ok (.aload_n 0, 1) := dk_42 (dk_at dksX0_laysAdds_0 7 rfl rfl)
theorem dX0_laysAdds_8 : decode cX0_laysAdds 8 = .ok (.getfield 20, 3) := dk_180 0 20 (dk_at dksX0_laysAdds_0 8 rfl rfl)
theorem dX0_laysAdds_11 : decode cX0_laysAdds 11 = .ok (.getfield 123, 3) := dk_180 0 123 (dk_at dksX0_laysAdds_0 11 rfl rfl)
theorem dX0_laysAdds_14 : decode cX0_laysAdds 14 = .ok (.if_icmp .ge 85, 3) := dk_162 0 85 (dk_at dksX0_laysAdds_0 14 rfl rfl)
theorem dX0_laysAdds_17 : decode cX0_laysAdds 17 = .ok (.aload_n 0, 1) := dk_42 (dk_at dksX0_laysAdds_0 17 rfl rfl)
theorem dX0_laysAdds_18 : decode cX0_laysAdds 18 = .ok (.getfield 20, 3) := dk_180 0 20 (dk_at dksX0_laysAdds_0 18 rfl rfl)
theorem dX0_laysAdds_21 : decode cX0_laysAdds 21 = .ok (.getfield 186, 3) := dk_180 0 186 (dk_at dksX0_laysAdds_0 21 rfl rfl)
theorem dX0_laysAdds_24 : decode cX0_laysAdds 24 = .ok (.iload 4, 2) := dk_21 4 (dk_at dksX0_laysAdds_1 0 rfl rfl)
theorem dX0_laysAdds_26 : decode cX0_laysAdds 26 = .ok (.iaload, 1) := dk_46 (dk_at dksX0_laysAdds_1 2 rfl rfl)
theorem dX0_laysAdds_27 : decode cX0_laysAdds 27 = .ok (.iload_n 2, 1) := dk_28 (dk_at dksX0_laysAdds_1 3 rfl rfl)
theorem dX0_laysAdds_28 : decode cX0_laysAdds 28 = .ok (.if_icmp .ne 20, 3) := dk_160 0 20 (dk_at dksX0_laysAdds_1 4 rfl rfl)
theorem dX0_laysAdds_31 : decode cX0_laysAdds 31 = .ok (.aload_n 0, 1) := dk_42 (dk_at dksX0_laysAdds_1 7 rfl rfl)
theorem dX0_laysAdds_32 : decode cX0_laysAdds 32 = .ok (.getfield 20, 3) := dk_180 0 20 (dk_at dksX0_laysAdds_1 8 rfl rfl)
theorem dX0_laysAdds_35 : decode cX0_laysAdds 35 = .ok (.iload 4, 2) := dk_21 4 (dk_at dksX0_laysAdds_1 11 rfl rfl)
theorem dX0_laysAdds_37 : decode cX0_laysAdds 37 = .ok (.iload_n 1, 1) := dk_27 (dk_at dksX0_laysAdds_1 13 rfl rfl)
theorem dX0_laysAdds_38 : decode cX0_laysAdds 38 = .ok (.invokevirtual 140, 3) := dk_182 0 140 (dk_at dksX0_laysAdds_1 14 rfl rfl)
theorem dX0_laysAdds_41 : decode cX0_laysAdds 41 = .ok (.ifCond .eq 7, 3) := dk_153 0 7 (dk_at dksX0_laysAdds_1 17 rfl rfl)
theorem dX0_laysAdds_44 : decode cX0_laysAdds 44 = .ok (.iconst 1, 1) := dk_4 (dk_at dksX0_laysAdds_1 20 rfl rfl)
theorem dX0_laysAdds_45 : decode cX0_laysAdds 45 = .ok (.goto 4, 3) := dk_167 0 4 (dk_at dksX0_laysAdds_1 21 rfl rfl)
theorem dX0_laysAdds_48 : decode cX0_laysAdds 48 = .ok (.iconst 0, 1) := dk_3 (dk_at dksX0_laysAdds_2 0 rfl rfl)
theorem dX0_laysAdds_49 : decode cX0_laysAdds 49 = .ok (.istore 5, 2) := dk_54 5 (dk_at dksX0_laysAdds_2 1 rfl rfl)
theorem dX0_laysAdds_51 : decode cX0_laysAdds 51 = .ok (.aload_n 0, 1) := dk_42 (dk_at dksX0_laysAdds_2 3 rfl rfl)
theorem dX0_laysAdds_52 : decode cX0_laysAdds 52 = .ok (.getfield 34, 3) := dk_180 0 34 (dk_at dksX0_laysAdds_2 4 rfl rfl)
theorem dX0_laysAdds_55 : decode cX0_laysAdds 55 = .ok (.iload 4, 2) := dk_21 4 (dk_at dksX0_laysAdds_2 7 rfl rfl)
theorem dX0_laysAdds_57 : decode cX0_laysAdds 57 = .ok (.iload 5, 2) := dk_21 5 (dk_at dksX0_laysAdds_2 9 rfl rfl)
theorem dX0_laysAdds_59 : decode cX0_laysAdds 59 = .ok (.ifCond .eq 16, 3) := dk_153 0 16 (dk_at dksX0_laysAdds_2 11 rfl rfl)
theorem dX0_laysAdds_62 : decode cX0_laysAdds 62 = .ok (.aload_n 0, 1) := dk_42 (dk_at dksX0_laysAdds_2 14 rfl rfl)
theorem dX0_laysAdds_63 : decode cX0_laysAdds 63 = .ok (.getfield 20, 3) := dk_180 0 20 (dk_at dksX0_laysAdds_2 15 rfl rfl)
theorem dX0_laysAdds_66 : decode cX0_laysAdds 66 = .ok (.iload 4, 2) := dk_21 4 (dk_at dksX0_laysAdds_2 18 rfl rfl)
theorem dX0_laysAdds_68 : decode cX0_laysAdds 68 = .ok (.iload_n 1, 1) := dk_27 (dk_at dksX0_laysAdds_2 20 rfl rfl)
theorem dX0_laysAdds_69 : decode cX0_laysAdds 69 = .ok (.invokevirtual 202, 3) := dk_182 0 202 (dk_at dksX0_laysAdds_2 21 rfl rfl)
theorem dX0_laysAdds_72 : decode cX0_laysAdds 72 = .ok (.goto 4, 3) := dk_167 0 4 (dk_at dksX0_laysAdds_3 0 rfl rfl)
theorem dX0_laysAdds_75 : decode cX0_laysAdds 75 = .ok (.iconst 0, 1) := dk_3 (dk_at dksX0_laysAdds_3 3 rfl rfl)
theorem dX0_laysAdds_76 : decode cX0_laysAdds 76 = .ok (.iastore, 1) := dk_79 (dk_at dksX0_laysAdds_3 4 rfl rfl)
theorem dX0_laysAdds_77 : decode cX0_laysAdds 77 = .ok (.iload_n 3, 1) := dk_29 (dk_at dksX0_laysAdds_3 5 rfl rfl)
theorem dX0_laysAdds_78 : decode cX0_laysAdds 78 = .ok (.iload 5, 2) := dk_21 5 (dk_at dksX0_laysAdds_3 6 rfl rfl)
theorem dX0_laysAdds_80 : decode cX0_laysAdds 80 = .ok (.ifCond .eq 10, 3) := dk_153 0 10 (dk_at dksX0_laysAdds_3 8 rfl rfl)
theorem dX0_laysAdds_83 : decode cX0_laysAdds 83 = .ok (.iconst 1, 1) := dk_4 (dk_at dksX0_laysAdds_3 11 rfl rfl)
theorem dX0_laysAdds_84 : decode cX0_laysAdds 84 = .ok (.iload 4, 2) := dk_21 4 (dk_at dksX0_laysAdds_3 12 rfl rfl)
theorem dX0_laysAdds_86 : decode cX0_laysAdds 86 = .ok (.ishl, 1) := dk_120 (dk_at dksX0_laysAdds_3 14 rfl rfl)
theorem dX0_laysAdds_87 : decode cX0_laysAdds 87 = .ok (.goto 4, 3) := dk_167 0 4 (dk_at dksX0_laysAdds_3 15 rfl rfl)
theorem dX0_laysAdds_90 : decode cX0_laysAdds 90 = .ok (.iconst 0, 1) := dk_3 (dk_at dksX0_laysAdds_3 18 rfl rfl)
theorem dX0_laysAdds_91 : decode cX0_laysAdds 91 = .ok (.ior, 1) := dk_128 (dk_at dksX0_laysAdds_3 19 rfl rfl)
theorem dX0_laysAdds_92 : decode cX0_laysAdds 92 = .ok (.istore_n 3, 1) := dk_62 (dk_at dksX0_laysAdds_3 20 rfl rfl)
theorem dX0_laysAdds_93 : decode cX0_laysAdds 93 = .ok (.iinc 4 1, 3) := dk_132 4 1 (dk_at dksX0_laysAdds_3 21 rfl rfl)
theorem dX0_laysAdds_96 : decode cX0_laysAdds 96 = .ok (.goto (-91), 3) := dk_167 255 165 (dk_at dksX0_laysAdds_4 0 rfl rfl)
theorem dX0_laysAdds_99 : decode cX0_laysAdds 99 = .ok (.iload_n 3, 1) := dk_29 (dk_at dksX0_laysAdds_4 3 rfl rfl)
theorem dX0_laysAdds_100 : decode cX0_laysAdds 100 = .ok (.ireturn, 1) := dk_172 (dk_at dksX0_laysAdds_4 4 rfl rfl)
abbrev cX0_addOf : ByteArray := prog_1_method_34_code
def yX0_addOf : MethodName := ⟨RX0, "addOf", "(I)I"⟩
def dkwX0_addOf_1 : List UInt8 := [160, 0, 12, 42, 180, 0, 34, 29, 46, 167, 0, 4, 3, 96, 61, 132, 3, 1, 167, 255, 220, 28, 172]
abbrev dktX0_addOf_1 : List UInt8 := dkwX0_addOf_1 ++ []
def dkwX0_addOf_0 : List UInt8 := [3, 61, 3, 62, 29, 42, 180, 0, 20, 180, 0, 123, 162, 0, 31, 28, 27, 29, 122, 4, 126, 4]
abbrev dktX0_addOf_0 : List UInt8 := dkwX0_addOf_0 ++ dktX0_addOf_1
theorem dksX0_addOf_0 : cX0_addOf.data.toList.drop 0 = dktX0_addOf_0 := by decide +kernel
theorem dksX0_addOf_1 : cX0_addOf.data.toList.drop 22 = dktX0_addOf_1 := dk_seg dksX0_addOf_0 22 rfl rfl
theorem dX0_addOf_0 : decode cX0_addOf 0 = .ok (.iconst 0, 1) := dk_3 (dk_at dksX0_addOf_0 0 rfl rfl)
theorem dX0_addOf_1 : decode cX0_addOf 1 = .ok (.istore_n 2, 1) := dk_61 (dk_at dksX0_addOf_0 1 rfl rfl)
theorem dX0_addOf_2 : decode cX0_addOf 2 = .ok (.iconst 0, 1) := dk_3 (dk_at dksX0_addOf_0 2 rfl rfl)
theorem dX0_addOf_3 : decode cX0_addOf 3 = .ok (.istore_n 3, 1) := dk_62 (dk_at dksX0_addOf_0 3 rfl rfl)
theorem dX0_addOf_4 : decode cX0_addOf 4 = .ok (.iload_n 3, 1) := dk_29 (dk_at dksX0_addOf_0 4 rfl rfl)
theorem dX0_addOf_5 : decode cX0_addOf 5 = .ok (.aload_n 0, 1) := dk_42 (dk_at dksX0_addOf_0 5 rfl rfl)
theorem dX0_addOf_6 : decode cX0_addOf 6 = .ok (.getfield 20, 3) := dk_180 0 20 (dk_at dksX0_addOf_0 6 rfl rfl)
theorem dX0_addOf_9 : decode cX0_addOf 9 = .ok (.getfield 123, 3) := dk_180 0 123 (dk_at dksX0_addOf_0 9 rfl rfl)
theorem dX0_addOf_12 : decode cX0_addOf 12 = .ok (.if_icmp .ge 31, 3) := dk_162 0 31 (dk_at dksX0_addOf_0 12 rfl rfl)
theorem dX0_addOf_15 : decode cX0_addOf 15 = .ok (.iload_n 2, 1) := dk_28 (dk_at dksX0_addOf_0 15 rfl rfl)
theorem dX0_addOf_16 : decode cX0_addOf 16 = .ok (.iload_n 1, 1) := dk_27 (dk_at dksX0_addOf_0 16 rfl rfl)
theorem dX0_addOf_17 : decode cX0_addOf 17 = .ok (.iload_n 3, 1) := dk_29 (dk_at dksX0_addOf_0 17 rfl rfl)
theorem dX0_addOf_18 : decode cX0_addOf 18 = .ok (.ishr, 1) := dk_122 (dk_at dksX0_addOf_0 18 rfl rfl)
theorem dX0_addOf_19 : decode cX0_addOf 19 = .ok (.iconst 1, 1) := dk_4 (dk_at dksX0_addOf_0 19 rfl rfl)
theorem dX0_addOf_20 : decode cX0_addOf 20 = .ok (.iand, 1) := dk_126 (dk_at dksX0_addOf_0 20 rfl rfl)
theorem dX0_addOf_21 : decode cX0_addOf 21 = .ok (.iconst 1, 1) := dk_4 (dk_at dksX0_addOf_0 21 rfl rfl)
theorem dX0_addOf_22 : decode cX0_addOf 22 = .ok (.if_icmp .ne 12, 3) := dk_160 0 12 (dk_at dksX0_addOf_1 0 rfl rfl)
theorem dX0_addOf_25 : decode cX0_addOf 25 = .ok (.aload_n 0, 1) := dk_42 (dk_at dksX0_addOf_1 3 rfl rfl)
theorem dX0_addOf_26 : decode cX0_addOf 26 = .ok (.getfield 34, 3) := dk_180 0 34 (dk_at dksX0_addOf_1 4 rfl rfl)
theorem dX0_addOf_29 : decode cX0_addOf 29 = .ok (.iload_n 3, 1) := dk_29 (dk_at dksX0_addOf_1 7 rfl rfl)
theorem dX0_addOf_30 : decode cX0_addOf 30 = .ok (.iaload, 1) := dk_46 (dk_at dksX0_addOf_1 8 rfl rfl)
theorem dX0_addOf_31 : decode cX0_addOf 31 = .ok (.goto 4, 3) := dk_167 0 4 (dk_at dksX0_addOf_1 9 rfl rfl)
theorem dX0_addOf_34 : decode cX0_addOf 34 = .ok (.iconst 0, 1) := dk_3 (dk_at dksX0_addOf_1 12 rfl rfl)
theorem dX0_addOf_35 : decode cX0_addOf 35 = .ok (.iadd, 1) := dk_96 (dk_at dksX0_addOf_1 13 rfl rfl)
theorem dX0_addOf_36 : decode cX0_addOf 36 = .ok (.istore_n 2, 1) := dk_61 (dk_at dksX0_addOf_1 14 rfl rfl)
theorem dX0_addOf_37 : decode cX0_addOf 37 = .ok (.iinc 3 1, 3) := dk_132 3 1 (dk_at dksX0_addOf_1 15 rfl rfl)
theorem dX0_addOf_40 : decode cX0_addOf 40 = .ok (.goto (-36), 3) := dk_167 255 220 (dk_at dksX0_addOf_1 18 rfl rfl)
theorem dX0_addOf_43 : decode cX0_addOf 43 = .ok (.iload_n 2, 1) := dk_28 (dk_at dksX0_addOf_1 21 rfl rfl)
theorem dX0_addOf_44 : decode cX0_addOf 44 = .ok (.ireturn, 1) := dk_172 (dk_at dksX0_addOf_1 22 rfl rfl)
abbrev cX0_called : ByteArray := prog_1_method_39_code
def yX0_called : MethodName := ⟨RX0, "called", "(IIII)I"⟩
def dkwX0_called_2 : List UInt8 := [29, 182, 1, 23, 172]
abbrev dktX0_called_2 : List UInt8 := dkwX0_called_2 ++ []
def dkwX0_called_1 : List UInt8 := [182, 1, 3, 54, 5, 21, 4, 154, 0, 14, 42, 21, 5, 29, 3, 182, 1, 20, 167, 0, 10, 42, 21, 5]
abbrev dktX0_called_1 : List UInt8 := dkwX0_called_1 ++ dktX0_called_2
def dkwX0_called_0 : List UInt8 := [27, 28, 29, 184, 1, 17, 153, 0, 13, 21, 4, 3, 4, 184, 0, 51, 154, 0, 5, 2, 172, 42, 27, 28]
abbrev dktX0_called_0 : List UInt8 := dkwX0_called_0 ++ dktX0_called_1
theorem dksX0_called_0 : cX0_called.data.toList.drop 0 = dktX0_called_0 := by decide +kernel
theorem dksX0_called_1 : cX0_called.data.toList.drop 24 = dktX0_called_1 := dk_seg dksX0_called_0 24 rfl rfl
theorem dksX0_called_2 : cX0_called.data.toList.drop 48 = dktX0_called_2 := dk_seg dksX0_called_1 24 rfl rfl
theorem dX0_called_0 : decode cX0_called 0 = .ok (.iload_n 1, 1) := dk_27 (dk_at dksX0_called_0 0 rfl rfl)
theorem dX0_called_1 : decode cX0_called 1 = .ok (.iload_n 2, 1) := dk_28 (dk_at dksX0_called_0 1 rfl rfl)
theorem dX0_called_2 : decode cX0_called 2 = .ok (.iload_n 3, 1) := dk_29 (dk_at dksX0_called_0 2 rfl rfl)
theorem dX0_called_3 : decode cX0_called 3 = .ok (.invokestatic 273, 3) := dk_184 1 17 (dk_at dksX0_called_0 3 rfl rfl)
theorem dX0_called_6 : decode cX0_called 6 = .ok (.ifCond .eq 13, 3) := dk_153 0 13 (dk_at dksX0_called_0 6 rfl rfl)
theorem dX0_called_9 : decode cX0_called 9 = .ok (.iload 4, 2) := dk_21 4 (dk_at dksX0_called_0 9 rfl rfl)
theorem dX0_called_11 : decode cX0_called 11 = .ok (.iconst 0, 1) := dk_3 (dk_at dksX0_called_0 11 rfl rfl)
theorem dX0_called_12 : decode cX0_called 12 = .ok (.iconst 1, 1) := dk_4 (dk_at dksX0_called_0 12 rfl rfl)
theorem dX0_called_13 : decode cX0_called 13 = .ok (.invokestatic 51, 3) := dk_184 0 51 (dk_at dksX0_called_0 13 rfl rfl)
theorem dX0_called_16 : decode cX0_called 16 = .ok (.ifCond .ne 5, 3) := dk_154 0 5 (dk_at dksX0_called_0 16 rfl rfl)
theorem dX0_called_19 : decode cX0_called 19 = .ok (.iconst (-1), 1) := dk_2 (dk_at dksX0_called_0 19 rfl rfl)
theorem dX0_called_20 : decode cX0_called 20 = .ok (.ireturn, 1) := dk_172 (dk_at dksX0_called_0 20 rfl rfl)
theorem dX0_called_21 : decode cX0_called 21 = .ok (.aload_n 0, 1) := dk_42 (dk_at dksX0_called_0 21 rfl rfl)
theorem dX0_called_22 : decode cX0_called 22 = .ok (.iload_n 1, 1) := dk_27 (dk_at dksX0_called_0 22 rfl rfl)
theorem dX0_called_23 : decode cX0_called 23 = .ok (.iload_n 2, 1) := dk_28 (dk_at dksX0_called_0 23 rfl rfl)
theorem dX0_called_24 : decode cX0_called 24 = .ok (.invokevirtual 259, 3) := dk_182 1 3 (dk_at dksX0_called_1 0 rfl rfl)
theorem dX0_called_27 : decode cX0_called 27 = .ok (.istore 5, 2) := dk_54 5 (dk_at dksX0_called_1 3 rfl rfl)
theorem dX0_called_29 : decode cX0_called 29 = .ok (.iload 4, 2) := dk_21 4 (dk_at dksX0_called_1 5 rfl rfl)
theorem dX0_called_31 : decode cX0_called 31 = .ok (.ifCond .ne 14, 3) := dk_154 0 14 (dk_at dksX0_called_1 7 rfl rfl)
theorem dX0_called_34 : decode cX0_called 34 = .ok (.aload_n 0, 1) := dk_42 (dk_at dksX0_called_1 10 rfl rfl)
theorem dX0_called_35 : decode cX0_called 35 = .ok (.iload 5, 2) := dk_21 5 (dk_at dksX0_called_1 11 rfl rfl)
theorem dX0_called_37 : decode cX0_called 37 = .ok (.iload_n 3, 1) := dk_29 (dk_at dksX0_called_1 13 rfl rfl)
theorem dX0_called_38 : decode cX0_called 38 = .ok (.iconst 0, 1) := dk_3 (dk_at dksX0_called_1 14 rfl rfl)
theorem dX0_called_39 : decode cX0_called 39 = .ok (.invokevirtual 276, 3) := dk_182 1 20 (dk_at dksX0_called_1 15 rfl rfl)
theorem dX0_called_42 : decode cX0_called 42 = .ok (.goto 10, 3) := dk_167 0 10 (dk_at dksX0_called_1 18 rfl rfl)
theorem dX0_called_45 : decode cX0_called 45 = .ok (.aload_n 0, 1) := dk_42 (dk_at dksX0_called_1 21 rfl rfl)
theorem dX0_called_46 : decode cX0_called 46 = .ok (.iload 5, 2) := dk_21 5 (dk_at dksX0_called_1 22 rfl rfl)
theorem dX0_called_48 : decode cX0_called 48 = .ok (.iload_n 3, 1) := dk_29 (dk_at dksX0_called_2 0 rfl rfl)
theorem dX0_called_49 : decode cX0_called 49 = .ok (.invokevirtual 279, 3) := dk_182 1 23 (dk_at dksX0_called_2 1 rfl rfl)
theorem dX0_called_52 : decode cX0_called 52 = .ok (.ireturn, 1) := dk_172 (dk_at dksX0_called_2 4 rfl rfl)
abbrev cX0_canRise : ByteArray := prog_1_method_36_code
def yX0_canRise : MethodName := ⟨RX0, "canRise", "(III)Z"⟩
def dkwX0_canRise_1 : List UInt8 := [153, 0, 7, 4, 167, 0, 4, 3, 172]
abbrev dktX0_canRise_1 : List UInt8 := dkwX0_canRise_1 ++ []
def dkwX0_canRise_0 : List UInt8 := [26, 184, 0, 120, 153, 0, 25, 27, 184, 0, 116, 153, 0, 18, 28, 4, 17, 3, 231, 184, 0, 51]
abbrev dktX0_canRise_0 : List UInt8 := dkwX0_canRise_0 ++ dktX0_canRise_1
theorem dksX0_canRise_0 : cX0_canRise.data.toList.drop 0 = dktX0_canRise_0 := by decide +kernel
theorem dksX0_canRise_1 : cX0_canRise.data.toList.drop 22 = dktX0_canRise_1 := dk_seg dksX0_canRise_0 22 rfl rfl
theorem dX0_canRise_0 : decode cX0_canRise 0 = .ok (.iload_n 0, 1) := dk_26 (dk_at dksX0_canRise_0 0 rfl rfl)
theorem dX0_canRise_1 : decode cX0_canRise 1 = .ok (.invokestatic 120, 3) := dk_184 0 120 (dk_at dksX0_canRise_0 1 rfl rfl)
theorem dX0_canRise_4 : decode cX0_canRise 4 = .ok (.ifCond .eq 25, 3) := dk_153 0 25 (dk_at dksX0_canRise_0 4 rfl rfl)
theorem dX0_canRise_7 : decode cX0_canRise 7 = .ok (.iload_n 1, 1) := dk_27 (dk_at dksX0_canRise_0 7 rfl rfl)
theorem dX0_canRise_8 : decode cX0_canRise 8 = .ok (.invokestatic 116, 3) := dk_184 0 116 (dk_at dksX0_canRise_0 8 rfl rfl)
theorem dX0_canRise_11 : decode cX0_canRise 11 = .ok (.ifCond .eq 18, 3) := dk_153 0 18 (dk_at dksX0_canRise_0 11 rfl rfl)
theorem dX0_canRise_14 : decode cX0_canRise 14 = .ok (.iload_n 2, 1) := dk_28 (dk_at dksX0_canRise_0 14 rfl rfl)
theorem dX0_canRise_15 : decode cX0_canRise 15 = .ok (.iconst 1, 1) := dk_4 (dk_at dksX0_canRise_0 15 rfl rfl)
theorem dX0_canRise_16 : decode cX0_canRise 16 = .ok (.sipush 999, 3) := dk_17 3 231 (dk_at dksX0_canRise_0 16 rfl rfl)
theorem dX0_canRise_19 : decode cX0_canRise 19 = .ok (.invokestatic 51, 3) := dk_184 0 51 (dk_at dksX0_canRise_0 19 rfl rfl)
theorem dX0_canRise_22 : decode cX0_canRise 22 = .ok (.ifCond .eq 7, 3) := dk_153 0 7 (dk_at dksX0_canRise_1 0 rfl rfl)
theorem dX0_canRise_25 : decode cX0_canRise 25 = .ok (.iconst 1, 1) := dk_4 (dk_at dksX0_canRise_1 3 rfl rfl)
theorem dX0_canRise_26 : decode cX0_canRise 26 = .ok (.goto 4, 3) := dk_167 0 4 (dk_at dksX0_canRise_1 4 rfl rfl)
theorem dX0_canRise_29 : decode cX0_canRise 29 = .ok (.iconst 0, 1) := dk_3 (dk_at dksX0_canRise_1 7 rfl rfl)
theorem dX0_canRise_30 : decode cX0_canRise 30 = .ok (.ireturn, 1) := dk_172 (dk_at dksX0_canRise_1 8 rfl rfl)
abbrev cX0_setsWith : ByteArray := prog_1_method_37_code
def yX0_setsWith : MethodName := ⟨RX0, "setsWith", "(III)I"⟩
def dkwX0_setsWith_2 : List UInt8 := [54, 4, 132, 5, 1, 167, 255, 210, 21, 4, 172]
abbrev dktX0_setsWith_2 : List UInt8 := dkwX0_setsWith_2 ++ []
def dkwX0_setsWith_1 : List UInt8 := [21, 5, 29, 126, 29, 160, 0, 17, 42, 21, 5, 182, 1, 9, 28, 160, 0, 7, 4, 167, 0, 4, 3, 96]
abbrev dktX0_setsWith_1 : List UInt8 := dkwX0_setsWith_1 ++ dktX0_setsWith_2
def dkwX0_setsWith_0 : List UInt8 := [3, 54, 4, 3, 54, 5, 21, 5, 27, 163, 0, 46, 21, 4, 21, 5, 27, 2, 130, 126, 154, 0, 25]
abbrev dktX0_setsWith_0 : List UInt8 := dkwX0_setsWith_0 ++ dktX0_setsWith_1
theorem dksX0_setsWith_0 : cX0_setsWith.data.toList.drop 0 = dktX0_setsWith_0 := by decide +kernel
theorem dksX0_setsWith_1 : cX0_setsWith.data.toList.drop 23 = dktX0_setsWith_1 := dk_seg dksX0_setsWith_0 23 rfl rfl
theorem dksX0_setsWith_2 : cX0_setsWith.data.toList.drop 47 = dktX0_setsWith_2 := dk_seg dksX0_setsWith_1 24 rfl rfl
theorem dX0_setsWith_0 : decode cX0_setsWith 0 = .ok (.iconst 0, 1) := dk_3 (dk_at dksX0_setsWith_0 0 rfl rfl)
theorem dX0_setsWith_1 : decode cX0_setsWith 1 = .ok (.istore 4, 2) := dk_54 4 (dk_at dksX0_setsWith_0 1 rfl rfl)
theorem dX0_setsWith_3 : decode cX0_setsWith 3 = .ok (.iconst 0, 1) := dk_3 (dk_at dksX0_setsWith_0 3 rfl rfl)
theorem dX0_setsWith_4 : decode cX0_setsWith 4 = .ok (.istore 5, 2) := dk_54 5 (dk_at dksX0_setsWith_0 4 rfl rfl)
theorem dX0_setsWith_6 : decode cX0_setsWith 6 = .ok (.iload 5, 2) := dk_21 5 (dk_at dksX0_setsWith_0 6 rfl rfl)
theorem dX0_setsWith_8 : decode cX0_setsWith 8 = .ok (.iload_n 1, 1) := dk_27 (dk_at dksX0_setsWith_0 8 rfl rfl)
theorem dX0_setsWith_9 : decode cX0_setsWith 9 = .ok (.if_icmp .gt 46, 3) := dk_163 0 46 (dk_at dksX0_setsWith_0 9 rfl rfl)
theorem dX0_setsWith_12 : decode cX0_setsWith 12 = .ok (.iload 4, 2) := dk_21 4 (dk_at dksX0_setsWith_0 12 rfl rfl)
theorem dX0_setsWith_14 : decode cX0_setsWith 14 = .ok (.iload 5, 2) := dk_21 5 (dk_at dksX0_setsWith_0 14 rfl rfl)
theorem dX0_setsWith_16 : decode cX0_setsWith 16 = .ok (.iload_n 1, 1) := dk_27 (dk_at dksX0_setsWith_0 16 rfl rfl)
theorem dX0_setsWith_17 : decode cX0_setsWith 17 = .ok (.iconst (-1), 1) := dk_2 (dk_at dksX0_setsWith_0 17 rfl rfl)
theorem dX0_setsWith_18 : decode cX0_setsWith 18 = .ok (.ixor, 1) := dk_130 (dk_at dksX0_setsWith_0 18 rfl rfl)
theorem dX0_setsWith_19 : decode cX0_setsWith 19 = .ok (.iand, 1) := dk_126 (dk_at dksX0_setsWith_0 19 rfl rfl)
theorem dX0_setsWith_20 : decode cX0_setsWith 20 = .ok (.ifCond .ne 25, 3) := dk_154 0 25 (dk_at dksX0_setsWith_0 20 rfl rfl)
theorem dX0_setsWith_23 : decode cX0_setsWith 23 = .ok (.iload 5, 2) := dk_21 5 (dk_at dksX0_setsWith_1 0 rfl rfl)
theorem dX0_setsWith_25 : decode cX0_setsWith 25 = .ok (.iload_n 3, 1) := dk_29 (dk_at dksX0_setsWith_1 2 rfl rfl)
theorem dX0_setsWith_26 : decode cX0_setsWith 26 = .ok (.iand, 1) := dk_126 (dk_at dksX0_setsWith_1 3 rfl rfl)
theorem dX0_setsWith_27 : decode cX0_setsWith 27 = .ok (.iload_n 3, 1) := dk_29 (dk_at dksX0_setsWith_1 4 rfl rfl)
theorem dX0_setsWith_28 : decode cX0_setsWith 28 = .ok (.if_icmp .ne 17, 3) := dk_160 0 17 (dk_at dksX0_setsWith_1 5 rfl rfl)
theorem dX0_setsWith_31 : decode cX0_setsWith 31 = .ok (.aload_n 0, 1) := dk_42 (dk_at dksX0_setsWith_1 8 rfl rfl)
theorem dX0_setsWith_32 : decode cX0_setsWith 32 = .ok (.iload 5, 2) := dk_21 5 (dk_at dksX0_setsWith_1 9 rfl rfl)
theorem dX0_setsWith_34 : decode cX0_setsWith 34 = .ok (.invokevirtual 265, 3) := dk_182 1 9 (dk_at dksX0_setsWith_1 11 rfl rfl)
theorem dX0_setsWith_37 : decode cX0_setsWith 37 = .ok (.iload_n 2, 1) := dk_28 (dk_at dksX0_setsWith_1 14 rfl rfl)
theorem dX0_setsWith_38 : decode cX0_setsWith 38 = .ok (.if_icmp .ne 7, 3) := dk_160 0 7 (dk_at dksX0_setsWith_1 15 rfl rfl)
theorem dX0_setsWith_41 : decode cX0_setsWith 41 = .ok (.iconst 1, 1) := dk_4 (dk_at dksX0_setsWith_1 18 rfl rfl)
theorem dX0_setsWith_42 : decode cX0_setsWith 42 = .ok (.goto 4, 3) := dk_167 0 4 (dk_at dksX0_setsWith_1 19 rfl rfl)
theorem dX0_setsWith_45 : decode cX0_setsWith 45 = .ok (.iconst 0, 1) := dk_3 (dk_at dksX0_setsWith_1 22 rfl rfl)
theorem dX0_setsWith_46 : decode cX0_setsWith 46 = .ok (.iadd, 1) := dk_96 (dk_at dksX0_setsWith_1 23 rfl rfl)
theorem dX0_setsWith_47 : decode cX0_setsWith 47 = .ok (.istore 4, 2) := dk_54 4 (dk_at dksX0_setsWith_2 0 rfl rfl)
theorem dX0_setsWith_49 : decode cX0_setsWith 49 = .ok (.iinc 5 1, 3) := dk_132 5 1 (dk_at dksX0_setsWith_2 2 rfl rfl)
theorem dX0_setsWith_52 : decode cX0_setsWith 52 = .ok (.goto (-46), 3) := dk_167 255 210 (dk_at dksX0_setsWith_2 5 rfl rfl)
theorem dX0_setsWith_55 : decode cX0_setsWith 55 = .ok (.iload 4, 2) := dk_21 4 (dk_at dksX0_setsWith_2 8 rfl rfl)
theorem dX0_setsWith_57 : decode cX0_setsWith 57 = .ok (.ireturn, 1) := dk_172 (dk_at dksX0_setsWith_2 10 rfl rfl)
abbrev cX0_leastSet : ByteArray := prog_1_method_38_code
def yX0_leastSet : MethodName := ⟨RX0, "leastSet", "(II)I"⟩
def dkwX0_leastSet_1 : List UInt8 := [29, 172, 132, 3, 1, 167, 255, 229, 2, 172]
abbrev dktX0_leastSet_1 : List UInt8 := dkwX0_leastSet_1 ++ []
def dkwX0_leastSet_0 : List UInt8 := [3, 62, 29, 27, 163, 0, 28, 29, 27, 2, 130, 126, 154, 0, 14, 42, 29, 182, 1, 9, 28, 160, 0, 5]
abbrev dktX0_leastSet_0 : List UInt8 := dkwX0_leastSet_0 ++ dktX0_leastSet_1
theorem dksX0_leastSet_0 : cX0_leastSet.data.toList.drop 0 = dktX0_leastSet_0 := by decide +kernel
theorem dksX0_leastSet_1 : cX0_leastSet.data.toList.drop 24 = dktX0_leastSet_1 := dk_seg dksX0_leastSet_0 24 rfl rfl
theorem dX0_leastSet_0 : decode cX0_leastSet 0 = .ok (.iconst 0, 1) := dk_3 (dk_at dksX0_leastSet_0 0 rfl rfl)
theorem dX0_leastSet_1 : decode cX0_leastSet 1 = .ok (.istore_n 3, 1) := dk_62 (dk_at dksX0_leastSet_0 1 rfl rfl)
theorem dX0_leastSet_2 : decode cX0_leastSet 2 = .ok (.iload_n 3, 1) := dk_29 (dk_at dksX0_leastSet_0 2 rfl rfl)
theorem dX0_leastSet_3 : decode cX0_leastSet 3 = .ok (.iload_n 1, 1) := dk_27 (dk_at dksX0_leastSet_0 3 rfl rfl)
theorem dX0_leastSet_4 : decode cX0_leastSet 4 = .ok (.if_icmp .gt 28, 3) := dk_163 0 28 (dk_at dksX0_leastSet_0 4 rfl rfl)
theorem dX0_leastSet_7 : decode cX0_leastSet 7 = .ok (.iload_n 3, 1) := dk_29 (dk_at dksX0_leastSet_0 7 rfl rfl)
theorem dX0_leastSet_8 : decode cX0_leastSet 8 = .ok (.iload_n 1, 1) := dk_27 (dk_at dksX0_leastSet_0 8 rfl rfl)
theorem dX0_leastSet_9 : decode cX0_leastSet 9 = .ok (.iconst (-1), 1) := dk_2 (dk_at dksX0_leastSet_0 9 rfl rfl)
theorem dX0_leastSet_10 : decode cX0_leastSet 10 = .ok (.ixor, 1) := dk_130 (dk_at dksX0_leastSet_0 10 rfl rfl)
theorem dX0_leastSet_11 : decode cX0_leastSet 11 = .ok (.iand, 1) := dk_126 (dk_at dksX0_leastSet_0 11 rfl rfl)
theorem dX0_leastSet_12 : decode cX0_leastSet 12 = .ok (.ifCond .ne 14, 3) := dk_154 0 14 (dk_at dksX0_leastSet_0 12 rfl rfl)
theorem dX0_leastSet_15 : decode cX0_leastSet 15 = .ok (.aload_n 0, 1) := dk_42 (dk_at dksX0_leastSet_0 15 rfl rfl)
theorem dX0_leastSet_16 : decode cX0_leastSet 16 = .ok (.iload_n 3, 1) := dk_29 (dk_at dksX0_leastSet_0 16 rfl rfl)
theorem dX0_leastSet_17 : decode cX0_leastSet 17 = .ok (.invokevirtual 265, 3) := dk_182 1 9 (dk_at dksX0_leastSet_0 17 rfl rfl)
theorem dX0_leastSet_20 : decode cX0_leastSet 20 = .ok (.iload_n 2, 1) := dk_28 (dk_at dksX0_leastSet_0 20 rfl rfl)
theorem dX0_leastSet_21 : decode cX0_leastSet 21 = .ok (.if_icmp .ne 5, 3) := dk_160 0 5 (dk_at dksX0_leastSet_0 21 rfl rfl)
theorem dX0_leastSet_24 : decode cX0_leastSet 24 = .ok (.iload_n 3, 1) := dk_29 (dk_at dksX0_leastSet_1 0 rfl rfl)
theorem dX0_leastSet_25 : decode cX0_leastSet 25 = .ok (.ireturn, 1) := dk_172 (dk_at dksX0_leastSet_1 1 rfl rfl)
theorem dX0_leastSet_26 : decode cX0_leastSet 26 = .ok (.iinc 3 1, 3) := dk_132 3 1 (dk_at dksX0_leastSet_1 2 rfl rfl)
theorem dX0_leastSet_29 : decode cX0_leastSet 29 = .ok (.goto (-27), 3) := dk_167 255 229 (dk_at dksX0_leastSet_1 5 rfl rfl)
theorem dX0_leastSet_32 : decode cX0_leastSet 32 = .ok (.iconst (-1), 1) := dk_2 (dk_at dksX0_leastSet_1 8 rfl rfl)
theorem dX0_leastSet_33 : decode cX0_leastSet 33 = .ok (.ireturn, 1) := dk_172 (dk_at dksX0_leastSet_1 9 rfl rfl)
abbrev cX0_ask : ByteArray := prog_1_method_40_code
def yX0_ask : MethodName := ⟨RX0, "ask", "(III)I"⟩
def dkwX0_ask_4 : List UInt8 := [167, 0, 11, 21, 10, 54, 7, 21, 8, 54, 6, 132, 8, 1, 167, 255, 186, 21, 6, 172]
abbrev dktX0_ask_4 : List UInt8 := dkwX0_ask_4 ++ []
def dkwX0_ask_3 : List UInt8 := [21, 5, 21, 9, 100, 184, 0, 237, 54, 10, 21, 6, 2, 159, 0, 13, 21, 10, 21, 7, 161, 0, 6]
abbrev dktX0_ask_3 : List UInt8 := dkwX0_ask_3 ++ dktX0_ask_4
def dkwX0_ask_2 : List UInt8 := [162, 0, 64, 21, 5, 4, 164, 0, 58, 42, 21, 4, 29, 4, 21, 8, 120, 182, 1, 20, 54, 9, 21, 9]
abbrev dktX0_ask_2 : List UInt8 := dkwX0_ask_2 ++ dktX0_ask_3
def dkwX0_ask_1 : List UInt8 := [182, 1, 20, 54, 5, 2, 54, 6, 3, 54, 7, 3, 54, 8, 21, 8, 42, 180, 0, 20, 180, 0, 123]
abbrev dktX0_ask_1 : List UInt8 := dkwX0_ask_1 ++ dktX0_ask_2
def dkwX0_ask_0 : List UInt8 := [27, 28, 29, 184, 1, 17, 154, 0, 5, 2, 172, 42, 27, 28, 182, 1, 3, 54, 4, 42, 21, 4, 29, 3]
abbrev dktX0_ask_0 : List UInt8 := dkwX0_ask_0 ++ dktX0_ask_1
theorem dksX0_ask_0 : cX0_ask.data.toList.drop 0 = dktX0_ask_0 := by decide +kernel
theorem dksX0_ask_1 : cX0_ask.data.toList.drop 24 = dktX0_ask_1 := dk_seg dksX0_ask_0 24 rfl rfl
theorem dksX0_ask_2 : cX0_ask.data.toList.drop 47 = dktX0_ask_2 := dk_seg dksX0_ask_1 23 rfl rfl
theorem dksX0_ask_3 : cX0_ask.data.toList.drop 71 = dktX0_ask_3 := dk_seg dksX0_ask_2 24 rfl rfl
theorem dksX0_ask_4 : cX0_ask.data.toList.drop 94 = dktX0_ask_4 := dk_seg dksX0_ask_3 23 rfl rfl
theorem dX0_ask_0 : decode cX0_ask 0 = .ok (.iload_n 1, 1) := dk_27 (dk_at dksX0_ask_0 0 rfl rfl)
theorem dX0_ask_1 : decode cX0_ask 1 = .ok (.iload_n 2, 1) := dk_28 (dk_at dksX0_ask_0 1 rfl rfl)
theorem dX0_ask_2 : decode cX0_ask 2 = .ok (.iload_n 3, 1) := dk_29 (dk_at dksX0_ask_0 2 rfl rfl)
theorem dX0_ask_3 : decode cX0_ask 3 = .ok (.invokestatic 273, 3) := dk_184 1 17 (dk_at dksX0_ask_0 3 rfl rfl)
theorem dX0_ask_6 : decode cX0_ask 6 = .ok (.ifCond .ne 5, 3) := dk_154 0 5 (dk_at dksX0_ask_0 6 rfl rfl)
theorem dX0_ask_9 : decode cX0_ask 9 = .ok (.iconst (-1), 1) := dk_2 (dk_at dksX0_ask_0 9 rfl rfl)
theorem dX0_ask_10 : decode cX0_ask 10 = .ok (.ireturn, 1) := dk_172 (dk_at dksX0_ask_0 10 rfl rfl)
theorem dX0_ask_11 : decode cX0_ask 11 = .ok (.aload_n 0, 1) := dk_42 (dk_at dksX0_ask_0 11 rfl rfl)
theorem dX0_ask_12 : decode cX0_ask 12 = .ok (.iload_n 1, 1) := dk_27 (dk_at dksX0_ask_0 12 rfl rfl)
theorem dX0_ask_13 : decode cX0_ask 13 = .ok (.iload_n 2, 1) := dk_28 (dk_at dksX0_ask_0 13 rfl rfl)
theorem dX0_ask_14 : decode cX0_ask 14 = .ok (.invokevirtual 259, 3) := dk_182 1 3 (dk_at dksX0_ask_0 14 rfl rfl)
theorem dX0_ask_17 : decode cX0_ask 17 = .ok (.istore 4, 2) := dk_54 4 (dk_at dksX0_ask_0 17 rfl rfl)
theorem dX0_ask_19 : decode cX0_ask 19 = .ok (.aload_n 0, 1) := dk_42 (dk_at dksX0_ask_0 19 rfl rfl)
theorem dX0_ask_20 : decode cX0_ask 20 = .ok (.iload 4, 2) := dk_21 4 (dk_at dksX0_ask_0 20 rfl rfl)
theorem dX0_ask_22 : decode cX0_ask 22 = .ok (.iload_n 3, 1) := dk_29 (dk_at dksX0_ask_0 22 rfl rfl)
theorem dX0_ask_23 : decode cX0_ask 23 = .ok (.iconst 0, 1) := dk_3 (dk_at dksX0_ask_0 23 rfl rfl)
theorem dX0_ask_24 : decode cX0_ask 24 = .ok (.invokevirtual 276, 3) := dk_182 1 20 (dk_at dksX0_ask_1 0 rfl rfl)
theorem dX0_ask_27 : decode cX0_ask 27 = .ok (.istore 5, 2) := dk_54 5 (dk_at dksX0_ask_1 3 rfl rfl)
theorem dX0_ask_29 : decode cX0_ask 29 = .ok (.iconst (-1), 1) := dk_2 (dk_at dksX0_ask_1 5 rfl rfl)
theorem dX0_ask_30 : decode cX0_ask 30 = .ok (.istore 6, 2) := dk_54 6 (dk_at dksX0_ask_1 6 rfl rfl)
theorem dX0_ask_32 : decode cX0_ask 32 = .ok (.iconst 0, 1) := dk_3 (dk_at dksX0_ask_1 8 rfl rfl)
theorem dX0_ask_33 : decode cX0_ask 33 = .ok (.istore 7, 2) := dk_54 7 (dk_at dksX0_ask_1 9 rfl rfl)
theorem dX0_ask_35 : decode cX0_ask 35 = .ok (.iconst 0, 1) := dk_3 (dk_at dksX0_ask_1 11 rfl rfl)
theorem dX0_ask_36 : decode cX0_ask 36 = .ok (.istore 8, 2) := dk_54 8 (dk_at dksX0_ask_1 12 rfl rfl)
theorem dX0_ask_38 : decode cX0_ask 38 = .ok (.iload 8, 2) := dk_21 8 (dk_at dksX0_ask_1 14 rfl rfl)
theorem dX0_ask_40 : decode cX0_ask 40 = .ok (.aload_n 0, 1) := dk_42 (dk_at dksX0_ask_1 16 rfl rfl)
theorem dX0_ask_41 : decode cX0_ask 41 = .ok (.getfield 20, 3) := dk_180 0 20 (dk_at dksX0_ask_1 17 rfl rfl)
theorem dX0_ask_44 : decode cX0_ask 44 = .ok (.getfield 123, 3) := dk_180 0 123 (dk_at dksX0_ask_1 20 rfl rfl)
theorem dX0_ask_47 : decode cX0_ask 47 = .ok (.if_icmp .ge 64, 3) := dk_162 0 64 (dk_at dksX0_ask_2 0 rfl rfl)
theorem dX0_ask_50 : decode cX0_ask 50 = .ok (.iload 5, 2) := dk_21 5 (dk_at dksX0_ask_2 3 rfl rfl)
theorem dX0_ask_52 : decode cX0_ask 52 = .ok (.iconst 1, 1) := dk_4 (dk_at dksX0_ask_2 5 rfl rfl)
theorem dX0_ask_53 : decode cX0_ask 53 = .ok (.if_icmp .le 58, 3) := dk_164 0 58 (dk_at dksX0_ask_2 6 rfl rfl)
theorem dX0_ask_56 : decode cX0_ask 56 = .ok (.aload_n 0, 1) := dk_42 (dk_at dksX0_ask_2 9 rfl rfl)
theorem dX0_ask_57 : decode cX0_ask 57 = .ok (.iload 4, 2) := dk_21 4 (dk_at dksX0_ask_2 10 rfl rfl)
theorem dX0_ask_59 : decode cX0_ask 59 = .ok (.iload_n 3, 1) := dk_29 (dk_at dksX0_ask_2 12 rfl rfl)
theorem dX0_ask_60 : decode cX0_ask 60 = .ok (.iconst 1, 1) := dk_4 (dk_at dksX0_ask_2 13 rfl rfl)
theorem dX0_ask_61 : decode cX0_ask 61 = .ok (.iload 8, 2) := dk_21 8 (dk_at dksX0_ask_2 14 rfl rfl)
theorem dX0_ask_63 : decode cX0_ask 63 = .ok (.ishl, 1) := dk_120 (dk_at dksX0_ask_2 16 rfl rfl)
theorem dX0_ask_64 : decode cX0_ask 64 = .ok (.invokevirtual 276, 3) := dk_182 1 20 (dk_at dksX0_ask_2 17 rfl rfl)
theorem dX0_ask_67 : decode cX0_ask 67 = .ok (.istore 9, 2) := dk_54 9 (dk_at dksX0_ask_2 20 rfl rfl)
theorem dX0_ask_69 : decode cX0_ask 69 = .ok (.iload 9, 2) := dk_21 9 (dk_at dksX0_ask_2 22 rfl rfl)
theorem dX0_ask_71 : decode cX0_ask 71 = .ok (.iload 5, 2) := dk_21 5 (dk_at dksX0_ask_3 0 rfl rfl)
theorem dX0_ask_73 : decode cX0_ask 73 = .ok (.iload 9, 2) := dk_21 9 (dk_at dksX0_ask_3 2 rfl rfl)
theorem dX0_ask_75 : decode cX0_ask 75 = .ok (.isub, 1) := dk_100 (dk_at dksX0_ask_3 4 rfl rfl)
theorem dX0_ask_76 : decode cX0_ask 76 = .ok (.invokestatic 237, 3) := dk_184 0 237 (dk_at dksX0_ask_3 5 rfl rfl)
theorem dX0_ask_79 : decode cX0_ask 79 = .ok (.istore 10, 2) := dk_54 10 (dk_at dksX0_ask_3 8 rfl rfl)
theorem dX0_ask_81 : decode cX0_ask 81 = .ok (.iload 6, 2) := dk_21 6 (dk_at dksX0_ask_3 10 rfl rfl)
theorem dX0_ask_83 : decode cX0_ask 83 = .ok (.iconst (-1), 1) := dk_2 (dk_at dksX0_ask_3 12 rfl rfl)
theorem dX0_ask_84 : decode cX0_ask 84 = .ok (.if_icmp .eq 13, 3) := dk_159 0 13 (dk_at dksX0_ask_3 13 rfl rfl)
theorem dX0_ask_87 : decode cX0_ask 87 = .ok (.iload 10, 2) := dk_21 10 (dk_at dksX0_ask_3 16 rfl rfl)
theorem dX0_ask_89 : decode cX0_ask 89 = .ok (.iload 7, 2) := dk_21 7 (dk_at dksX0_ask_3 18 rfl rfl)
theorem dX0_ask_91 : decode cX0_ask 91 = .ok (.if_icmp .lt 6, 3) := dk_161 0 6 (dk_at dksX0_ask_3 20 rfl rfl)
theorem dX0_ask_94 : decode cX0_ask 94 = .ok (.goto 11, 3) := dk_167 0 11 (dk_at dksX0_ask_4 0 rfl rfl)
theorem dX0_ask_97 : decode cX0_ask 97 = .ok (.iload 10, 2) := dk_21 10 (dk_at dksX0_ask_4 3 rfl rfl)
theorem dX0_ask_99 : decode cX0_ask 99 = .ok (.istore 7, 2) := dk_54 7 (dk_at dksX0_ask_4 5 rfl rfl)
theorem dX0_ask_101 : decode cX0_ask 101 = .ok (.iload 8, 2) := dk_21 8 (dk_at dksX0_ask_4 7 rfl rfl)
theorem dX0_ask_103 : decode cX0_ask 103 = .ok (.istore 6, 2) := dk_54 6 (dk_at dksX0_ask_4 9 rfl rfl)
theorem dX0_ask_105 : decode cX0_ask 105 = .ok (.iinc 8 1, 3) := dk_132 8 1 (dk_at dksX0_ask_4 11 rfl rfl)
theorem dX0_ask_108 : decode cX0_ask 108 = .ok (.goto (-70), 3) := dk_167 255 186 (dk_at dksX0_ask_4 14 rfl rfl)
theorem dX0_ask_111 : decode cX0_ask 111 = .ok (.iload 6, 2) := dk_21 6 (dk_at dksX0_ask_4 17 rfl rfl)
theorem dX0_ask_113 : decode cX0_ask 113 = .ok (.ireturn, 1) := dk_172 (dk_at dksX0_ask_4 19 rfl rfl)
abbrev cX0_boats : ByteArray := prog_1_method_43_code
def yX0_boats : MethodName := ⟨RX0, "boats", "(II)I"⟩
def dkwX0_boats_3 : List UInt8 := [100, 46, 172]
abbrev dktX0_boats_3 : List UInt8 := dkwX0_boats_3 ++ []
def dkwX0_boats_2 : List UInt8 := [154, 0, 9, 132, 3, 1, 167, 255, 242, 28, 154, 0, 7, 29, 167, 0, 12, 42, 180, 0, 38, 28, 16, 10]
abbrev dktX0_boats_2 : List UInt8 := dkwX0_boats_2 ++ dktX0_boats_3
def dkwX0_boats_1 : List UInt8 := [180, 0, 123, 96, 184, 0, 51, 154, 0, 5, 2, 172, 3, 62, 42, 3, 3, 29, 27, 182, 1, 26]
abbrev dktX0_boats_1 : List UInt8 := dkwX0_boats_1 ++ dktX0_boats_2
def dkwX0_boats_0 : List UInt8 := [27, 4, 16, 6, 184, 0, 51, 153, 0, 26, 28, 153, 0, 24, 28, 16, 10, 16, 9, 42, 180, 0, 20]
abbrev dktX0_boats_0 : List UInt8 := dkwX0_boats_0 ++ dktX0_boats_1
theorem dksX0_boats_0 : cX0_boats.data.toList.drop 0 = dktX0_boats_0 := by decide +kernel
theorem dksX0_boats_1 : cX0_boats.data.toList.drop 23 = dktX0_boats_1 := dk_seg dksX0_boats_0 23 rfl rfl
theorem dksX0_boats_2 : cX0_boats.data.toList.drop 45 = dktX0_boats_2 := dk_seg dksX0_boats_1 22 rfl rfl
theorem dksX0_boats_3 : cX0_boats.data.toList.drop 69 = dktX0_boats_3 := dk_seg dksX0_boats_2 24 rfl rfl
theorem dX0_boats_0 : decode cX0_boats 0 = .ok (.iload_n 1, 1) := dk_27 (dk_at dksX0_boats_0 0 rfl rfl)
theorem dX0_boats_1 : decode cX0_boats 1 = .ok (.iconst 1, 1) := dk_4 (dk_at dksX0_boats_0 1 rfl rfl)
theorem dX0_boats_2 : decode cX0_boats 2 = .ok (.bipush 6, 2) := dk_16 6 (dk_at dksX0_boats_0 2 rfl rfl)
theorem dX0_boats_4 : decode cX0_boats 4 = .ok (.invokestatic 51, 3) := dk_184 0 51 (dk_at dksX0_boats_0 4 rfl rfl)
theorem dX0_boats_7 : decode cX0_boats 7 = .ok (.ifCond .eq 26, 3) := dk_153 0 26 (dk_at dksX0_boats_0 7 rfl rfl)
theorem dX0_boats_10 : decode cX0_boats 10 = .ok (.iload_n 2, 1) := dk_28 (dk_at dksX0_boats_0 10 rfl rfl)
theorem dX0_boats_11 : decode cX0_boats 11 = .ok (.ifCond .eq 24, 3) := dk_153 0 24 (dk_at dksX0_boats_0 11 rfl rfl)
theorem dX0_boats_14 : decode cX0_boats 14 = .ok (.iload_n 2, 1) := dk_28 (dk_at dksX0_boats_0 14 rfl rfl)
theorem dX0_boats_15 : decode cX0_boats 15 = .ok (.bipush 10, 2) := dk_16 10 (dk_at dksX0_boats_0 15 rfl rfl)
theorem dX0_boats_17 : decode cX0_boats 17 = .ok (.bipush 9, 2) := dk_16 9 (dk_at dksX0_boats_0 17 rfl rfl)
theorem dX0_boats_19 : decode cX0_boats 19 = .ok (.aload_n 0, 1) := dk_42 (dk_at dksX0_boats_0 19 rfl rfl)
theorem dX0_boats_20 : decode cX0_boats 20 = .ok (.getfield 20, 3) := dk_180 0 20 (dk_at dksX0_boats_0 20 rfl rfl)
theorem dX0_boats_23 : decode cX0_boats 23 = .ok (.getfield 123, 3) := dk_180 0 123 (dk_at dksX0_boats_1 0 rfl rfl)
theorem dX0_boats_26 : decode cX0_boats 26 = .ok (.iadd, 1) := dk_96 (dk_at dksX0_boats_1 3 rfl rfl)
theorem dX0_boats_27 : decode cX0_boats 27 = .ok (.invokestatic 51, 3) := dk_184 0 51 (dk_at dksX0_boats_1 4 rfl rfl)
theorem dX0_boats_30 : decode cX0_boats 30 = .ok (.ifCond .ne 5, 3) := dk_154 0 5 (dk_at dksX0_boats_1 7 rfl rfl)
theorem dX0_boats_33 : decode cX0_boats 33 = .ok (.iconst (-1), 1) := dk_2 (dk_at dksX0_boats_1 10 rfl rfl)
theorem dX0_boats_34 : decode cX0_boats 34 = .ok (.ireturn, 1) := dk_172 (dk_at dksX0_boats_1 11 rfl rfl)
theorem dX0_boats_35 : decode cX0_boats 35 = .ok (.iconst 0, 1) := dk_3 (dk_at dksX0_boats_1 12 rfl rfl)
theorem dX0_boats_36 : decode cX0_boats 36 = .ok (.istore_n 3, 1) := dk_62 (dk_at dksX0_boats_1 13 rfl rfl)
theorem dX0_boats_37 : decode cX0_boats 37 = .ok (.aload_n 0, 1) := dk_42 (dk_at dksX0_boats_1 14 rfl rfl)
theorem dX0_boats_38 : decode cX0_boats 38 = .ok (.iconst 0, 1) := dk_3 (dk_at dksX0_boats_1 15 rfl rfl)
theorem dX0_boats_39 : decode cX0_boats 39 = .ok (.iconst 0, 1) := dk_3 (dk_at dksX0_boats_1 16 rfl rfl)
theorem dX0_boats_40 : decode cX0_boats 40 = .ok (.iload_n 3, 1) := dk_29 (dk_at dksX0_boats_1 17 rfl rfl)
theorem dX0_boats_41 : decode cX0_boats 41 = .ok (.iload_n 1, 1) := dk_27 (dk_at dksX0_boats_1 18 rfl rfl)
theorem dX0_boats_42 : decode cX0_boats 42 = .ok (.invokevirtual 282, 3) := dk_182 1 26 (dk_at dksX0_boats_1 19 rfl rfl)
theorem dX0_boats_45 : decode cX0_boats 45 = .ok (.ifCond .ne 9, 3) := dk_154 0 9 (dk_at dksX0_boats_2 0 rfl rfl)
theorem dX0_boats_48 : decode cX0_boats 48 = .ok (.iinc 3 1, 3) := dk_132 3 1 (dk_at dksX0_boats_2 3 rfl rfl)
theorem dX0_boats_51 : decode cX0_boats 51 = .ok (.goto (-14), 3) := dk_167 255 242 (dk_at dksX0_boats_2 6 rfl rfl)
theorem dX0_boats_54 : decode cX0_boats 54 = .ok (.iload_n 2, 1) := dk_28 (dk_at dksX0_boats_2 9 rfl rfl)
theorem dX0_boats_55 : decode cX0_boats 55 = .ok (.ifCond .ne 7, 3) := dk_154 0 7 (dk_at dksX0_boats_2 10 rfl rfl)
theorem dX0_boats_58 : decode cX0_boats 58 = .ok (.iload_n 3, 1) := dk_29 (dk_at dksX0_boats_2 13 rfl rfl)
theorem dX0_boats_59 : decode cX0_boats 59 = .ok (.goto 12, 3) := dk_167 0 12 (dk_at dksX0_boats_2 14 rfl rfl)
theorem dX0_boats_62 : decode cX0_boats 62 = .ok (.aload_n 0, 1) := dk_42 (dk_at dksX0_boats_2 17 rfl rfl)
theorem dX0_boats_63 : decode cX0_boats 63 = .ok (.getfield 38, 3) := dk_180 0 38 (dk_at dksX0_boats_2 18 rfl rfl)
theorem dX0_boats_66 : decode cX0_boats 66 = .ok (.iload_n 2, 1) := dk_28 (dk_at dksX0_boats_2 21 rfl rfl)
theorem dX0_boats_67 : decode cX0_boats 67 = .ok (.bipush 10, 2) := dk_16 10 (dk_at dksX0_boats_2 22 rfl rfl)
theorem dX0_boats_69 : decode cX0_boats 69 = .ok (.isub, 1) := dk_100 (dk_at dksX0_boats_3 0 rfl rfl)
theorem dX0_boats_70 : decode cX0_boats 70 = .ok (.iaload, 1) := dk_46 (dk_at dksX0_boats_3 1 rfl rfl)
theorem dX0_boats_71 : decode cX0_boats 71 = .ok (.ireturn, 1) := dk_172 (dk_at dksX0_boats_3 2 rfl rfl)
abbrev cX0_sails : ByteArray := prog_1_method_42_code
def yX0_sails : MethodName := ⟨RX0, "sails", "(IIII)Z"⟩
def dkwX0_sails_5 : List UInt8 := [172]
abbrev dktX0_sails_5 : List UInt8 := dkwX0_sails_5 ++ []
def dkwX0_sails_4 : List UInt8 := [21, 4, 182, 1, 26, 153, 0, 5, 4, 172, 42, 180, 0, 38, 27, 2, 79, 132, 5, 1, 167, 255, 188, 3]
abbrev dktX0_sails_4 : List UInt8 := dkwX0_sails_4 ++ dktX0_sails_5
def dkwX0_sails_3 : List UInt8 := [167, 0, 41, 42, 180, 0, 38, 27, 21, 5, 79, 42, 27, 4, 96, 28, 21, 5, 4, 96, 184, 0, 237, 29]
abbrev dktX0_sails_3 : List UInt8 := dkwX0_sails_3 ++ dktX0_sails_4
def dkwX0_sails_2 : List UInt8 := [21, 5, 28, 163, 0, 68, 21, 5, 29, 162, 0, 62, 42, 27, 21, 5, 21, 4, 182, 1, 30, 154, 0, 6]
abbrev dktX0_sails_2 : List UInt8 := dkwX0_sails_2 ++ dktX0_sails_3
def dkwX0_sails_1 : List UInt8 := [180, 0, 194, 27, 46, 4, 160, 0, 15, 42, 27, 4, 96, 28, 29, 21, 4, 182, 1, 26, 172, 3, 54, 5]
abbrev dktX0_sails_1 : List UInt8 := dkwX0_sails_1 ++ dktX0_sails_2
def dkwX0_sails_0 : List UInt8 := [27, 42, 180, 0, 20, 180, 0, 123, 160, 0, 5, 4, 172, 42, 180, 0, 38, 27, 2, 79, 42, 180, 0, 20]
abbrev dktX0_sails_0 : List UInt8 := dkwX0_sails_0 ++ dktX0_sails_1
theorem dksX0_sails_0 : cX0_sails.data.toList.drop 0 = dktX0_sails_0 := by decide +kernel
theorem dksX0_sails_1 : cX0_sails.data.toList.drop 24 = dktX0_sails_1 := dk_seg dksX0_sails_0 24 rfl rfl
theorem dksX0_sails_2 : cX0_sails.data.toList.drop 48 = dktX0_sails_2 := dk_seg dksX0_sails_1 24 rfl rfl
theorem dksX0_sails_3 : cX0_sails.data.toList.drop 72 = dktX0_sails_3 := dk_seg dksX0_sails_2 24 rfl rfl
theorem dksX0_sails_4 : cX0_sails.data.toList.drop 96 = dktX0_sails_4 := dk_seg dksX0_sails_3 24 rfl rfl
theorem dksX0_sails_5 : cX0_sails.data.toList.drop 120 = dktX0_sails_5 := dk_seg dksX0_sails_4 24 rfl rfl
theorem dX0_sails_0 : decode cX0_sails 0 = .ok (.iload_n 1, 1) := dk_27 (dk_at dksX0_sails_0 0 rfl rfl)
theorem dX0_sails_1 : decode cX0_sails 1 = .ok (.aload_n 0, 1) := dk_42 (dk_at dksX0_sails_0 1 rfl rfl)
theorem dX0_sails_2 : decode cX0_sails 2 = .ok (.getfield 20, 3) := dk_180 0 20 (dk_at dksX0_sails_0 2 rfl rfl)
theorem dX0_sails_5 : decode cX0_sails 5 = .ok (.getfield 123, 3) := dk_180 0 123 (dk_at dksX0_sails_0 5 rfl rfl)
theorem dX0_sails_8 : decode cX0_sails 8 = .ok (.if_icmp .ne 5, 3) := dk_160 0 5 (dk_at dksX0_sails_0 8 rfl rfl)
theorem dX0_sails_11 : decode cX0_sails 11 = .ok (.iconst 1, 1) := dk_4 (dk_at dksX0_sails_0 11 rfl rfl)
theorem dX0_sails_12 : decode cX0_sails 12 = .ok (.ireturn, 1) := dk_172 (dk_at dksX0_sails_0 12 rfl rfl)
theorem dX0_sails_13 : decode cX0_sails 13 = .ok (.aload_n 0, 1) := dk_42 (dk_at dksX0_sails_0 13 rfl rfl)
theorem dX0_sails_14 : decode cX0_sails 14 = .ok (.getfield 38, 3) := dk_180 0 38 (dk_at dksX0_sails_0 14 rfl rfl)
theorem dX0_sails_17 : decode cX0_sails 17 = .ok (.iload_n 1, 1) := dk_27 (dk_at dksX0_sails_0 17 rfl rfl)
theorem dX0_sails_18 : decode cX0_sails 18 = .ok (.iconst (-1), 1) := dk_2 (dk_at dksX0_sails_0 18 rfl rfl)
theorem dX0_sails_19 : decode cX0_sails 19 = .ok (.iastore, 1) := dk_79 (dk_at dksX0_sails_0 19 rfl rfl)
theorem dX0_sails_20 : decode cX0_sails 20 = .ok (.aload_n 0, 1) := dk_42 (dk_at dksX0_sails_0 20 rfl rfl)
theorem dX0_sails_21 : decode cX0_sails 21 = .ok (.getfield 20, 3) := dk_180 0 20 (dk_at dksX0_sails_0 21 rfl rfl)
theorem dX0_sails_24 : decode cX0_sails 24 = .ok (.getfield 194, 3) := dk_180 0 194 (dk_at dksX0_sails_1 0 rfl rfl)
theorem dX0_sails_27 : decode cX0_sails 27 = .ok (.iload_n 1, 1) := dk_27 (dk_at dksX0_sails_1 3 rfl rfl)
theorem dX0_sails_28 : decode cX0_sails 28 = .ok (.iaload, 1) := dk_46 (dk_at dksX0_sails_1 4 rfl rfl)
theorem dX0_sails_29 : decode cX0_sails 29 = .ok (.iconst 1, 1) := dk_4 (dk_at dksX0_sails_1 5 rfl rfl)
theorem dX0_sails_30 : decode cX0_sails 30 = .ok (.if_icmp .ne 15, 3) := dk_160 0 15 (dk_at dksX0_sails_1 6 rfl rfl)
theorem dX0_sails_33 : decode cX0_sails 33 = .ok (.aload_n 0, 1) := dk_42 (dk_at dksX0_sails_1 9 rfl rfl)
theorem dX0_sails_34 : decode cX0_sails 34 = .ok (.iload_n 1, 1) := dk_27 (dk_at dksX0_sails_1 10 rfl rfl)
theorem dX0_sails_35 : decode cX0_sails 35 = .ok (.iconst 1, 1) := dk_4 (dk_at dksX0_sails_1 11 rfl rfl)
theorem dX0_sails_36 : decode cX0_sails 36 = .ok (.iadd, 1) := dk_96 (dk_at dksX0_sails_1 12 rfl rfl)
theorem dX0_sails_37 : decode cX0_sails 37 = .ok (.iload_n 2, 1) := dk_28 (dk_at dksX0_sails_1 13 rfl rfl)
theorem dX0_sails_38 : decode cX0_sails 38 = .ok (.iload_n 3, 1) := dk_29 (dk_at dksX0_sails_1 14 rfl rfl)
theorem dX0_sails_39 : decode cX0_sails 39 = .ok (.iload 4, 2) := dk_21 4 (dk_at dksX0_sails_1 15 rfl rfl)
theorem dX0_sails_41 : decode cX0_sails 41 = .ok (.invokevirtual 282, 3) := dk_182 1 26 (dk_at dksX0_sails_1 17 rfl rfl)
theorem dX0_sails_44 : decode cX0_sails 44 = .ok (.ireturn, 1) := dk_172 (dk_at dksX0_sails_1 20 rfl rfl)
theorem dX0_sails_45 : decode cX0_sails 45 = .ok (.iconst 0, 1) := dk_3 (dk_at dksX0_sails_1 21 rfl rfl)
theorem dX0_sails_46 : decode cX0_sails 46 = .ok (.istore 5, 2) := dk_54 5 (dk_at dksX0_sails_1 22 rfl rfl)
theorem dX0_sails_48 : decode cX0_sails 48 = .ok (.iload 5, 2) := dk_21 5 (dk_at dksX0_sails_2 0 rfl rfl)
theorem dX0_sails_50 : decode cX0_sails 50 = .ok (.iload_n 2, 1) := dk_28 (dk_at dksX0_sails_2 2 rfl rfl)
theorem dX0_sails_51 : decode cX0_sails 51 = .ok (.if_icmp .gt 68, 3) := dk_163 0 68 (dk_at dksX0_sails_2 3 rfl rfl)
theorem dX0_sails_54 : decode cX0_sails 54 = .ok (.iload 5, 2) := dk_21 5 (dk_at dksX0_sails_2 6 rfl rfl)
theorem dX0_sails_56 : decode cX0_sails 56 = .ok (.iload_n 3, 1) := dk_29 (dk_at dksX0_sails_2 8 rfl rfl)
theorem dX0_sails_57 : decode cX0_sails 57 = .ok (.if_icmp .ge 62, 3) := dk_162 0 62 (dk_at dksX0_sails_2 9 rfl rfl)
theorem dX0_sails_60 : decode cX0_sails 60 = .ok (.aload_n 0, 1) := dk_42 (dk_at dksX0_sails_2 12 rfl rfl)
theorem dX0_sails_61 : decode cX0_sails 61 = .ok (.iload_n 1, 1) := dk_27 (dk_at dksX0_sails_2 13 rfl rfl)
theorem dX0_sails_62 : decode cX0_sails 62 = .ok (.iload 5, 2) := dk_21 5 (dk_at dksX0_sails_2 14 rfl rfl)
theorem dX0_sails_64 : decode cX0_sails 64 = .ok (.iload 4, 2) := dk_21 4 (dk_at dksX0_sails_2 16 rfl rfl)
theorem dX0_sails_66 : decode cX0_sails 66 = .ok (.invokevirtual 286, 3) := dk_182 1 30 (dk_at dksX0_sails_2 18 rfl rfl)
theorem dX0_sails_69 : decode cX0_sails 69 = .ok (.ifCond .ne 6, 3) := dk_154 0 6 (dk_at dksX0_sails_2 21 rfl rfl)
theorem dX0_sails_72 : decode cX0_sails 72 = .ok (.goto 41, 3) := dk_167 0 41 (dk_at dksX0_sails_3 0 rfl rfl)
theorem dX0_sails_75 : decode cX0_sails 75 = .ok (.aload_n 0, 1) := dk_42 (dk_at dksX0_sails_3 3 rfl rfl)
theorem dX0_sails_76 : decode cX0_sails 76 = .ok (.getfield 38, 3) := dk_180 0 38 (dk_at dksX0_sails_3 4 rfl rfl)
theorem dX0_sails_79 : decode cX0_sails 79 = .ok (.iload_n 1, 1) := dk_27 (dk_at dksX0_sails_3 7 rfl rfl)
theorem dX0_sails_80 : decode cX0_sails 80 = .ok (.iload 5, 2) := dk_21 5 (dk_at dksX0_sails_3 8 rfl rfl)
theorem dX0_sails_82 : decode cX0_sails 82 = .ok (.iastore, 1) := dk_79 (dk_at dksX0_sails_3 10 rfl rfl)
theorem dX0_sails_83 : decode cX0_sails 83 = .ok (.aload_n 0, 1) := dk_42 (dk_at dksX0_sails_3 11 rfl rfl)
theorem dX0_sails_84 : decode cX0_sails 84 = .ok (.iload_n 1, 1) := dk_27 (dk_at dksX0_sails_3 12 rfl rfl)
theorem dX0_sails_85 : decode cX0_sails 85 = .ok (.iconst 1, 1) := dk_4 (dk_at dksX0_sails_3 13 rfl rfl)
theorem dX0_sails_86 : decode cX0_sails 86 = .ok (.iadd, 1) := dk_96 (dk_at dksX0_sails_3 14 rfl rfl)
theorem dX0_sails_87 : decode cX0_sails 87 = .ok (.iload_n 2, 1) := dk_28 (dk_at dksX0_sails_3 15 rfl rfl)
theorem dX0_sails_88 : decode cX0_sails 88 = .ok (.iload 5, 2) := dk_21 5 (dk_at dksX0_sails_3 16 rfl rfl)
theorem dX0_sails_90 : decode cX0_sails 90 = .ok (.iconst 1, 1) := dk_4 (dk_at dksX0_sails_3 18 rfl rfl)
theorem dX0_sails_91 : decode cX0_sails 91 = .ok (.iadd, 1) := dk_96 (dk_at dksX0_sails_3 19 rfl rfl)
theorem dX0_sails_92 : decode cX0_sails 92 = .ok (.invokestatic 237, 3) := dk_184 0 237 (dk_at dksX0_sails_3 20 rfl rfl)
theorem dX0_sails_95 : decode cX0_sails 95 = .ok (.iload_n 3, 1) := dk_29 (dk_at dksX0_sails_3 23 rfl rfl)
theorem dX0_sails_96 : decode cX0_sails 96 = .ok (.iload 4, 2) := dk_21 4 (dk_at dksX0_sails_4 0 rfl rfl)
theorem dX0_sails_98 : decode cX0_sails 98 = .ok (.invokevirtual 282, 3) := dk_182 1 26 (dk_at dksX0_sails_4 2 rfl rfl)
theorem dX0_sails_101 : decode cX0_sails 101 = .ok (.ifCond .eq 5, 3) := dk_153 0 5 (dk_at dksX0_sails_4 5 rfl rfl)
theorem dX0_sails_104 : decode cX0_sails 104 = .ok (.iconst 1, 1) := dk_4 (dk_at dksX0_sails_4 8 rfl rfl)
theorem dX0_sails_105 : decode cX0_sails 105 = .ok (.ireturn, 1) := dk_172 (dk_at dksX0_sails_4 9 rfl rfl)
theorem dX0_sails_106 : decode cX0_sails 106 = .ok (.aload_n 0, 1) := dk_42 (dk_at dksX0_sails_4 10 rfl rfl)
theorem dX0_sails_107 : decode cX0_sails 107 = .ok (.getfield 38, 3) := dk_180 0 38 (dk_at dksX0_sails_4 11 rfl rfl)
theorem dX0_sails_110 : decode cX0_sails 110 = .ok (.iload_n 1, 1) := dk_27 (dk_at dksX0_sails_4 14 rfl rfl)
theorem dX0_sails_111 : decode cX0_sails 111 = .ok (.iconst (-1), 1) := dk_2 (dk_at dksX0_sails_4 15 rfl rfl)
theorem dX0_sails_112 : decode cX0_sails 112 = .ok (.iastore, 1) := dk_79 (dk_at dksX0_sails_4 16 rfl rfl)
theorem dX0_sails_113 : decode cX0_sails 113 = .ok (.iinc 5 1, 3) := dk_132 5 1 (dk_at dksX0_sails_4 17 rfl rfl)
theorem dX0_sails_116 : decode cX0_sails 116 = .ok (.goto (-68), 3) := dk_167 255 188 (dk_at dksX0_sails_4 20 rfl rfl)
theorem dX0_sails_119 : decode cX0_sails 119 = .ok (.iconst 0, 1) := dk_3 (dk_at dksX0_sails_4 23 rfl rfl)
theorem dX0_sails_120 : decode cX0_sails 120 = .ok (.ireturn, 1) := dk_172 (dk_at dksX0_sails_5 0 rfl rfl)
abbrev cX0_canSail : ByteArray := prog_1_method_41_code
def yX0_canSail : MethodName := ⟨RX0, "canSail", "(III)Z"⟩
def dkwX0_canSail_3 : List UInt8 := [162, 0, 7, 4, 167, 0, 4, 3, 172]
abbrev dktX0_canSail_3 : List UInt8 := dkwX0_canSail_3 ++ []
def dkwX0_canSail_2 : List UInt8 := [27, 46, 182, 0, 221, 153, 0, 5, 3, 172, 132, 4, 1, 132, 5, 1, 167, 255, 199, 21, 4, 29]
abbrev dktX0_canSail_2 : List UInt8 := dkwX0_canSail_2 ++ dktX0_canSail_3
def dkwX0_canSail_1 : List UInt8 := [167, 0, 37, 42, 180, 0, 20, 42, 180, 0, 20, 180, 0, 186, 21, 5, 46, 42, 180, 0, 20, 180, 0, 186]
abbrev dktX0_canSail_1 : List UInt8 := dkwX0_canSail_1 ++ dktX0_canSail_2
def dkwX0_canSail_0 : List UInt8 := [3, 54, 4, 3, 54, 5, 21, 5, 27, 162, 0, 57, 42, 180, 0, 38, 21, 5, 46, 28, 159, 0, 6]
abbrev dktX0_canSail_0 : List UInt8 := dkwX0_canSail_0 ++ dktX0_canSail_1
theorem dksX0_canSail_0 : cX0_canSail.data.toList.drop 0 = dktX0_canSail_0 := by decide +kernel
theorem dksX0_canSail_1 : cX0_canSail.data.toList.drop 23 = dktX0_canSail_1 := dk_seg dksX0_canSail_0 23 rfl rfl
theorem dksX0_canSail_2 : cX0_canSail.data.toList.drop 47 = dktX0_canSail_2 := dk_seg dksX0_canSail_1 24 rfl rfl
theorem dksX0_canSail_3 : cX0_canSail.data.toList.drop 69 = dktX0_canSail_3 := dk_seg dksX0_canSail_2 22 rfl rfl
theorem dX0_canSail_0 : decode cX0_canSail 0 = .ok (.iconst 0, 1) := dk_3 (dk_at dksX0_canSail_0 0 rfl rfl)
theorem dX0_canSail_1 : decode cX0_canSail 1 = .ok (.istore 4, 2) := dk_54 4 (dk_at dksX0_canSail_0 1 rfl rfl)
theorem dX0_canSail_3 : decode cX0_canSail 3 = .ok (.iconst 0, 1) := dk_3 (dk_at dksX0_canSail_0 3 rfl rfl)
theorem dX0_canSail_4 : decode cX0_canSail 4 = .ok (.istore 5, 2) := dk_54 5 (dk_at dksX0_canSail_0 4 rfl rfl)
theorem dX0_canSail_6 : decode cX0_canSail 6 = .ok (.iload 5, 2) := dk_21 5 (dk_at dksX0_canSail_0 6 rfl rfl)
theorem dX0_canSail_8 : decode cX0_canSail 8 = .ok (.iload_n 1, 1) := dk_27 (dk_at dksX0_canSail_0 8 rfl rfl)
theorem dX0_canSail_9 : decode cX0_canSail 9 = .ok (.if_icmp .ge 57, 3) := dk_162 0 57 (dk_at dksX0_canSail_0 9 rfl rfl)
theorem dX0_canSail_12 : decode cX0_canSail 12 = .ok (.aload_n 0, 1) := dk_42 (dk_at dksX0_canSail_0 12 rfl rfl)
theorem dX0_canSail_13 : decode cX0_canSail 13 = .ok (.getfield 38, 3) := dk_180 0 38 (dk_at dksX0_canSail_0 13 rfl rfl)
theorem dX0_canSail_16 : decode cX0_canSail 16 = .ok (.iload 5, 2) := dk_21 5 (dk_at dksX0_canSail_0 16 rfl rfl)
theorem dX0_canSail_18 : decode cX0_canSail 18 = .ok (.iaload, 1) := dk_46 (dk_at dksX0_canSail_0 18 rfl rfl)
theorem dX0_canSail_19 : decode cX0_canSail 19 = .ok (.iload_n 2, 1) := dk_28 (dk_at dksX0_canSail_0 19 rfl rfl)
theorem dX0_canSail_20 : decode cX0_canSail 20 = .ok (.if_icmp .eq 6, 3) := dk_159 0 6 (dk_at dksX0_canSail_0 20 rfl rfl)
theorem dX0_canSail_23 : decode cX0_canSail 23 = .ok (.goto 37, 3) := dk_167 0 37 (dk_at dksX0_canSail_1 0 rfl rfl)
theorem dX0_canSail_26 : decode cX0_canSail 26 = .ok (.aload_n 0, 1) := dk_42 (dk_at dksX0_canSail_1 3 rfl rfl)
theorem dX0_canSail_27 : decode cX0_canSail 27 = .ok (.getfield 20, 3) := dk_180 0 20 (dk_at dksX0_canSail_1 4 rfl rfl)
theorem dX0_canSail_30 : decode cX0_canSail 30 = .ok (.aload_n 0, 1) := dk_42 (dk_at dksX0_canSail_1 7 rfl rfl)
theorem dX0_canSail_31 : decode cX0_canSail 31 = .ok (.getfield 20, 3) := dk_180 0 20 (dk_at dksX0_canSail_1 8 rfl rfl)
theorem dX0_canSail_34 : decode cX0_canSail 34 = .ok (.getfield 186, 3) := dk_180 0 186 (dk_at dksX0_canSail_1 11 rfl rfl)
theorem dX0_canSail_37 : decode cX0_canSail 37 = .ok (.iload 5, 2) := dk_21 5 (dk_at dksX0_canSail_1 14 rfl rfl)
theorem dX0_canSail_39 : decode cX0_canSail 39 = .ok (.iaload, 1) := dk_46 (dk_at dksX0_canSail_1 16 rfl rfl)
theorem dX0_canSail_40 : decode cX0_canSail 40 = .ok (.aload_n 0, 1) := dk_42 (dk_at dksX0_canSail_1 17 rfl rfl)
theorem dX0_canSail_41 : decode cX0_canSail 41 = .ok (.getfield 20, 3) := dk_180 0 20 (dk_at dksX0_canSail_1 18 rfl rfl)
theorem dX0_canSail_44 : decode cX0_canSail 44 = .ok (.getfield 186, 3) := dk_180 0 186 (dk_at dksX0_canSail_1 21 rfl rfl)
theorem dX0_canSail_47 : decode cX0_canSail 47 = .ok (.iload_n 1, 1) := dk_27 (dk_at dksX0_canSail_2 0 rfl rfl)
theorem dX0_canSail_48 : decode cX0_canSail 48 = .ok (.iaload, 1) := dk_46 (dk_at dksX0_canSail_2 1 rfl rfl)
theorem dX0_canSail_49 : decode cX0_canSail 49 = .ok (.invokevirtual 221, 3) := dk_182 0 221 (dk_at dksX0_canSail_2 2 rfl rfl)
theorem dX0_canSail_52 : decode cX0_canSail 52 = .ok (.ifCond .eq 5, 3) := dk_153 0 5 (dk_at dksX0_canSail_2 5 rfl rfl)
theorem dX0_canSail_55 : decode cX0_canSail 55 = .ok (.iconst 0, 1) := dk_3 (dk_at dksX0_canSail_2 8 rfl rfl)
theorem dX0_canSail_56 : decode cX0_canSail 56 = .ok (.ireturn, 1) := dk_172 (dk_at dksX0_canSail_2 9 rfl rfl)
theorem dX0_canSail_57 : decode cX0_canSail 57 = .ok (.iinc 4 1, 3) := dk_132 4 1 (dk_at dksX0_canSail_2 10 rfl rfl)
theorem dX0_canSail_60 : decode cX0_canSail 60 = .ok (.iinc 5 1, 3) := dk_132 5 1 (dk_at dksX0_canSail_2 13 rfl rfl)
theorem dX0_canSail_63 : decode cX0_canSail 63 = .ok (.goto (-57), 3) := dk_167 255 199 (dk_at dksX0_canSail_2 16 rfl rfl)
theorem dX0_canSail_66 : decode cX0_canSail 66 = .ok (.iload 4, 2) := dk_21 4 (dk_at dksX0_canSail_2 19 rfl rfl)
theorem dX0_canSail_68 : decode cX0_canSail 68 = .ok (.iload_n 3, 1) := dk_29 (dk_at dksX0_canSail_2 21 rfl rfl)
theorem dX0_canSail_69 : decode cX0_canSail 69 = .ok (.if_icmp .ge 7, 3) := dk_162 0 7 (dk_at dksX0_canSail_3 0 rfl rfl)
theorem dX0_canSail_72 : decode cX0_canSail 72 = .ok (.iconst 1, 1) := dk_4 (dk_at dksX0_canSail_3 3 rfl rfl)
theorem dX0_canSail_73 : decode cX0_canSail 73 = .ok (.goto 4, 3) := dk_167 0 4 (dk_at dksX0_canSail_3 4 rfl rfl)
theorem dX0_canSail_76 : decode cX0_canSail 76 = .ok (.iconst 0, 1) := dk_3 (dk_at dksX0_canSail_3 7 rfl rfl)
theorem dX0_canSail_77 : decode cX0_canSail 77 = .ok (.ireturn, 1) := dk_172 (dk_at dksX0_canSail_3 8 rfl rfl)
abbrev cX0_child : ByteArray := prog_1_method_44_code
def yX0_child : MethodName := ⟨RX0, "child", "(III)I"⟩
def dkwX0_child_2 : List UInt8 := [159, 0, 7, 29, 154, 0, 8, 21, 4, 167, 0, 11, 42, 180, 0, 27, 27, 182, 1, 33, 172]
abbrev dktX0_child_2 : List UInt8 := dkwX0_child_2 ++ []
def dkwX0_child_1 : List UInt8 := [154, 0, 5, 2, 172, 42, 28, 182, 0, 209, 42, 180, 0, 27, 27, 182, 0, 164, 54, 4, 21, 4, 2]
abbrev dktX0_child_1 : List UInt8 := dkwX0_child_1 ++ dktX0_child_2
def dkwX0_child_0 : List UInt8 := [27, 184, 0, 120, 153, 0, 22, 28, 3, 16, 60, 184, 0, 51, 153, 0, 12, 29, 3, 4, 184, 0, 51]
abbrev dktX0_child_0 : List UInt8 := dkwX0_child_0 ++ dktX0_child_1
theorem dksX0_child_0 : cX0_child.data.toList.drop 0 = dktX0_child_0 := by decide +kernel
theorem dksX0_child_1 : cX0_child.data.toList.drop 23 = dktX0_child_1 := dk_seg dksX0_child_0 23 rfl rfl
theorem dksX0_child_2 : cX0_child.data.toList.drop 46 = dktX0_child_2 := dk_seg dksX0_child_1 23 rfl rfl
theorem dX0_child_0 : decode cX0_child 0 = .ok (.iload_n 1, 1) := dk_27 (dk_at dksX0_child_0 0 rfl rfl)
theorem dX0_child_1 : decode cX0_child 1 = .ok (.invokestatic 120, 3) := dk_184 0 120 (dk_at dksX0_child_0 1 rfl rfl)
theorem dX0_child_4 : decode cX0_child 4 = .ok (.ifCond .eq 22, 3) := dk_153 0 22 (dk_at dksX0_child_0 4 rfl rfl)
theorem dX0_child_7 : decode cX0_child 7 = .ok (.iload_n 2, 1) := dk_28 (dk_at dksX0_child_0 7 rfl rfl)
theorem dX0_child_8 : decode cX0_child 8 = .ok (.iconst 0, 1) := dk_3 (dk_at dksX0_child_0 8 rfl rfl)
theorem dX0_child_9 : decode cX0_child 9 = .ok (.bipush 60, 2) := dk_16 60 (dk_at dksX0_child_0 9 rfl rfl)
theorem dX0_child_11 : decode cX0_child 11 = .ok (.invokestatic 51, 3) := dk_184 0 51 (dk_at dksX0_child_0 11 rfl rfl)
theorem dX0_child_14 : decode cX0_child 14 = .ok (.ifCond .eq 12, 3) := dk_153 0 12 (dk_at dksX0_child_0 14 rfl rfl)
theorem dX0_child_17 : decode cX0_child 17 = .ok (.iload_n 3, 1) := dk_29 (dk_at dksX0_child_0 17 rfl rfl)
theorem dX0_child_18 : decode cX0_child 18 = .ok (.iconst 0, 1) := dk_3 (dk_at dksX0_child_0 18 rfl rfl)
theorem dX0_child_19 : decode cX0_child 19 = .ok (.iconst 1, 1) := dk_4 (dk_at dksX0_child_0 19 rfl rfl)
theorem dX0_child_20 : decode cX0_child 20 = .ok (.invokestatic 51, 3) := dk_184 0 51 (dk_at dksX0_child_0 20 rfl rfl)
theorem dX0_child_23 : decode cX0_child 23 = .ok (.ifCond .ne 5, 3) := dk_154 0 5 (dk_at dksX0_child_1 0 rfl rfl)
theorem dX0_child_26 : decode cX0_child 26 = .ok (.iconst (-1), 1) := dk_2 (dk_at dksX0_child_1 3 rfl rfl)
theorem dX0_child_27 : decode cX0_child 27 = .ok (.ireturn, 1) := dk_172 (dk_at dksX0_child_1 4 rfl rfl)
theorem dX0_child_28 : decode cX0_child 28 = .ok (.aload_n 0, 1) := dk_42 (dk_at dksX0_child_1 5 rfl rfl)
theorem dX0_child_29 : decode cX0_child 29 = .ok (.iload_n 2, 1) := dk_28 (dk_at dksX0_child_1 6 rfl rfl)
theorem dX0_child_30 : decode cX0_child 30 = .ok (.invokevirtual 209, 3) := dk_182 0 209 (dk_at dksX0_child_1 7 rfl rfl)
theorem dX0_child_33 : decode cX0_child 33 = .ok (.aload_n 0, 1) := dk_42 (dk_at dksX0_child_1 10 rfl rfl)
theorem dX0_child_34 : decode cX0_child 34 = .ok (.getfield 27, 3) := dk_180 0 27 (dk_at dksX0_child_1 11 rfl rfl)
theorem dX0_child_37 : decode cX0_child 37 = .ok (.iload_n 1, 1) := dk_27 (dk_at dksX0_child_1 14 rfl rfl)
theorem dX0_child_38 : decode cX0_child 38 = .ok (.invokevirtual 164, 3) := dk_182 0 164 (dk_at dksX0_child_1 15 rfl rfl)
theorem dX0_child_41 : decode cX0_child 41 = .ok (.istore 4, 2) := dk_54 4 (dk_at dksX0_child_1 18 rfl rfl)
theorem dX0_child_43 : decode cX0_child 43 = .ok (.iload 4, 2) := dk_21 4 (dk_at dksX0_child_1 20 rfl rfl)
theorem dX0_child_45 : decode cX0_child 45 = .ok (.iconst (-1), 1) := dk_2 (dk_at dksX0_child_1 22 rfl rfl)
theorem dX0_child_46 : decode cX0_child 46 = .ok (.if_icmp .eq 7, 3) := dk_159 0 7 (dk_at dksX0_child_2 0 rfl rfl)
theorem dX0_child_49 : decode cX0_child 49 = .ok (.iload_n 3, 1) := dk_29 (dk_at dksX0_child_2 3 rfl rfl)
theorem dX0_child_50 : decode cX0_child 50 = .ok (.ifCond .ne 8, 3) := dk_154 0 8 (dk_at dksX0_child_2 4 rfl rfl)
theorem dX0_child_53 : decode cX0_child 53 = .ok (.iload 4, 2) := dk_21 4 (dk_at dksX0_child_2 7 rfl rfl)
theorem dX0_child_55 : decode cX0_child 55 = .ok (.goto 11, 3) := dk_167 0 11 (dk_at dksX0_child_2 9 rfl rfl)
theorem dX0_child_58 : decode cX0_child 58 = .ok (.aload_n 0, 1) := dk_42 (dk_at dksX0_child_2 12 rfl rfl)
theorem dX0_child_59 : decode cX0_child 59 = .ok (.getfield 27, 3) := dk_180 0 27 (dk_at dksX0_child_2 13 rfl rfl)
theorem dX0_child_62 : decode cX0_child 62 = .ok (.iload_n 1, 1) := dk_27 (dk_at dksX0_child_2 16 rfl rfl)
theorem dX0_child_63 : decode cX0_child 63 = .ok (.invokevirtual 289, 3) := dk_182 1 33 (dk_at dksX0_child_2 17 rfl rfl)
theorem dX0_child_66 : decode cX0_child 66 = .ok (.ireturn, 1) := dk_172 (dk_at dksX0_child_2 20 rfl rfl)
abbrev cX0_anew : ByteArray := prog_1_method_47_code
def yX0_anew : MethodName := ⟨RX0, "anew", "(I)I"⟩
def dkwX0_anew_3 : List UInt8 := [167, 0, 4, 28, 172]
abbrev dktX0_anew_3 : List UInt8 := dkwX0_anew_3 ++ []
def dkwX0_anew_2 : List UInt8 := [182, 1, 39, 153, 0, 5, 29, 61, 132, 3, 1, 167, 255, 214, 27, 154, 0, 10, 28, 184, 1, 12]
abbrev dktX0_anew_2 : List UInt8 := dkwX0_anew_2 ++ dktX0_anew_3
def dkwX0_anew_1 : List UInt8 := [120, 162, 0, 35, 28, 2, 159, 0, 14, 29, 184, 1, 12, 28, 184, 1, 12, 162, 0, 13, 42, 29]
abbrev dktX0_anew_1 : List UInt8 := dkwX0_anew_1 ++ dktX0_anew_2
def dkwX0_anew_0 : List UInt8 := [27, 3, 4, 184, 0, 51, 154, 0, 5, 2, 172, 2, 61, 3, 62, 29, 4, 42, 180, 0, 20, 180, 0, 123]
abbrev dktX0_anew_0 : List UInt8 := dkwX0_anew_0 ++ dktX0_anew_1
theorem dksX0_anew_0 : cX0_anew.data.toList.drop 0 = dktX0_anew_0 := by decide +kernel
theorem dksX0_anew_1 : cX0_anew.data.toList.drop 24 = dktX0_anew_1 := dk_seg dksX0_anew_0 24 rfl rfl
theorem dksX0_anew_2 : cX0_anew.data.toList.drop 46 = dktX0_anew_2 := dk_seg dksX0_anew_1 22 rfl rfl
theorem dksX0_anew_3 : cX0_anew.data.toList.drop 68 = dktX0_anew_3 := dk_seg dksX0_anew_2 22 rfl rfl
theorem dX0_anew_0 : decode cX0_anew 0 = .ok (.iload_n 1, 1) := dk_27 (dk_at dksX0_anew_0 0 rfl rfl)
theorem dX0_anew_1 : decode cX0_anew 1 = .ok (.iconst 0, 1) := dk_3 (dk_at dksX0_anew_0 1 rfl rfl)
theorem dX0_anew_2 : decode cX0_anew 2 = .ok (.iconst 1, 1) := dk_4 (dk_at dksX0_anew_0 2 rfl rfl)
theorem dX0_anew_3 : decode cX0_anew 3 = .ok (.invokestatic 51, 3) := dk_184 0 51 (dk_at dksX0_anew_0 3 rfl rfl)
theorem dX0_anew_6 : decode cX0_anew 6 = .ok (.ifCond .ne 5, 3) := dk_154 0 5 (dk_at dksX0_anew_0 6 rfl rfl)
theorem dX0_anew_9 : decode cX0_anew 9 = .ok (.iconst (-1), 1) := dk_2 (dk_at dksX0_anew_0 9 rfl rfl)
theorem dX0_anew_10 : decode cX0_anew 10 = .ok (.ireturn, 1) := dk_172 (dk_at dksX0_anew_0 10 rfl rfl)
theorem dX0_anew_11 : decode cX0_anew 11 = .ok (.iconst (-1), 1) := dk_2 (dk_at dksX0_anew_0 11 rfl rfl)
theorem dX0_anew_12 : decode cX0_anew 12 = .ok (.istore_n 2, 1) := dk_61 (dk_at dksX0_anew_0 12 rfl rfl)
theorem dX0_anew_13 : decode cX0_anew 13 = .ok (.iconst 0, 1) := dk_3 (dk_at dksX0_anew_0 13 rfl rfl)
theorem dX0_anew_14 : decode cX0_anew 14 = .ok (.istore_n 3, 1) := dk_62 (dk_at dksX0_anew_0 14 rfl rfl)
theorem dX0_anew_15 : decode cX0_anew 15 = .ok (.iload_n 3, 1) := dk_29 (dk_at dksX0_anew_0 15 rfl rfl)
theorem dX0_anew_16 : decode cX0_anew 16 = .ok (.iconst 1, 1) := dk_4 (dk_at dksX0_anew_0 16 rfl rfl)
theorem dX0_anew_17 : decode cX0_anew 17 = .ok (.aload_n 0, 1) := dk_42 (dk_at dksX0_anew_0 17 rfl rfl)
theorem dX0_anew_18 : decode cX0_anew 18 = .ok (.getfield 20, 3) := dk_180 0 20 (dk_at dksX0_anew_0 18 rfl rfl)
theorem dX0_anew_21 : decode cX0_anew 21 = .ok (.getfield 123, 3) := dk_180 0 123 (dk_at dksX0_anew_0 21 rfl rfl)
theorem dX0_anew_24 : decode cX0_anew 24 = .ok (.ishl, 1) := dk_120 (dk_at dksX0_anew_1 0 rfl rfl)
theorem dX0_anew_25 : decode cX0_anew 25 = .ok (.if_icmp .ge 35, 3) := dk_162 0 35 (dk_at dksX0_anew_1 1 rfl rfl)
theorem dX0_anew_28 : decode cX0_anew 28 = .ok (.iload_n 2, 1) := dk_28 (dk_at dksX0_anew_1 4 rfl rfl)
theorem dX0_anew_29 : decode cX0_anew 29 = .ok (.iconst (-1), 1) := dk_2 (dk_at dksX0_anew_1 5 rfl rfl)
theorem dX0_anew_30 : decode cX0_anew 30 = .ok (.if_icmp .eq 14, 3) := dk_159 0 14 (dk_at dksX0_anew_1 6 rfl rfl)
theorem dX0_anew_33 : decode cX0_anew 33 = .ok (.iload_n 3, 1) := dk_29 (dk_at dksX0_anew_1 9 rfl rfl)
theorem dX0_anew_34 : decode cX0_anew 34 = .ok (.invokestatic 268, 3) := dk_184 1 12 (dk_at dksX0_anew_1 10 rfl rfl)
theorem dX0_anew_37 : decode cX0_anew 37 = .ok (.iload_n 2, 1) := dk_28 (dk_at dksX0_anew_1 13 rfl rfl)
theorem dX0_anew_38 : decode cX0_anew 38 = .ok (.invokestatic 268, 3) := dk_184 1 12 (dk_at dksX0_anew_1 14 rfl rfl)
theorem dX0_anew_41 : decode cX0_anew 41 = .ok (.if_icmp .ge 13, 3) := dk_162 0 13 (dk_at dksX0_anew_1 17 rfl rfl)
theorem dX0_anew_44 : decode cX0_anew 44 = .ok (.aload_n 0, 1) := dk_42 (dk_at dksX0_anew_1 20 rfl rfl)
theorem dX0_anew_45 : decode cX0_anew 45 = .ok (.iload_n 3, 1) := dk_29 (dk_at dksX0_anew_1 21 rfl rfl)
theorem dX0_anew_46 : decode cX0_anew 46 = .ok (.invokevirtual 295, 3) := dk_182 1 39 (dk_at dksX0_anew_2 0 rfl rfl)
theorem dX0_anew_49 : decode cX0_anew 49 = .ok (.ifCond .eq 5, 3) := dk_153 0 5 (dk_at dksX0_anew_2 3 rfl rfl)
theorem dX0_anew_52 : decode cX0_anew 52 = .ok (.iload_n 3, 1) := dk_29 (dk_at dksX0_anew_2 6 rfl rfl)
theorem dX0_anew_53 : decode cX0_anew 53 = .ok (.istore_n 2, 1) := dk_61 (dk_at dksX0_anew_2 7 rfl rfl)
theorem dX0_anew_54 : decode cX0_anew 54 = .ok (.iinc 3 1, 3) := dk_132 3 1 (dk_at dksX0_anew_2 8 rfl rfl)
theorem dX0_anew_57 : decode cX0_anew 57 = .ok (.goto (-42), 3) := dk_167 255 214 (dk_at dksX0_anew_2 11 rfl rfl)
theorem dX0_anew_60 : decode cX0_anew 60 = .ok (.iload_n 1, 1) := dk_27 (dk_at dksX0_anew_2 14 rfl rfl)
theorem dX0_anew_61 : decode cX0_anew 61 = .ok (.ifCond .ne 10, 3) := dk_154 0 10 (dk_at dksX0_anew_2 15 rfl rfl)
theorem dX0_anew_64 : decode cX0_anew 64 = .ok (.iload_n 2, 1) := dk_28 (dk_at dksX0_anew_2 18 rfl rfl)
theorem dX0_anew_65 : decode cX0_anew 65 = .ok (.invokestatic 268, 3) := dk_184 1 12 (dk_at dksX0_anew_2 19 rfl rfl)
theorem dX0_anew_68 : decode cX0_anew 68 = .ok (.goto 4, 3) := dk_167 0 4 (dk_at dksX0_anew_3 0 rfl rfl)
theorem dX0_anew_71 : decode cX0_anew 71 = .ok (.iload_n 2, 1) := dk_28 (dk_at dksX0_anew_3 3 rfl rfl)
theorem dX0_anew_72 : decode cX0_anew 72 = .ok (.ireturn, 1) := dk_172 (dk_at dksX0_anew_3 4 rfl rfl)
abbrev cX0_areAtPeace : ByteArray := prog_1_method_46_code
def yX0_areAtPeace : MethodName := ⟨RX0, "areAtPeace", "(I)Z"⟩
def dkwX0_areAtPeace_2 : List UInt8 := [167, 255, 225, 132, 2, 1, 167, 255, 206, 4, 172]
abbrev dktX0_areAtPeace_2 : List UInt8 := dkwX0_areAtPeace_2 ++ []
def dkwX0_areAtPeace_1 : List UInt8 := [29, 122, 128, 4, 126, 154, 0, 14, 42, 28, 29, 182, 1, 36, 153, 0, 5, 3, 172, 132, 3, 1]
abbrev dktX0_areAtPeace_1 : List UInt8 := dkwX0_areAtPeace_1 ++ dktX0_areAtPeace_2
def dkwX0_areAtPeace_0 : List UInt8 := [3, 61, 28, 42, 180, 0, 20, 180, 0, 123, 162, 0, 45, 3, 62, 29, 28, 162, 0, 32, 27, 28, 122, 27]
abbrev dktX0_areAtPeace_0 : List UInt8 := dkwX0_areAtPeace_0 ++ dktX0_areAtPeace_1
theorem dksX0_areAtPeace_0 : cX0_areAtPeace.data.toList.drop 0 = dktX0_areAtPeace_0 := by decide +kernel
theorem dksX0_areAtPeace_1 : cX0_areAtPeace.data.toList.drop 24 = dktX0_areAtPeace_1 := dk_seg dksX0_areAtPeace_0 24 rfl rfl
theorem dksX0_areAtPeace_2 : cX0_areAtPeace.data.toList.drop 46 = dktX0_areAtPeace_2 := dk_seg dksX0_areAtPeace_1 22 rfl rfl
theorem dX0_areAtPeace_0 : decode cX0_areAtPeace 0 = .ok (.iconst 0, 1) := dk_3 (dk_at dksX0_areAtPeace_0 0 rfl rfl)
theorem dX0_areAtPeace_1 : decode cX0_areAtPeace 1 = .ok (.istore_n 2, 1) := dk_61 (dk_at dksX0_areAtPeace_0 1 rfl rfl)
theorem dX0_areAtPeace_2 : decode cX0_areAtPeace 2 = .ok (.iload_n 2, 1) := dk_28 (dk_at dksX0_areAtPeace_0 2 rfl rfl)
theorem dX0_areAtPeace_3 : decode cX0_areAtPeace 3 = .ok (.aload_n 0, 1) := dk_42 (dk_at dksX0_areAtPeace_0 3 rfl rfl)
theorem dX0_areAtPeace_4 : decode cX0_areAtPeace 4 = .ok (.getfield 20, 3) := dk_180 0 20 (dk_at dksX0_areAtPeace_0 4 rfl rfl)
theorem dX0_areAtPeace_7 : decode cX0_areAtPeace 7 = .ok (.getfield 123, 3) := dk_180 0 123 (dk_at dksX0_areAtPeace_0 7 rfl rfl)
theorem dX0_areAtPeace_10 : decode cX0_areAtPeace 10 = .ok (.if_icmp .ge 45, 3) := dk_162 0 45 (dk_at dksX0_areAtPeace_0 10 rfl rfl)
theorem dX0_areAtPeace_13 : decode cX0_areAtPeace 13 = .ok (.iconst 0, 1) := dk_3 (dk_at dksX0_areAtPeace_0 13 rfl rfl)
theorem dX0_areAtPeace_14 : decode cX0_areAtPeace 14 = .ok (.istore_n 3, 1) := dk_62 (dk_at dksX0_areAtPeace_0 14 rfl rfl)
theorem dX0_areAtPeace_15 : decode cX0_areAtPeace 15 = .ok (.iload_n 3, 1) := dk_29 (dk_at dksX0_areAtPeace_0 15 rfl rfl)
theorem dX0_areAtPeace_16 : decode cX0_areAtPeace 16 = .ok (.iload_n 2, 1) := dk_28 (dk_at dksX0_areAtPeace_0 16 rfl rfl)
theorem dX0_areAtPeace_17 : decode cX0_areAtPeace 17 = .ok (.if_icmp .ge 32, 3) := dk_162 0 32 (dk_at dksX0_areAtPeace_0 17 rfl rfl)
theorem dX0_areAtPeace_20 : decode cX0_areAtPeace 20 = .ok (.iload_n 1, 1) := dk_27 (dk_at dksX0_areAtPeace_0 20 rfl rfl)
theorem dX0_areAtPeace_21 : decode cX0_areAtPeace 21 = .ok (.iload_n 2, 1) := dk_28 (dk_at dksX0_areAtPeace_0 21 rfl rfl)
theorem dX0_areAtPeace_22 : decode cX0_areAtPeace 22 = .ok (.ishr, 1) := dk_122 (dk_at dksX0_areAtPeace_0 22 rfl rfl)
theorem dX0_areAtPeace_23 : decode cX0_areAtPeace 23 = .ok (.iload_n 1, 1) := dk_27 (dk_at dksX0_areAtPeace_0 23 rfl rfl)
theorem dX0_areAtPeace_24 : decode cX0_areAtPeace 24 = .ok (.iload_n 3, 1) := dk_29 (dk_at dksX0_areAtPeace_1 0 rfl rfl)
theorem dX0_areAtPeace_25 : decode cX0_areAtPeace 25 = .ok (.ishr, 1) := dk_122 (dk_at dksX0_areAtPeace_1 1 rfl rfl)
theorem dX0_areAtPeace_26 : decode cX0_areAtPeace 26 = .ok (.ior, 1) := dk_128 (dk_at dksX0_areAtPeace_1 2 rfl rfl)
theorem dX0_areAtPeace_27 : decode cX0_areAtPeace 27 = .ok (.iconst 1, 1) := dk_4 (dk_at dksX0_areAtPeace_1 3 rfl rfl)
theorem dX0_areAtPeace_28 : decode cX0_areAtPeace 28 = .ok (.iand, 1) := dk_126 (dk_at dksX0_areAtPeace_1 4 rfl rfl)
theorem dX0_areAtPeace_29 : decode cX0_areAtPeace 29 = .ok (.ifCond .ne 14, 3) := dk_154 0 14 (dk_at dksX0_areAtPeace_1 5 rfl rfl)
theorem dX0_areAtPeace_32 : decode cX0_areAtPeace 32 = .ok (.aload_n 0, 1) := dk_42 (dk_at dksX0_areAtPeace_1 8 rfl rfl)
theorem dX0_areAtPeace_33 : decode cX0_areAtPeace 33 = .ok (.iload_n 2, 1) := dk_28 (dk_at dksX0_areAtPeace_1 9 rfl rfl)
theorem dX0_areAtPeace_34 : decode cX0_areAtPeace 34 = .ok (.iload_n 3, 1) := dk_29 (dk_at dksX0_areAtPeace_1 10 rfl rfl)
theorem dX0_areAtPeace_35 : decode cX0_areAtPeace 35 = .ok (.invokevirtual 292, 3) := dk_182 1 36 (dk_at dksX0_areAtPeace_1 11 rfl rfl)
theorem dX0_areAtPeace_38 : decode cX0_areAtPeace 38 = .ok (.ifCond .eq 5, 3) := dk_153 0 5 (dk_at dksX0_areAtPeace_1 14 rfl rfl)
theorem dX0_areAtPeace_41 : decode cX0_areAtPeace 41 = .ok (.iconst 0, 1) := dk_3 (dk_at dksX0_areAtPeace_1 17 rfl rfl)
theorem dX0_areAtPeace_42 : decode cX0_areAtPeace 42 = .ok (.ireturn, 1) := dk_172 (dk_at dksX0_areAtPeace_1 18 rfl rfl)
theorem dX0_areAtPeace_43 : decode cX0_areAtPeace 43 = .ok (.iinc 3 1, 3) := dk_132 3 1 (dk_at dksX0_areAtPeace_1 19 rfl rfl)
theorem dX0_areAtPeace_46 : decode cX0_areAtPeace 46 = .ok (.goto (-31), 3) := dk_167 255 225 (dk_at dksX0_areAtPeace_2 0 rfl rfl)
theorem dX0_areAtPeace_49 : decode cX0_areAtPeace 49 = .ok (.iinc 2 1, 3) := dk_132 2 1 (dk_at dksX0_areAtPeace_2 3 rfl rfl)
theorem dX0_areAtPeace_52 : decode cX0_areAtPeace 52 = .ok (.goto (-50), 3) := dk_167 255 206 (dk_at dksX0_areAtPeace_2 6 rfl rfl)
theorem dX0_areAtPeace_55 : decode cX0_areAtPeace 55 = .ok (.iconst 1, 1) := dk_4 (dk_at dksX0_areAtPeace_2 9 rfl rfl)
theorem dX0_areAtPeace_56 : decode cX0_areAtPeace 56 = .ok (.ireturn, 1) := dk_172 (dk_at dksX0_areAtPeace_2 10 rfl rfl)
abbrev cX0_doClash : ByteArray := prog_1_method_45_code
def yX0_doClash : MethodName := ⟨RX0, "doClash", "(II)Z"⟩
def dkwX0_doClash_3 : List UInt8 := [4, 167, 0, 4, 3, 172]
abbrev dktX0_doClash_3 : List UInt8 := dkwX0_doClash_3 ++ []
def dkwX0_doClash_2 : List UInt8 := [42, 180, 0, 20, 180, 0, 186, 27, 46, 42, 180, 0, 20, 180, 0, 186, 28, 46, 182, 0, 221, 153, 0, 7]
abbrev dktX0_doClash_2 : List UInt8 := dkwX0_doClash_2 ++ dktX0_doClash_3
def dkwX0_doClash_1 : List UInt8 := [180, 0, 20, 180, 0, 191, 27, 46, 42, 180, 0, 20, 180, 0, 191, 28, 46, 160, 0, 35, 42, 180, 0, 20]
abbrev dktX0_doClash_1 : List UInt8 := dkwX0_doClash_1 ++ dktX0_doClash_2
def dkwX0_doClash_0 : List UInt8 := [42, 180, 0, 20, 27, 182, 0, 158, 153, 0, 67, 42, 180, 0, 20, 28, 182, 0, 158, 153, 0, 56, 42]
abbrev dktX0_doClash_0 : List UInt8 := dkwX0_doClash_0 ++ dktX0_doClash_1
theorem dksX0_doClash_0 : cX0_doClash.data.toList.drop 0 = dktX0_doClash_0 := by decide +kernel
theorem dksX0_doClash_1 : cX0_doClash.data.toList.drop 23 = dktX0_doClash_1 := dk_seg dksX0_doClash_0 23 rfl rfl
theorem dksX0_doClash_2 : cX0_doClash.data.toList.drop 47 = dktX0_doClash_2 := dk_seg dksX0_doClash_1 24 rfl rfl
theorem dksX0_doClash_3 : cX0_doClash.data.toList.drop 71 = dktX0_doClash_3 := dk_seg dksX0_doClash_2 24 rfl rfl
theorem dX0_doClash_0 : decode cX0_doClash 0 = .ok (.aload_n 0, 1) := dk_42 (dk_at dksX0_doClash_0 0 rfl rfl)
theorem dX0_doClash_1 : decode cX0_doClash 1 = .ok (.getfield 20, 3) := dk_180 0 20 (dk_at dksX0_doClash_0 1 rfl rfl)
theorem dX0_doClash_4 : decode cX0_doClash 4 = .ok (.iload_n 1, 1) := dk_27 (dk_at dksX0_doClash_0 4 rfl rfl)
theorem dX0_doClash_5 : decode cX0_doClash 5 = .ok (.invokevirtual 158, 3) := dk_182 0 158 (dk_at dksX0_doClash_0 5 rfl rfl)
theorem dX0_doClash_8 : decode cX0_doClash 8 = .ok (.ifCond .eq 67, 3) := dk_153 0 67 (dk_at dksX0_doClash_0 8 rfl rfl)
theorem dX0_doClash_11 : decode cX0_doClash 11 = .ok (.aload_n 0, 1) := dk_42 (dk_at dksX0_doClash_0 11 rfl rfl)
theorem dX0_doClash_12 : decode cX0_doClash 12 = .ok (.getfield 20, 3) := dk_180 0 20 (dk_at dksX0_doClash_0 12 rfl rfl)
theorem dX0_doClash_15 : decode cX0_doClash 15 = .ok (.iload_n 2, 1) := dk_28 (dk_at dksX0_doClash_0 15 rfl rfl)
theorem dX0_doClash_16 : decode cX0_doClash 16 = .ok (.invokevirtual 158, 3) := dk_182 0 158 (dk_at dksX0_doClash_0 16 rfl rfl)
theorem dX0_doClash_19 : decode cX0_doClash 19 = .ok (.ifCond .eq 56, 3) := dk_153 0 56 (dk_at dksX0_doClash_0 19 rfl rfl)
theorem dX0_doClash_22 : decode cX0_doClash 22 = .ok (.aload_n 0, 1) := dk_42 (dk_at dksX0_doClash_0 22 rfl rfl)
theorem dX0_doClash_23 : decode cX0_doClash 23 = .ok (.getfield 20, 3) := dk_180 0 20 (dk_at dksX0_doClash_1 0 rfl rfl)
theorem dX0_doClash_26 : decode cX0_doClash 26 = .ok (.getfield 191, 3) := dk_180 0 191 (dk_at dksX0_doClash_1 3 rfl rfl)
theorem dX0_doClash_29 : decode cX0_doClash 29 = .ok (.iload_n 1, 1) := dk_27 (dk_at dksX0_doClash_1 6 rfl rfl)
theorem dX0_doClash_30 : decode cX0_doClash 30 = .ok (.iaload, 1) := dk_46 (dk_at dksX0_doClash_1 7 rfl rfl)
theorem dX0_doClash_31 : decode cX0_doClash 31 = .ok (.aload_n 0, 1) := dk_42 (dk_at dksX0_doClash_1 8 rfl rfl)
theorem dX0_doClash_32 : decode cX0_doClash 32 = .ok (.getfield 20, 3) := dk_180 0 20 (dk_at dksX0_doClash_1 9 rfl rfl)
theorem dX0_doClash_35 : decode cX0_doClash 35 = .ok (.getfield 191, 3) := dk_180 0 191 (dk_at dksX0_doClash_1 12 rfl rfl)
theorem dX0_doClash_38 : decode cX0_doClash 38 = .ok (.iload_n 2, 1) := dk_28 (dk_at dksX0_doClash_1 15 rfl rfl)
theorem dX0_doClash_39 : decode cX0_doClash 39 = .ok (.iaload, 1) := dk_46 (dk_at dksX0_doClash_1 16 rfl rfl)
theorem dX0_doClash_40 : decode cX0_doClash 40 = .ok (.if_icmp .ne 35, 3) := dk_160 0 35 (dk_at dksX0_doClash_1 17 rfl rfl)
theorem dX0_doClash_43 : decode cX0_doClash 43 = .ok (.aload_n 0, 1) := dk_42 (dk_at dksX0_doClash_1 20 rfl rfl)
theorem dX0_doClash_44 : decode cX0_doClash 44 = .ok (.getfield 20, 3) := dk_180 0 20 (dk_at dksX0_doClash_1 21 rfl rfl)
theorem dX0_doClash_47 : decode cX0_doClash 47 = .ok (.aload_n 0, 1) := dk_42 (dk_at dksX0_doClash_2 0 rfl rfl)
theorem dX0_doClash_48 : decode cX0_doClash 48 = .ok (.getfield 20, 3) := dk_180 0 20 (dk_at dksX0_doClash_2 1 rfl rfl)
theorem dX0_doClash_51 : decode cX0_doClash 51 = .ok (.getfield 186, 3) := dk_180 0 186 (dk_at dksX0_doClash_2 4 rfl rfl)
theorem dX0_doClash_54 : decode cX0_doClash 54 = .ok (.iload_n 1, 1) := dk_27 (dk_at dksX0_doClash_2 7 rfl rfl)
theorem dX0_doClash_55 : decode cX0_doClash 55 = .ok (.iaload, 1) := dk_46 (dk_at dksX0_doClash_2 8 rfl rfl)
theorem dX0_doClash_56 : decode cX0_doClash 56 = .ok (.aload_n 0, 1) := dk_42 (dk_at dksX0_doClash_2 9 rfl rfl)
theorem dX0_doClash_57 : decode cX0_doClash 57 = .ok (.getfield 20, 3) := dk_180 0 20 (dk_at dksX0_doClash_2 10 rfl rfl)
theorem dX0_doClash_60 : decode cX0_doClash 60 = .ok (.getfield 186, 3) := dk_180 0 186 (dk_at dksX0_doClash_2 13 rfl rfl)
theorem dX0_doClash_63 : decode cX0_doClash 63 = .ok (.iload_n 2, 1) := dk_28 (dk_at dksX0_doClash_2 16 rfl rfl)
theorem dX0_doClash_64 : decode cX0_doClash 64 = .ok (.iaload, 1) := dk_46 (dk_at dksX0_doClash_2 17 rfl rfl)
theorem dX0_doClash_65 : decode cX0_doClash 65 = .ok (.invokevirtual 221, 3) := dk_182 0 221 (dk_at dksX0_doClash_2 18 rfl rfl)
theorem dX0_doClash_68 : decode cX0_doClash 68 = .ok (.ifCond .eq 7, 3) := dk_153 0 7 (dk_at dksX0_doClash_2 21 rfl rfl)
theorem dX0_doClash_71 : decode cX0_doClash 71 = .ok (.iconst 1, 1) := dk_4 (dk_at dksX0_doClash_3 0 rfl rfl)
theorem dX0_doClash_72 : decode cX0_doClash 72 = .ok (.goto 4, 3) := dk_167 0 4 (dk_at dksX0_doClash_3 1 rfl rfl)
theorem dX0_doClash_75 : decode cX0_doClash 75 = .ok (.iconst 0, 1) := dk_3 (dk_at dksX0_doClash_3 4 rfl rfl)
theorem dX0_doClash_76 : decode cX0_doClash 76 = .ok (.ireturn, 1) := dk_172 (dk_at dksX0_doClash_3 5 rfl rfl)
abbrev cX0_dry : ByteArray := prog_1_method_48_code
def yX0_dry : MethodName := ⟨RX0, "dry", "(IIII)I"⟩
def dkwX0_dry_6 : List UInt8 := [154, 0, 8, 21, 5, 167, 0, 5, 21, 6, 172]
abbrev dktX0_dry_6 : List UInt8 := dkwX0_dry_6 ++ []
def dkwX0_dry_5 : List UInt8 := [167, 0, 16, 21, 7, 54, 5, 21, 9, 21, 7, 100, 4, 96, 54, 6, 132, 8, 1, 167, 255, 176, 21, 4]
abbrev dktX0_dry_5 : List UInt8 := dkwX0_dry_5 ++ dktX0_dry_6
def dkwX0_dry_4 : List UInt8 := [27, 50, 28, 46, 154, 0, 10, 21, 7, 4, 96, 167, 0, 4, 3, 54, 7, 21, 7, 21, 5, 163, 0, 6]
abbrev dktX0_dry_4 : List UInt8 := dkwX0_dry_4 ++ dktX0_dry_5
def dkwX0_dry_3 : List UInt8 := [54, 9, 42, 180, 0, 27, 182, 0, 176, 42, 180, 0, 27, 3, 182, 0, 179, 42, 180, 0, 27, 180, 0, 130]
abbrev dktX0_dry_3 : List UInt8 := dkwX0_dry_3 ++ dktX0_dry_4
def dkwX0_dry_2 : List UInt8 := [54, 5, 2, 54, 6, 3, 54, 7, 3, 54, 8, 21, 8, 29, 162, 0, 80, 42, 180, 0, 27, 180, 0, 170]
abbrev dktX0_dry_2 : List UInt8 := dkwX0_dry_2 ++ dktX0_dry_3
def dkwX0_dry_1 : List UInt8 := [21, 4, 3, 4, 184, 0, 51, 154, 0, 5, 2, 172, 42, 180, 0, 27, 42, 180, 0, 20, 182, 0, 206, 3]
abbrev dktX0_dry_1 : List UInt8 := dkwX0_dry_1 ++ dktX0_dry_2
def dkwX0_dry_0 : List UInt8 := [27, 184, 0, 120, 153, 0, 30, 28, 184, 0, 116, 153, 0, 23, 29, 4, 16, 60, 184, 0, 51, 153, 0, 13]
abbrev dktX0_dry_0 : List UInt8 := dkwX0_dry_0 ++ dktX0_dry_1
theorem dksX0_dry_0 : cX0_dry.data.toList.drop 0 = dktX0_dry_0 := by decide +kernel
theorem dksX0_dry_1 : cX0_dry.data.toList.drop 24 = dktX0_dry_1 := dk_seg dksX0_dry_0 24 rfl rfl
theorem dksX0_dry_2 : cX0_dry.data.toList.drop 48 = dktX0_dry_2 := dk_seg dksX0_dry_1 24 rfl rfl
theorem dksX0_dry_3 : cX0_dry.data.toList.drop 72 = dktX0_dry_3 := dk_seg dksX0_dry_2 24 rfl rfl
theorem dksX0_dry_4 : cX0_dry.data.toList.drop 96 = dktX0_dry_4 := dk_seg dksX0_dry_3 24 rfl rfl
theorem dksX0_dry_5 : cX0_dry.data.toList.drop 120 = dktX0_dry_5 := dk_seg dksX0_dry_4 24 rfl rfl
theorem dksX0_dry_6 : cX0_dry.data.toList.drop 144 = dktX0_dry_6 := dk_seg dksX0_dry_5 24 rfl rfl
theorem dX0_dry_0 : decode cX0_dry 0 = .ok (.iload_n 1, 1) := dk_27 (dk_at dksX0_dry_0 0 rfl rfl)
theorem dX0_dry_1 : decode cX0_dry 1 = .ok (.invokestatic 120, 3) := dk_184 0 120 (dk_at dksX0_dry_0 1 rfl rfl)
theorem dX0_dry_4 : decode cX0_dry 4 = .ok (.ifCond .eq 30, 3) := dk_153 0 30 (dk_at dksX0_dry_0 4 rfl rfl)
theorem dX0_dry_7 : decode cX0_dry 7 = .ok (.iload_n 2, 1) := dk_28 (dk_at dksX0_dry_0 7 rfl rfl)
theorem dX0_dry_8 : decode cX0_dry 8 = .ok (.invokestatic 116, 3) := dk_184 0 116 (dk_at dksX0_dry_0 8 rfl rfl)
theorem dX0_dry_11 : decode cX0_dry 11 = .ok (.ifCond .eq 23, 3) := dk_153 0 23 (dk_at dksX0_dry_0 11 rfl rfl)
theorem dX0_dry_14 : decode cX0_dry 14 = .ok (.iload_n 3, 1) := dk_29 (dk_at dksX0_dry_0 14 rfl rfl)
theorem dX0_dry_15 : decode cX0_dry 15 = .ok (.iconst 1, 1) := dk_4 (dk_at dksX0_dry_0 15 rfl rfl)
theorem dX0_dry_16 : decode cX0_dry 16 = .ok (.bipush 60, 2) := dk_16 60 (dk_at dksX0_dry_0 16 rfl rfl)
theorem dX0_dry_18 : decode cX0_dry 18 = .ok (.invokestatic 51, 3) := dk_184 0 51 (dk_at dksX0_dry_0 18 rfl rfl)
theorem dX0_dry_21 : decode cX0_dry 21 = .ok (.ifCond .eq 13, 3) := dk_153 0 13 (dk_at dksX0_dry_0 21 rfl rfl)
theorem dX0_dry_24 : decode cX0_dry 24 = .ok (.iload 4, 2) := dk_21 4 (dk_at dksX0_dry_1 0 rfl rfl)
theorem dX0_dry_26 : decode cX0_dry 26 = .ok (.iconst 0, 1) := dk_3 (dk_at dksX0_dry_1 2 rfl rfl)
theorem dX0_dry_27 : decode cX0_dry 27 = .ok (.iconst 1, 1) := dk_4 (dk_at dksX0_dry_1 3 rfl rfl)
theorem dX0_dry_28 : decode cX0_dry 28 = .ok (.invokestatic 51, 3) := dk_184 0 51 (dk_at dksX0_dry_1 4 rfl rfl)
theorem dX0_dry_31 : decode cX0_dry 31 = .ok (.ifCond .ne 5, 3) := dk_154 0 5 (dk_at dksX0_dry_1 7 rfl rfl)
theorem dX0_dry_34 : decode cX0_dry 34 = .ok (.iconst (-1), 1) := dk_2 (dk_at dksX0_dry_1 10 rfl rfl)
theorem dX0_dry_35 : decode cX0_dry 35 = .ok (.ireturn, 1) := dk_172 (dk_at dksX0_dry_1 11 rfl rfl)
theorem dX0_dry_36 : decode cX0_dry 36 = .ok (.aload_n 0, 1) := dk_42 (dk_at dksX0_dry_1 12 rfl rfl)
theorem dX0_dry_37 : decode cX0_dry 37 = .ok (.getfield 27, 3) := dk_180 0 27 (dk_at dksX0_dry_1 13 rfl rfl)
theorem dX0_dry_40 : decode cX0_dry 40 = .ok (.aload_n 0, 1) := dk_42 (dk_at dksX0_dry_1 16 rfl rfl)
theorem dX0_dry_41 : decode cX0_dry 41 = .ok (.getfield 20, 3) := dk_180 0 20 (dk_at dksX0_dry_1 17 rfl rfl)
theorem dX0_dry_44 : decode cX0_dry 44 = .ok (.invokevirtual 206, 3) := dk_182 0 206 (dk_at dksX0_dry_1 20 rfl rfl)
theorem dX0_dry_47 : decode cX0_dry 47 = .ok (.iconst 0, 1) := dk_3 (dk_at dksX0_dry_1 23 rfl rfl)
theorem dX0_dry_48 : decode cX0_dry 48 = .ok (.istore 5, 2) := dk_54 5 (dk_at dksX0_dry_2 0 rfl rfl)
theorem dX0_dry_50 : decode cX0_dry 50 = .ok (.iconst (-1), 1) := dk_2 (dk_at dksX0_dry_2 2 rfl rfl)
theorem dX0_dry_51 : decode cX0_dry 51 = .ok (.istore 6, 2) := dk_54 6 (dk_at dksX0_dry_2 3 rfl rfl)
theorem dX0_dry_53 : decode cX0_dry 53 = .ok (.iconst 0, 1) := dk_3 (dk_at dksX0_dry_2 5 rfl rfl)
theorem dX0_dry_54 : decode cX0_dry 54 = .ok (.istore 7, 2) := dk_54 7 (dk_at dksX0_dry_2 6 rfl rfl)
theorem dX0_dry_56 : decode cX0_dry 56 = .ok (.iconst 0, 1) := dk_3 (dk_at dksX0_dry_2 8 rfl rfl)
theorem dX0_dry_57 : decode cX0_dry 57 = .ok (.istore 8, 2) := dk_54 8 (dk_at dksX0_dry_2 9 rfl rfl)
theorem dX0_dry_59 : decode cX0_dry 59 = .ok (.iload 8, 2) := dk_21 8 (dk_at dksX0_dry_2 11 rfl rfl)
theorem dX0_dry_61 : decode cX0_dry 61 = .ok (.iload_n 3, 1) := dk_29 (dk_at dksX0_dry_2 13 rfl rfl)
theorem dX0_dry_62 : decode cX0_dry 62 = .ok (.if_icmp .ge 80, 3) := dk_162 0 80 (dk_at dksX0_dry_2 14 rfl rfl)
theorem dX0_dry_65 : decode cX0_dry 65 = .ok (.aload_n 0, 1) := dk_42 (dk_at dksX0_dry_2 17 rfl rfl)
theorem dX0_dry_66 : decode cX0_dry 66 = .ok (.getfield 27, 3) := dk_180 0 27 (dk_at dksX0_dry_2 18 rfl rfl)
theorem dX0_dry_69 : decode cX0_dry 69 = .ok (.getfield 170, 3) := dk_180 0 170 (dk_at dksX0_dry_2 21 rfl rfl)
theorem dX0_dry_72 : decode cX0_dry 72 = .ok (.istore 9, 2) := dk_54 9 (dk_at dksX0_dry_3 0 rfl rfl)
theorem dX0_dry_74 : decode cX0_dry 74 = .ok (.aload_n 0, 1) := dk_42 (dk_at dksX0_dry_3 2 rfl rfl)
theorem dX0_dry_75 : decode cX0_dry 75 = .ok (.getfield 27, 3) := dk_180 0 27 (dk_at dksX0_dry_3 3 rfl rfl)
theorem dX0_dry_78 : decode cX0_dry 78 = .ok (.invokevirtual 176, 3) := dk_182 0 176 (dk_at dksX0_dry_3 6 rfl rfl)
theorem dX0_dry_81 : decode cX0_dry 81 = .ok (.aload_n 0, 1) := dk_42 (dk_at dksX0_dry_3 9 rfl rfl)
theorem dX0_dry_82 : decode cX0_dry 82 = .ok (.getfield 27, 3) := dk_180 0 27 (dk_at dksX0_dry_3 10 rfl rfl)
theorem dX0_dry_85 : decode cX0_dry 85 = .ok (.iconst 0, 1) := dk_3 (dk_at dksX0_dry_3 13 rfl rfl)
theorem dX0_dry_86 : decode cX0_dry 86 = .ok (.invokevirtual 179, 3) := dk_182 0 179 (dk_at dksX0_dry_3 14 rfl rfl)
theorem dX0_dry_89 : decode cX0_dry 89 = .ok (.aload_n 0, 1) := dk_42 (dk_at dksX0_dry_3 17 rfl rfl)
theorem dX0_dry_90 : decode cX0_dry 90 = .ok (.getfield 27, 3) := dk_180 0 27 (dk_at dksX0_dry_3 18 rfl rfl)
theorem dX0_dry_93 : decode cX0_dry 93 = .ok (.getfield 130, 3) := dk_180 0 130 (dk_at dksX0_dry_3 21 rfl rfl)
theorem dX0_dry_96 : decode cX0_dry 96 = .ok (.iload_n 1, 1) := dk_27 (dk_at dksX0_dry_4 0 rfl rfl)
theorem dX0_dry_97 : decode cX0_dry 97 = .ok (.aaload, 1) := dk_50 (dk_at dksX0_dry_4 1 rfl rfl)
theorem dX0_dry_98 : decode cX0_dry 98 = .ok (.iload_n 2, 1) := dk_28 (dk_at dksX0_dry_4 2 rfl rfl)
theorem dX0_dry_99 : decode cX0_dry 99 = .ok (.iaload, 1) := dk_46 (dk_at dksX0_dry_4 3 rfl rfl)
theorem dX0_dry_100 : decode cX0_dry 100 = .ok (.ifCond .ne 10, 3) := dk_154 0 10 (dk_at dksX0_dry_4 4 rfl rfl)
theorem dX0_dry_103 : decode cX0_dry 103 = .ok (.iload 7, 2) := dk_21 7 (dk_at dksX0_dry_4 7 rfl rfl)
theorem dX0_dry_105 : decode cX0_dry 105 = .ok (.iconst 1, 1) := dk_4 (dk_at dksX0_dry_4 9 rfl rfl)
theorem dX0_dry_106 : decode cX0_dry 106 = .ok (.iadd, 1) := dk_96 (dk_at dksX0_dry_4 10 rfl rfl)
theorem dX0_dry_107 : decode cX0_dry 107 = .ok (.goto 4, 3) := dk_167 0 4 (dk_at dksX0_dry_4 11 rfl rfl)
theorem dX0_dry_110 : decode cX0_dry 110 = .ok (.iconst 0, 1) := dk_3 (dk_at dksX0_dry_4 14 rfl rfl)
theorem dX0_dry_111 : decode cX0_dry 111 = .ok (.istore 7, 2) := dk_54 7 (dk_at dksX0_dry_4 15 rfl rfl)
theorem dX0_dry_113 : decode cX0_dry 113 = .ok (.iload 7, 2) := dk_21 7 (dk_at dksX0_dry_4 17 rfl rfl)
theorem dX0_dry_115 : decode cX0_dry 115 = .ok (.iload 5, 2) := dk_21 5 (dk_at dksX0_dry_4 19 rfl rfl)
theorem dX0_dry_117 : decode cX0_dry 117 = .ok (.if_icmp .gt 6, 3) := dk_163 0 6 (dk_at dksX0_dry_4 21 rfl rfl)
theorem dX0_dry_120 : decode cX0_dry 120 = .ok (.goto 16, 3) := dk_167 0 16 (dk_at dksX0_dry_5 0 rfl rfl)
theorem dX0_dry_123 : decode cX0_dry 123 = .ok (.iload 7, 2) := dk_21 7 (dk_at dksX0_dry_5 3 rfl rfl)
theorem dX0_dry_125 : decode cX0_dry 125 = .ok (.istore 5, 2) := dk_54 5 (dk_at dksX0_dry_5 5 rfl rfl)
theorem dX0_dry_127 : decode cX0_dry 127 = .ok (.iload 9, 2) := dk_21 9 (dk_at dksX0_dry_5 7 rfl rfl)
theorem dX0_dry_129 : decode cX0_dry 129 = .ok (.iload 7, 2) := dk_21 7 (dk_at dksX0_dry_5 9 rfl rfl)
theorem dX0_dry_131 : decode cX0_dry 131 = .ok (.isub, 1) := dk_100 (dk_at dksX0_dry_5 11 rfl rfl)
theorem dX0_dry_132 : decode cX0_dry 132 = .ok (.iconst 1, 1) := dk_4 (dk_at dksX0_dry_5 12 rfl rfl)
theorem dX0_dry_133 : decode cX0_dry 133 = .ok (.iadd, 1) := dk_96 (dk_at dksX0_dry_5 13 rfl rfl)
theorem dX0_dry_134 : decode cX0_dry 134 = .ok (.istore 6, 2) := dk_54 6 (dk_at dksX0_dry_5 14 rfl rfl)
theorem dX0_dry_136 : decode cX0_dry 136 = .ok (.iinc 8 1, 3) := dk_132 8 1 (dk_at dksX0_dry_5 16 rfl rfl)
theorem dX0_dry_139 : decode cX0_dry 139 = .ok (.goto (-80), 3) := dk_167 255 176 (dk_at dksX0_dry_5 19 rfl rfl)
theorem dX0_dry_142 : decode cX0_dry 142 = .ok (.iload 4, 2) := dk_21 4 (dk_at dksX0_dry_5 22 rfl rfl)
theorem dX0_dry_144 : decode cX0_dry 144 = .ok (.ifCond .ne 8, 3) := dk_154 0 8 (dk_at dksX0_dry_6 0 rfl rfl)
theorem dX0_dry_147 : decode cX0_dry 147 = .ok (.iload 5, 2) := dk_21 5 (dk_at dksX0_dry_6 3 rfl rfl)
theorem dX0_dry_149 : decode cX0_dry 149 = .ok (.goto 5, 3) := dk_167 0 5 (dk_at dksX0_dry_6 5 rfl rfl)
theorem dX0_dry_152 : decode cX0_dry 152 = .ok (.iload 6, 2) := dk_21 6 (dk_at dksX0_dry_6 8 rfl rfl)
theorem dX0_dry_154 : decode cX0_dry 154 = .ok (.ireturn, 1) := dk_172 (dk_at dksX0_dry_6 10 rfl rfl)
abbrev cX0_buys : ByteArray := prog_1_method_51_code
def yX0_buys : MethodName := ⟨RX0, "buys", "(II)I"⟩
def dkwX0_buys_8 : List UInt8 := [167, 0, 4, 29, 172]
abbrev dktX0_buys_8 : List UInt8 := dkwX0_buys_8 ++ []
def dkwX0_buys_7 : List UInt8 := [132, 4, 1, 167, 255, 150, 28, 154, 0, 18, 42, 29, 42, 180, 0, 20, 180, 0, 188, 182, 1, 45]
abbrev dktX0_buys_7 : List UInt8 := dkwX0_buys_7 ++ dktX0_buys_8
def dkwX0_buys_6 : List UInt8 := [21, 4, 42, 180, 0, 41, 182, 1, 45, 42, 29, 42, 180, 0, 41, 182, 1, 45, 162, 0, 6, 21, 4, 62]
abbrev dktX0_buys_6 : List UInt8 := dkwX0_buys_6 ++ dktX0_buys_7
def dkwX0_buys_5 : List UInt8 := [180, 0, 20, 180, 0, 188, 182, 1, 45, 100, 54, 5, 21, 5, 157, 0, 30, 21, 5, 154, 0, 28, 42]
abbrev dktX0_buys_5 : List UInt8 := dkwX0_buys_5 ++ dktX0_buys_6
def dkwX0_buys_4 : List UInt8 := [164, 0, 6, 167, 0, 66, 42, 21, 4, 42, 180, 0, 20, 180, 0, 188, 182, 1, 45, 42, 29, 42]
abbrev dktX0_buys_4 : List UInt8 := dkwX0_buys_4 ++ dktX0_buys_5
def dkwX0_buys_3 : List UInt8 := [162, 0, 98, 42, 21, 4, 182, 1, 42, 153, 0, 83, 42, 21, 4, 42, 180, 0, 41, 182, 1, 45, 27]
abbrev dktX0_buys_3 : List UInt8 := dkwX0_buys_3 ++ dktX0_buys_4
def dkwX0_buys_2 : List UInt8 := [79, 132, 3, 1, 167, 255, 228, 3, 62, 4, 54, 4, 21, 4, 4, 42, 180, 0, 20, 180, 0, 123, 120]
abbrev dktX0_buys_2 : List UInt8 := dkwX0_buys_2 ++ dktX0_buys_3
def dkwX0_buys_1 : List UInt8 := [29, 42, 180, 0, 20, 180, 0, 123, 162, 0, 23, 42, 180, 0, 41, 29, 42, 180, 0, 20, 29, 182, 0, 199]
abbrev dktX0_buys_1 : List UInt8 := dkwX0_buys_1 ++ dktX0_buys_2
def dkwX0_buys_0 : List UInt8 := [27, 3, 17, 39, 15, 184, 0, 51, 153, 0, 12, 28, 3, 4, 184, 0, 51, 154, 0, 5, 2, 172, 3, 62]
abbrev dktX0_buys_0 : List UInt8 := dkwX0_buys_0 ++ dktX0_buys_1
theorem dksX0_buys_0 : cX0_buys.data.toList.drop 0 = dktX0_buys_0 := by decide +kernel
theorem dksX0_buys_1 : cX0_buys.data.toList.drop 24 = dktX0_buys_1 := dk_seg dksX0_buys_0 24 rfl rfl
theorem dksX0_buys_2 : cX0_buys.data.toList.drop 48 = dktX0_buys_2 := dk_seg dksX0_buys_1 24 rfl rfl
theorem dksX0_buys_3 : cX0_buys.data.toList.drop 71 = dktX0_buys_3 := dk_seg dksX0_buys_2 23 rfl rfl
theorem dksX0_buys_4 : cX0_buys.data.toList.drop 94 = dktX0_buys_4 := dk_seg dksX0_buys_3 23 rfl rfl
theorem dksX0_buys_5 : cX0_buys.data.toList.drop 116 = dktX0_buys_5 := dk_seg dksX0_buys_4 22 rfl rfl
theorem dksX0_buys_6 : cX0_buys.data.toList.drop 139 = dktX0_buys_6 := dk_seg dksX0_buys_5 23 rfl rfl
theorem dksX0_buys_7 : cX0_buys.data.toList.drop 163 = dktX0_buys_7 := dk_seg dksX0_buys_6 24 rfl rfl
theorem dksX0_buys_8 : cX0_buys.data.toList.drop 185 = dktX0_buys_8 := dk_seg dksX0_buys_7 22 rfl rfl
theorem dX0_buys_0 : decode cX0_buys 0 = .ok (.iload_n 1, 1) := dk_27 (dk_at dksX0_buys_0 0 rfl rfl)
theorem dX0_buys_1 : decode cX0_buys 1 = .ok (.iconst 0, 1) := dk_3 (dk_at dksX0_buys_0 1 rfl rfl)
theorem dX0_buys_2 : decode cX0_buys 2 = .ok (.sipush 9999, 3) := dk_17 39 15 (dk_at dksX0_buys_0 2 rfl rfl)
theorem dX0_buys_5 : decode cX0_buys 5 = .ok (.invokestatic 51, 3) := dk_184 0 51 (dk_at dksX0_buys_0 5 rfl rfl)
theorem dX0_buys_8 : decode cX0_buys 8 = .ok (.ifCond .eq 12, 3) := dk_153 0 12 (dk_at dksX0_buys_0 8 rfl rfl)
theorem dX0_buys_11 : decode cX0_buys 11 = .ok (.iload_n 2, 1) := dk_28 (dk_at dksX0_buys_0 11 rfl rfl)
theorem dX0_buys_12 : decode cX0_buys 12 = .ok (.iconst 0, 1) := dk_3 (dk_at dksX0_buys_0 12 rfl rfl)
theorem dX0_buys_13 : decode cX0_buys 13 = .ok (.iconst 1, 1) := dk_4 (dk_at dksX0_buys_0 13 rfl rfl)
theorem dX0_buys_14 : decode cX0_buys 14 = .ok (.invokestatic 51, 3) := dk_184 0 51 (dk_at dksX0_buys_0 14 rfl rfl)
theorem dX0_buys_17 : decode cX0_buys 17 = .ok (.ifCond .ne 5, 3) := dk_154 0 5 (dk_at dksX0_buys_0 17 rfl rfl)
theorem dX0_buys_20 : decode cX0_buys 20 = .ok (.iconst (-1), 1) := dk_2 (dk_at dksX0_buys_0 20 rfl rfl)
theorem dX0_buys_21 : decode cX0_buys 21 = .ok (.ireturn, 1) := dk_172 (dk_at dksX0_buys_0 21 rfl rfl)
theorem dX0_buys_22 : decode cX0_buys 22 = .ok (.iconst 0, 1) := dk_3 (dk_at dksX0_buys_0 22 rfl rfl)
theorem dX0_buys_23 : decode cX0_buys 23 = .ok (.istore_n 3, 1) := dk_62 (dk_at dksX0_buys_0 23 rfl rfl)
theorem dX0_buys_24 : decode cX0_buys 24 = .ok (.iload_n 3, 1) := dk_29 (dk_at dksX0_buys_1 0 rfl rfl)
theorem dX0_buys_25 : decode cX0_buys 25 = .ok (.aload_n 0, 1) := dk_42 (dk_at dksX0_buys_1 1 rfl rfl)
theorem dX0_buys_26 : decode cX0_buys 26 = .ok (.getfield 20, 3) := dk_180 0 20 (dk_at dksX0_buys_1 2 rfl rfl)
theorem dX0_buys_29 : decode cX0_buys 29 = .ok (.getfield 123, 3) := dk_180 0 123 (dk_at dksX0_buys_1 5 rfl rfl)
theorem dX0_buys_32 : decode cX0_buys 32 = .ok (.if_icmp .ge 23, 3) := dk_162 0 23 (dk_at dksX0_buys_1 8 rfl rfl)
theorem dX0_buys_35 : decode cX0_buys 35 = .ok (.aload_n 0, 1) := dk_42 (dk_at dksX0_buys_1 11 rfl rfl)
theorem dX0_buys_36 : decode cX0_buys 36 = .ok (.getfield 41, 3) := dk_180 0 41 (dk_at dksX0_buys_1 12 rfl rfl)
theorem dX0_buys_39 : decode cX0_buys 39 = .ok (.iload_n 3, 1) := dk_29 (dk_at dksX0_buys_1 15 rfl rfl)
theorem dX0_buys_40 : decode cX0_buys 40 = .ok (.aload_n 0, 1) := dk_42 (dk_at dksX0_buys_1 16 rfl rfl)
theorem dX0_buys_41 : decode cX0_buys 41 = .ok (.getfield 20, 3) := dk_180 0 20 (dk_at dksX0_buys_1 17 rfl rfl)
theorem dX0_buys_44 : decode cX0_buys 44 = .ok (.iload_n 3, 1) := dk_29 (dk_at dksX0_buys_1 20 rfl rfl)
theorem dX0_buys_45 : decode cX0_buys 45 = .ok (.invokevirtual 199, 3) := dk_182 0 199 (dk_at dksX0_buys_1 21 rfl rfl)
theorem dX0_buys_48 : decode cX0_buys 48 = .ok (.iastore, 1) := dk_79 (dk_at dksX0_buys_2 0 rfl rfl)
theorem dX0_buys_49 : decode cX0_buys 49 = .ok (.iinc 3 1, 3) := dk_132 3 1 (dk_at dksX0_buys_2 1 rfl rfl)
theorem dX0_buys_52 : decode cX0_buys 52 = .ok (.goto (-28), 3) := dk_167 255 228 (dk_at dksX0_buys_2 4 rfl rfl)
theorem dX0_buys_55 : decode cX0_buys 55 = .ok (.iconst 0, 1) := dk_3 (dk_at dksX0_buys_2 7 rfl rfl)
theorem dX0_buys_56 : decode cX0_buys 56 = .ok (.istore_n 3, 1) := dk_62 (dk_at dksX0_buys_2 8 rfl rfl)
theorem dX0_buys_57 : decode cX0_buys 57 = .ok (.iconst 1, 1) := dk_4 (dk_at dksX0_buys_2 9 rfl rfl)
theorem dX0_buys_58 : decode cX0_buys 58 = .ok (.istore 4, 2) := dk_54 4 (dk_at dksX0_buys_2 10 rfl rfl)
theorem dX0_buys_60 : decode cX0_buys 60 = .ok (.iload 4, 2) := dk_21 4 (dk_at dksX0_buys_2 12 rfl rfl)
theorem dX0_buys_62 : decode cX0_buys 62 = .ok (.iconst 1, 1) := dk_4 (dk_at dksX0_buys_2 14 rfl rfl)
theorem dX0_buys_63 : decode cX0_buys 63 = .ok (.aload_n 0, 1) := dk_42 (dk_at dksX0_buys_2 15 rfl rfl)
theorem dX0_buys_64 : decode cX0_buys 64 = .ok (.getfield 20, 3) := dk_180 0 20 (dk_at dksX0_buys_2 16 rfl rfl)
theorem dX0_buys_67 : decode cX0_buys 67 = .ok (.getfield 123, 3) := dk_180 0 123 (dk_at dksX0_buys_2 19 rfl rfl)
theorem dX0_buys_70 : decode cX0_buys 70 = .ok (.ishl, 1) := dk_120 (dk_at dksX0_buys_2 22 rfl rfl)
theorem dX0_buys_71 : decode cX0_buys 71 = .ok (.if_icmp .ge 98, 3) := dk_162 0 98 (dk_at dksX0_buys_3 0 rfl rfl)
theorem dX0_buys_74 : decode cX0_buys 74 = .ok (.aload_n 0, 1) := dk_42 (dk_at dksX0_buys_3 3 rfl rfl)
theorem dX0_buys_75 : decode cX0_buys 75 = .ok (.iload 4, 2) := dk_21 4 (dk_at dksX0_buys_3 4 rfl rfl)
theorem dX0_buys_77 : decode cX0_buys 77 = .ok (.invokevirtual 298, 3) := dk_182 1 42 (dk_at dksX0_buys_3 6 rfl rfl)
theorem dX0_buys_80 : decode cX0_buys 80 = .ok (.ifCond .eq 83, 3) := dk_153 0 83 (dk_at dksX0_buys_3 9 rfl rfl)
theorem dX0_buys_83 : decode cX0_buys 83 = .ok (.aload_n 0, 1) := dk_42 (dk_at dksX0_buys_3 12 rfl rfl)
theorem dX0_buys_84 : decode cX0_buys 84 = .ok (.iload 4, 2) := dk_21 4 (dk_at dksX0_buys_3 13 rfl rfl)
theorem dX0_buys_86 : decode cX0_buys 86 = .ok (.aload_n 0, 1) := dk_42 (dk_at dksX0_buys_3 15 rfl rfl)
theorem dX0_buys_87 : decode cX0_buys 87 = .ok (.getfield 41, 3) := dk_180 0 41 (dk_at dksX0_buys_3 16 rfl rfl)
theorem dX0_buys_90 : decode cX0_buys 90 = .ok (.invokevirtual 301, 3) := dk_182 1 45 (dk_at dksX0_buys_3 19 rfl rfl)
theorem dX0_buys_93 : decode cX0_buys 93 = .ok (.iload_n 1, 1) := dk_27 (dk_at dksX0_buys_3 22 rfl rfl)
theorem dX0_buys_94 : decode cX0_buys 94 = .ok (.if_icmp .le 6, 3) := dk_164 0 6 (dk_at dksX0_buys_4 0 rfl rfl)
theorem dX0_buys_97 : decode cX0_buys 97 = .ok (.goto 66, 3) := dk_167 0 66 (dk_at dksX0_buys_4 3 rfl rfl)
theorem dX0_buys_100 : decode cX0_buys 100 = .ok (.aload_n 0, 1) := dk_42 (dk_at dksX0_buys_4 6 rfl rfl)
theorem dX0_buys_101 : decode cX0_buys 101 = .ok (.iload 4, 2) := dk_21 4 (dk_at dksX0_buys_4 7 rfl rfl)
theorem dX0_buys_103 : decode cX0_buys 103 = .ok (.aload_n 0, 1) := dk_42 (dk_at dksX0_buys_4 9 rfl rfl)
theorem dX0_buys_104 : decode cX0_buys 104 = .ok (.getfield 20, 3) := dk_180 0 20 (dk_at dksX0_buys_4 10 rfl rfl)
theorem dX0_buys_107 : decode cX0_buys 107 = .ok (.getfield 188, 3) := dk_180 0 188 (dk_at dksX0_buys_4 13 rfl rfl)
theorem dX0_buys_110 : decode cX0_buys 110 = .ok (.invokevirtual 301, 3) := dk_182 1 45 (dk_at dksX0_buys_4 16 rfl rfl)
theorem dX0_buys_113 : decode cX0_buys 113 = .ok (.aload_n 0, 1) := dk_42 (dk_at dksX0_buys_4 19 rfl rfl)
theorem dX0_buys_114 : decode cX0_buys 114 = .ok (.iload_n 3, 1) := dk_29 (dk_at dksX0_buys_4 20 rfl rfl)
theorem dX0_buys_115 : decode cX0_buys 115 = .ok (.aload_n 0, 1) := dk_42 (dk_at dksX0_buys_4 21 rfl rfl)
theorem dX0_buys_116 : decode cX0_buys 116 = .ok (.getfield 20, 3) := dk_180 0 20 (dk_at dksX0_buys_5 0 rfl rfl)
theorem dX0_buys_119 : decode cX0_buys 119 = .ok (.getfield 188, 3) := dk_180 0 188 (dk_at dksX0_buys_5 3 rfl rfl)
theorem dX0_buys_122 : decode cX0_buys 122 = .ok (.invokevirtual 301, 3) := dk_182 1 45 (dk_at dksX0_buys_5 6 rfl rfl)
theorem dX0_buys_125 : decode cX0_buys 125 = .ok (.isub, 1) := dk_100 (dk_at dksX0_buys_5 9 rfl rfl)
theorem dX0_buys_126 : decode cX0_buys 126 = .ok (.istore 5, 2) := dk_54 5 (dk_at dksX0_buys_5 10 rfl rfl)
theorem dX0_buys_128 : decode cX0_buys 128 = .ok (.iload 5, 2) := dk_21 5 (dk_at dksX0_buys_5 12 rfl rfl)
theorem dX0_buys_130 : decode cX0_buys 130 = .ok (.ifCond .gt 30, 3) := dk_157 0 30 (dk_at dksX0_buys_5 14 rfl rfl)
theorem dX0_buys_133 : decode cX0_buys 133 = .ok (.iload 5, 2) := dk_21 5 (dk_at dksX0_buys_5 17 rfl rfl)
theorem dX0_buys_135 : decode cX0_buys 135 = .ok (.ifCond .ne 28, 3) := dk_154 0 28 (dk_at dksX0_buys_5 19 rfl rfl)
theorem dX0_buys_138 : decode cX0_buys 138 = .ok (.aload_n 0, 1) := dk_42 (dk_at dksX0_buys_5 22 rfl rfl)
theorem dX0_buys_139 : decode cX0_buys 139 = .ok (.iload 4, 2) := dk_21 4 (dk_at dksX0_buys_6 0 rfl rfl)
theorem dX0_buys_141 : decode cX0_buys 141 = .ok (.aload_n 0, 1) := dk_42 (dk_at dksX0_buys_6 2 rfl rfl)
theorem dX0_buys_142 : decode cX0_buys 142 = .ok (.getfield 41, 3) := dk_180 0 41 (dk_at dksX0_buys_6 3 rfl rfl)
theorem dX0_buys_145 : decode cX0_buys 145 = .ok (.invokevirtual 301, 3) := dk_182 1 45 (dk_at dksX0_buys_6 6 rfl rfl)
theorem dX0_buys_148 : decode cX0_buys 148 = .ok (.aload_n 0, 1) := dk_42 (dk_at dksX0_buys_6 9 rfl rfl)
theorem dX0_buys_149 : decode cX0_buys 149 = .ok (.iload_n 3, 1) := dk_29 (dk_at dksX0_buys_6 10 rfl rfl)
theorem dX0_buys_150 : decode cX0_buys 150 = .ok (.aload_n 0, 1) := dk_42 (dk_at dksX0_buys_6 11 rfl rfl)
theorem dX0_buys_151 : decode cX0_buys 151 = .ok (.getfield 41, 3) := dk_180 0 41 (dk_at dksX0_buys_6 12 rfl rfl)
theorem dX0_buys_154 : decode cX0_buys 154 = .ok (.invokevirtual 301, 3) := dk_182 1 45 (dk_at dksX0_buys_6 15 rfl rfl)
theorem dX0_buys_157 : decode cX0_buys 157 = .ok (.if_icmp .ge 6, 3) := dk_162 0 6 (dk_at dksX0_buys_6 18 rfl rfl)
theorem dX0_buys_160 : decode cX0_buys 160 = .ok (.iload 4, 2) := dk_21 4 (dk_at dksX0_buys_6 21 rfl rfl)
theorem dX0_buys_162 : decode cX0_buys 162 = .ok (.istore_n 3, 1) := dk_62 (dk_at dksX0_buys_6 23 rfl rfl)
theorem dX0_buys_163 : decode cX0_buys 163 = .ok (.iinc 4 1, 3) := dk_132 4 1 (dk_at dksX0_buys_7 0 rfl rfl)
theorem dX0_buys_166 : decode cX0_buys 166 = .ok (.goto (-106), 3) := dk_167 255 150 (dk_at dksX0_buys_7 3 rfl rfl)
theorem dX0_buys_169 : decode cX0_buys 169 = .ok (.iload_n 2, 1) := dk_28 (dk_at dksX0_buys_7 6 rfl rfl)
theorem dX0_buys_170 : decode cX0_buys 170 = .ok (.ifCond .ne 18, 3) := dk_154 0 18 (dk_at dksX0_buys_7 7 rfl rfl)
theorem dX0_buys_173 : decode cX0_buys 173 = .ok (.aload_n 0, 1) := dk_42 (dk_at dksX0_buys_7 10 rfl rfl)
theorem dX0_buys_174 : decode cX0_buys 174 = .ok (.iload_n 3, 1) := dk_29 (dk_at dksX0_buys_7 11 rfl rfl)
theorem dX0_buys_175 : decode cX0_buys 175 = .ok (.aload_n 0, 1) := dk_42 (dk_at dksX0_buys_7 12 rfl rfl)
theorem dX0_buys_176 : decode cX0_buys 176 = .ok (.getfield 20, 3) := dk_180 0 20 (dk_at dksX0_buys_7 13 rfl rfl)
theorem dX0_buys_179 : decode cX0_buys 179 = .ok (.getfield 188, 3) := dk_180 0 188 (dk_at dksX0_buys_7 16 rfl rfl)
theorem dX0_buys_182 : decode cX0_buys 182 = .ok (.invokevirtual 301, 3) := dk_182 1 45 (dk_at dksX0_buys_7 19 rfl rfl)
theorem dX0_buys_185 : decode cX0_buys 185 = .ok (.goto 4, 3) := dk_167 0 4 (dk_at dksX0_buys_8 0 rfl rfl)
theorem dX0_buys_188 : decode cX0_buys 188 = .ok (.iload_n 3, 1) := dk_29 (dk_at dksX0_buys_8 3 rfl rfl)
theorem dX0_buys_189 : decode cX0_buys 189 = .ok (.ireturn, 1) := dk_172 (dk_at dksX0_buys_8 4 rfl rfl)
abbrev cX0_areAlive : ByteArray := prog_1_method_50_code
def yX0_areAlive : MethodName := ⟨RX0, "areAlive", "(I)Z"⟩
def dkwX0_areAlive_1 : List UInt8 := [180, 0, 20, 180, 0, 194, 28, 46, 4, 160, 0, 5, 3, 172, 132, 2, 1, 167, 255, 218, 4, 172]
abbrev dktX0_areAlive_1 : List UInt8 := dkwX0_areAlive_1 ++ []
def dkwX0_areAlive_0 : List UInt8 := [3, 61, 28, 42, 180, 0, 20, 180, 0, 123, 162, 0, 33, 27, 28, 122, 4, 126, 4, 160, 0, 18, 42]
abbrev dktX0_areAlive_0 : List UInt8 := dkwX0_areAlive_0 ++ dktX0_areAlive_1
theorem dksX0_areAlive_0 : cX0_areAlive.data.toList.drop 0 = dktX0_areAlive_0 := by decide +kernel
theorem dksX0_areAlive_1 : cX0_areAlive.data.toList.drop 23 = dktX0_areAlive_1 := dk_seg dksX0_areAlive_0 23 rfl rfl
theorem dX0_areAlive_0 : decode cX0_areAlive 0 = .ok (.iconst 0, 1) := dk_3 (dk_at dksX0_areAlive_0 0 rfl rfl)
theorem dX0_areAlive_1 : decode cX0_areAlive 1 = .ok (.istore_n 2, 1) := dk_61 (dk_at dksX0_areAlive_0 1 rfl rfl)
theorem dX0_areAlive_2 : decode cX0_areAlive 2 = .ok (.iload_n 2, 1) := dk_28 (dk_at dksX0_areAlive_0 2 rfl rfl)
theorem dX0_areAlive_3 : decode cX0_areAlive 3 = .ok (.aload_n 0, 1) := dk_42 (dk_at dksX0_areAlive_0 3 rfl rfl)
theorem dX0_areAlive_4 : decode cX0_areAlive 4 = .ok (.getfield 20, 3) := dk_180 0 20 (dk_at dksX0_areAlive_0 4 rfl rfl)
theorem dX0_areAlive_7 : decode cX0_areAlive 7 = .ok (.getfield 123, 3) := dk_180 0 123 (dk_at dksX0_areAlive_0 7 rfl rfl)
theorem dX0_areAlive_10 : decode cX0_areAlive 10 = .ok (.if_icmp .ge 33, 3) := dk_162 0 33 (dk_at dksX0_areAlive_0 10 rfl rfl)
theorem dX0_areAlive_13 : decode cX0_areAlive 13 = .ok (.iload_n 1, 1) := dk_27 (dk_at dksX0_areAlive_0 13 rfl rfl)
theorem dX0_areAlive_14 : decode cX0_areAlive 14 = .ok (.iload_n 2, 1) := dk_28 (dk_at dksX0_areAlive_0 14 rfl rfl)
theorem dX0_areAlive_15 : decode cX0_areAlive 15 = .ok (.ishr, 1) := dk_122 (dk_at dksX0_areAlive_0 15 rfl rfl)
theorem dX0_areAlive_16 : decode cX0_areAlive 16 = .ok (.iconst 1, 1) := dk_4 (dk_at dksX0_areAlive_0 16 rfl rfl)
theorem dX0_areAlive_17 : decode cX0_areAlive 17 = .ok (.iand, 1) := dk_126 (dk_at dksX0_areAlive_0 17 rfl rfl)
theorem dX0_areAlive_18 : decode cX0_areAlive 18 = .ok (.iconst 1, 1) := dk_4 (dk_at dksX0_areAlive_0 18 rfl rfl)
theorem dX0_areAlive_19 : decode cX0_areAlive 19 = .ok (.if_icmp .ne 18, 3) := dk_160 0 18 (dk_at dksX0_areAlive_0 19 rfl rfl)
theorem dX0_areAlive_22 : decode cX0_areAlive 22 = .ok (.aload_n 0, 1) := dk_42 (dk_at dksX0_areAlive_0 22 rfl rfl)
theorem dX0_areAlive_23 : decode cX0_areAlive 23 = .ok (.getfield 20, 3) := dk_180 0 20 (dk_at dksX0_areAlive_1 0 rfl rfl)
theorem dX0_areAlive_26 : decode cX0_areAlive 26 = .ok (.getfield 194, 3) := dk_180 0 194 (dk_at dksX0_areAlive_1 3 rfl rfl)
theorem dX0_areAlive_29 : decode cX0_areAlive 29 = .ok (.iload_n 2, 1) := dk_28 (dk_at dksX0_areAlive_1 6 rfl rfl)
theorem dX0_areAlive_30 : decode cX0_areAlive 30 = .ok (.iaload, 1) := dk_46 (dk_at dksX0_areAlive_1 7 rfl rfl)
theorem dX0_areAlive_31 : decode cX0_areAlive 31 = .ok (.iconst 1, 1) := dk_4 (dk_at dksX0_areAlive_1 8 rfl rfl)
theorem dX0_areAlive_32 : decode cX0_areAlive 32 = .ok (.if_icmp .ne 5, 3) := dk_160 0 5 (dk_at dksX0_areAlive_1 9 rfl rfl)
theorem dX0_areAlive_35 : decode cX0_areAlive 35 = .ok (.iconst 0, 1) := dk_3 (dk_at dksX0_areAlive_1 12 rfl rfl)
theorem dX0_areAlive_36 : decode cX0_areAlive 36 = .ok (.ireturn, 1) := dk_172 (dk_at dksX0_areAlive_1 13 rfl rfl)
theorem dX0_areAlive_37 : decode cX0_areAlive 37 = .ok (.iinc 2 1, 3) := dk_132 2 1 (dk_at dksX0_areAlive_1 14 rfl rfl)
theorem dX0_areAlive_40 : decode cX0_areAlive 40 = .ok (.goto (-38), 3) := dk_167 255 218 (dk_at dksX0_areAlive_1 17 rfl rfl)
theorem dX0_areAlive_43 : decode cX0_areAlive 43 = .ok (.iconst 1, 1) := dk_4 (dk_at dksX0_areAlive_1 20 rfl rfl)
theorem dX0_areAlive_44 : decode cX0_areAlive 44 = .ok (.ireturn, 1) := dk_172 (dk_at dksX0_areAlive_1 21 rfl rfl)
abbrev cX0_sumOf : ByteArray := prog_1_method_49_code
def yX0_sumOf : MethodName := ⟨RX0, "sumOf", "(I[I)I"⟩
def dkwX0_sumOf_1 : List UInt8 := [4, 160, 0, 10, 44, 21, 4, 46, 167, 0, 4, 3, 96, 62, 132, 4, 1, 167, 255, 220, 29, 172]
abbrev dktX0_sumOf_1 : List UInt8 := dkwX0_sumOf_1 ++ []
def dkwX0_sumOf_0 : List UInt8 := [3, 62, 3, 54, 4, 21, 4, 42, 180, 0, 20, 180, 0, 123, 162, 0, 30, 29, 27, 21, 4, 122, 4, 126]
abbrev dktX0_sumOf_0 : List UInt8 := dkwX0_sumOf_0 ++ dktX0_sumOf_1
theorem dksX0_sumOf_0 : cX0_sumOf.data.toList.drop 0 = dktX0_sumOf_0 := by decide +kernel
theorem dksX0_sumOf_1 : cX0_sumOf.data.toList.drop 24 = dktX0_sumOf_1 := dk_seg dksX0_sumOf_0 24 rfl rfl
theorem dX0_sumOf_0 : decode cX0_sumOf 0 = .ok (.iconst 0, 1) := dk_3 (dk_at dksX0_sumOf_0 0 rfl rfl)
theorem dX0_sumOf_1 : decode cX0_sumOf 1 = .ok (.istore_n 3, 1) := dk_62 (dk_at dksX0_sumOf_0 1 rfl rfl)
theorem dX0_sumOf_2 : decode cX0_sumOf 2 = .ok (.iconst 0, 1) := dk_3 (dk_at dksX0_sumOf_0 2 rfl rfl)
theorem dX0_sumOf_3 : decode cX0_sumOf 3 = .ok (.istore 4, 2) := dk_54 4 (dk_at dksX0_sumOf_0 3 rfl rfl)
theorem dX0_sumOf_5 : decode cX0_sumOf 5 = .ok (.iload 4, 2) := dk_21 4 (dk_at dksX0_sumOf_0 5 rfl rfl)
theorem dX0_sumOf_7 : decode cX0_sumOf 7 = .ok (.aload_n 0, 1) := dk_42 (dk_at dksX0_sumOf_0 7 rfl rfl)
theorem dX0_sumOf_8 : decode cX0_sumOf 8 = .ok (.getfield 20, 3) := dk_180 0 20 (dk_at dksX0_sumOf_0 8 rfl rfl)
theorem dX0_sumOf_11 : decode cX0_sumOf 11 = .ok (.getfield 123, 3) := dk_180 0 123 (dk_at dksX0_sumOf_0 11 rfl rfl)
theorem dX0_sumOf_14 : decode cX0_sumOf 14 = .ok (.if_icmp .ge 30, 3) := dk_162 0 30 (dk_at dksX0_sumOf_0 14 rfl rfl)
theorem dX0_sumOf_17 : decode cX0_sumOf 17 = .ok (.iload_n 3, 1) := dk_29 (dk_at dksX0_sumOf_0 17 rfl rfl)
theorem dX0_sumOf_18 : decode cX0_sumOf 18 = .ok (.iload_n 1, 1) := dk_27 (dk_at dksX0_sumOf_0 18 rfl rfl)
theorem dX0_sumOf_19 : decode cX0_sumOf 19 = .ok (.iload 4, 2) := dk_21 4 (dk_at dksX0_sumOf_0 19 rfl rfl)
theorem dX0_sumOf_21 : decode cX0_sumOf 21 = .ok (.ishr, 1) := dk_122 (dk_at dksX0_sumOf_0 21 rfl rfl)
theorem dX0_sumOf_22 : decode cX0_sumOf 22 = .ok (.iconst 1, 1) := dk_4 (dk_at dksX0_sumOf_0 22 rfl rfl)
theorem dX0_sumOf_23 : decode cX0_sumOf 23 = .ok (.iand, 1) := dk_126 (dk_at dksX0_sumOf_0 23 rfl rfl)
theorem dX0_sumOf_24 : decode cX0_sumOf 24 = .ok (.iconst 1, 1) := dk_4 (dk_at dksX0_sumOf_1 0 rfl rfl)
theorem dX0_sumOf_25 : decode cX0_sumOf 25 = .ok (.if_icmp .ne 10, 3) := dk_160 0 10 (dk_at dksX0_sumOf_1 1 rfl rfl)
theorem dX0_sumOf_28 : decode cX0_sumOf 28 = .ok (.aload_n 2, 1) := dk_44 (dk_at dksX0_sumOf_1 4 rfl rfl)
theorem dX0_sumOf_29 : decode cX0_sumOf 29 = .ok (.iload 4, 2) := dk_21 4 (dk_at dksX0_sumOf_1 5 rfl rfl)
theorem dX0_sumOf_31 : decode cX0_sumOf 31 = .ok (.iaload, 1) := dk_46 (dk_at dksX0_sumOf_1 7 rfl rfl)
theorem dX0_sumOf_32 : decode cX0_sumOf 32 = .ok (.goto 4, 3) := dk_167 0 4 (dk_at dksX0_sumOf_1 8 rfl rfl)
theorem dX0_sumOf_35 : decode cX0_sumOf 35 = .ok (.iconst 0, 1) := dk_3 (dk_at dksX0_sumOf_1 11 rfl rfl)
theorem dX0_sumOf_36 : decode cX0_sumOf 36 = .ok (.iadd, 1) := dk_96 (dk_at dksX0_sumOf_1 12 rfl rfl)
theorem dX0_sumOf_37 : decode cX0_sumOf 37 = .ok (.istore_n 3, 1) := dk_62 (dk_at dksX0_sumOf_1 13 rfl rfl)
theorem dX0_sumOf_38 : decode cX0_sumOf 38 = .ok (.iinc 4 1, 3) := dk_132 4 1 (dk_at dksX0_sumOf_1 14 rfl rfl)
theorem dX0_sumOf_41 : decode cX0_sumOf 41 = .ok (.goto (-36), 3) := dk_167 255 220 (dk_at dksX0_sumOf_1 17 rfl rfl)
theorem dX0_sumOf_44 : decode cX0_sumOf 44 = .ok (.iload_n 3, 1) := dk_29 (dk_at dksX0_sumOf_1 20 rfl rfl)
theorem dX0_sumOf_45 : decode cX0_sumOf 45 = .ok (.ireturn, 1) := dk_172 (dk_at dksX0_sumOf_1 21 rfl rfl)
abbrev cX0_carried : ByteArray := prog_1_method_52_code
def yX0_carried : MethodName := ⟨RX0, "carried", "(II)I"⟩
def dkwX0_carried_2 : List UInt8 := [180, 0, 137, 29, 46, 62, 132, 4, 1, 167, 255, 223, 2, 172]
abbrev dktX0_carried_2 : List UInt8 := dkwX0_carried_2 ++ []
def dkwX0_carried_1 : List UInt8 := [16, 8, 162, 0, 32, 29, 2, 159, 0, 27, 29, 28, 160, 0, 6, 21, 4, 172, 42, 180, 0, 20]
abbrev dktX0_carried_1 : List UInt8 := dkwX0_carried_1 ++ dktX0_carried_2
def dkwX0_carried_0 : List UInt8 := [27, 184, 0, 120, 153, 0, 10, 28, 184, 0, 120, 154, 0, 5, 2, 172, 27, 62, 3, 54, 4, 21, 4]
abbrev dktX0_carried_0 : List UInt8 := dkwX0_carried_0 ++ dktX0_carried_1
theorem dksX0_carried_0 : cX0_carried.data.toList.drop 0 = dktX0_carried_0 := by decide +kernel
theorem dksX0_carried_1 : cX0_carried.data.toList.drop 23 = dktX0_carried_1 := dk_seg dksX0_carried_0 23 rfl rfl
theorem dksX0_carried_2 : cX0_carried.data.toList.drop 45 = dktX0_carried_2 := dk_seg dksX0_carried_1 22 rfl rfl
theorem dX0_carried_0 : decode cX0_carried 0 = .ok (.iload_n 1, 1) := dk_27 (dk_at dksX0_carried_0 0 rfl rfl)
theorem dX0_carried_1 : decode cX0_carried 1 = .ok (.invokestatic 120, 3) := dk_184 0 120 (dk_at dksX0_carried_0 1 rfl rfl)
theorem dX0_carried_4 : decode cX0_carried 4 = .ok (.ifCond .eq 10, 3) := dk_153 0 10 (dk_at dksX0_carried_0 4 rfl rfl)
theorem dX0_carried_7 : decode cX0_carried 7 = .ok (.iload_n 2, 1) := dk_28 (dk_at dksX0_carried_0 7 rfl rfl)
theorem dX0_carried_8 : decode cX0_carried 8 = .ok (.invokestatic 120, 3) := dk_184 0 120 (dk_at dksX0_carried_0 8 rfl rfl)
theorem dX0_carried_11 : decode cX0_carried 11 = .ok (.ifCond .ne 5, 3) := dk_154 0 5 (dk_at dksX0_carried_0 11 rfl rfl)
theorem dX0_carried_14 : decode cX0_carried 14 = .ok (.iconst (-1), 1) := dk_2 (dk_at dksX0_carried_0 14 rfl rfl)
theorem dX0_carried_15 : decode cX0_carried 15 = .ok (.ireturn, 1) := dk_172 (dk_at dksX0_carried_0 15 rfl rfl)
theorem dX0_carried_16 : decode cX0_carried 16 = .ok (.iload_n 1, 1) := dk_27 (dk_at dksX0_carried_0 16 rfl rfl)
theorem dX0_carried_17 : decode cX0_carried 17 = .ok (.istore_n 3, 1) := dk_62 (dk_at dksX0_carried_0 17 rfl rfl)
theorem dX0_carried_18 : decode cX0_carried 18 = .ok (.iconst 0, 1) := dk_3 (dk_at dksX0_carried_0 18 rfl rfl)
theorem dX0_carried_19 : decode cX0_carried 19 = .ok (.istore 4, 2) := dk_54 4 (dk_at dksX0_carried_0 19 rfl rfl)
theorem dX0_carried_21 : decode cX0_carried 21 = .ok (.iload 4, 2) := dk_21 4 (dk_at dksX0_carried_0 21 rfl rfl)
theorem dX0_carried_23 : decode cX0_carried 23 = .ok (.bipush 8, 2) := dk_16 8 (dk_at dksX0_carried_1 0 rfl rfl)
theorem dX0_carried_25 : decode cX0_carried 25 = .ok (.if_icmp .ge 32, 3) := dk_162 0 32 (dk_at dksX0_carried_1 2 rfl rfl)
theorem dX0_carried_28 : decode cX0_carried 28 = .ok (.iload_n 3, 1) := dk_29 (dk_at dksX0_carried_1 5 rfl rfl)
theorem dX0_carried_29 : decode cX0_carried 29 = .ok (.iconst (-1), 1) := dk_2 (dk_at dksX0_carried_1 6 rfl rfl)
theorem dX0_carried_30 : decode cX0_carried 30 = .ok (.if_icmp .eq 27, 3) := dk_159 0 27 (dk_at dksX0_carried_1 7 rfl rfl)
theorem dX0_carried_33 : decode cX0_carried 33 = .ok (.iload_n 3, 1) := dk_29 (dk_at dksX0_carried_1 10 rfl rfl)
theorem dX0_carried_34 : decode cX0_carried 34 = .ok (.iload_n 2, 1) := dk_28 (dk_at dksX0_carried_1 11 rfl rfl)
theorem dX0_carried_35 : decode cX0_carried 35 = .ok (.if_icmp .ne 6, 3) := dk_160 0 6 (dk_at dksX0_carried_1 12 rfl rfl)
theorem dX0_carried_38 : decode cX0_carried 38 = .ok (.iload 4, 2) := dk_21 4 (dk_at dksX0_carried_1 15 rfl rfl)
theorem dX0_carried_40 : decode cX0_carried 40 = .ok (.ireturn, 1) := dk_172 (dk_at dksX0_carried_1 17 rfl rfl)
theorem dX0_carried_41 : decode cX0_carried 41 = .ok (.aload_n 0, 1) := dk_42 (dk_at dksX0_carried_1 18 rfl rfl)
theorem dX0_carried_42 : decode cX0_carried 42 = .ok (.getfield 20, 3) := dk_180 0 20 (dk_at dksX0_carried_1 19 rfl rfl)
theorem dX0_carried_45 : decode cX0_carried 45 = .ok (.getfield 137, 3) := dk_180 0 137 (dk_at dksX0_carried_2 0 rfl rfl)
theorem dX0_carried_48 : decode cX0_carried 48 = .ok (.iload_n 3, 1) := dk_29 (dk_at dksX0_carried_2 3 rfl rfl)
theorem dX0_carried_49 : decode cX0_carried 49 = .ok (.iaload, 1) := dk_46 (dk_at dksX0_carried_2 4 rfl rfl)
theorem dX0_carried_50 : decode cX0_carried 50 = .ok (.istore_n 3, 1) := dk_62 (dk_at dksX0_carried_2 5 rfl rfl)
theorem dX0_carried_51 : decode cX0_carried 51 = .ok (.iinc 4 1, 3) := dk_132 4 1 (dk_at dksX0_carried_2 6 rfl rfl)
theorem dX0_carried_54 : decode cX0_carried 54 = .ok (.goto (-33), 3) := dk_167 255 223 (dk_at dksX0_carried_2 9 rfl rfl)
theorem dX0_carried_57 : decode cX0_carried 57 = .ok (.iconst (-1), 1) := dk_2 (dk_at dksX0_carried_2 12 rfl rfl)
theorem dX0_carried_58 : decode cX0_carried 58 = .ok (.ireturn, 1) := dk_172 (dk_at dksX0_carried_2 13 rfl rfl)
abbrev cX0_ring : ByteArray := prog_1_method_53_code
def yX0_ring : MethodName := ⟨RX0, "ring", "()I"⟩
def dkwX0_ring_2 : List UInt8 := [3, 128, 60, 132, 2, 1, 167, 255, 206, 27, 172]
abbrev dktX0_ring_2 : List UInt8 := dkwX0_ring_2 ++ []
def dkwX0_ring_1 : List UInt8 := [42, 42, 180, 0, 20, 180, 0, 137, 28, 46, 28, 182, 1, 49, 2, 159, 0, 9, 4, 28, 120, 167, 0, 4]
abbrev dktX0_ring_1 : List UInt8 := dkwX0_ring_1 ++ dktX0_ring_2
def dkwX0_ring_0 : List UInt8 := [3, 60, 3, 61, 28, 16, 8, 162, 0, 50, 27, 42, 180, 0, 20, 180, 0, 137, 28, 46, 2, 159, 0, 27]
abbrev dktX0_ring_0 : List UInt8 := dkwX0_ring_0 ++ dktX0_ring_1
theorem dksX0_ring_0 : cX0_ring.data.toList.drop 0 = dktX0_ring_0 := by decide +kernel
theorem dksX0_ring_1 : cX0_ring.data.toList.drop 24 = dktX0_ring_1 := dk_seg dksX0_ring_0 24 rfl rfl
theorem dksX0_ring_2 : cX0_ring.data.toList.drop 48 = dktX0_ring_2 := dk_seg dksX0_ring_1 24 rfl rfl
theorem dX0_ring_0 : decode cX0_ring 0 = .ok (.iconst 0, 1) := dk_3 (dk_at dksX0_ring_0 0 rfl rfl)
theorem dX0_ring_1 : decode cX0_ring 1 = .ok (.istore_n 1, 1) := dk_60 (dk_at dksX0_ring_0 1 rfl rfl)
theorem dX0_ring_2 : decode cX0_ring 2 = .ok (.iconst 0, 1) := dk_3 (dk_at dksX0_ring_0 2 rfl rfl)
theorem dX0_ring_3 : decode cX0_ring 3 = .ok (.istore_n 2, 1) := dk_61 (dk_at dksX0_ring_0 3 rfl rfl)
theorem dX0_ring_4 : decode cX0_ring 4 = .ok (.iload_n 2, 1) := dk_28 (dk_at dksX0_ring_0 4 rfl rfl)
theorem dX0_ring_5 : decode cX0_ring 5 = .ok (.bipush 8, 2) := dk_16 8 (dk_at dksX0_ring_0 5 rfl rfl)
theorem dX0_ring_7 : decode cX0_ring 7 = .ok (.if_icmp .ge 50, 3) := dk_162 0 50 (dk_at dksX0_ring_0 7 rfl rfl)
theorem dX0_ring_10 : decode cX0_ring 10 = .ok (.iload_n 1, 1) := dk_27 (dk_at dksX0_ring_0 10 rfl rfl)
theorem dX0_ring_11 : decode cX0_ring 11 = .ok (.aload_n 0, 1) := dk_42 (dk_at dksX0_ring_0 11 rfl rfl)
theorem dX0_ring_12 : decode cX0_ring 12 = .ok (.getfield 20, 3) := dk_180 0 20 (dk_at dksX0_ring_0 12 rfl rfl)
theorem dX0_ring_15 : decode cX0_ring 15 = .ok (.getfield 137, 3) := dk_180 0 137 (dk_at dksX0_ring_0 15 rfl rfl)
theorem dX0_ring_18 : decode cX0_ring 18 = .ok (.iload_n 2, 1) := dk_28 (dk_at dksX0_ring_0 18 rfl rfl)
theorem dX0_ring_19 : decode cX0_ring 19 = .ok (.iaload, 1) := dk_46 (dk_at dksX0_ring_0 19 rfl rfl)
theorem dX0_ring_20 : decode cX0_ring 20 = .ok (.iconst (-1), 1) := dk_2 (dk_at dksX0_ring_0 20 rfl rfl)
theorem dX0_ring_21 : decode cX0_ring 21 = .ok (.if_icmp .eq 27, 3) := dk_159 0 27 (dk_at dksX0_ring_0 21 rfl rfl)
theorem dX0_ring_24 : decode cX0_ring 24 = .ok (.aload_n 0, 1) := dk_42 (dk_at dksX0_ring_1 0 rfl rfl)
theorem dX0_ring_25 : decode cX0_ring 25 = .ok (.aload_n 0, 1) := dk_42 (dk_at dksX0_ring_1 1 rfl rfl)
theorem dX0_ring_26 : decode cX0_ring 26 = .ok (.getfield 20, 3) := dk_180 0 20 (dk_at dksX0_ring_1 2 rfl rfl)
theorem dX0_ring_29 : decode cX0_ring 29 = .ok (.getfield 137, 3) := dk_180 0 137 (dk_at dksX0_ring_1 5 rfl rfl)
theorem dX0_ring_32 : decode cX0_ring 32 = .ok (.iload_n 2, 1) := dk_28 (dk_at dksX0_ring_1 8 rfl rfl)
theorem dX0_ring_33 : decode cX0_ring 33 = .ok (.iaload, 1) := dk_46 (dk_at dksX0_ring_1 9 rfl rfl)
theorem dX0_ring_34 : decode cX0_ring 34 = .ok (.iload_n 2, 1) := dk_28 (dk_at dksX0_ring_1 10 rfl rfl)
theorem dX0_ring_35 : decode cX0_ring 35 = .ok (.invokevirtual 305, 3) := dk_182 1 49 (dk_at dksX0_ring_1 11 rfl rfl)
theorem dX0_ring_38 : decode cX0_ring 38 = .ok (.iconst (-1), 1) := dk_2 (dk_at dksX0_ring_1 14 rfl rfl)
theorem dX0_ring_39 : decode cX0_ring 39 = .ok (.if_icmp .eq 9, 3) := dk_159 0 9 (dk_at dksX0_ring_1 15 rfl rfl)
theorem dX0_ring_42 : decode cX0_ring 42 = .ok (.iconst 1, 1) := dk_4 (dk_at dksX0_ring_1 18 rfl rfl)
theorem dX0_ring_43 : decode cX0_ring 43 = .ok (.iload_n 2, 1) := dk_28 (dk_at dksX0_ring_1 19 rfl rfl)
theorem dX0_ring_44 : decode cX0_ring 44 = .ok (.ishl, 1) := dk_120 (dk_at dksX0_ring_1 20 rfl rfl)
theorem dX0_ring_45 : decode cX0_ring 45 = .ok (.goto 4, 3) := dk_167 0 4 (dk_at dksX0_ring_1 21 rfl rfl)
theorem dX0_ring_48 : decode cX0_ring 48 = .ok (.iconst 0, 1) := dk_3 (dk_at dksX0_ring_2 0 rfl rfl)
theorem dX0_ring_49 : decode cX0_ring 49 = .ok (.ior, 1) := dk_128 (dk_at dksX0_ring_2 1 rfl rfl)
theorem dX0_ring_50 : decode cX0_ring 50 = .ok (.istore_n 1, 1) := dk_60 (dk_at dksX0_ring_2 2 rfl rfl)
theorem dX0_ring_51 : decode cX0_ring 51 = .ok (.iinc 2 1, 3) := dk_132 2 1 (dk_at dksX0_ring_2 3 rfl rfl)
theorem dX0_ring_54 : decode cX0_ring 54 = .ok (.goto (-50), 3) := dk_167 255 206 (dk_at dksX0_ring_2 6 rfl rfl)
theorem dX0_ring_57 : decode cX0_ring 57 = .ok (.iload_n 1, 1) := dk_27 (dk_at dksX0_ring_2 9 rfl rfl)
theorem dX0_ring_58 : decode cX0_ring 58 = .ok (.ireturn, 1) := dk_172 (dk_at dksX0_ring_2 10 rfl rfl)
abbrev cX0_game : ByteArray := prog_1_method_55_code
def yX0_game : MethodName := ⟨RX0, "game", "(I)I"⟩
def dkwX0_game_3 : List UInt8 := [130, 172, 132, 3, 1, 167, 255, 216, 2, 172]
abbrev dktX0_game_3 : List UInt8 := dkwX0_game_3 ++ []
def dkwX0_game_2 : List UInt8 := [28, 130, 42, 29, 182, 1, 52, 162, 0, 19, 27, 154, 0, 7, 29, 167, 0, 10, 42, 29, 182, 1, 52, 28]
abbrev dktX0_game_2 : List UInt8 := dkwX0_game_2 ++ dktX0_game_3
def dkwX0_game_1 : List UInt8 := [182, 1, 52, 130, 61, 132, 3, 1, 167, 255, 239, 3, 62, 29, 16, 8, 162, 0, 40, 42, 29, 182, 1, 52]
abbrev dktX0_game_1 : List UInt8 := dkwX0_game_1 ++ dktX0_game_2
def dkwX0_game_0 : List UInt8 := [27, 3, 4, 184, 0, 51, 154, 0, 5, 2, 172, 3, 61, 3, 62, 29, 16, 8, 162, 0, 17, 28, 42, 29]
abbrev dktX0_game_0 : List UInt8 := dkwX0_game_0 ++ dktX0_game_1
theorem dksX0_game_0 : cX0_game.data.toList.drop 0 = dktX0_game_0 := by decide +kernel
theorem dksX0_game_1 : cX0_game.data.toList.drop 24 = dktX0_game_1 := dk_seg dksX0_game_0 24 rfl rfl
theorem dksX0_game_2 : cX0_game.data.toList.drop 48 = dktX0_game_2 := dk_seg dksX0_game_1 24 rfl rfl
theorem dksX0_game_3 : cX0_game.data.toList.drop 72 = dktX0_game_3 := dk_seg dksX0_game_2 24 rfl rfl
theorem dX0_game_0 : decode cX0_game 0 = .ok (.iload_n 1, 1) := dk_27 (dk_at dksX0_game_0 0 rfl rfl)
theorem dX0_game_1 : decode cX0_game 1 = .ok (.iconst 0, 1) := dk_3 (dk_at dksX0_game_0 1 rfl rfl)
theorem dX0_game_2 : decode cX0_game 2 = .ok (.iconst 1, 1) := dk_4 (dk_at dksX0_game_0 2 rfl rfl)
theorem dX0_game_3 : decode cX0_game 3 = .ok (.invokestatic 51, 3) := dk_184 0 51 (dk_at dksX0_game_0 3 rfl rfl)
theorem dX0_game_6 : decode cX0_game 6 = .ok (.ifCond .ne 5, 3) := dk_154 0 5 (dk_at dksX0_game_0 6 rfl rfl)
theorem dX0_game_9 : decode cX0_game 9 = .ok (.iconst (-1), 1) := dk_2 (dk_at dksX0_game_0 9 rfl rfl)
theorem dX0_game_10 : decode cX0_game 10 = .ok (.ireturn, 1) := dk_172 (dk_at dksX0_game_0 10 rfl rfl)
theorem dX0_game_11 : decode cX0_game 11 = .ok (.iconst 0, 1) := dk_3 (dk_at dksX0_game_0 11 rfl rfl)
theorem dX0_game_12 : decode cX0_game 12 = .ok (.istore_n 2, 1) := dk_61 (dk_at dksX0_game_0 12 rfl rfl)
theorem dX0_game_13 : decode cX0_game 13 = .ok (.iconst 0, 1) := dk_3 (dk_at dksX0_game_0 13 rfl rfl)
theorem dX0_game_14 : decode cX0_game 14 = .ok (.istore_n 3, 1) := dk_62 (dk_at dksX0_game_0 14 rfl rfl)
theorem dX0_game_15 : decode cX0_game 15 = .ok (.iload_n 3, 1) := dk_29 (dk_at dksX0_game_0 15 rfl rfl)
theorem dX0_game_16 : decode cX0_game 16 = .ok (.bipush 8, 2) := dk_16 8 (dk_at dksX0_game_0 16 rfl rfl)
theorem dX0_game_18 : decode cX0_game 18 = .ok (.if_icmp .ge 17, 3) := dk_162 0 17 (dk_at dksX0_game_0 18 rfl rfl)
theorem dX0_game_21 : decode cX0_game 21 = .ok (.iload_n 2, 1) := dk_28 (dk_at dksX0_game_0 21 rfl rfl)
theorem dX0_game_22 : decode cX0_game 22 = .ok (.aload_n 0, 1) := dk_42 (dk_at dksX0_game_0 22 rfl rfl)
theorem dX0_game_23 : decode cX0_game 23 = .ok (.iload_n 3, 1) := dk_29 (dk_at dksX0_game_0 23 rfl rfl)
theorem dX0_game_24 : decode cX0_game 24 = .ok (.invokevirtual 308, 3) := dk_182 1 52 (dk_at dksX0_game_1 0 rfl rfl)
theorem dX0_game_27 : decode cX0_game 27 = .ok (.ixor, 1) := dk_130 (dk_at dksX0_game_1 3 rfl rfl)
theorem dX0_game_28 : decode cX0_game 28 = .ok (.istore_n 2, 1) := dk_61 (dk_at dksX0_game_1 4 rfl rfl)
theorem dX0_game_29 : decode cX0_game 29 = .ok (.iinc 3 1, 3) := dk_132 3 1 (dk_at dksX0_game_1 5 rfl rfl)
theorem dX0_game_32 : decode cX0_game 32 = .ok (.goto (-17), 3) := dk_167 255 239 (dk_at dksX0_game_1 8 rfl rfl)
theorem dX0_game_35 : decode cX0_game 35 = .ok (.iconst 0, 1) := dk_3 (dk_at dksX0_game_1 11 rfl rfl)
theorem dX0_game_36 : decode cX0_game 36 = .ok (.istore_n 3, 1) := dk_62 (dk_at dksX0_game_1 12 rfl rfl)
theorem dX0_game_37 : decode cX0_game 37 = .ok (.iload_n 3, 1) := dk_29 (dk_at dksX0_game_1 13 rfl rfl)
theorem dX0_game_38 : decode cX0_game 38 = .ok (.bipush 8, 2) := dk_16 8 (dk_at dksX0_game_1 14 rfl rfl)
theorem dX0_game_40 : decode cX0_game 40 = .ok (.if_icmp .ge 40, 3) := dk_162 0 40 (dk_at dksX0_game_1 16 rfl rfl)
theorem dX0_game_43 : decode cX0_game 43 = .ok (.aload_n 0, 1) := dk_42 (dk_at dksX0_game_1 19 rfl rfl)
theorem dX0_game_44 : decode cX0_game 44 = .ok (.iload_n 3, 1) := dk_29 (dk_at dksX0_game_1 20 rfl rfl)
theorem dX0_game_45 : decode cX0_game 45 = .ok (.invokevirtual 308, 3) := dk_182 1 52 (dk_at dksX0_game_1 21 rfl rfl)
theorem dX0_game_48 : decode cX0_game 48 = .ok (.iload_n 2, 1) := dk_28 (dk_at dksX0_game_2 0 rfl rfl)
theorem dX0_game_49 : decode cX0_game 49 = .ok (.ixor, 1) := dk_130 (dk_at dksX0_game_2 1 rfl rfl)
theorem dX0_game_50 : decode cX0_game 50 = .ok (.aload_n 0, 1) := dk_42 (dk_at dksX0_game_2 2 rfl rfl)
theorem dX0_game_51 : decode cX0_game 51 = .ok (.iload_n 3, 1) := dk_29 (dk_at dksX0_game_2 3 rfl rfl)
theorem dX0_game_52 : decode cX0_game 52 = .ok (.invokevirtual 308, 3) := dk_182 1 52 (dk_at dksX0_game_2 4 rfl rfl)
theorem dX0_game_55 : decode cX0_game 55 = .ok (.if_icmp .ge 19, 3) := dk_162 0 19 (dk_at dksX0_game_2 7 rfl rfl)
theorem dX0_game_58 : decode cX0_game 58 = .ok (.iload_n 1, 1) := dk_27 (dk_at dksX0_game_2 10 rfl rfl)
theorem dX0_game_59 : decode cX0_game 59 = .ok (.ifCond .ne 7, 3) := dk_154 0 7 (dk_at dksX0_game_2 11 rfl rfl)
theorem dX0_game_62 : decode cX0_game 62 = .ok (.iload_n 3, 1) := dk_29 (dk_at dksX0_game_2 14 rfl rfl)
theorem dX0_game_63 : decode cX0_game 63 = .ok (.goto 10, 3) := dk_167 0 10 (dk_at dksX0_game_2 15 rfl rfl)
theorem dX0_game_66 : decode cX0_game 66 = .ok (.aload_n 0, 1) := dk_42 (dk_at dksX0_game_2 18 rfl rfl)
theorem dX0_game_67 : decode cX0_game 67 = .ok (.iload_n 3, 1) := dk_29 (dk_at dksX0_game_2 19 rfl rfl)
theorem dX0_game_68 : decode cX0_game 68 = .ok (.invokevirtual 308, 3) := dk_182 1 52 (dk_at dksX0_game_2 20 rfl rfl)
theorem dX0_game_71 : decode cX0_game 71 = .ok (.iload_n 2, 1) := dk_28 (dk_at dksX0_game_2 23 rfl rfl)
theorem dX0_game_72 : decode cX0_game 72 = .ok (.ixor, 1) := dk_130 (dk_at dksX0_game_3 0 rfl rfl)
theorem dX0_game_73 : decode cX0_game 73 = .ok (.ireturn, 1) := dk_172 (dk_at dksX0_game_3 1 rfl rfl)
theorem dX0_game_74 : decode cX0_game 74 = .ok (.iinc 3 1, 3) := dk_132 3 1 (dk_at dksX0_game_3 2 rfl rfl)
theorem dX0_game_77 : decode cX0_game 77 = .ok (.goto (-40), 3) := dk_167 255 216 (dk_at dksX0_game_3 5 rfl rfl)
theorem dX0_game_80 : decode cX0_game 80 = .ok (.iconst (-1), 1) := dk_2 (dk_at dksX0_game_3 8 rfl rfl)
theorem dX0_game_81 : decode cX0_game 81 = .ok (.ireturn, 1) := dk_172 (dk_at dksX0_game_3 9 rfl rfl)
abbrev cX0_folkAt : ByteArray := prog_1_method_54_code
def yX0_folkAt : MethodName := ⟨RX0, "folkAt", "(I)I"⟩
def dkwX0_folkAt_0 : List UInt8 := [42, 27, 3, 182, 0, 215, 184, 1, 12, 172]
abbrev dktX0_folkAt_0 : List UInt8 := dkwX0_folkAt_0 ++ []
theorem dksX0_folkAt_0 : cX0_folkAt.data.toList.drop 0 = dktX0_folkAt_0 := by decide +kernel
theorem dX0_folkAt_0 : decode cX0_folkAt 0 = .ok (.aload_n 0, 1) := dk_42 (dk_at dksX0_folkAt_0 0 rfl rfl)
theorem dX0_folkAt_1 : decode cX0_folkAt 1 = .ok (.iload_n 1, 1) := dk_27 (dk_at dksX0_folkAt_0 1 rfl rfl)
theorem dX0_folkAt_2 : decode cX0_folkAt 2 = .ok (.iconst 0, 1) := dk_3 (dk_at dksX0_folkAt_0 2 rfl rfl)
theorem dX0_folkAt_3 : decode cX0_folkAt 3 = .ok (.invokevirtual 215, 3) := dk_182 0 215 (dk_at dksX0_folkAt_0 3 rfl rfl)
theorem dX0_folkAt_6 : decode cX0_folkAt 6 = .ok (.invokestatic 268, 3) := dk_184 1 12 (dk_at dksX0_folkAt_0 6 rfl rfl)
theorem dX0_folkAt_9 : decode cX0_folkAt 9 = .ok (.ireturn, 1) := dk_172 (dk_at dksX0_folkAt_0 9 rfl rfl)
abbrev cX0_image : ByteArray := prog_1_method_56_code
def yX0_image : MethodName := ⟨RX0, "image", "(Z)Z"⟩
def dkwX0_image_2 : List UInt8 := [42, 182, 0, 88, 42, 4, 181, 1, 55, 4, 172]
abbrev dktX0_image_2 : List UInt8 := dkwX0_image_2 ++ []
def dkwX0_image_1 : List UInt8 := [180, 0, 20, 182, 1, 59, 167, 0, 14, 42, 180, 0, 20, 42, 180, 0, 24, 182, 1, 59, 27, 154, 0, 7]
abbrev dktX0_image_1 : List UInt8 := dkwX0_image_1 ++ dktX0_image_2
def dkwX0_image_0 : List UInt8 := [27, 154, 0, 12, 42, 180, 1, 55, 154, 0, 5, 3, 172, 27, 153, 0, 17, 42, 180, 0, 24, 42]
abbrev dktX0_image_0 : List UInt8 := dkwX0_image_0 ++ dktX0_image_1
theorem dksX0_image_0 : cX0_image.data.toList.drop 0 = dktX0_image_0 := by decide +kernel
theorem dksX0_image_1 : cX0_image.data.toList.drop 22 = dktX0_image_1 := dk_seg dksX0_image_0 22 rfl rfl
theorem dksX0_image_2 : cX0_image.data.toList.drop 46 = dktX0_image_2 := dk_seg dksX0_image_1 24 rfl rfl
theorem dX0_image_0 : decode cX0_image 0 = .ok (.iload_n 1, 1) := dk_27 (dk_at dksX0_image_0 0 rfl rfl)
theorem dX0_image_1 : decode cX0_image 1 = .ok (.ifCond .ne 12, 3) := dk_154 0 12 (dk_at dksX0_image_0 1 rfl rfl)
theorem dX0_image_4 : decode cX0_image 4 = .ok (.aload_n 0, 1) := dk_42 (dk_at dksX0_image_0 4 rfl rfl)
theorem dX0_image_5 : decode cX0_image 5 = .ok (.getfield 311, 3) := dk_180 1 55 (dk_at dksX0_image_0 5 rfl rfl)
theorem dX0_image_8 : decode cX0_image 8 = .ok (.ifCond .ne 5, 3) := dk_154 0 5 (dk_at dksX0_image_0 8 rfl rfl)
theorem dX0_image_11 : decode cX0_image 11 = .ok (.iconst 0, 1) := dk_3 (dk_at dksX0_image_0 11 rfl rfl)
theorem dX0_image_12 : decode cX0_image 12 = .ok (.ireturn, 1) := dk_172 (dk_at dksX0_image_0 12 rfl rfl)
theorem dX0_image_13 : decode cX0_image 13 = .ok (.iload_n 1, 1) := dk_27 (dk_at dksX0_image_0 13 rfl rfl)
theorem dX0_image_14 : decode cX0_image 14 = .ok (.ifCond .eq 17, 3) := dk_153 0 17 (dk_at dksX0_image_0 14 rfl rfl)
theorem dX0_image_17 : decode cX0_image 17 = .ok (.aload_n 0, 1) := dk_42 (dk_at dksX0_image_0 17 rfl rfl)
theorem dX0_image_18 : decode cX0_image 18 = .ok (.getfield 24, 3) := dk_180 0 24 (dk_at dksX0_image_0 18 rfl rfl)
theorem dX0_image_21 : decode cX0_image 21 = .ok (.aload_n 0, 1) := dk_42 (dk_at dksX0_image_0 21 rfl rfl)
theorem dX0_image_22 : decode cX0_image 22 = .ok (.getfield 20, 3) := dk_180 0 20 (dk_at dksX0_image_1 0 rfl rfl)
theorem dX0_image_25 : decode cX0_image 25 = .ok (.invokevirtual 315, 3) := dk_182 1 59 (dk_at dksX0_image_1 3 rfl rfl)
theorem dX0_image_28 : decode cX0_image 28 = .ok (.goto 14, 3) := dk_167 0 14 (dk_at dksX0_image_1 6 rfl rfl)
theorem dX0_image_31 : decode cX0_image 31 = .ok (.aload_n 0, 1) := dk_42 (dk_at dksX0_image_1 9 rfl rfl)
theorem dX0_image_32 : decode cX0_image 32 = .ok (.getfield 20, 3) := dk_180 0 20 (dk_at dksX0_image_1 10 rfl rfl)
theorem dX0_image_35 : decode cX0_image 35 = .ok (.aload_n 0, 1) := dk_42 (dk_at dksX0_image_1 13 rfl rfl)
theorem dX0_image_36 : decode cX0_image 36 = .ok (.getfield 24, 3) := dk_180 0 24 (dk_at dksX0_image_1 14 rfl rfl)
theorem dX0_image_39 : decode cX0_image 39 = .ok (.invokevirtual 315, 3) := dk_182 1 59 (dk_at dksX0_image_1 17 rfl rfl)
theorem dX0_image_42 : decode cX0_image 42 = .ok (.iload_n 1, 1) := dk_27 (dk_at dksX0_image_1 20 rfl rfl)
theorem dX0_image_43 : decode cX0_image 43 = .ok (.ifCond .ne 7, 3) := dk_154 0 7 (dk_at dksX0_image_1 21 rfl rfl)
theorem dX0_image_46 : decode cX0_image 46 = .ok (.aload_n 0, 1) := dk_42 (dk_at dksX0_image_2 0 rfl rfl)
theorem dX0_image_47 : decode cX0_image 47 = .ok (.invokevirtual 88, 3) := dk_182 0 88 (dk_at dksX0_image_2 1 rfl rfl)
theorem dX0_image_50 : decode cX0_image 50 = .ok (.aload_n 0, 1) := dk_42 (dk_at dksX0_image_2 4 rfl rfl)
theorem dX0_image_51 : decode cX0_image 51 = .ok (.iconst 1, 1) := dk_4 (dk_at dksX0_image_2 5 rfl rfl)
theorem dX0_image_52 : decode cX0_image 52 = .ok (.putfield 311, 3) := dk_181 1 55 (dk_at dksX0_image_2 6 rfl rfl)
theorem dX0_image_55 : decode cX0_image 55 = .ok (.iconst 1, 1) := dk_4 (dk_at dksX0_image_2 9 rfl rfl)
theorem dX0_image_56 : decode cX0_image 56 = .ok (.ireturn, 1) := dk_172 (dk_at dksX0_image_2 10 rfl rfl)
abbrev cX0_look : ByteArray := prog_1_method_58_code
def yX0_look : MethodName := ⟨RX0, "look", "(I)I"⟩
def dkwX0_look_6 : List UInt8 := [180, 0, 106, 172, 42, 182, 1, 65, 172, 2, 172]
abbrev dktX0_look_6 : List UInt8 := dkwX0_look_6 ++ []
def dkwX0_look_5 : List UInt8 := [180, 0, 20, 180, 0, 81, 182, 0, 67, 172, 42, 180, 0, 20, 180, 0, 86, 182, 0, 67, 172, 42]
abbrev dktX0_look_5 : List UInt8 := dkwX0_look_5 ++ dktX0_look_6
def dkwX0_look_4 : List UInt8 := [42, 180, 0, 20, 180, 0, 64, 182, 0, 67, 172, 42, 180, 0, 20, 180, 0, 76, 182, 0, 67, 172, 42]
abbrev dktX0_look_4 : List UInt8 := dkwX0_look_4 ++ dktX0_look_5
def dkwX0_look_3 : List UInt8 := [42, 180, 0, 20, 180, 0, 134, 172, 42, 180, 0, 20, 180, 0, 224, 172, 42, 180, 0, 20, 180, 0, 113, 172]
abbrev dktX0_look_3 : List UInt8 := dkwX0_look_3 ++ dktX0_look_4
def dkwX0_look_2 : List UInt8 := [42, 180, 0, 20, 180, 0, 123, 172, 42, 180, 0, 20, 180, 0, 170, 172, 42, 180, 0, 20, 180, 1, 62, 172]
abbrev dktX0_look_2 : List UInt8 := dkwX0_look_2 ++ dktX0_look_3
def dkwX0_look_1 : List UInt8 := [170, 0, 0, 0, 0, 0, 165, 0, 0, 0, 0, 0, 0, 0, 11, 0, 0, 0, 63, 0, 0, 0, 71, 0, 0, 0, 79, 0, 0, 0, 87, 0, 0, 0, 95, 0, 0, 0, 103, 0, 0, 0, 111, 0, 0, 0, 122, 0, 0, 0, 133, 0, 0, 0, 144, 0, 0, 0, 155, 0, 0, 0, 160]
abbrev dktX0_look_1 : List UInt8 := dkwX0_look_1 ++ dktX0_look_2
def dkwX0_look_0 : List UInt8 := [27]
abbrev dktX0_look_0 : List UInt8 := dkwX0_look_0 ++ dktX0_look_1
theorem dksX0_look_0 : cX0_look.data.toList.drop 0 = dktX0_look_0 := by decide +kernel
theorem dksX0_look_1 : cX0_look.data.toList.drop 1 = dktX0_look_1 := dk_seg dksX0_look_0 1 rfl rfl
theorem dksX0_look_2 : cX0_look.data.toList.drop 64 = dktX0_look_2 := dk_seg dksX0_look_1 63 rfl rfl
theorem dksX0_look_3 : cX0_look.data.toList.drop 88 = dktX0_look_3 := dk_seg dksX0_look_2 24 rfl rfl
theorem dksX0_look_4 : cX0_look.data.toList.drop 112 = dktX0_look_4 := dk_seg dksX0_look_3 24 rfl rfl
theorem dksX0_look_5 : cX0_look.data.toList.drop 135 = dktX0_look_5 := dk_seg dksX0_look_4 23 rfl rfl
theorem dksX0_look_6 : cX0_look.data.toList.drop 157 = dktX0_look_6 := dk_seg dksX0_look_5 22 rfl rfl
theorem dX0_look_0 : decode cX0_look 0 = .ok (.iload_n 1, 1) := dk_27 (dk_at dksX0_look_0 0 rfl rfl)
theorem dX0_look_1 : decode cX0_look 1 = .ok (.tableswitch 165 0 11 #[63, 71, 79, 87, 95, 103, 111, 122, 133, 144, 155, 160], 63) := by decide +kernel
theorem dX0_look_64 : decode cX0_look 64 = .ok (.aload_n 0, 1) := dk_42 (dk_at dksX0_look_2 0 rfl rfl)
theorem dX0_look_65 : decode cX0_look 65 = .ok (.getfield 20, 3) := dk_180 0 20 (dk_at dksX0_look_2 1 rfl rfl)
theorem dX0_look_68 : decode cX0_look 68 = .ok (.getfield 123, 3) := dk_180 0 123 (dk_at dksX0_look_2 4 rfl rfl)
theorem dX0_look_71 : decode cX0_look 71 = .ok (.ireturn, 1) := dk_172 (dk_at dksX0_look_2 7 rfl rfl)
theorem dX0_look_72 : decode cX0_look 72 = .ok (.aload_n 0, 1) := dk_42 (dk_at dksX0_look_2 8 rfl rfl)
theorem dX0_look_73 : decode cX0_look 73 = .ok (.getfield 20, 3) := dk_180 0 20 (dk_at dksX0_look_2 9 rfl rfl)
theorem dX0_look_76 : decode cX0_look 76 = .ok (.getfield 170, 3) := dk_180 0 170 (dk_at dksX0_look_2 12 rfl rfl)
theorem dX0_look_79 : decode cX0_look 79 = .ok (.ireturn, 1) := dk_172 (dk_at dksX0_look_2 15 rfl rfl)
theorem dX0_look_80 : decode cX0_look 80 = .ok (.aload_n 0, 1) := dk_42 (dk_at dksX0_look_2 16 rfl rfl)
theorem dX0_look_81 : decode cX0_look 81 = .ok (.getfield 20, 3) := dk_180 0 20 (dk_at dksX0_look_2 17 rfl rfl)
theorem dX0_look_84 : decode cX0_look 84 = .ok (.getfield 318, 3) := dk_180 1 62 (dk_at dksX0_look_2 20 rfl rfl)
theorem dX0_look_87 : decode cX0_look 87 = .ok (.ireturn, 1) := dk_172 (dk_at dksX0_look_2 23 rfl rfl)
theorem dX0_look_88 : decode cX0_look 88 = .ok (.aload_n 0, 1) := dk_42 (dk_at dksX0_look_3 0 rfl rfl)
theorem dX0_look_89 : decode cX0_look 89 = .ok (.getfield 20, 3) := dk_180 0 20 (dk_at dksX0_look_3 1 rfl rfl)
theorem dX0_look_92 : decode cX0_look 92 = .ok (.getfield 134, 3) := dk_180 0 134 (dk_at dksX0_look_3 4 rfl rfl)
theorem dX0_look_95 : decode cX0_look 95 = .ok (.ireturn, 1) := dk_172 (dk_at dksX0_look_3 7 rfl rfl)
theorem dX0_look_96 : decode cX0_look 96 = .ok (.aload_n 0, 1) := dk_42 (dk_at dksX0_look_3 8 rfl rfl)
theorem dX0_look_97 : decode cX0_look 97 = .ok (.getfield 20, 3) := dk_180 0 20 (dk_at dksX0_look_3 9 rfl rfl)
theorem dX0_look_100 : decode cX0_look 100 = .ok (.getfield 224, 3) := dk_180 0 224 (dk_at dksX0_look_3 12 rfl rfl)
theorem dX0_look_103 : decode cX0_look 103 = .ok (.ireturn, 1) := dk_172 (dk_at dksX0_look_3 15 rfl rfl)
theorem dX0_look_104 : decode cX0_look 104 = .ok (.aload_n 0, 1) := dk_42 (dk_at dksX0_look_3 16 rfl rfl)
theorem dX0_look_105 : decode cX0_look 105 = .ok (.getfield 20, 3) := dk_180 0 20 (dk_at dksX0_look_3 17 rfl rfl)
theorem dX0_look_108 : decode cX0_look 108 = .ok (.getfield 113, 3) := dk_180 0 113 (dk_at dksX0_look_3 20 rfl rfl)
theorem dX0_look_111 : decode cX0_look 111 = .ok (.ireturn, 1) := dk_172 (dk_at dksX0_look_3 23 rfl rfl)
theorem dX0_look_112 : decode cX0_look 112 = .ok (.aload_n 0, 1) := dk_42 (dk_at dksX0_look_4 0 rfl rfl)
theorem dX0_look_113 : decode cX0_look 113 = .ok (.getfield 20, 3) := dk_180 0 20 (dk_at dksX0_look_4 1 rfl rfl)
theorem dX0_look_116 : decode cX0_look 116 = .ok (.getfield 64, 3) := dk_180 0 64 (dk_at dksX0_look_4 4 rfl rfl)
theorem dX0_look_119 : decode cX0_look 119 = .ok (.invokevirtual 67, 3) := dk_182 0 67 (dk_at dksX0_look_4 7 rfl rfl)
theorem dX0_look_122 : decode cX0_look 122 = .ok (.ireturn, 1) := dk_172 (dk_at dksX0_look_4 10 rfl rfl)
theorem dX0_look_123 : decode cX0_look 123 = .ok (.aload_n 0, 1) := dk_42 (dk_at dksX0_look_4 11 rfl rfl)
theorem dX0_look_124 : decode cX0_look 124 = .ok (.getfield 20, 3) := dk_180 0 20 (dk_at dksX0_look_4 12 rfl rfl)
theorem dX0_look_127 : decode cX0_look 127 = .ok (.getfield 76, 3) := dk_180 0 76 (dk_at dksX0_look_4 15 rfl rfl)
theorem dX0_look_130 : decode cX0_look 130 = .ok (.invokevirtual 67, 3) := dk_182 0 67 (dk_at dksX0_look_4 18 rfl rfl)
theorem dX0_look_133 : decode cX0_look 133 = .ok (.ireturn, 1) := dk_172 (dk_at dksX0_look_4 21 rfl rfl)
theorem dX0_look_134 : decode cX0_look 134 = .ok (.aload_n 0, 1) := dk_42 (dk_at dksX0_look_4 22 rfl rfl)
theorem dX0_look_135 : decode cX0_look 135 = .ok (.getfield 20, 3) := dk_180 0 20 (dk_at dksX0_look_5 0 rfl rfl)
theorem dX0_look_138 : decode cX0_look 138 = .ok (.getfield 81, 3) := dk_180 0 81 (dk_at dksX0_look_5 3 rfl rfl)
theorem dX0_look_141 : decode cX0_look 141 = .ok (.invokevirtual 67, 3) := dk_182 0 67 (dk_at dksX0_look_5 6 rfl rfl)
theorem dX0_look_144 : decode cX0_look 144 = .ok (.ireturn, 1) := dk_172 (dk_at dksX0_look_5 9 rfl rfl)
theorem dX0_look_145 : decode cX0_look 145 = .ok (.aload_n 0, 1) := dk_42 (dk_at dksX0_look_5 10 rfl rfl)
theorem dX0_look_146 : decode cX0_look 146 = .ok (.getfield 20, 3) := dk_180 0 20 (dk_at dksX0_look_5 11 rfl rfl)
theorem dX0_look_149 : decode cX0_look 149 = .ok (.getfield 86, 3) := dk_180 0 86 (dk_at dksX0_look_5 14 rfl rfl)
theorem dX0_look_152 : decode cX0_look 152 = .ok (.invokevirtual 67, 3) := dk_182 0 67 (dk_at dksX0_look_5 17 rfl rfl)
theorem dX0_look_155 : decode cX0_look 155 = .ok (.ireturn, 1) := dk_172 (dk_at dksX0_look_5 20 rfl rfl)
theorem dX0_look_156 : decode cX0_look 156 = .ok (.aload_n 0, 1) := dk_42 (dk_at dksX0_look_5 21 rfl rfl)
theorem dX0_look_157 : decode cX0_look 157 = .ok (.getfield 106, 3) := dk_180 0 106 (dk_at dksX0_look_6 0 rfl rfl)
theorem dX0_look_160 : decode cX0_look 160 = .ok (.ireturn, 1) := dk_172 (dk_at dksX0_look_6 3 rfl rfl)
theorem dX0_look_161 : decode cX0_look 161 = .ok (.aload_n 0, 1) := dk_42 (dk_at dksX0_look_6 4 rfl rfl)
theorem dX0_look_162 : decode cX0_look 162 = .ok (.invokevirtual 321, 3) := dk_182 1 65 (dk_at dksX0_look_6 5 rfl rfl)
theorem dX0_look_165 : decode cX0_look 165 = .ok (.ireturn, 1) := dk_172 (dk_at dksX0_look_6 8 rfl rfl)
theorem dX0_look_166 : decode cX0_look 166 = .ok (.iconst (-1), 1) := dk_2 (dk_at dksX0_look_6 9 rfl rfl)
theorem dX0_look_167 : decode cX0_look 167 = .ok (.ireturn, 1) := dk_172 (dk_at dksX0_look_6 10 rfl rfl)
abbrev cX0_graves : ByteArray := prog_1_method_57_code
def yX0_graves : MethodName := ⟨RX0, "graves", "()I"⟩
def dkwX0_graves_1 : List UInt8 := [46, 28, 120, 128, 60, 132, 2, 1, 167, 255, 228, 27, 172]
abbrev dktX0_graves_1 : List UInt8 := dkwX0_graves_1 ++ []
def dkwX0_graves_0 : List UInt8 := [3, 60, 3, 61, 28, 42, 180, 0, 20, 180, 0, 123, 162, 0, 23, 27, 42, 180, 0, 20, 180, 0, 194, 28]
abbrev dktX0_graves_0 : List UInt8 := dkwX0_graves_0 ++ dktX0_graves_1
theorem dksX0_graves_0 : cX0_graves.data.toList.drop 0 = dktX0_graves_0 := by decide +kernel
theorem dksX0_graves_1 : cX0_graves.data.toList.drop 24 = dktX0_graves_1 := dk_seg dksX0_graves_0 24 rfl rfl
theorem dX0_graves_0 : decode cX0_graves 0 = .ok (.iconst 0, 1) := dk_3 (dk_at dksX0_graves_0 0 rfl rfl)
theorem dX0_graves_1 : decode cX0_graves 1 = .ok (.istore_n 1, 1) := dk_60 (dk_at dksX0_graves_0 1 rfl rfl)
theorem dX0_graves_2 : decode cX0_graves 2 = .ok (.iconst 0, 1) := dk_3 (dk_at dksX0_graves_0 2 rfl rfl)
theorem dX0_graves_3 : decode cX0_graves 3 = .ok (.istore_n 2, 1) := dk_61 (dk_at dksX0_graves_0 3 rfl rfl)
theorem dX0_graves_4 : decode cX0_graves 4 = .ok (.iload_n 2, 1) := dk_28 (dk_at dksX0_graves_0 4 rfl rfl)
theorem dX0_graves_5 : decode cX0_graves 5 = .ok (.aload_n 0, 1) := dk_42 (dk_at dksX0_graves_0 5 rfl rfl)
theorem dX0_graves_6 : decode cX0_graves 6 = .ok (.getfield 20, 3) := dk_180 0 20 (dk_at dksX0_graves_0 6 rfl rfl)
theorem dX0_graves_9 : decode cX0_graves 9 = .ok (.getfield 123, 3) := dk_180 0 123 (dk_at dksX0_graves_0 9 rfl rfl)
theorem dX0_graves_12 : decode cX0_graves 12 = .ok (.if_icmp .ge 23, 3) := dk_162 0 23 (dk_at dksX0_graves_0 12 rfl rfl)
theorem dX0_graves_15 : decode cX0_graves 15 = .ok (.iload_n 1, 1) := dk_27 (dk_at dksX0_graves_0 15 rfl rfl)
theorem dX0_graves_16 : decode cX0_graves 16 = .ok (.aload_n 0, 1) := dk_42 (dk_at dksX0_graves_0 16 rfl rfl)
theorem dX0_graves_17 : decode cX0_graves 17 = .ok (.getfield 20, 3) := dk_180 0 20 (dk_at dksX0_graves_0 17 rfl rfl)
theorem dX0_graves_20 : decode cX0_graves 20 = .ok (.getfield 194, 3) := dk_180 0 194 (dk_at dksX0_graves_0 20 rfl rfl)
theorem dX0_graves_23 : decode cX0_graves 23 = .ok (.iload_n 2, 1) := dk_28 (dk_at dksX0_graves_0 23 rfl rfl)
theorem dX0_graves_24 : decode cX0_graves 24 = .ok (.iaload, 1) := dk_46 (dk_at dksX0_graves_1 0 rfl rfl)
theorem dX0_graves_25 : decode cX0_graves 25 = .ok (.iload_n 2, 1) := dk_28 (dk_at dksX0_graves_1 1 rfl rfl)
theorem dX0_graves_26 : decode cX0_graves 26 = .ok (.ishl, 1) := dk_120 (dk_at dksX0_graves_1 2 rfl rfl)
theorem dX0_graves_27 : decode cX0_graves 27 = .ok (.ior, 1) := dk_128 (dk_at dksX0_graves_1 3 rfl rfl)
theorem dX0_graves_28 : decode cX0_graves 28 = .ok (.istore_n 1, 1) := dk_60 (dk_at dksX0_graves_1 4 rfl rfl)
theorem dX0_graves_29 : decode cX0_graves 29 = .ok (.iinc 2 1, 3) := dk_132 2 1 (dk_at dksX0_graves_1 5 rfl rfl)
theorem dX0_graves_32 : decode cX0_graves 32 = .ok (.goto (-28), 3) := dk_167 255 228 (dk_at dksX0_graves_1 8 rfl rfl)
theorem dX0_graves_35 : decode cX0_graves 35 = .ok (.iload_n 1, 1) := dk_27 (dk_at dksX0_graves_1 11 rfl rfl)
theorem dX0_graves_36 : decode cX0_graves 36 = .ok (.ireturn, 1) := dk_172 (dk_at dksX0_graves_1 12 rfl rfl)
theorem q161 : (Jvm.Cond.initialized "NamesWeather") ∈ lw_all := lw_g (lw_at lw_m1 1 rfl) rfl
theorem q196 : (Jvm.Cond.instantiable "NamesWeather" (13 : Nat)) ∈ lw_all := lw_g (lw_at lw_m1 36 rfl) rfl
theorem q198 : (Jvm.Cond.instanceMethod ({ cls := "NamesWeather", name := "<init>", desc := "()V" } : Jvm.MethodName)) ∈ lw_all := lw_g (lw_at lw_m1 38 rfl) rfl
theorem q199 : (Jvm.Cond.code ({ cls := "NamesWeather", name := "<init>", desc := "()V" } : Jvm.MethodName) prog_1_method_1_code (2 : Nat) (Option.none : Option Jvm.ClassFile.FieldType)) ∈ lw_all := lw_g (lw_at lw_m1 39 rfl) rfl
theorem q200 : (Jvm.Cond.methodLink "NamesWeather" (1 : Nat) ({ cls := "java/lang/Object", name := "<init>", desc := "()V" } : Jvm.MethodName)) ∈ lw_all := lw_g (lw_at lw_m1 40 rfl) rfl
theorem q203 : (Jvm.Cond.classLink "NamesWeather" (17 : Nat) "NamesWeather$Skies") ∈ lw_all := lw_g (lw_at lw_m1 43 rfl) rfl
theorem q205 : (Jvm.Cond.methodLink "NamesWeather" (19 : Nat) ({ cls := "NamesWeather$Skies", name := "<init>", desc := "()V" } : Jvm.MethodName)) ∈ lw_all := lw_g (lw_at lw_m1 45 rfl) rfl
theorem q241 : (Jvm.Cond.fieldLinkNest "NamesWeather" (130 : Nat) "NamesWeather$Skies" "sky" "[[I" "NamesWeather") ∈ lw_tbl := lw_at lw_m1 81 rfl
theorem q244 : (Jvm.Cond.fieldLinkNest "NamesWeather" (227 : Nat) "NamesWeather$Skies" "book" "[[I" "NamesWeather") ∈ lw_tbl := lw_at lw_m1 84 rfl
theorem q246 : (Jvm.Cond.fieldLinkNest "NamesWeather" (186 : Nat) "NamesWeather$Skies" "kind" "[I" "NamesWeather") ∈ lw_tbl := lw_at lw_m1 86 rfl
theorem q248 : (Jvm.Cond.fieldLinkNest "NamesWeather" (188 : Nat) "NamesWeather$Skies" "strength" "[I" "NamesWeather") ∈ lw_tbl := lw_at lw_m1 88 rfl
theorem q250 : (Jvm.Cond.fieldLinkNest "NamesWeather" (191 : Nat) "NamesWeather$Skies" "island" "[I" "NamesWeather") ∈ lw_tbl := lw_at lw_m1 90 rfl
theorem q252 : (Jvm.Cond.fieldLinkNest "NamesWeather" (194 : Nat) "NamesWeather$Skies" "dead" "[I" "NamesWeather") ∈ lw_tbl := lw_at lw_m1 92 rfl
theorem q254 : (Jvm.Cond.fieldLinkNest "NamesWeather" (197 : Nat) "NamesWeather$Skies" "calls" "[I" "NamesWeather") ∈ lw_tbl := lw_at lw_m1 94 rfl
theorem q256 : (Jvm.Cond.fieldLinkNest "NamesWeather" (137 : Nat) "NamesWeather$Skies" "route" "[I" "NamesWeather") ∈ lw_tbl := lw_at lw_m1 96 rfl
theorem q258 : (Jvm.Cond.fieldLinkNest "NamesWeather" (64 : Nat) "NamesWeather$Skies" "law" "Ljava/util/ArrayList;" "NamesWeather") ∈ lw_tbl := lw_at lw_m1 98 rfl
theorem q260 : (Jvm.Cond.fieldLinkNest "NamesWeather" (76 : Nat) "NamesWeather$Skies" "quenching" "Ljava/util/ArrayList;" "NamesWeather") ∈ lw_tbl := lw_at lw_m1 100 rfl
theorem q262 : (Jvm.Cond.fieldLinkNest "NamesWeather" (81 : Nat) "NamesWeather$Skies" "wants" "Ljava/util/ArrayList;" "NamesWeather") ∈ lw_tbl := lw_at lw_m1 102 rfl
theorem q264 : (Jvm.Cond.fieldLinkNest "NamesWeather" (86 : Nat) "NamesWeather$Skies" "plan" "Ljava/util/ArrayList;" "NamesWeather") ∈ lw_tbl := lw_at lw_m1 104 rfl
theorem q266 : (Jvm.Cond.fieldLinkNest "NamesWeather" (123 : Nat) "NamesWeather$Skies" "many" "I" "NamesWeather") ∈ lw_tbl := lw_at lw_m1 106 rfl
theorem q269 : (Jvm.Cond.fieldLinkNest "NamesWeather" (134 : Nat) "NamesWeather$Skies" "cry" "I" "NamesWeather") ∈ lw_tbl := lw_at lw_m1 109 rfl
theorem q271 : (Jvm.Cond.fieldLinkNest "NamesWeather" (170 : Nat) "NamesWeather$Skies" "day" "I" "NamesWeather") ∈ lw_tbl := lw_at lw_m1 111 rfl
theorem q273 : (Jvm.Cond.fieldLinkNest "NamesWeather" (318 : Nat) "NamesWeather$Skies" "today" "I" "NamesWeather") ∈ lw_tbl := lw_at lw_m1 113 rfl
theorem q275 : (Jvm.Cond.fieldLinkNest "NamesWeather" (113 : Nat) "NamesWeather$Skies" "state" "I" "NamesWeather") ∈ lw_tbl := lw_at lw_m1 115 rfl
theorem q277 : (Jvm.Cond.fieldLinkNest "NamesWeather" (224 : Nat) "NamesWeather$Skies" "lines" "I" "NamesWeather") ∈ lw_tbl := lw_at lw_m1 117 rfl
theorem q278 : (Jvm.Cond.fieldLinkNest "NamesWeather" (173 : Nat) "NamesWeather$Skies" "cries" "I" "NamesWeather") ∈ lw_tbl := lw_at lw_m1 118 rfl
theorem q331 : (Jvm.Cond.fieldLink "NamesWeather" (9 : Nat) "NamesWeather" "tape" "[B") ∈ lw_all := lw_g (lw_at lw_m1 171 rfl) rfl
theorem q334 : (Jvm.Cond.fieldLink "NamesWeather" (44 : Nat) "NamesWeather" "taped" "I") ∈ lw_all := lw_g (lw_at lw_m1 174 rfl) rfl
theorem q335 : (Jvm.Cond.fieldLink "NamesWeather" (91 : Nat) "NamesWeather" "faultKind" "I") ∈ lw_all := lw_g (lw_at lw_m1 175 rfl) rfl
theorem q336 : (Jvm.Cond.fieldLink "NamesWeather" (13 : Nat) "NamesWeather" "faultPlace" "I") ∈ lw_all := lw_g (lw_at lw_m1 176 rfl) rfl
theorem q337 : (Jvm.Cond.fieldLink "NamesWeather" (20 : Nat) "NamesWeather" "skies" "LNamesWeather$Skies;") ∈ lw_all := lw_g (lw_at lw_m1 177 rfl) rfl
theorem q339 : (Jvm.Cond.fieldLink "NamesWeather" (24 : Nat) "NamesWeather" "kept" "LNamesWeather$Skies;") ∈ lw_all := lw_g (lw_at lw_m1 179 rfl) rfl
theorem q340 : (Jvm.Cond.fieldLink "NamesWeather" (27 : Nat) "NamesWeather" "thought" "LNamesWeather$Skies;") ∈ lw_all := lw_g (lw_at lw_m1 180 rfl) rfl
theorem q341 : (Jvm.Cond.fieldLink "NamesWeather" (30 : Nat) "NamesWeather" "back" "[LNamesWeather$Skies;") ∈ lw_all := lw_g (lw_at lw_m1 181 rfl) rfl
theorem q342 : (Jvm.Cond.fieldLink "NamesWeather" (106 : Nat) "NamesWeather" "backMany" "I") ∈ lw_all := lw_g (lw_at lw_m1 182 rfl) rfl
theorem q343 : (Jvm.Cond.fieldLink "NamesWeather" (311 : Nat) "NamesWeather" "hasImage" "Z") ∈ lw_all := lw_g (lw_at lw_m1 183 rfl) rfl
theorem q344 : (Jvm.Cond.fieldLink "NamesWeather" (34 : Nat) "NamesWeather" "adds" "[I") ∈ lw_all := lw_g (lw_at lw_m1 184 rfl) rfl
theorem q345 : (Jvm.Cond.fieldLink "NamesWeather" (38 : Nat) "NamesWeather" "boat" "[I") ∈ lw_all := lw_g (lw_at lw_m1 185 rfl) rfl
theorem q346 : (Jvm.Cond.fieldLink "NamesWeather" (41 : Nat) "NamesWeather" "costs" "[I") ∈ lw_all := lw_g (lw_at lw_m1 186 rfl) rfl
theorem q347 : (Jvm.Cond.laysFinal "NamesWeather" "NamesWeather" "tape" "[B") ∈ lw_all := lw_g (lw_at lw_m1 187 rfl) rfl
theorem q348 : (Jvm.Cond.soleField "NamesWeather" "tape") ∈ lw_all := lw_g (lw_at lw_m1 188 rfl) rfl
theorem q349 : (Jvm.Cond.lays "NamesWeather" "NamesWeather" "taped" "I") ∈ lw_all := lw_g (lw_at lw_m1 189 rfl) rfl
theorem q350 : (Jvm.Cond.soleField "NamesWeather" "taped") ∈ lw_all := lw_g (lw_at lw_m1 190 rfl) rfl
theorem q351 : (Jvm.Cond.lays "NamesWeather" "NamesWeather" "faultKind" "I") ∈ lw_all := lw_g (lw_at lw_m1 191 rfl) rfl
theorem q352 : (Jvm.Cond.soleField "NamesWeather" "faultKind") ∈ lw_all := lw_g (lw_at lw_m1 192 rfl) rfl
theorem q353 : (Jvm.Cond.lays "NamesWeather" "NamesWeather" "faultPlace" "I") ∈ lw_all := lw_g (lw_at lw_m1 193 rfl) rfl
theorem q354 : (Jvm.Cond.soleField "NamesWeather" "faultPlace") ∈ lw_all := lw_g (lw_at lw_m1 194 rfl) rfl
theorem q355 : (Jvm.Cond.laysFinal "NamesWeather" "NamesWeather" "skies" "LNamesWeather$Skies;") ∈ lw_all := lw_g (lw_at lw_m1 195 rfl) rfl
theorem q356 : (Jvm.Cond.soleField "NamesWeather" "skies") ∈ lw_all := lw_g (lw_at lw_m1 196 rfl) rfl
theorem q357 : (Jvm.Cond.laysFinal "NamesWeather" "NamesWeather" "kept" "LNamesWeather$Skies;") ∈ lw_all := lw_g (lw_at lw_m1 197 rfl) rfl
theorem q358 : (Jvm.Cond.soleField "NamesWeather" "kept") ∈ lw_all := lw_g (lw_at lw_m1 198 rfl) rfl
theorem q359 : (Jvm.Cond.laysFinal "NamesWeather" "NamesWeather" "thought" "LNamesWeather$Skies;") ∈ lw_all := lw_g (lw_at lw_m1 199 rfl) rfl
theorem q360 : (Jvm.Cond.soleField "NamesWeather" "thought") ∈ lw_all := lw_g (lw_at lw_m1 200 rfl) rfl
theorem q361 : (Jvm.Cond.laysFinal "NamesWeather" "NamesWeather" "back" "[LNamesWeather$Skies;") ∈ lw_all := lw_g (lw_at lw_m1 201 rfl) rfl
theorem q362 : (Jvm.Cond.soleField "NamesWeather" "back") ∈ lw_all := lw_g (lw_at lw_m1 202 rfl) rfl
theorem q363 : (Jvm.Cond.lays "NamesWeather" "NamesWeather" "backMany" "I") ∈ lw_all := lw_g (lw_at lw_m1 203 rfl) rfl
theorem q364 : (Jvm.Cond.soleField "NamesWeather" "backMany") ∈ lw_all := lw_g (lw_at lw_m1 204 rfl) rfl
theorem q365 : (Jvm.Cond.lays "NamesWeather" "NamesWeather" "hasImage" "Z") ∈ lw_all := lw_g (lw_at lw_m1 205 rfl) rfl
theorem q366 : (Jvm.Cond.soleField "NamesWeather" "hasImage") ∈ lw_all := lw_g (lw_at lw_m1 206 rfl) rfl
theorem q367 : (Jvm.Cond.laysFinal "NamesWeather" "NamesWeather" "adds" "[I") ∈ lw_all := lw_g (lw_at lw_m1 207 rfl) rfl
theorem q368 : (Jvm.Cond.soleField "NamesWeather" "adds") ∈ lw_all := lw_g (lw_at lw_m1 208 rfl) rfl
theorem q369 : (Jvm.Cond.laysFinal "NamesWeather" "NamesWeather" "boat" "[I") ∈ lw_all := lw_g (lw_at lw_m1 209 rfl) rfl
theorem q370 : (Jvm.Cond.soleField "NamesWeather" "boat") ∈ lw_all := lw_g (lw_at lw_m1 210 rfl) rfl
theorem q371 : (Jvm.Cond.laysFinal "NamesWeather" "NamesWeather" "costs" "[I") ∈ lw_all := lw_g (lw_at lw_m1 211 rfl) rfl
theorem q372 : (Jvm.Cond.soleField "NamesWeather" "costs") ∈ lw_all := lw_g (lw_at lw_m1 212 rfl) rfl
theorem q373 : (Jvm.Cond.superclass "NamesWeather" "java/lang/Object") ∈ lw_all := lw_g (lw_at lw_m1 213 rfl) rfl
theorem q375 : (Jvm.Cond.instanceMethod ({ cls := "NamesWeather", name := "feed", desc := "(IIIII)I" } : Jvm.MethodName)) ∈ lw_all := lw_g (lw_at lw_m1 215 rfl) rfl
theorem q376 : (Jvm.Cond.selects "NamesWeather" ({ cls := "NamesWeather", name := "feed", desc := "(IIIII)I" } : Jvm.MethodName) ({ cls := "NamesWeather", name := "feed", desc := "(IIIII)I" } : Jvm.MethodName)) ∈ lw_all := lw_g (lw_at lw_m1 216 rfl) rfl
theorem q377 : (Jvm.Cond.code ({ cls := "NamesWeather", name := "feed", desc := "(IIIII)I" } : Jvm.MethodName) prog_1_method_3_code (6 : Nat) (Option.some Jvm.ClassFile.FieldType.int)) ∈ lw_all := lw_g (lw_at lw_m1 217 rfl) rfl
theorem q378 : (Jvm.Cond.methodLink "NamesWeather" (47 : Nat) ({ cls := "NamesWeather", name := "word", desc := "(I)V" } : Jvm.MethodName)) ∈ lw_all := lw_g (lw_at lw_m1 218 rfl) rfl
theorem q379 : (Jvm.Cond.privateMethod ({ cls := "NamesWeather", name := "word", desc := "(I)V" } : Jvm.MethodName)) ∈ lw_tbl := lw_at lw_m1 219 rfl
theorem q380 : (Jvm.Cond.instanceMethod ({ cls := "NamesWeather", name := "word", desc := "(I)V" } : Jvm.MethodName)) ∈ lw_all := lw_g (lw_at lw_m1 220 rfl) rfl
theorem q381 : (Jvm.Cond.code ({ cls := "NamesWeather", name := "word", desc := "(I)V" } : Jvm.MethodName) prog_1_method_4_code (3 : Nat) (Option.none : Option Jvm.ClassFile.FieldType)) ∈ lw_all := lw_g (lw_at lw_m1 221 rfl) rfl
theorem q383 : (Jvm.Cond.instanceMethod ({ cls := "NamesWeather", name := "end", desc := "(I)Z" } : Jvm.MethodName)) ∈ lw_all := lw_g (lw_at lw_m1 223 rfl) rfl
theorem q384 : (Jvm.Cond.selects "NamesWeather" ({ cls := "NamesWeather", name := "end", desc := "(I)Z" } : Jvm.MethodName) ({ cls := "NamesWeather", name := "end", desc := "(I)Z" } : Jvm.MethodName)) ∈ lw_all := lw_g (lw_at lw_m1 224 rfl) rfl
theorem q385 : (Jvm.Cond.code ({ cls := "NamesWeather", name := "end", desc := "(I)Z" } : Jvm.MethodName) prog_1_method_5_code (2 : Nat) (Option.some Jvm.ClassFile.FieldType.boolean)) ∈ lw_all := lw_g (lw_at lw_m1 225 rfl) rfl
theorem q386 : (Jvm.Cond.methodLink "NamesWeather" (51 : Nat) ({ cls := "NamesWeather", name := "isIn", desc := "(III)Z" } : Jvm.MethodName)) ∈ lw_all := lw_g (lw_at lw_m1 226 rfl) rfl
theorem q387 : (Jvm.Cond.static ({ cls := "NamesWeather", name := "isIn", desc := "(III)Z" } : Jvm.MethodName)) ∈ lw_all := lw_g (lw_at lw_m1 227 rfl) rfl
theorem q388 : (Jvm.Cond.code ({ cls := "NamesWeather", name := "isIn", desc := "(III)Z" } : Jvm.MethodName) prog_1_method_2_code (3 : Nat) (Option.some Jvm.ClassFile.FieldType.boolean)) ∈ lw_all := lw_g (lw_at lw_m1 228 rfl) rfl
theorem q390 : (Jvm.Cond.instanceMethod ({ cls := "NamesWeather", name := "text", desc := "(I)I" } : Jvm.MethodName)) ∈ lw_all := lw_g (lw_at lw_m1 230 rfl) rfl
theorem q391 : (Jvm.Cond.selects "NamesWeather" ({ cls := "NamesWeather", name := "text", desc := "(I)I" } : Jvm.MethodName) ({ cls := "NamesWeather", name := "text", desc := "(I)I" } : Jvm.MethodName)) ∈ lw_all := lw_g (lw_at lw_m1 231 rfl) rfl
theorem q392 : (Jvm.Cond.codeWith ({ cls := "NamesWeather", name := "text", desc := "(I)I" } : Jvm.MethodName) prog_1_method_7_code (5 : Nat) (Option.some Jvm.ClassFile.FieldType.int) [((10 : Nat), (29 : Nat), (36 : Nat), (98 : Nat)), ((10 : Nat), (29 : Nat), (62 : Nat), (0 : Nat)), ((36 : Nat), (55 : Nat), (62 : Nat), (0 : Nat)), ((62 : Nat), (64 : Nat), (62 : Nat), (0 : Nat))]) ∈ lw_all := lw_g (lw_at lw_m1 232 rfl) rfl
theorem q393 : (Jvm.Cond.classLink "NamesWeather" (98 : Nat) "NamesWeather$Fault") ∈ lw_all := lw_g (lw_at lw_m1 233 rfl) rfl
theorem q394 : (Jvm.Cond.methodLink "NamesWeather" (94 : Nat) ({ cls := "NamesWeather", name := "reads", desc := "(I)I" } : Jvm.MethodName)) ∈ lw_all := lw_g (lw_at lw_m1 234 rfl) rfl
theorem q395 : (Jvm.Cond.privateMethod ({ cls := "NamesWeather", name := "reads", desc := "(I)I" } : Jvm.MethodName)) ∈ lw_tbl := lw_at lw_m1 235 rfl
theorem q396 : (Jvm.Cond.instanceMethod ({ cls := "NamesWeather", name := "reads", desc := "(I)I" } : Jvm.MethodName)) ∈ lw_all := lw_g (lw_at lw_m1 236 rfl) rfl
theorem q397 : (Jvm.Cond.code ({ cls := "NamesWeather", name := "reads", desc := "(I)I" } : Jvm.MethodName) prog_1_method_6_code (3 : Nat) (Option.some Jvm.ClassFile.FieldType.int)) ∈ lw_all := lw_g (lw_at lw_m1 237 rfl) rfl
theorem q398 : (Jvm.Cond.classLink "NamesWeather" (55 : Nat) "NamesWeather$Reader") ∈ lw_all := lw_g (lw_at lw_m1 238 rfl) rfl
theorem q400 : (Jvm.Cond.methodLink "NamesWeather" (57 : Nat) ({ cls := "NamesWeather$Reader", name := "<init>", desc := "(LNamesWeather;I)V" } : Jvm.MethodName)) ∈ lw_all := lw_g (lw_at lw_m2 0 rfl) rfl
theorem q426 : (Jvm.Cond.methodLink "NamesWeather" (60 : Nat) ({ cls := "NamesWeather$Reader", name := "law", desc := "()Ljava/util/ArrayList;" } : Jvm.MethodName)) ∈ lw_all := lw_g (lw_at lw_m2 26 rfl) rfl
theorem q610 : (Jvm.Cond.fieldLinkNest "NamesWeather" (100 : Nat) "NamesWeather$Fault" "kind" "I" "NamesWeather") ∈ lw_tbl := lw_at lw_m2 210 rfl
theorem q612 : (Jvm.Cond.fieldLinkNest "NamesWeather" (103 : Nat) "NamesWeather$Fault" "place" "I" "NamesWeather") ∈ lw_tbl := lw_at lw_m2 212 rfl
theorem q769 : (Jvm.Cond.selects "NamesWeather" ({ cls := "java/lang/Object", name := "getClass", desc := "()Ljava/lang/Class;" } : Jvm.MethodName) ({ cls := "java/lang/Object", name := "getClass", desc := "()Ljava/lang/Class;" } : Jvm.MethodName)) ∈ lw_all := lw_g (lw_at lw_m3 129 rfl) rfl
theorem q801 : (Jvm.Cond.methodLink "NamesWeather" (67 : Nat) ({ cls := "java/util/ArrayList", name := "size", desc := "()I" } : Jvm.MethodName)) ∈ lw_all := lw_g (lw_at lw_m3 161 rfl) rfl
theorem q802 : (Jvm.Cond.methodLink "NamesWeather" (73 : Nat) ({ cls := "NamesWeather$Reader", name := "quenching", desc := "()Ljava/util/ArrayList;" } : Jvm.MethodName)) ∈ lw_all := lw_g (lw_at lw_m3 162 rfl) rfl
theorem q837 : (Jvm.Cond.methodLink "NamesWeather" (78 : Nat) ({ cls := "NamesWeather$Reader", name := "wants", desc := "()Ljava/util/ArrayList;" } : Jvm.MethodName)) ∈ lw_all := lw_g (lw_at lw_m3 197 rfl) rfl
theorem q856 : (Jvm.Cond.fieldLinkNest "NamesWeather" (236 : Nat) "NamesWeather$Want" "day" "I" "NamesWeather") ∈ lw_tbl := lw_at lw_m3 216 rfl
theorem q858 : (Jvm.Cond.fieldLinkNest "NamesWeather" (252 : Nat) "NamesWeather$Want" "worth" "I" "NamesWeather") ∈ lw_tbl := lw_at lw_m3 218 rfl
theorem q882 : (Jvm.Cond.methodLink "NamesWeather" (83 : Nat) ({ cls := "NamesWeather$Reader", name := "plan", desc := "()Ljava/util/ArrayList;" } : Jvm.MethodName)) ∈ lw_all := lw_g (lw_at lw_m4 2 rfl) rfl
theorem q930 : (Jvm.Cond.methodLink "NamesWeather" (88 : Nat) ({ cls := "NamesWeather", name := "forgets", desc := "()V" } : Jvm.MethodName)) ∈ lw_all := lw_g (lw_at lw_m4 50 rfl) rfl
theorem q931 : (Jvm.Cond.privateMethod ({ cls := "NamesWeather", name := "forgets", desc := "()V" } : Jvm.MethodName)) ∈ lw_tbl := lw_at lw_m4 51 rfl
theorem q932 : (Jvm.Cond.instanceMethod ({ cls := "NamesWeather", name := "forgets", desc := "()V" } : Jvm.MethodName)) ∈ lw_all := lw_g (lw_at lw_m4 52 rfl) rfl
theorem q933 : (Jvm.Cond.code ({ cls := "NamesWeather", name := "forgets", desc := "()V" } : Jvm.MethodName) prog_1_method_9_code (1 : Nat) (Option.none : Option Jvm.ClassFile.FieldType)) ∈ lw_all := lw_g (lw_at lw_m4 53 rfl) rfl
theorem q935 : (Jvm.Cond.instanceMethod ({ cls := "NamesWeather", name := "fault", desc := "(I)I" } : Jvm.MethodName)) ∈ lw_all := lw_g (lw_at lw_m4 55 rfl) rfl
theorem q936 : (Jvm.Cond.selects "NamesWeather" ({ cls := "NamesWeather", name := "fault", desc := "(I)I" } : Jvm.MethodName) ({ cls := "NamesWeather", name := "fault", desc := "(I)I" } : Jvm.MethodName)) ∈ lw_all := lw_g (lw_at lw_m4 56 rfl) rfl
theorem q937 : (Jvm.Cond.code ({ cls := "NamesWeather", name := "fault", desc := "(I)I" } : Jvm.MethodName) prog_1_method_8_code (2 : Nat) (Option.some Jvm.ClassFile.FieldType.int)) ∈ lw_all := lw_g (lw_at lw_m4 57 rfl) rfl
theorem q939 : (Jvm.Cond.instanceMethod ({ cls := "NamesWeather", name := "undo", desc := "()Z" } : Jvm.MethodName)) ∈ lw_all := lw_g (lw_at lw_m4 59 rfl) rfl
theorem q940 : (Jvm.Cond.selects "NamesWeather" ({ cls := "NamesWeather", name := "undo", desc := "()Z" } : Jvm.MethodName) ({ cls := "NamesWeather", name := "undo", desc := "()Z" } : Jvm.MethodName)) ∈ lw_all := lw_g (lw_at lw_m4 60 rfl) rfl
theorem q941 : (Jvm.Cond.code ({ cls := "NamesWeather", name := "undo", desc := "()Z" } : Jvm.MethodName) prog_1_method_11_code (1 : Nat) (Option.some Jvm.ClassFile.FieldType.boolean)) ∈ lw_all := lw_g (lw_at lw_m4 61 rfl) rfl
theorem q942 : (Jvm.Cond.methodLink "NamesWeather" (109 : Nat) ({ cls := "NamesWeather$Skies", name := "moves", desc := "(LNamesWeather$Skies;)V" } : Jvm.MethodName)) ∈ lw_all := lw_g (lw_at lw_m4 62 rfl) rfl
theorem q947 : (Jvm.Cond.instanceMethod ({ cls := "NamesWeather", name := "state", desc := "(I)I" } : Jvm.MethodName)) ∈ lw_all := lw_g (lw_at lw_m4 67 rfl) rfl
theorem q948 : (Jvm.Cond.selects "NamesWeather" ({ cls := "NamesWeather", name := "state", desc := "(I)I" } : Jvm.MethodName) ({ cls := "NamesWeather", name := "state", desc := "(I)I" } : Jvm.MethodName)) ∈ lw_all := lw_g (lw_at lw_m4 68 rfl) rfl
theorem q949 : (Jvm.Cond.code ({ cls := "NamesWeather", name := "state", desc := "(I)I" } : Jvm.MethodName) prog_1_method_14_code (3 : Nat) (Option.some Jvm.ClassFile.FieldType.int)) ∈ lw_all := lw_g (lw_at lw_m4 69 rfl) rfl
theorem q951 : (Jvm.Cond.instanceMethod ({ cls := "NamesWeather", name := "person", desc := "(III)I" } : Jvm.MethodName)) ∈ lw_all := lw_g (lw_at lw_m4 71 rfl) rfl
theorem q952 : (Jvm.Cond.selects "NamesWeather" ({ cls := "NamesWeather", name := "person", desc := "(III)I" } : Jvm.MethodName) ({ cls := "NamesWeather", name := "person", desc := "(III)I" } : Jvm.MethodName)) ∈ lw_all := lw_g (lw_at lw_m4 72 rfl) rfl
theorem q953 : (Jvm.Cond.code ({ cls := "NamesWeather", name := "person", desc := "(III)I" } : Jvm.MethodName) prog_1_method_15_code (4 : Nat) (Option.some Jvm.ClassFile.FieldType.int)) ∈ lw_all := lw_g (lw_at lw_m4 73 rfl) rfl
theorem q954 : (Jvm.Cond.methodLink "NamesWeather" (116 : Nat) ({ cls := "NamesWeather", name := "isKind", desc := "(I)Z" } : Jvm.MethodName)) ∈ lw_all := lw_g (lw_at lw_m4 74 rfl) rfl
theorem q955 : (Jvm.Cond.static ({ cls := "NamesWeather", name := "isKind", desc := "(I)Z" } : Jvm.MethodName)) ∈ lw_all := lw_g (lw_at lw_m4 75 rfl) rfl
theorem q956 : (Jvm.Cond.code ({ cls := "NamesWeather", name := "isKind", desc := "(I)Z" } : Jvm.MethodName) prog_1_method_13_code (1 : Nat) (Option.some Jvm.ClassFile.FieldType.boolean)) ∈ lw_all := lw_g (lw_at lw_m4 76 rfl) rfl
theorem q957 : (Jvm.Cond.methodLink "NamesWeather" (120 : Nat) ({ cls := "NamesWeather", name := "isIsland", desc := "(I)Z" } : Jvm.MethodName)) ∈ lw_all := lw_g (lw_at lw_m4 77 rfl) rfl
theorem q958 : (Jvm.Cond.static ({ cls := "NamesWeather", name := "isIsland", desc := "(I)Z" } : Jvm.MethodName)) ∈ lw_all := lw_g (lw_at lw_m4 78 rfl) rfl
theorem q959 : (Jvm.Cond.code ({ cls := "NamesWeather", name := "isIsland", desc := "(I)Z" } : Jvm.MethodName) prog_1_method_12_code (1 : Nat) (Option.some Jvm.ClassFile.FieldType.boolean)) ∈ lw_all := lw_g (lw_at lw_m4 79 rfl) rfl
theorem q960 : (Jvm.Cond.methodLink "NamesWeather" (126 : Nat) ({ cls := "NamesWeather$Skies", name := "comes", desc := "(III)V" } : Jvm.MethodName)) ∈ lw_all := lw_g (lw_at lw_m4 80 rfl) rfl
theorem q965 : (Jvm.Cond.instanceMethod ({ cls := "NamesWeather", name := "sky", desc := "(III)Z" } : Jvm.MethodName)) ∈ lw_all := lw_g (lw_at lw_m4 85 rfl) rfl
theorem q966 : (Jvm.Cond.selects "NamesWeather" ({ cls := "NamesWeather", name := "sky", desc := "(III)Z" } : Jvm.MethodName) ({ cls := "NamesWeather", name := "sky", desc := "(III)Z" } : Jvm.MethodName)) ∈ lw_all := lw_g (lw_at lw_m4 86 rfl) rfl
theorem q967 : (Jvm.Cond.code ({ cls := "NamesWeather", name := "sky", desc := "(III)Z" } : Jvm.MethodName) prog_1_method_16_code (4 : Nat) (Option.some Jvm.ClassFile.FieldType.boolean)) ∈ lw_all := lw_g (lw_at lw_m4 87 rfl) rfl
theorem q969 : (Jvm.Cond.instanceMethod ({ cls := "NamesWeather", name := "cry", desc := "(I)Z" } : Jvm.MethodName)) ∈ lw_all := lw_g (lw_at lw_m4 89 rfl) rfl
theorem q970 : (Jvm.Cond.selects "NamesWeather" ({ cls := "NamesWeather", name := "cry", desc := "(I)Z" } : Jvm.MethodName) ({ cls := "NamesWeather", name := "cry", desc := "(I)Z" } : Jvm.MethodName)) ∈ lw_all := lw_g (lw_at lw_m4 90 rfl) rfl
theorem q971 : (Jvm.Cond.code ({ cls := "NamesWeather", name := "cry", desc := "(I)Z" } : Jvm.MethodName) prog_1_method_17_code (2 : Nat) (Option.some Jvm.ClassFile.FieldType.boolean)) ∈ lw_all := lw_g (lw_at lw_m4 91 rfl) rfl
theorem q973 : (Jvm.Cond.instanceMethod ({ cls := "NamesWeather", name := "route", desc := "(II)Z" } : Jvm.MethodName)) ∈ lw_all := lw_g (lw_at lw_m4 93 rfl) rfl
theorem q974 : (Jvm.Cond.selects "NamesWeather" ({ cls := "NamesWeather", name := "route", desc := "(II)Z" } : Jvm.MethodName) ({ cls := "NamesWeather", name := "route", desc := "(II)Z" } : Jvm.MethodName)) ∈ lw_all := lw_g (lw_at lw_m4 94 rfl) rfl
theorem q975 : (Jvm.Cond.code ({ cls := "NamesWeather", name := "route", desc := "(II)Z" } : Jvm.MethodName) prog_1_method_18_code (3 : Nat) (Option.some Jvm.ClassFile.FieldType.boolean)) ∈ lw_all := lw_g (lw_at lw_m4 95 rfl) rfl
theorem q977 : (Jvm.Cond.instanceMethod ({ cls := "NamesWeather", name := "call", desc := "(II)I" } : Jvm.MethodName)) ∈ lw_all := lw_g (lw_at lw_m4 97 rfl) rfl
theorem q978 : (Jvm.Cond.selects "NamesWeather" ({ cls := "NamesWeather", name := "call", desc := "(II)I" } : Jvm.MethodName) ({ cls := "NamesWeather", name := "call", desc := "(II)I" } : Jvm.MethodName)) ∈ lw_all := lw_g (lw_at lw_m4 98 rfl) rfl
theorem q979 : (Jvm.Cond.code ({ cls := "NamesWeather", name := "call", desc := "(II)I" } : Jvm.MethodName) prog_1_method_19_code (3 : Nat) (Option.some Jvm.ClassFile.FieldType.int)) ∈ lw_all := lw_g (lw_at lw_m4 99 rfl) rfl
theorem q980 : (Jvm.Cond.methodLink "NamesWeather" (140 : Nat) ({ cls := "NamesWeather$Skies", name := "canCall", desc := "(II)Z" } : Jvm.MethodName)) ∈ lw_all := lw_g (lw_at lw_m4 100 rfl) rfl
theorem q989 : (Jvm.Cond.methodLink "NamesWeather" (144 : Nat) ({ cls := "NamesWeather", name := "keeps", desc := "()V" } : Jvm.MethodName)) ∈ lw_all := lw_g (lw_at lw_m4 109 rfl) rfl
theorem q990 : (Jvm.Cond.privateMethod ({ cls := "NamesWeather", name := "keeps", desc := "()V" } : Jvm.MethodName)) ∈ lw_tbl := lw_at lw_m4 110 rfl
theorem q991 : (Jvm.Cond.instanceMethod ({ cls := "NamesWeather", name := "keeps", desc := "()V" } : Jvm.MethodName)) ∈ lw_all := lw_g (lw_at lw_m4 111 rfl) rfl
theorem q992 : (Jvm.Cond.code ({ cls := "NamesWeather", name := "keeps", desc := "()V" } : Jvm.MethodName) prog_1_method_10_code (3 : Nat) (Option.none : Option Jvm.ClassFile.FieldType)) ∈ lw_all := lw_g (lw_at lw_m4 112 rfl) rfl
theorem q993 : (Jvm.Cond.methodLink "NamesWeather" (147 : Nat) ({ cls := "NamesWeather$Skies", name := "calls", desc := "(III)I" } : Jvm.MethodName)) ∈ lw_all := lw_g (lw_at lw_m4 113 rfl) rfl
theorem q1065 : (Jvm.Cond.instanceMethod ({ cls := "NamesWeather", name := "move", desc := "(II)Z" } : Jvm.MethodName)) ∈ lw_all := lw_g (lw_at lw_m4 185 rfl) rfl
theorem q1066 : (Jvm.Cond.selects "NamesWeather" ({ cls := "NamesWeather", name := "move", desc := "(II)Z" } : Jvm.MethodName) ({ cls := "NamesWeather", name := "move", desc := "(II)Z" } : Jvm.MethodName)) ∈ lw_all := lw_g (lw_at lw_m4 186 rfl) rfl
theorem q1067 : (Jvm.Cond.code ({ cls := "NamesWeather", name := "move", desc := "(II)Z" } : Jvm.MethodName) prog_1_method_20_code (3 : Nat) (Option.some Jvm.ClassFile.FieldType.boolean)) ∈ lw_all := lw_g (lw_at lw_m4 187 rfl) rfl
theorem q1068 : (Jvm.Cond.methodLink "NamesWeather" (151 : Nat) ({ cls := "NamesWeather$Skies", name := "canMove", desc := "(II)Z" } : Jvm.MethodName)) ∈ lw_all := lw_g (lw_at lw_m4 188 rfl) rfl
theorem q1076 : (Jvm.Cond.methodLink "NamesWeather" (154 : Nat) ({ cls := "NamesWeather$Skies", name := "moveTo", desc := "(II)V" } : Jvm.MethodName)) ∈ lw_all := lw_g (lw_at lw_m4 196 rfl) rfl
theorem q1081 : (Jvm.Cond.instanceMethod ({ cls := "NamesWeather", name := "bury", desc := "(I)Z" } : Jvm.MethodName)) ∈ lw_all := lw_g (lw_at lw_m4 201 rfl) rfl
theorem q1082 : (Jvm.Cond.selects "NamesWeather" ({ cls := "NamesWeather", name := "bury", desc := "(I)Z" } : Jvm.MethodName) ({ cls := "NamesWeather", name := "bury", desc := "(I)Z" } : Jvm.MethodName)) ∈ lw_all := lw_g (lw_at lw_m4 202 rfl) rfl
theorem q1083 : (Jvm.Cond.code ({ cls := "NamesWeather", name := "bury", desc := "(I)Z" } : Jvm.MethodName) prog_1_method_21_code (2 : Nat) (Option.some Jvm.ClassFile.FieldType.boolean)) ∈ lw_all := lw_g (lw_at lw_m4 203 rfl) rfl
theorem q1084 : (Jvm.Cond.methodLink "NamesWeather" (158 : Nat) ({ cls := "NamesWeather$Skies", name := "lives", desc := "(I)Z" } : Jvm.MethodName)) ∈ lw_all := lw_g (lw_at lw_m4 204 rfl) rfl
theorem q1085 : (Jvm.Cond.methodLink "NamesWeather" (161 : Nat) ({ cls := "NamesWeather$Skies", name := "buries", desc := "(I)V" } : Jvm.MethodName)) ∈ lw_all := lw_g (lw_at lw_m4 205 rfl) rfl
theorem q1090 : (Jvm.Cond.instanceMethod ({ cls := "NamesWeather", name := "birth", desc := "(I)I" } : Jvm.MethodName)) ∈ lw_all := lw_g (lw_at lw_m4 210 rfl) rfl
theorem q1091 : (Jvm.Cond.selects "NamesWeather" ({ cls := "NamesWeather", name := "birth", desc := "(I)I" } : Jvm.MethodName) ({ cls := "NamesWeather", name := "birth", desc := "(I)I" } : Jvm.MethodName)) ∈ lw_all := lw_g (lw_at lw_m4 211 rfl) rfl
theorem q1092 : (Jvm.Cond.code ({ cls := "NamesWeather", name := "birth", desc := "(I)I" } : Jvm.MethodName) prog_1_method_22_code (2 : Nat) (Option.some Jvm.ClassFile.FieldType.int)) ∈ lw_all := lw_g (lw_at lw_m4 212 rfl) rfl
theorem q1093 : (Jvm.Cond.methodLink "NamesWeather" (164 : Nat) ({ cls := "NamesWeather$Skies", name := "mostOf", desc := "(I)I" } : Jvm.MethodName)) ∈ lw_all := lw_g (lw_at lw_m4 213 rfl) rfl
theorem q1097 : (Jvm.Cond.methodLink "NamesWeather" (167 : Nat) ({ cls := "NamesWeather$Skies", name := "births", desc := "(I)I" } : Jvm.MethodName)) ∈ lw_all := lw_g (lw_at lw_m4 217 rfl) rfl
theorem q1108 : (Jvm.Cond.instanceMethod ({ cls := "NamesWeather", name := "days", desc := "(I)I" } : Jvm.MethodName)) ∈ lw_all := lw_g (lw_at lw_m4 228 rfl) rfl
theorem q1109 : (Jvm.Cond.selects "NamesWeather" ({ cls := "NamesWeather", name := "days", desc := "(I)I" } : Jvm.MethodName) ({ cls := "NamesWeather", name := "days", desc := "(I)I" } : Jvm.MethodName)) ∈ lw_all := lw_g (lw_at lw_m4 229 rfl) rfl
theorem q1110 : (Jvm.Cond.code ({ cls := "NamesWeather", name := "days", desc := "(I)I" } : Jvm.MethodName) prog_1_method_23_code (3 : Nat) (Option.some Jvm.ClassFile.FieldType.int)) ∈ lw_all := lw_g (lw_at lw_m4 230 rfl) rfl
theorem q1111 : (Jvm.Cond.methodLink "NamesWeather" (176 : Nat) ({ cls := "NamesWeather$Skies", name := "morning", desc := "()V" } : Jvm.MethodName)) ∈ lw_all := lw_g (lw_at lw_m4 231 rfl) rfl
theorem q1158 : (Jvm.Cond.methodLink "NamesWeather" (179 : Nat) ({ cls := "NamesWeather$Skies", name := "evening", desc := "(Z)V" } : Jvm.MethodName)) ∈ lw_all := lw_g (lw_at lw_m5 38 rfl) rfl
theorem q1195 : (Jvm.Cond.instanceMethod ({ cls := "NamesWeather", name := "of", desc := "(II)I" } : Jvm.MethodName)) ∈ lw_all := lw_g (lw_at lw_m5 75 rfl) rfl
theorem q1196 : (Jvm.Cond.selects "NamesWeather" ({ cls := "NamesWeather", name := "of", desc := "(II)I" } : Jvm.MethodName) ({ cls := "NamesWeather", name := "of", desc := "(II)I" } : Jvm.MethodName)) ∈ lw_all := lw_g (lw_at lw_m5 76 rfl) rfl
theorem q1197 : (Jvm.Cond.code ({ cls := "NamesWeather", name := "of", desc := "(II)I" } : Jvm.MethodName) prog_1_method_24_code (3 : Nat) (Option.some Jvm.ClassFile.FieldType.int)) ∈ lw_all := lw_g (lw_at lw_m5 77 rfl) rfl
theorem q1198 : (Jvm.Cond.methodLink "NamesWeather" (183 : Nat) ({ cls := "NamesWeather$Skies", name := "is", desc := "(I)Z" } : Jvm.MethodName)) ∈ lw_all := lw_g (lw_at lw_m5 78 rfl) rfl
theorem q1199 : (Jvm.Cond.methodLink "NamesWeather" (199 : Nat) ({ cls := "NamesWeather$Skies", name := "cost", desc := "(I)I" } : Jvm.MethodName)) ∈ lw_all := lw_g (lw_at lw_m5 79 rfl) rfl
theorem q1203 : (Jvm.Cond.methodLink "NamesWeather" (202 : Nat) ({ cls := "NamesWeather$Skies", name := "add", desc := "(II)I" } : Jvm.MethodName)) ∈ lw_all := lw_g (lw_at lw_m5 83 rfl) rfl
theorem q1205 : (Jvm.Cond.instanceMethod ({ cls := "NamesWeather", name := "skyOf", desc := "(III)I" } : Jvm.MethodName)) ∈ lw_all := lw_g (lw_at lw_m5 85 rfl) rfl
theorem q1206 : (Jvm.Cond.selects "NamesWeather" ({ cls := "NamesWeather", name := "skyOf", desc := "(III)I" } : Jvm.MethodName) ({ cls := "NamesWeather", name := "skyOf", desc := "(III)I" } : Jvm.MethodName)) ∈ lw_all := lw_g (lw_at lw_m5 86 rfl) rfl
theorem q1207 : (Jvm.Cond.code ({ cls := "NamesWeather", name := "skyOf", desc := "(III)I" } : Jvm.MethodName) prog_1_method_26_code (4 : Nat) (Option.some Jvm.ClassFile.FieldType.int)) ∈ lw_all := lw_g (lw_at lw_m5 87 rfl) rfl
theorem q1208 : (Jvm.Cond.methodLink "NamesWeather" (209 : Nat) ({ cls := "NamesWeather", name := "thinksOf", desc := "(I)V" } : Jvm.MethodName)) ∈ lw_all := lw_g (lw_at lw_m5 88 rfl) rfl
theorem q1209 : (Jvm.Cond.privateMethod ({ cls := "NamesWeather", name := "thinksOf", desc := "(I)V" } : Jvm.MethodName)) ∈ lw_tbl := lw_at lw_m5 89 rfl
theorem q1210 : (Jvm.Cond.instanceMethod ({ cls := "NamesWeather", name := "thinksOf", desc := "(I)V" } : Jvm.MethodName)) ∈ lw_all := lw_g (lw_at lw_m5 90 rfl) rfl
theorem q1211 : (Jvm.Cond.code ({ cls := "NamesWeather", name := "thinksOf", desc := "(I)V" } : Jvm.MethodName) prog_1_method_25_code (3 : Nat) (Option.none : Option Jvm.ClassFile.FieldType)) ∈ lw_all := lw_g (lw_at lw_m5 91 rfl) rfl
theorem q1212 : (Jvm.Cond.methodLink "NamesWeather" (206 : Nat) ({ cls := "NamesWeather$Skies", name := "thinks", desc := "(LNamesWeather$Skies;)V" } : Jvm.MethodName)) ∈ lw_all := lw_g (lw_at lw_m5 92 rfl) rfl
theorem q1218 : (Jvm.Cond.instanceMethod ({ cls := "NamesWeather", name := "at", desc := "(II)I" } : Jvm.MethodName)) ∈ lw_all := lw_g (lw_at lw_m5 98 rfl) rfl
theorem q1219 : (Jvm.Cond.selects "NamesWeather" ({ cls := "NamesWeather", name := "at", desc := "(II)I" } : Jvm.MethodName) ({ cls := "NamesWeather", name := "at", desc := "(II)I" } : Jvm.MethodName)) ∈ lw_all := lw_g (lw_at lw_m5 99 rfl) rfl
theorem q1220 : (Jvm.Cond.code ({ cls := "NamesWeather", name := "at", desc := "(II)I" } : Jvm.MethodName) prog_1_method_28_code (3 : Nat) (Option.some Jvm.ClassFile.FieldType.int)) ∈ lw_all := lw_g (lw_at lw_m5 100 rfl) rfl
theorem q1221 : (Jvm.Cond.methodLink "NamesWeather" (212 : Nat) ({ cls := "NamesWeather$Skies", name := "all", desc := "(I)I" } : Jvm.MethodName)) ∈ lw_all := lw_g (lw_at lw_m5 101 rfl) rfl
theorem q1222 : (Jvm.Cond.methodLink "NamesWeather" (215 : Nat) ({ cls := "NamesWeather", name := "thereOf", desc := "(II)I" } : Jvm.MethodName)) ∈ lw_all := lw_g (lw_at lw_m5 102 rfl) rfl
theorem q1223 : (Jvm.Cond.privateMethod ({ cls := "NamesWeather", name := "thereOf", desc := "(II)I" } : Jvm.MethodName)) ∈ lw_tbl := lw_at lw_m5 103 rfl
theorem q1224 : (Jvm.Cond.instanceMethod ({ cls := "NamesWeather", name := "thereOf", desc := "(II)I" } : Jvm.MethodName)) ∈ lw_all := lw_g (lw_at lw_m5 104 rfl) rfl
theorem q1225 : (Jvm.Cond.code ({ cls := "NamesWeather", name := "thereOf", desc := "(II)I" } : Jvm.MethodName) prog_1_method_27_code (5 : Nat) (Option.some Jvm.ClassFile.FieldType.int)) ∈ lw_all := lw_g (lw_at lw_m5 105 rfl) rfl
theorem q1226 : (Jvm.Cond.methodLink "NamesWeather" (218 : Nat) ({ cls := "NamesWeather$Skies", name := "fade", desc := "(II)I" } : Jvm.MethodName)) ∈ lw_all := lw_g (lw_at lw_m5 106 rfl) rfl
theorem q1228 : (Jvm.Cond.instanceMethod ({ cls := "NamesWeather", name := "clash", desc := "(II)I" } : Jvm.MethodName)) ∈ lw_all := lw_g (lw_at lw_m5 108 rfl) rfl
theorem q1229 : (Jvm.Cond.selects "NamesWeather" ({ cls := "NamesWeather", name := "clash", desc := "(II)I" } : Jvm.MethodName) ({ cls := "NamesWeather", name := "clash", desc := "(II)I" } : Jvm.MethodName)) ∈ lw_all := lw_g (lw_at lw_m5 109 rfl) rfl
theorem q1230 : (Jvm.Cond.code ({ cls := "NamesWeather", name := "clash", desc := "(II)I" } : Jvm.MethodName) prog_1_method_29_code (3 : Nat) (Option.some Jvm.ClassFile.FieldType.int)) ∈ lw_all := lw_g (lw_at lw_m5 110 rfl) rfl
theorem q1231 : (Jvm.Cond.methodLink "NamesWeather" (221 : Nat) ({ cls := "NamesWeather$Skies", name := "areClashing", desc := "(II)Z" } : Jvm.MethodName)) ∈ lw_all := lw_g (lw_at lw_m5 111 rfl) rfl
theorem q1240 : (Jvm.Cond.instanceMethod ({ cls := "NamesWeather", name := "book", desc := "(II)I" } : Jvm.MethodName)) ∈ lw_all := lw_g (lw_at lw_m5 120 rfl) rfl
theorem q1241 : (Jvm.Cond.selects "NamesWeather" ({ cls := "NamesWeather", name := "book", desc := "(II)I" } : Jvm.MethodName) ({ cls := "NamesWeather", name := "book", desc := "(II)I" } : Jvm.MethodName)) ∈ lw_all := lw_g (lw_at lw_m5 121 rfl) rfl
theorem q1242 : (Jvm.Cond.code ({ cls := "NamesWeather", name := "book", desc := "(II)I" } : Jvm.MethodName) prog_1_method_30_code (3 : Nat) (Option.some Jvm.ClassFile.FieldType.int)) ∈ lw_all := lw_g (lw_at lw_m5 122 rfl) rfl
theorem q1244 : (Jvm.Cond.instanceMethod ({ cls := "NamesWeather", name := "meets", desc := "(I)I" } : Jvm.MethodName)) ∈ lw_all := lw_g (lw_at lw_m5 124 rfl) rfl
theorem q1245 : (Jvm.Cond.selects "NamesWeather" ({ cls := "NamesWeather", name := "meets", desc := "(I)I" } : Jvm.MethodName) ({ cls := "NamesWeather", name := "meets", desc := "(I)I" } : Jvm.MethodName)) ∈ lw_all := lw_g (lw_at lw_m5 125 rfl) rfl
theorem q1246 : (Jvm.Cond.code ({ cls := "NamesWeather", name := "meets", desc := "(I)I" } : Jvm.MethodName) prog_1_method_32_code (8 : Nat) (Option.some Jvm.ClassFile.FieldType.int)) ∈ lw_all := lw_g (lw_at lw_m5 126 rfl) rfl
theorem q1247 : (Jvm.Cond.methodLink "NamesWeather" (242 : Nat) ({ cls := "NamesWeather", name := "lastWanted", desc := "()I" } : Jvm.MethodName)) ∈ lw_all := lw_g (lw_at lw_m5 127 rfl) rfl
theorem q1248 : (Jvm.Cond.privateMethod ({ cls := "NamesWeather", name := "lastWanted", desc := "()I" } : Jvm.MethodName)) ∈ lw_tbl := lw_at lw_m5 128 rfl
theorem q1249 : (Jvm.Cond.instanceMethod ({ cls := "NamesWeather", name := "lastWanted", desc := "()I" } : Jvm.MethodName)) ∈ lw_all := lw_g (lw_at lw_m5 129 rfl) rfl
theorem q1250 : (Jvm.Cond.code ({ cls := "NamesWeather", name := "lastWanted", desc := "()I" } : Jvm.MethodName) prog_1_method_31_code (3 : Nat) (Option.some Jvm.ClassFile.FieldType.int)) ∈ lw_all := lw_g (lw_at lw_m5 130 rfl) rfl
theorem q1251 : (Jvm.Cond.methodLink "NamesWeather" (230 : Nat) ({ cls := "java/util/ArrayList", name := "get", desc := "(I)Ljava/lang/Object;" } : Jvm.MethodName)) ∈ lw_all := lw_g (lw_at lw_m5 131 rfl) rfl
theorem q1252 : (Jvm.Cond.classLink "NamesWeather" (234 : Nat) "NamesWeather$Want") ∈ lw_all := lw_g (lw_at lw_m5 132 rfl) rfl
theorem q1253 : (Jvm.Cond.methodLink "NamesWeather" (237 : Nat) ({ cls := "java/lang/Math", name := "max", desc := "(II)I" } : Jvm.MethodName)) ∈ lw_all := lw_g (lw_at lw_m5 133 rfl) rfl
theorem q1254 : (Jvm.Cond.methodLink "NamesWeather" (245 : Nat) ({ cls := "java/lang/Math", name := "min", desc := "(II)I" } : Jvm.MethodName)) ∈ lw_all := lw_g (lw_at lw_m5 134 rfl) rfl
theorem q1255 : (Jvm.Cond.methodLink "NamesWeather" (248 : Nat) ({ cls := "NamesWeather$Want", name := "isMet", desc := "(LNamesWeather$Skies;)Z" } : Jvm.MethodName)) ∈ lw_all := lw_g (lw_at lw_m5 135 rfl) rfl
theorem q1275 : (Jvm.Cond.instanceMethod ({ cls := "NamesWeather", name := "calls", desc := "(II)I" } : Jvm.MethodName)) ∈ lw_all := lw_g (lw_at lw_m5 155 rfl) rfl
theorem q1276 : (Jvm.Cond.selects "NamesWeather" ({ cls := "NamesWeather", name := "calls", desc := "(II)I" } : Jvm.MethodName) ({ cls := "NamesWeather", name := "calls", desc := "(II)I" } : Jvm.MethodName)) ∈ lw_all := lw_g (lw_at lw_m5 156 rfl) rfl
theorem q1277 : (Jvm.Cond.code ({ cls := "NamesWeather", name := "calls", desc := "(II)I" } : Jvm.MethodName) prog_1_method_35_code (8 : Nat) (Option.some Jvm.ClassFile.FieldType.int)) ∈ lw_all := lw_g (lw_at lw_m5 157 rfl) rfl
theorem q1278 : (Jvm.Cond.methodLink "NamesWeather" (255 : Nat) ({ cls := "NamesWeather$Want", name := "kind", desc := "()I" } : Jvm.MethodName)) ∈ lw_all := lw_g (lw_at lw_m5 158 rfl) rfl
theorem q1286 : (Jvm.Cond.methodLink "NamesWeather" (257 : Nat) ({ cls := "NamesWeather$Want", name := "island", desc := "()I" } : Jvm.MethodName)) ∈ lw_all := lw_g (lw_at lw_m5 166 rfl) rfl
theorem q1287 : (Jvm.Cond.methodLink "NamesWeather" (259 : Nat) ({ cls := "NamesWeather", name := "laysAdds", desc := "(II)I" } : Jvm.MethodName)) ∈ lw_all := lw_g (lw_at lw_m5 167 rfl) rfl
theorem q1288 : (Jvm.Cond.privateMethod ({ cls := "NamesWeather", name := "laysAdds", desc := "(II)I" } : Jvm.MethodName)) ∈ lw_tbl := lw_at lw_m5 168 rfl
theorem q1289 : (Jvm.Cond.instanceMethod ({ cls := "NamesWeather", name := "laysAdds", desc := "(II)I" } : Jvm.MethodName)) ∈ lw_all := lw_g (lw_at lw_m5 169 rfl) rfl
theorem q1290 : (Jvm.Cond.code ({ cls := "NamesWeather", name := "laysAdds", desc := "(II)I" } : Jvm.MethodName) prog_1_method_33_code (6 : Nat) (Option.some Jvm.ClassFile.FieldType.int)) ∈ lw_all := lw_g (lw_at lw_m5 170 rfl) rfl
theorem q1291 : (Jvm.Cond.methodLink "NamesWeather" (262 : Nat) ({ cls := "NamesWeather$Want", name := "much", desc := "()I" } : Jvm.MethodName)) ∈ lw_all := lw_g (lw_at lw_m5 171 rfl) rfl
theorem q1299 : (Jvm.Cond.methodLink "NamesWeather" (265 : Nat) ({ cls := "NamesWeather", name := "addOf", desc := "(I)I" } : Jvm.MethodName)) ∈ lw_all := lw_g (lw_at lw_m5 179 rfl) rfl
theorem q1300 : (Jvm.Cond.privateMethod ({ cls := "NamesWeather", name := "addOf", desc := "(I)I" } : Jvm.MethodName)) ∈ lw_tbl := lw_at lw_m5 180 rfl
theorem q1301 : (Jvm.Cond.instanceMethod ({ cls := "NamesWeather", name := "addOf", desc := "(I)I" } : Jvm.MethodName)) ∈ lw_all := lw_g (lw_at lw_m5 181 rfl) rfl
theorem q1302 : (Jvm.Cond.code ({ cls := "NamesWeather", name := "addOf", desc := "(I)I" } : Jvm.MethodName) prog_1_method_34_code (4 : Nat) (Option.some Jvm.ClassFile.FieldType.int)) ∈ lw_all := lw_g (lw_at lw_m5 182 rfl) rfl
theorem q1303 : (Jvm.Cond.methodLink "NamesWeather" (268 : Nat) ({ cls := "java/lang/Integer", name := "bitCount", desc := "(I)I" } : Jvm.MethodName)) ∈ lw_all := lw_g (lw_at lw_m5 183 rfl) rfl
theorem q1310 : (Jvm.Cond.instanceMethod ({ cls := "NamesWeather", name := "called", desc := "(IIII)I" } : Jvm.MethodName)) ∈ lw_all := lw_g (lw_at lw_m5 190 rfl) rfl
theorem q1311 : (Jvm.Cond.selects "NamesWeather" ({ cls := "NamesWeather", name := "called", desc := "(IIII)I" } : Jvm.MethodName) ({ cls := "NamesWeather", name := "called", desc := "(IIII)I" } : Jvm.MethodName)) ∈ lw_all := lw_g (lw_at lw_m5 191 rfl) rfl
theorem q1312 : (Jvm.Cond.code ({ cls := "NamesWeather", name := "called", desc := "(IIII)I" } : Jvm.MethodName) prog_1_method_39_code (6 : Nat) (Option.some Jvm.ClassFile.FieldType.int)) ∈ lw_all := lw_g (lw_at lw_m5 192 rfl) rfl
theorem q1313 : (Jvm.Cond.methodLink "NamesWeather" (273 : Nat) ({ cls := "NamesWeather", name := "canRise", desc := "(III)Z" } : Jvm.MethodName)) ∈ lw_all := lw_g (lw_at lw_m5 193 rfl) rfl
theorem q1314 : (Jvm.Cond.static ({ cls := "NamesWeather", name := "canRise", desc := "(III)Z" } : Jvm.MethodName)) ∈ lw_all := lw_g (lw_at lw_m5 194 rfl) rfl
theorem q1315 : (Jvm.Cond.code ({ cls := "NamesWeather", name := "canRise", desc := "(III)Z" } : Jvm.MethodName) prog_1_method_36_code (3 : Nat) (Option.some Jvm.ClassFile.FieldType.boolean)) ∈ lw_all := lw_g (lw_at lw_m5 195 rfl) rfl
theorem q1316 : (Jvm.Cond.methodLink "NamesWeather" (276 : Nat) ({ cls := "NamesWeather", name := "setsWith", desc := "(III)I" } : Jvm.MethodName)) ∈ lw_all := lw_g (lw_at lw_m5 196 rfl) rfl
theorem q1317 : (Jvm.Cond.privateMethod ({ cls := "NamesWeather", name := "setsWith", desc := "(III)I" } : Jvm.MethodName)) ∈ lw_tbl := lw_at lw_m5 197 rfl
theorem q1318 : (Jvm.Cond.instanceMethod ({ cls := "NamesWeather", name := "setsWith", desc := "(III)I" } : Jvm.MethodName)) ∈ lw_all := lw_g (lw_at lw_m5 198 rfl) rfl
theorem q1319 : (Jvm.Cond.code ({ cls := "NamesWeather", name := "setsWith", desc := "(III)I" } : Jvm.MethodName) prog_1_method_37_code (6 : Nat) (Option.some Jvm.ClassFile.FieldType.int)) ∈ lw_all := lw_g (lw_at lw_m5 199 rfl) rfl
theorem q1320 : (Jvm.Cond.methodLink "NamesWeather" (279 : Nat) ({ cls := "NamesWeather", name := "leastSet", desc := "(II)I" } : Jvm.MethodName)) ∈ lw_all := lw_g (lw_at lw_m5 200 rfl) rfl
theorem q1321 : (Jvm.Cond.privateMethod ({ cls := "NamesWeather", name := "leastSet", desc := "(II)I" } : Jvm.MethodName)) ∈ lw_tbl := lw_at lw_m5 201 rfl
theorem q1322 : (Jvm.Cond.instanceMethod ({ cls := "NamesWeather", name := "leastSet", desc := "(II)I" } : Jvm.MethodName)) ∈ lw_all := lw_g (lw_at lw_m5 202 rfl) rfl
theorem q1323 : (Jvm.Cond.code ({ cls := "NamesWeather", name := "leastSet", desc := "(II)I" } : Jvm.MethodName) prog_1_method_38_code (4 : Nat) (Option.some Jvm.ClassFile.FieldType.int)) ∈ lw_all := lw_g (lw_at lw_m5 203 rfl) rfl
theorem q1325 : (Jvm.Cond.instanceMethod ({ cls := "NamesWeather", name := "ask", desc := "(III)I" } : Jvm.MethodName)) ∈ lw_all := lw_g (lw_at lw_m5 205 rfl) rfl
theorem q1326 : (Jvm.Cond.selects "NamesWeather" ({ cls := "NamesWeather", name := "ask", desc := "(III)I" } : Jvm.MethodName) ({ cls := "NamesWeather", name := "ask", desc := "(III)I" } : Jvm.MethodName)) ∈ lw_all := lw_g (lw_at lw_m5 206 rfl) rfl
theorem q1327 : (Jvm.Cond.code ({ cls := "NamesWeather", name := "ask", desc := "(III)I" } : Jvm.MethodName) prog_1_method_40_code (11 : Nat) (Option.some Jvm.ClassFile.FieldType.int)) ∈ lw_all := lw_g (lw_at lw_m5 207 rfl) rfl
theorem q1329 : (Jvm.Cond.instanceMethod ({ cls := "NamesWeather", name := "boats", desc := "(II)I" } : Jvm.MethodName)) ∈ lw_all := lw_g (lw_at lw_m5 209 rfl) rfl
theorem q1330 : (Jvm.Cond.selects "NamesWeather" ({ cls := "NamesWeather", name := "boats", desc := "(II)I" } : Jvm.MethodName) ({ cls := "NamesWeather", name := "boats", desc := "(II)I" } : Jvm.MethodName)) ∈ lw_all := lw_g (lw_at lw_m5 210 rfl) rfl
theorem q1331 : (Jvm.Cond.code ({ cls := "NamesWeather", name := "boats", desc := "(II)I" } : Jvm.MethodName) prog_1_method_43_code (4 : Nat) (Option.some Jvm.ClassFile.FieldType.int)) ∈ lw_all := lw_g (lw_at lw_m5 211 rfl) rfl
theorem q1332 : (Jvm.Cond.methodLink "NamesWeather" (282 : Nat) ({ cls := "NamesWeather", name := "sails", desc := "(IIII)Z" } : Jvm.MethodName)) ∈ lw_all := lw_g (lw_at lw_m5 212 rfl) rfl
theorem q1333 : (Jvm.Cond.privateMethod ({ cls := "NamesWeather", name := "sails", desc := "(IIII)Z" } : Jvm.MethodName)) ∈ lw_tbl := lw_at lw_m5 213 rfl
theorem q1334 : (Jvm.Cond.instanceMethod ({ cls := "NamesWeather", name := "sails", desc := "(IIII)Z" } : Jvm.MethodName)) ∈ lw_all := lw_g (lw_at lw_m5 214 rfl) rfl
theorem q1335 : (Jvm.Cond.code ({ cls := "NamesWeather", name := "sails", desc := "(IIII)Z" } : Jvm.MethodName) prog_1_method_42_code (6 : Nat) (Option.some Jvm.ClassFile.FieldType.boolean)) ∈ lw_all := lw_g (lw_at lw_m5 215 rfl) rfl
theorem q1336 : (Jvm.Cond.methodLink "NamesWeather" (286 : Nat) ({ cls := "NamesWeather", name := "canSail", desc := "(III)Z" } : Jvm.MethodName)) ∈ lw_all := lw_g (lw_at lw_m5 216 rfl) rfl
theorem q1337 : (Jvm.Cond.privateMethod ({ cls := "NamesWeather", name := "canSail", desc := "(III)Z" } : Jvm.MethodName)) ∈ lw_tbl := lw_at lw_m5 217 rfl
theorem q1338 : (Jvm.Cond.instanceMethod ({ cls := "NamesWeather", name := "canSail", desc := "(III)Z" } : Jvm.MethodName)) ∈ lw_all := lw_g (lw_at lw_m5 218 rfl) rfl
theorem q1339 : (Jvm.Cond.code ({ cls := "NamesWeather", name := "canSail", desc := "(III)Z" } : Jvm.MethodName) prog_1_method_41_code (6 : Nat) (Option.some Jvm.ClassFile.FieldType.boolean)) ∈ lw_all := lw_g (lw_at lw_m5 219 rfl) rfl
theorem q1341 : (Jvm.Cond.instanceMethod ({ cls := "NamesWeather", name := "child", desc := "(III)I" } : Jvm.MethodName)) ∈ lw_all := lw_g (lw_at lw_m5 221 rfl) rfl
theorem q1342 : (Jvm.Cond.selects "NamesWeather" ({ cls := "NamesWeather", name := "child", desc := "(III)I" } : Jvm.MethodName) ({ cls := "NamesWeather", name := "child", desc := "(III)I" } : Jvm.MethodName)) ∈ lw_all := lw_g (lw_at lw_m5 222 rfl) rfl
theorem q1343 : (Jvm.Cond.code ({ cls := "NamesWeather", name := "child", desc := "(III)I" } : Jvm.MethodName) prog_1_method_44_code (5 : Nat) (Option.some Jvm.ClassFile.FieldType.int)) ∈ lw_all := lw_g (lw_at lw_m5 223 rfl) rfl
theorem q1344 : (Jvm.Cond.methodLink "NamesWeather" (289 : Nat) ({ cls := "NamesWeather$Skies", name := "strengthOf", desc := "(I)I" } : Jvm.MethodName)) ∈ lw_all := lw_g (lw_at lw_m5 224 rfl) rfl
theorem q1346 : (Jvm.Cond.instanceMethod ({ cls := "NamesWeather", name := "anew", desc := "(I)I" } : Jvm.MethodName)) ∈ lw_all := lw_g (lw_at lw_m5 226 rfl) rfl
theorem q1347 : (Jvm.Cond.selects "NamesWeather" ({ cls := "NamesWeather", name := "anew", desc := "(I)I" } : Jvm.MethodName) ({ cls := "NamesWeather", name := "anew", desc := "(I)I" } : Jvm.MethodName)) ∈ lw_all := lw_g (lw_at lw_m5 227 rfl) rfl
theorem q1348 : (Jvm.Cond.code ({ cls := "NamesWeather", name := "anew", desc := "(I)I" } : Jvm.MethodName) prog_1_method_47_code (4 : Nat) (Option.some Jvm.ClassFile.FieldType.int)) ∈ lw_all := lw_g (lw_at lw_m5 228 rfl) rfl
theorem q1349 : (Jvm.Cond.methodLink "NamesWeather" (295 : Nat) ({ cls := "NamesWeather", name := "areAtPeace", desc := "(I)Z" } : Jvm.MethodName)) ∈ lw_all := lw_g (lw_at lw_m5 229 rfl) rfl
theorem q1350 : (Jvm.Cond.privateMethod ({ cls := "NamesWeather", name := "areAtPeace", desc := "(I)Z" } : Jvm.MethodName)) ∈ lw_tbl := lw_at lw_m5 230 rfl
theorem q1351 : (Jvm.Cond.instanceMethod ({ cls := "NamesWeather", name := "areAtPeace", desc := "(I)Z" } : Jvm.MethodName)) ∈ lw_all := lw_g (lw_at lw_m5 231 rfl) rfl
theorem q1352 : (Jvm.Cond.code ({ cls := "NamesWeather", name := "areAtPeace", desc := "(I)Z" } : Jvm.MethodName) prog_1_method_46_code (4 : Nat) (Option.some Jvm.ClassFile.FieldType.boolean)) ∈ lw_all := lw_g (lw_at lw_m5 232 rfl) rfl
theorem q1353 : (Jvm.Cond.methodLink "NamesWeather" (292 : Nat) ({ cls := "NamesWeather", name := "doClash", desc := "(II)Z" } : Jvm.MethodName)) ∈ lw_all := lw_g (lw_at lw_m5 233 rfl) rfl
theorem q1354 : (Jvm.Cond.privateMethod ({ cls := "NamesWeather", name := "doClash", desc := "(II)Z" } : Jvm.MethodName)) ∈ lw_tbl := lw_at lw_m5 234 rfl
theorem q1355 : (Jvm.Cond.instanceMethod ({ cls := "NamesWeather", name := "doClash", desc := "(II)Z" } : Jvm.MethodName)) ∈ lw_all := lw_g (lw_at lw_m5 235 rfl) rfl
theorem q1356 : (Jvm.Cond.code ({ cls := "NamesWeather", name := "doClash", desc := "(II)Z" } : Jvm.MethodName) prog_1_method_45_code (3 : Nat) (Option.some Jvm.ClassFile.FieldType.boolean)) ∈ lw_all := lw_g (lw_at lw_m5 236 rfl) rfl
theorem q1358 : (Jvm.Cond.instanceMethod ({ cls := "NamesWeather", name := "dry", desc := "(IIII)I" } : Jvm.MethodName)) ∈ lw_all := lw_g (lw_at lw_m5 238 rfl) rfl
theorem q1359 : (Jvm.Cond.selects "NamesWeather" ({ cls := "NamesWeather", name := "dry", desc := "(IIII)I" } : Jvm.MethodName) ({ cls := "NamesWeather", name := "dry", desc := "(IIII)I" } : Jvm.MethodName)) ∈ lw_all := lw_g (lw_at lw_m5 239 rfl) rfl
theorem q1360 : (Jvm.Cond.code ({ cls := "NamesWeather", name := "dry", desc := "(IIII)I" } : Jvm.MethodName) prog_1_method_48_code (10 : Nat) (Option.some Jvm.ClassFile.FieldType.int)) ∈ lw_all := lw_g (lw_at lw_m6 0 rfl) rfl
theorem q1362 : (Jvm.Cond.instanceMethod ({ cls := "NamesWeather", name := "buys", desc := "(II)I" } : Jvm.MethodName)) ∈ lw_all := lw_g (lw_at lw_m6 2 rfl) rfl
theorem q1363 : (Jvm.Cond.selects "NamesWeather" ({ cls := "NamesWeather", name := "buys", desc := "(II)I" } : Jvm.MethodName) ({ cls := "NamesWeather", name := "buys", desc := "(II)I" } : Jvm.MethodName)) ∈ lw_all := lw_g (lw_at lw_m6 3 rfl) rfl
theorem q1364 : (Jvm.Cond.code ({ cls := "NamesWeather", name := "buys", desc := "(II)I" } : Jvm.MethodName) prog_1_method_51_code (6 : Nat) (Option.some Jvm.ClassFile.FieldType.int)) ∈ lw_all := lw_g (lw_at lw_m6 4 rfl) rfl
theorem q1365 : (Jvm.Cond.methodLink "NamesWeather" (298 : Nat) ({ cls := "NamesWeather", name := "areAlive", desc := "(I)Z" } : Jvm.MethodName)) ∈ lw_all := lw_g (lw_at lw_m6 5 rfl) rfl
theorem q1366 : (Jvm.Cond.privateMethod ({ cls := "NamesWeather", name := "areAlive", desc := "(I)Z" } : Jvm.MethodName)) ∈ lw_tbl := lw_at lw_m6 6 rfl
theorem q1367 : (Jvm.Cond.instanceMethod ({ cls := "NamesWeather", name := "areAlive", desc := "(I)Z" } : Jvm.MethodName)) ∈ lw_all := lw_g (lw_at lw_m6 7 rfl) rfl
theorem q1368 : (Jvm.Cond.code ({ cls := "NamesWeather", name := "areAlive", desc := "(I)Z" } : Jvm.MethodName) prog_1_method_50_code (3 : Nat) (Option.some Jvm.ClassFile.FieldType.boolean)) ∈ lw_all := lw_g (lw_at lw_m6 8 rfl) rfl
theorem q1369 : (Jvm.Cond.methodLink "NamesWeather" (301 : Nat) ({ cls := "NamesWeather", name := "sumOf", desc := "(I[I)I" } : Jvm.MethodName)) ∈ lw_all := lw_g (lw_at lw_m6 9 rfl) rfl
theorem q1370 : (Jvm.Cond.privateMethod ({ cls := "NamesWeather", name := "sumOf", desc := "(I[I)I" } : Jvm.MethodName)) ∈ lw_tbl := lw_at lw_m6 10 rfl
theorem q1371 : (Jvm.Cond.instanceMethod ({ cls := "NamesWeather", name := "sumOf", desc := "(I[I)I" } : Jvm.MethodName)) ∈ lw_all := lw_g (lw_at lw_m6 11 rfl) rfl
theorem q1372 : (Jvm.Cond.code ({ cls := "NamesWeather", name := "sumOf", desc := "(I[I)I" } : Jvm.MethodName) prog_1_method_49_code (5 : Nat) (Option.some Jvm.ClassFile.FieldType.int)) ∈ lw_all := lw_g (lw_at lw_m6 12 rfl) rfl
theorem q1374 : (Jvm.Cond.instanceMethod ({ cls := "NamesWeather", name := "carried", desc := "(II)I" } : Jvm.MethodName)) ∈ lw_all := lw_g (lw_at lw_m6 14 rfl) rfl
theorem q1375 : (Jvm.Cond.selects "NamesWeather" ({ cls := "NamesWeather", name := "carried", desc := "(II)I" } : Jvm.MethodName) ({ cls := "NamesWeather", name := "carried", desc := "(II)I" } : Jvm.MethodName)) ∈ lw_all := lw_g (lw_at lw_m6 15 rfl) rfl
theorem q1376 : (Jvm.Cond.code ({ cls := "NamesWeather", name := "carried", desc := "(II)I" } : Jvm.MethodName) prog_1_method_52_code (5 : Nat) (Option.some Jvm.ClassFile.FieldType.int)) ∈ lw_all := lw_g (lw_at lw_m6 16 rfl) rfl
theorem q1378 : (Jvm.Cond.instanceMethod ({ cls := "NamesWeather", name := "ring", desc := "()I" } : Jvm.MethodName)) ∈ lw_all := lw_g (lw_at lw_m6 18 rfl) rfl
theorem q1379 : (Jvm.Cond.selects "NamesWeather" ({ cls := "NamesWeather", name := "ring", desc := "()I" } : Jvm.MethodName) ({ cls := "NamesWeather", name := "ring", desc := "()I" } : Jvm.MethodName)) ∈ lw_all := lw_g (lw_at lw_m6 19 rfl) rfl
theorem q1380 : (Jvm.Cond.code ({ cls := "NamesWeather", name := "ring", desc := "()I" } : Jvm.MethodName) prog_1_method_53_code (3 : Nat) (Option.some Jvm.ClassFile.FieldType.int)) ∈ lw_all := lw_g (lw_at lw_m6 20 rfl) rfl
theorem q1381 : (Jvm.Cond.methodLink "NamesWeather" (305 : Nat) ({ cls := "NamesWeather", name := "carried", desc := "(II)I" } : Jvm.MethodName)) ∈ lw_all := lw_g (lw_at lw_m6 21 rfl) rfl
theorem q1383 : (Jvm.Cond.instanceMethod ({ cls := "NamesWeather", name := "game", desc := "(I)I" } : Jvm.MethodName)) ∈ lw_all := lw_g (lw_at lw_m6 23 rfl) rfl
theorem q1384 : (Jvm.Cond.selects "NamesWeather" ({ cls := "NamesWeather", name := "game", desc := "(I)I" } : Jvm.MethodName) ({ cls := "NamesWeather", name := "game", desc := "(I)I" } : Jvm.MethodName)) ∈ lw_all := lw_g (lw_at lw_m6 24 rfl) rfl
theorem q1385 : (Jvm.Cond.code ({ cls := "NamesWeather", name := "game", desc := "(I)I" } : Jvm.MethodName) prog_1_method_55_code (4 : Nat) (Option.some Jvm.ClassFile.FieldType.int)) ∈ lw_all := lw_g (lw_at lw_m6 25 rfl) rfl
theorem q1386 : (Jvm.Cond.methodLink "NamesWeather" (308 : Nat) ({ cls := "NamesWeather", name := "folkAt", desc := "(I)I" } : Jvm.MethodName)) ∈ lw_all := lw_g (lw_at lw_m6 26 rfl) rfl
theorem q1387 : (Jvm.Cond.privateMethod ({ cls := "NamesWeather", name := "folkAt", desc := "(I)I" } : Jvm.MethodName)) ∈ lw_tbl := lw_at lw_m6 27 rfl
theorem q1388 : (Jvm.Cond.instanceMethod ({ cls := "NamesWeather", name := "folkAt", desc := "(I)I" } : Jvm.MethodName)) ∈ lw_all := lw_g (lw_at lw_m6 28 rfl) rfl
theorem q1389 : (Jvm.Cond.code ({ cls := "NamesWeather", name := "folkAt", desc := "(I)I" } : Jvm.MethodName) prog_1_method_54_code (2 : Nat) (Option.some Jvm.ClassFile.FieldType.int)) ∈ lw_all := lw_g (lw_at lw_m6 29 rfl) rfl
theorem q1391 : (Jvm.Cond.instanceMethod ({ cls := "NamesWeather", name := "image", desc := "(Z)Z" } : Jvm.MethodName)) ∈ lw_all := lw_g (lw_at lw_m6 31 rfl) rfl
theorem q1392 : (Jvm.Cond.selects "NamesWeather" ({ cls := "NamesWeather", name := "image", desc := "(Z)Z" } : Jvm.MethodName) ({ cls := "NamesWeather", name := "image", desc := "(Z)Z" } : Jvm.MethodName)) ∈ lw_all := lw_g (lw_at lw_m6 32 rfl) rfl
theorem q1393 : (Jvm.Cond.code ({ cls := "NamesWeather", name := "image", desc := "(Z)Z" } : Jvm.MethodName) prog_1_method_56_code (2 : Nat) (Option.some Jvm.ClassFile.FieldType.boolean)) ∈ lw_all := lw_g (lw_at lw_m6 33 rfl) rfl
theorem q1394 : (Jvm.Cond.methodLink "NamesWeather" (315 : Nat) ({ cls := "NamesWeather$Skies", name := "takes", desc := "(LNamesWeather$Skies;)V" } : Jvm.MethodName)) ∈ lw_all := lw_g (lw_at lw_m6 34 rfl) rfl
theorem q1400 : (Jvm.Cond.instanceMethod ({ cls := "NamesWeather", name := "look", desc := "(I)I" } : Jvm.MethodName)) ∈ lw_all := lw_g (lw_at lw_m6 40 rfl) rfl
theorem q1401 : (Jvm.Cond.selects "NamesWeather" ({ cls := "NamesWeather", name := "look", desc := "(I)I" } : Jvm.MethodName) ({ cls := "NamesWeather", name := "look", desc := "(I)I" } : Jvm.MethodName)) ∈ lw_all := lw_g (lw_at lw_m6 41 rfl) rfl
theorem q1402 : (Jvm.Cond.code ({ cls := "NamesWeather", name := "look", desc := "(I)I" } : Jvm.MethodName) prog_1_method_58_code (2 : Nat) (Option.some Jvm.ClassFile.FieldType.int)) ∈ lw_all := lw_g (lw_at lw_m6 42 rfl) rfl
theorem q1403 : (Jvm.Cond.methodLink "NamesWeather" (321 : Nat) ({ cls := "NamesWeather", name := "graves", desc := "()I" } : Jvm.MethodName)) ∈ lw_all := lw_g (lw_at lw_m6 43 rfl) rfl
theorem q1404 : (Jvm.Cond.privateMethod ({ cls := "NamesWeather", name := "graves", desc := "()I" } : Jvm.MethodName)) ∈ lw_tbl := lw_at lw_m6 44 rfl
theorem q1405 : (Jvm.Cond.instanceMethod ({ cls := "NamesWeather", name := "graves", desc := "()I" } : Jvm.MethodName)) ∈ lw_all := lw_g (lw_at lw_m6 45 rfl) rfl
theorem q1406 : (Jvm.Cond.code ({ cls := "NamesWeather", name := "graves", desc := "()I" } : Jvm.MethodName) prog_1_method_57_code (3 : Nat) (Option.some Jvm.ClassFile.FieldType.int)) ∈ lw_all := lw_g (lw_at lw_m6 46 rfl) rfl
theorem q2115 : (Jvm.Cond.castable "NamesWeather" "java/lang/Object") ∈ lw_tbl := lw_at lw_m9 35 rfl
theorem in_X0 : ∀ w ∈ wsX00, w ∈ lw_all := lw_in wsX00 [347, 349, 351, 353, 355, 357, 359, 361, 363, 365, 367, 369, 371] (by decide +kernel) (by decide +kernel)
